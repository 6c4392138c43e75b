/-! the page, read sign by sign -/
abbrev gdK (c t : Int) : Prop := (c = 59 ∧ 4 ≤ t) ∨ (kb c ≠ -1 ∧ t + 1 ≤ 10)
abbrev gdA (c c0 i t e : Int) : Prop := (i = 0 ∧ 50 ≤ c ∧ c ≤ 51) ∨ (i = 1 ∧ c = 59) ∨ (2 ≤ i ∧ e = -1 ∧ gdK c t) ∨ (2 ≤ i ∧ e ≠ -1 ∧ i ≤ e + t ∧ (c = 46 ∨ (97 ≤ c ∧ c ≤ 97 + c0 - 49)))
abbrev gdE (c i t e : Int) : Prop := 2 ≤ i ∧ e = -1 ∧ c = 59 ∧ 4 ≤ t
abbrev gdT (c i t e : Int) : Prop := 2 ≤ i ∧ e = -1 ∧ ¬ (c = 59 ∧ 4 ≤ t)
theorem kb_59 : kb 59 = -1 := rfl
def FI (p : Int → Int) (i t e : Int) : Prop :=
  (i = 0 ∧ t = 0 ∧ e = -1) ∨ (i = 1 ∧ t = 0 ∧ e = -1 ∧ 2 ≤ p 0 - 48 ∧ p 0 - 48 ≤ 3) ∨
  (i = 2 + t ∧ 0 ≤ t ∧ t ≤ 10 ∧ e = -1 ∧ 2 ≤ p 0 - 48 ∧ p 0 - 48 ≤ 3 ∧ p 1 = 59 ∧ kc p 10 0 = kc p (10 - t).toNat t) ∨
  (t = kc p 10 0 ∧ e = 2 + t ∧ 4 ≤ t ∧ t ≤ 10 ∧ 2 ≤ p 0 - 48 ∧ p 0 - 48 ≤ 3 ∧ p 1 = 59 ∧ p (2 + t) = 59 ∧ e + 1 ≤ i ∧ i ≤ e + 1 + t ∧ sc p (p 0 - 48) t.toNat (2 + t + 1) = sc p (p 0 - 48) (e + 1 + t - i).toNat i)
theorem FI_rng {p : Int → Int} {i t e : Int} (h : FI p i t e) : 0 ≤ t ∧ t ≤ 10 ∧ -1 ≤ e ∧ e ≤ 12 ∧ 0 ≤ i ∧ i ≤ 23 := by
  rcases h with h | h | h | h <;> omega
theorem FI_step {p : Int → Int} {i t e : Int} (h : FI p i t e) (hg : gdA (p i) (p 0) i t e) : FI p (i + 1) (if gdT (p i) i t e then t + 1 else t) (if gdE (p i) i t e then i else e) := by
  rcases h with ⟨h1, h2, h3⟩ | ⟨h1, h2, h3, h4, h5⟩ | ⟨h1, h2, h3, h4, h5, h6, h7, h8⟩ | ⟨h1, h2, h3, h4, h5, h6, h7, h8, h9, h10, h11⟩
  · subst h1
    rw [if_neg (by omega), if_neg (by omega)]
    refine Or.inr (Or.inl ⟨by omega, h2, h3, ?_, ?_⟩) <;> (rcases hg with q | q | q | q <;> omega)
  · subst h1
    rw [if_neg (by omega), if_neg (by omega)]
    refine Or.inr (Or.inr (Or.inl ⟨by omega, by omega, by omega, h3, h4, h5, ?_, ?_⟩))
    · rcases hg with q | q | q | q <;> omega
    · rw [h2]; rfl
  · have hK : gdK (p i) t := by
      rcases hg with q | q | q | q
      · omega
      · omega
      · exact q.2.2
      · exact absurd h4 q.2.1
    by_cases q : p i = 59 ∧ 4 ≤ t
    · rw [if_neg (fun x => x.2.2 q), if_pos ⟨by omega, h4, q⟩]
      have hk0 : kb (p (2 + t)) = -1 := by rw [← h1, q.1]; rfl
      have e1 : kc p 10 0 = t := by
        rw [h8]
        cases hf : (10 - t).toNat with
        | zero => rfl
        | succ f => simp only [kc]; rw [if_neg (fun x => x hk0)]
      refine Or.inr (Or.inr (Or.inr ⟨e1.symm, h1, q.2, h3, h5, h6, h7, by rw [← h1]; exact q.1, by omega, by omega, ?_⟩))
      rw [show (i + 1 + t - (i + 1)).toNat = t.toNat by omega, show i + 1 = 2 + t + 1 by omega]
    · rw [if_pos ⟨by omega, h4, q⟩, if_neg (fun x => q x.2.2)]
      have hK2 : kb (p i) ≠ -1 ∧ t + 1 ≤ 10 := by
        rcases hK with x | x
        · exact absurd x q
        · exact x
      refine Or.inr (Or.inr (Or.inl ⟨by omega, by omega, hK2.2, h4, h5, h6, h7, ?_⟩))
      rw [h8, show (10 - t).toNat = (10 - (t + 1)).toNat + 1 by omega]
      simp only [kc]
      rw [if_pos (by rw [← h1]; exact hK2.1)]
  · rw [if_neg (by omega), if_neg (by omega)]
    have hs : i ≤ e + t ∧ (p i = 46 ∨ (97 ≤ p i ∧ p i ≤ 97 + p 0 - 49)) := by
      rcases hg with q | q | q | q
      · omega
      · omega
      · omega
      · exact q.2.2
    refine Or.inr (Or.inr (Or.inr ⟨h1, h2, h3, h4, h5, h6, h7, h8, by omega, by omega, ?_⟩))
    rw [h11, show (e + 1 + t - i).toNat = (e + 1 + t - (i + 1)).toNat + 1 by omega]
    simp only [sc]
    rw [if_pos (by unfold sgn; omega)]
/-- what is known where the reading stops -/
def FO (p : Int → Int) (pgM r t e : Int) : Prop := r = (rdF p pgM).1 ∧ (((rdF p pgM).2.1 = 1 ∧ t = (rdF p pgM).2.2 ∧ e = 2 + t ∧ r = pgM ∧ pgM = e + t + 1 ∧ 2 ≤ p 0 - 48 ∧ p 0 - 48 ≤ 3 ∧ 4 ≤ t) ∨ ((rdF p pgM).2.1 = 0 ∧ ¬ (pgM ≤ r ∧ e ≠ -1 ∧ pgM = e + t + 1))) ∧ 0 ≤ t ∧ t ≤ 11 ∧ -1 ≤ e ∧ e ≤ 12
theorem FI_stop {p : Int → Int} {pgM i t e : Int} (h : FI p i t e) (hi : i ≤ pgM) (hp : pgM ≤ i → p i = 0) (hg : pgM ≤ i ∨ ¬ gdA (p i) (p 0) i t e) : FO p pgM i (if i < pgM ∧ gdT (p i) i t e then t + 1 else t) (if i < pgM ∧ gdE (p i) i t e then i else e) := by
  have hr := FI_rng h
  have hT : 0 ≤ (if i < pgM ∧ gdT (p i) i t e then t + 1 else t) ∧ (if i < pgM ∧ gdT (p i) i t e then t + 1 else t) ≤ 11 := by split <;> omega
  have hE0 : ¬ (i < pgM ∧ gdE (p i) i t e) := by
    rintro ⟨q1, q2, q3, q4⟩
    rcases hg with q | q
    · omega
    · exact q (Or.inr (Or.inr (Or.inl ⟨q2, q3, Or.inl q4⟩)))
  rw [if_neg hE0]
  rcases h with ⟨h1, h2, h3⟩ | ⟨h1, h2, h3, h4, h5⟩ | ⟨h1, h2, h3, h4, h5, h6, h7, h8⟩ | ⟨h1, h2, h3, h4, h5, h6, h7, h8, h9, h10, h11⟩
  · subst h1
    have hn : ¬ (2 ≤ p 0 - 48 ∧ p 0 - 48 ≤ 3) := by
      intro q
      rcases hg with x | x
      · have := hp x; omega
      · exact x (Or.inl ⟨rfl, by omega, by omega⟩)
    have e1 : rdF p pgM = (0, 0, 0) := by unfold rdF; rw [if_pos hn]
    exact ⟨by rw [e1], Or.inr ⟨by rw [e1], by omega⟩, hT.1, hT.2, by omega, by omega⟩
  · subst h1
    have hn : p 1 ≠ 59 := by
      intro q
      rcases hg with x | x
      · have := hp x; omega
      · exact x (Or.inr (Or.inl ⟨rfl, q⟩))
    have e1 : rdF p pgM = (1, 0, 0) := by unfold rdF; rw [if_neg (by omega), if_pos hn]
    exact ⟨by rw [e1], Or.inr ⟨by rw [e1], by omega⟩, hT.1, hT.2, by omega, by omega⟩
  · have hK : ¬ gdK (p i) t := by
      intro q
      rcases hg with x | x
      · have := hp x
        rcases q with y | y
        · omega
        · rw [this] at y; exact y.1 rfl
      · exact x (Or.inr (Or.inr (Or.inl ⟨by omega, h4, q⟩)))
    have e0 : kc p 10 0 = t := by
      rw [h8]
      by_cases q : t = 10
      · rw [q]; rfl
      · rw [show (10 - t).toNat = (10 - (t + 1)).toNat + 1 by omega]
        simp only [kc]
        rw [if_neg (by rw [← h1]; intro x; exact hK (Or.inr ⟨x, by omega⟩))]
    have e1 : rdF p pgM = (2 + t, 0, t) := by
      unfold rdF
      rw [if_neg (by omega), if_neg (fun x => x h7), e0, if_pos (by rw [← h1]; by_cases q : t < 4; exact Or.inl q; exact Or.inr (fun x => hK (Or.inl ⟨x, by omega⟩)))]
    exact ⟨by rw [e1]; exact h1, Or.inr ⟨by rw [e1], by omega⟩, hT.1, hT.2, by omega, by omega⟩
  · have hT0 : ¬ (i < pgM ∧ gdT (p i) i t e) := by omega
    rw [if_neg hT0]
    have hs : ¬ (i ≤ e + t ∧ (p i = 46 ∨ (97 ≤ p i ∧ p i ≤ 97 + p 0 - 49))) := by
      intro q
      rcases hg with x | x
      · have := hp x; omega
      · exact x (Or.inr (Or.inr (Or.inr ⟨by omega, by omega, q⟩)))
    have e0 : sc p (p 0 - 48) t.toNat (2 + t + 1) = i := by
      rw [h11]
      by_cases q : i = e + 1 + t
      · rw [show (e + 1 + t - i).toNat = 0 by omega]; rfl
      · rw [show (e + 1 + t - i).toNat = (e + 1 + t - (i + 1)).toNat + 1 by omega]
        simp only [sc]
        rw [if_neg (by unfold sgn; omega)]
    have e1 : rdF p pgM = (i, if i = 2 + t + 1 + t ∧ i = pgM then 1 else 0, t) := by
      unfold rdF
      rw [if_neg (by omega), if_neg (fun x => x h7), ← h1, if_neg (by omega), e0]
    refine ⟨by rw [e1], ?_, by omega, by omega, by omega, by omega⟩
    by_cases q : i = 2 + t + 1 + t ∧ i = pgM
    · refine Or.inl ⟨by rw [e1]; exact if_pos q, by rw [e1], h2, q.2, by omega, h5, h6, h3⟩
    · refine Or.inr ⟨by rw [e1]; exact if_neg q, by omega⟩
set_option maxHeartbeats 4000000 in
set_option maxRecDepth 100000 in
theorem cx_isKindSign {l : Launch} {g : tG} {o : Nat} {ax : Nat → Nat} {num kpt : Int → Option Nat} {many cols chg brd old : Int} {page : Int → Int} {pgM told enD : Int} {row : Int → Int} {ways far : Int} {hav : Int → Int} {wtd : Int} {fnd : Int → Int} {mdT wnT : Int} {sN sW sC : Int → Int} {sM drw : Int} {kN kW kC : Int → Int} {kS kG kB : Int} {hh : Int64} {L : List Nat} {mf : Nat → Nat × Int × Int × Int} {i c : Int} (hi : 0 ≤ i ∧ i ≤ 26) (hcr : 0 ≤ c ∧ c ≤ 126) (ht : 0 ≤ told ∧ told ≤ 10) : Ce l g yX0_isKindSign (ws_ yX0_isKindSign cX0_isKindSign 3 (Option.some Jvm.ClassFile.FieldType.boolean)) (rmL 2) [.ref o, .int (iI i), .int (iI c)] (xW g o ax num kpt many cols chg brd old page pgM told enD row ways far hav wtd fnd mdT wnT sN sW sC sM drw kN kW kC kS kG kB hh L mf) (if gdK c told then 1 else 0) (xW g o ax num kpt many cols chg brd old page pgM (if c = 59 ∧ 4 ≤ told then told else told + 1) (if c = 59 ∧ 4 ≤ told then i else enD) row ways far hav wtd fnd mdT wnT sN sW sC sM drw kN kW kC kS kG kB hh L mf) := by
  refine Ct.of (by decide) (Nat.le_of_ble_eq_true rfl) ?_
  intro Γ hl hg hf hrT
  subst hl hg
  have hf : Fx Γ RX0 cX0_isKindSign 3 := hf
  show T Γ (rmL 2) 3 0 0 (Qe Γ (rmL 2) _) _ 0 [(0, .ref o), (1, .int (iI i)), (2, .int (iI c))] []
  have hkr := kb_rng c
  refine tt_iload_n hf 2 dX0_isKindSign_0 rfl ?_
  refine tt_bipush hf dX0_isKindSign_1 (by decide) ?_
  refine tt_icmp_ne (tgt := 21) hf dX0_isKindSign_3 (by decide) (by omega) (by omega) (fun c3 => ?_) (fun c3 => ?_)
  · refine tt_aload_n hf 0 dX0_isKindSign_21 rfl ?_
    refine tt_dup hf dX0_isKindSign_22 rfl ?_
    refine gx_told hf dX0_isKindSign_23 ?_
    refine tt_iconst hf dX0_isKindSign_26 ?_
    refine tt_iadd hf dX0_isKindSign_27 ?_
    refine px_told hf dX0_isKindSign_28 ?_
    refine tt_iload_n hf 2 dX0_isKindSign_31 rfl ?_
    refine tt_callS0 (As := [.int (iI c)]) (rest := []) hf (cx_kindOf (by omega)) lk_X0_X0_kindOf hd_X0_kindOf rfl ⟨rfl, rfl⟩ (by decide) (by decide) (Nat.le_of_ble_eq_true rfl) dX0_isKindSign_32 rfl (kk_e (fun r32 => ?_))
    refine tt_iconst hf dX0_isKindSign_35 ?_
    refine tt_icmp_eq (tgt := 52) hf dX0_isKindSign_36 (by decide) (by omega) (by omega) (fun c36 => ?_) (fun c36 => ?_)
    · refine tt_iconst hf dX0_isKindSign_52 ?_
      have hn : ¬ (c = 59 ∧ 4 ≤ told) := by omega
      exact tt_iretz hf hrT dX0_isKindSign_53 (Nat.le_refl _) (Nat.le_refl _) (by omega) ⟨(by rw [if_neg (by rintro (q | q); exact hn q; omega)]), (by rw [if_neg hn, if_neg hn])⟩
    · refine tt_aload_n hf 0 dX0_isKindSign_39 rfl ?_
      refine gx_told hf dX0_isKindSign_40 ?_
      refine tt_bipush hf dX0_isKindSign_43 (by decide) ?_
      refine tt_icmp_gt (tgt := 52) hf dX0_isKindSign_45 (by decide) (by omega) (by omega) (fun c45 => ?_) (fun c45 => ?_)
      · refine tt_iconst hf dX0_isKindSign_52 ?_
        have hn : ¬ (c = 59 ∧ 4 ≤ told) := by omega
        exact tt_iretz hf hrT dX0_isKindSign_53 (Nat.le_refl _) (Nat.le_refl _) (by omega) ⟨(by rw [if_neg (by rintro (q | q); exact hn q; omega)]), (by rw [if_neg hn, if_neg hn])⟩
      · refine tt_iconst hf dX0_isKindSign_48 ?_
        refine tt_goto (tgt := 53) hf dX0_isKindSign_49 (by decide) ?_
        have hn : ¬ (c = 59 ∧ 4 ≤ told) := by omega
        exact tt_iretz hf hrT dX0_isKindSign_53 (Nat.le_refl _) (Nat.le_refl _) (by omega) ⟨(by rw [if_pos (Or.inr ⟨c36, by omega⟩)]), (by rw [if_neg hn, if_neg hn])⟩
  · refine tt_aload_n hf 0 dX0_isKindSign_6 rfl ?_
    refine gx_told hf dX0_isKindSign_7 ?_
    refine tt_iconst hf dX0_isKindSign_10 ?_
    refine tt_icmp_lt (tgt := 21) hf dX0_isKindSign_11 (by decide) (by omega) (by omega) (fun c11 => ?_) (fun c11 => ?_)
    · refine tt_aload_n hf 0 dX0_isKindSign_21 rfl ?_
      refine tt_dup hf dX0_isKindSign_22 rfl ?_
      refine gx_told hf dX0_isKindSign_23 ?_
      refine tt_iconst hf dX0_isKindSign_26 ?_
      refine tt_iadd hf dX0_isKindSign_27 ?_
      refine px_told hf dX0_isKindSign_28 ?_
      refine tt_iload_n hf 2 dX0_isKindSign_31 rfl ?_
      refine tt_callS0 (As := [.int (iI c)]) (rest := []) hf (cx_kindOf (by omega)) lk_X0_X0_kindOf hd_X0_kindOf rfl ⟨rfl, rfl⟩ (by decide) (by decide) (Nat.le_of_ble_eq_true rfl) dX0_isKindSign_32 rfl (kk_e (fun r32 => ?_))
      refine tt_iconst hf dX0_isKindSign_35 ?_
      refine tt_icmp_eq (tgt := 52) hf dX0_isKindSign_36 (by decide) (by omega) (by omega) (fun c36 => ?_) (fun c36 => ?_)
      · refine tt_iconst hf dX0_isKindSign_52 ?_
        have hn : ¬ (c = 59 ∧ 4 ≤ told) := by omega
        exact tt_iretz hf hrT dX0_isKindSign_53 (Nat.le_refl _) (Nat.le_refl _) (by omega) ⟨(by rw [if_neg (by rintro (q | q); exact hn q; omega)]), (by rw [if_neg hn, if_neg hn])⟩
      · refine tt_aload_n hf 0 dX0_isKindSign_39 rfl ?_
        refine gx_told hf dX0_isKindSign_40 ?_
        refine tt_bipush hf dX0_isKindSign_43 (by decide) ?_
        refine tt_icmp_gt (tgt := 52) hf dX0_isKindSign_45 (by decide) (by omega) (by omega) (fun c45 => ?_) (fun c45 => ?_)
        · refine tt_iconst hf dX0_isKindSign_52 ?_
          have hn : ¬ (c = 59 ∧ 4 ≤ told) := by omega
          exact tt_iretz hf hrT dX0_isKindSign_53 (Nat.le_refl _) (Nat.le_refl _) (by omega) ⟨(by rw [if_neg (by rintro (q | q); exact hn q; omega)]), (by rw [if_neg hn, if_neg hn])⟩
        · refine tt_iconst hf dX0_isKindSign_48 ?_
          refine tt_goto (tgt := 53) hf dX0_isKindSign_49 (by decide) ?_
          have hn : ¬ (c = 59 ∧ 4 ≤ told) := by omega
          exact tt_iretz hf hrT dX0_isKindSign_53 (Nat.le_refl _) (Nat.le_refl _) (by omega) ⟨(by rw [if_pos (Or.inr ⟨c36, by omega⟩)]), (by rw [if_neg hn, if_neg hn])⟩
    · refine tt_aload_n hf 0 dX0_isKindSign_14 rfl ?_
      refine tt_iload_n hf 1 dX0_isKindSign_15 rfl ?_
      refine px_enD hf dX0_isKindSign_16 ?_
      refine tt_iconst hf dX0_isKindSign_19 ?_
      exact tt_iretz hf hrT dX0_isKindSign_20 (Nat.le_refl _) (Nat.le_refl _) (by omega) ⟨(by rw [if_pos (Or.inl ⟨c3, by omega⟩)]), (by rw [if_pos ⟨c3, by omega⟩, if_pos ⟨c3, by omega⟩])⟩
theorem gd_t {c i t e : Int} (h : 2 ≤ i) (he : e = -1) : (if gdT c i t e then t + 1 else t) = if c = 59 ∧ 4 ≤ t then t else t + 1 := by
  by_cases q : c = 59 ∧ 4 ≤ t
  · rw [if_neg (fun x => x.2.2 q), if_pos q]
  · rw [if_pos ⟨h, he, q⟩, if_neg q]
theorem gd_e {c i t e : Int} (h : 2 ≤ i) (he : e = -1) : (if gdE c i t e then i else e) = if c = 59 ∧ 4 ≤ t then i else e := by
  by_cases q : c = 59 ∧ 4 ≤ t
  · rw [if_pos ⟨h, he, q⟩, if_pos q]
  · rw [if_neg (fun x => q x.2.2), if_neg q]
set_option maxHeartbeats 4000000 in
set_option maxRecDepth 100000 in
theorem cx_isGood {l : Launch} {g : tG} {o : Nat} {ax : Nat → Nat} {num kpt : Int → Option Nat} {many cols chg brd old : Int} {page : Int → Int} {pgM told enD : Int} {row : Int → Int} {ways far : Int} {hav : Int → Int} {wtd : Int} {fnd : Int → Int} {mdT wnT : Int} {sN sW sC : Int → Int} {sM drw : Int} {kN kW kC : Int → Int} {kS kG kB : Int} {hh : Int64} {L : List Nat} {mf : Nat → Nat × Int × Int × Int} {i : Int} (hpg : 0 ≤ pgM ∧ pgM ≤ 26) (hpv : ∀ i, 0 ≤ page i ∧ page i ≤ 126) (hi : 0 ≤ i ∧ i < 26) (ht : 0 ≤ told ∧ told ≤ 10) (he : -1 ≤ enD ∧ enD ≤ 12) : Ce l g yX0_isGood (ws_ yX0_isGood cX0_isGood 3 (Option.some Jvm.ClassFile.FieldType.boolean)) (rmL 3) [.ref o, .int (iI i)] (xW g o ax num kpt many cols chg brd old page pgM told enD row ways far hav wtd fnd mdT wnT sN sW sC sM drw kN kW kC kS kG kB hh L mf) (if gdA (page i) (page 0) i told enD then 1 else 0) (xW g o ax num kpt many cols chg brd old page pgM (if gdT (page i) i told enD then told + 1 else told) (if gdE (page i) i told enD then i else enD) row ways far hav wtd fnd mdT wnT sN sW sC sM drw kN kW kC kS kG kB hh L mf) := by
  refine Ct.of (by decide) (Nat.le_of_ble_eq_true rfl) ?_
  intro Γ hl hg hf hrT
  subst hl hg
  have hf : Fx Γ RX0 cX0_isGood 3 := hf
  show T Γ (rmL 3) 3 0 0 (Qe Γ (rmL 3) _) _ 0 [(0, .ref o), (1, .int (iI i))] []
  have hp0 := hpv 0
  have hpi := hpv i
  refine tt_aload_n hf 0 dX0_isGood_0 rfl ?_
  refine gx_page hf dX0_isGood_1 ?_
  refine tt_iload_n hf 1 dX0_isGood_4 rfl ?_
  refine lx_page hf (by omega) dX0_isGood_5 ?_
  refine tt_istore_n (lv' := [(2, .int (iI (page i))), (0, .ref o), (1, .int (iI i))]) hf dX0_isGood_6 (by decide) rfl ?_
  refine tt_iload_n hf 2 dX0_isGood_7 rfl ?_
  refine tt_iconst hf dX0_isGood_8 ?_
  refine tt_icmp_ge (tgt := 42) hf dX0_isGood_9 (by decide) (by omega) (by omega) (fun c9 => ?_) (fun c9 => ?_)
  · refine tt_aload_n hf 1 dX0_isGood_42 rfl ?_
    refine gx_enD hf dX0_isGood_43 ?_
    refine tt_iconst hf dX0_isGood_46 ?_
    refine tt_icmp_ne (tgt := 57) hf dX0_isGood_47 (by decide) (by omega) (by omega) (fun c47 => ?_) (fun c47 => ?_)
    · refine tt_iload_n hf 2 dX0_isGood_57 rfl ?_
      refine tt_aload_n hf 1 dX0_isGood_58 rfl ?_
      refine gx_enD hf dX0_isGood_59 ?_
      refine tt_aload_n hf 1 dX0_isGood_62 rfl ?_
      refine gx_told hf dX0_isGood_63 ?_
      refine tt_iadd hf dX0_isGood_66 ?_
      refine tt_icmp_gt (tgt := 104) hf dX0_isGood_67 (by decide) (by omega) (by omega) (fun c67 => ?_) (fun c67 => ?_)
      · refine tt_iconst hf dX0_isGood_104 ?_
        exact tt_iretz hf hrT dX0_isGood_105 (Nat.le_refl _) (Nat.le_refl _) (by omega) ⟨(by first | rw [if_pos (by omega)] | rw [if_neg (by omega)]), (by rw [if_neg (by omega), if_neg (by omega)])⟩
      · refine tt_iload_n hf 0 dX0_isGood_70 rfl ?_
        refine tt_bipush hf dX0_isGood_71 (by decide) ?_
        refine tt_icmp_eq (tgt := 100) hf dX0_isGood_73 (by decide) (by omega) (by omega) (fun c73 => ?_) (fun c73 => ?_)
        · refine tt_iconst hf dX0_isGood_100 ?_
          refine tt_goto (tgt := 105) hf dX0_isGood_101 (by decide) ?_
          exact tt_iretz hf hrT dX0_isGood_105 (Nat.le_refl _) (Nat.le_refl _) (by omega) ⟨(by first | rw [if_pos (by omega)] | rw [if_neg (by omega)]), (by rw [if_neg (by omega), if_neg (by omega)])⟩
        · refine tt_iload_n hf 0 dX0_isGood_76 rfl ?_
          refine tt_i2l hf dX0_isGood_77 ?_
          refine tt_topl (x' := lI (page i)) (lI_of (by omega)) ?_
          refine tt_ldc2 hf q291 dX0_isGood_78 ?_
          refine tt_topl (x' := lI 97) (by decide) ?_
          refine tt_bipush hf dX0_isGood_81 (by decide) ?_
          refine tt_aload_n hf 1 dX0_isGood_83 rfl ?_
          refine gx_page hf dX0_isGood_84 ?_
          refine tt_iconst hf dX0_isGood_87 ?_
          refine lx_page hf (by omega) dX0_isGood_88 ?_
          refine tt_iadd hf dX0_isGood_89 ?_
          refine tt_bipush hf dX0_isGood_90 (by decide) ?_
          refine tt_isub hf dX0_isGood_92 ?_
          refine tt_i2l hf dX0_isGood_93 ?_
          refine tt_topl (x' := lI ((97 + (page 0)) - 49)) (lI_of (by omega)) ?_
          refine tt_callS0 (As := [.long (lI (page i)), .long (lI 97), .long (lI ((97 + (page 0)) - 49))]) (rest := []) hf (cx_isIn (v := (page i)) (lo := 97) (hi := ((97 + (page 0)) - 49)) (by omega) (by omega) (by omega)) lk_X0_X0_isIn hd_X0_isIn rfl ⟨rfl, rfl⟩ (by decide) (by decide) (Nat.le_of_ble_eq_true rfl) dX0_isGood_94 rfl (kk_e (fun r94 => ?_))
          refine tt_ifb_eq (tgt := 104) hf dX0_isGood_97 (by decide) (fun c97 => ?_) (fun c97 => ?_)
          · refine tt_iconst hf dX0_isGood_104 ?_
            exact tt_iretz hf hrT dX0_isGood_105 (Nat.le_refl _) (Nat.le_refl _) (by omega) ⟨(by first | rw [if_pos (by omega)] | rw [if_neg (by omega)]), (by rw [if_neg (by omega), if_neg (by omega)])⟩
          · refine tt_iconst hf dX0_isGood_100 ?_
            refine tt_goto (tgt := 105) hf dX0_isGood_101 (by decide) ?_
            exact tt_iretz hf hrT dX0_isGood_105 (Nat.le_refl _) (Nat.le_refl _) (by omega) ⟨(by first | rw [if_pos (by omega)] | rw [if_neg (by omega)]), (by rw [if_neg (by omega), if_neg (by omega)])⟩
    · refine tt_aload_n hf 1 dX0_isGood_50 rfl ?_
      refine tt_iload_n hf 2 dX0_isGood_51 rfl ?_
      refine tt_iload_n hf 0 dX0_isGood_52 rfl ?_
      refine tt_callV0 (As := [.int (iI i), .int (iI (page i))]) (rest := []) (q0 := 0) (ci := 0) hf (cx_isKindSign (by omega) (by omega) (by omega)) lk_X0_X0_isKindSign hd_X0_isKindSign rfl rfl rfl ⟨rfl, rfl⟩ (by decide) (by decide) (Nat.le_of_ble_eq_true rfl) dX0_isGood_53 rfl (kk_e (fun r53 => ?_))
      exact tt_iretz hf hrT dX0_isGood_56 (Nat.le_refl _) (Nat.le_refl _) (by split <;> omega) ⟨(ite_iff (by constructor; intro q; exact Or.inr (Or.inr (Or.inl ⟨by omega, c47, q⟩)); intro q; rcases q with q | q | q | q; omega; omega; exact q.2.2; omega)), (by rw [gd_t (by omega) c47, gd_e (by omega) c47])⟩
  · refine tt_iload_n hf 2 dX0_isGood_12 rfl ?_
    refine tt_if_ne (tgt := 30) hf dX0_isGood_13 (by decide) (by omega) (fun c13 => ?_) (fun c13 => ?_)
    · refine tt_iload_n hf 0 dX0_isGood_30 rfl ?_
      refine tt_bipush hf dX0_isGood_31 (by decide) ?_
      refine tt_icmp_ne (tgt := 40) hf dX0_isGood_33 (by decide) (by omega) (by omega) (fun c33 => ?_) (fun c33 => ?_)
      · refine tt_iconst hf dX0_isGood_40 ?_
        exact tt_iretz hf hrT dX0_isGood_41 (Nat.le_refl _) (Nat.le_refl _) (by omega) ⟨(by first | rw [if_pos (by omega)] | rw [if_neg (by omega)]), (by rw [if_neg (by omega), if_neg (by omega)])⟩
      · refine tt_iconst hf dX0_isGood_36 ?_
        refine tt_goto (tgt := 41) hf dX0_isGood_37 (by decide) ?_
        exact tt_iretz hf hrT dX0_isGood_41 (Nat.le_refl _) (Nat.le_refl _) (by omega) ⟨(by first | rw [if_pos (by omega)] | rw [if_neg (by omega)]), (by rw [if_neg (by omega), if_neg (by omega)])⟩
    · refine tt_iload_n hf 0 dX0_isGood_16 rfl ?_
      refine tt_i2l hf dX0_isGood_17 ?_
      refine tt_topl (x' := lI (page i)) (lI_of (by omega)) ?_
      refine tt_ldc2 hf q282 dX0_isGood_18 ?_
      refine tt_topl (x' := lI 50) (by decide) ?_
      refine tt_ldc2 hf q283 dX0_isGood_21 ?_
      refine tt_topl (x' := lI 51) (by decide) ?_
      refine tt_callS0 (As := [.long (lI (page i)), .long (lI 50), .long (lI 51)]) (rest := []) hf (cx_isIn (v := (page i)) (lo := 50) (hi := 51) (by omega) (by omega) (by omega)) lk_X0_X0_isIn hd_X0_isIn rfl ⟨rfl, rfl⟩ (by decide) (by decide) (Nat.le_of_ble_eq_true rfl) dX0_isGood_24 rfl (kk_e (fun r24 => ?_))
      refine tt_goto (tgt := 41) hf dX0_isGood_27 (by decide) ?_
      exact tt_iretz hf hrT dX0_isGood_41 (Nat.le_refl _) (Nat.le_refl _) (by split <;> omega) ⟨(ite_iff (by omega)), (by rw [if_neg (by omega), if_neg (by omega)])⟩
theorem fi_and {P Q : Prop} [Decidable P] [Decidable Q] {a b : Int} (h : P) : (if P ∧ Q then a else b) = if Q then a else b := by
  by_cases q : Q
  · rw [if_pos ⟨h, q⟩, if_pos q]
  · rw [if_neg (fun x => q x.2), if_neg q]
set_option maxHeartbeats 4000000 in
set_option maxRecDepth 100000 in
theorem cx_fault {l : Launch} {g : tG} {o : Nat} {ax : Nat → Nat} {num kpt : Int → Option Nat} {many cols chg brd old : Int} {page : Int → Int} {pgM told enD : Int} {row : Int → Int} {ways far : Int} {hav : Int → Int} {wtd : Int} {fnd : Int → Int} {mdT wnT : Int} {sN sW sC : Int → Int} {sM drw : Int} {kN kW kC : Int → Int} {kS kG kB : Int} {hh : Int64} {L : List Nat} {mf : Nat → Nat × Int × Int × Int}  (hpg : 0 ≤ pgM ∧ pgM ≤ 26) (hpv : ∀ i, 0 ≤ page i ∧ page i ≤ 126) : Ci l g yX0_fault (ws_ yX0_fault cX0_fault 2 (Option.some Jvm.ClassFile.FieldType.int)) (rmL 4) [.ref o] (xW g o ax num kpt many cols chg brd old page pgM told enD row ways far hav wtd fnd mdT wnT sN sW sC sM drw kN kW kC kS kG kB hh L mf) (fun r w => ∃ told1 enD1 : Int, FO (pa page pgM) pgM r told1 enD1 ∧ w = xW g o ax num kpt many cols chg brd old page pgM told1 enD1 row ways far hav wtd fnd mdT wnT sN sW sC sM drw kN kW kC kS kG kB hh L mf) := by
  refine Ct.of (by decide) (Nat.le_of_ble_eq_true rfl) ?_
  intro Γ hl hg hf hrT
  subst hl hg
  have hf : Fx Γ RX0 cX0_fault 2 := hf
  show T Γ (rmL 4) 2 0 0 (Qe Γ (rmL 4) _) _ 0 [(0, .ref o)] []
  refine tt_aload_n hf 0 dX0_fault_0 rfl ?_
  refine tt_iconst hf dX0_fault_1 ?_
  refine px_told hf dX0_fault_2 ?_
  refine tt_aload_n hf 0 dX0_fault_5 rfl ?_
  refine tt_iconst hf dX0_fault_6 ?_
  refine px_enD hf dX0_fault_7 ?_
  refine tt_iconst hf dX0_fault_10 ?_
  refine tt_istore_n (lv' := [(1, .int (iI 0)), (0, .ref o)]) hf dX0_fault_11 (by decide) rfl ?_
  have lp : ∀ (N : Nat) (i : Int) (t : Int) (e : Int), (0 ≤ i ∧ i ≤ pgM) → (FI (pa page pgM) i t e) → (26 - i).toNat < N → T Γ (rmL 4) 2 0 0 (Qe Γ (rmL 4) (fun vv w => ∃ r : Int, vv = some (.int (iI r)) ∧ iR r ∧ (∃ told1 enD1 : Int, FO (pa page pgM) pgM r told1 enD1 ∧ w = xW (xg Γ) o ax num kpt many cols chg brd old page pgM told1 enD1 row ways far hav wtd fnd mdT wnT sN sW sC sM drw kN kW kC kS kG kB hh L mf))) (xW (xg Γ) o ax num kpt many cols chg brd old page pgM t e row ways far hav wtd fnd mdT wnT sN sW sC sM drw kN kW kC kS kG kB hh L mf) 12 [(0, .ref o), (1, .int (iI i))] [] := by
    intro N
    induction N with
    | zero => intro i t e hi hI hN; exact absurd hN (Nat.not_lt_zero _)
    | succ N ih =>
      intro i t e hi hI hN
      have hfr := FI_rng hI
      refine tt_iload_n hf 1 dX0_fault_12 rfl ?_
      refine tt_aload_n hf 0 dX0_fault_13 rfl ?_
      refine gx_pgM hf dX0_fault_14 ?_
      refine tt_icmp_ge (tgt := 34) hf dX0_fault_17 (by decide) (by omega) (by omega) (fun c17 => ?_) (fun c17 => ?_)
      · refine tt_iload_n hf 1 dX0_fault_34 rfl ?_
        have hz0 : (pa page pgM) i = 0 := by unfold pa; rw [if_neg (by omega)]
        have hq := FI_stop (pgM := pgM) hI (by omega) (fun _ => hz0) (Or.inl (by omega))
        rw [if_neg (by omega), if_neg (by omega)] at hq
        exact tt_ireti hf hrT dX0_fault_35 (Nat.le_refl _) (Nat.le_refl _) (by omega) ⟨t, e, hq, rfl⟩
      · have ep : (pa page pgM) i = page i := by unfold pa; rw [if_pos (by omega)]
        have ep0 : (pa page pgM) 0 = page 0 := by unfold pa; rw [if_pos (by omega)]
        refine tt_aload_n hf 0 dX0_fault_20 rfl ?_
        refine tt_iload_n hf 1 dX0_fault_21 rfl ?_
        refine tt_callV0 (As := [.int (iI i)]) (rest := []) (q0 := 0) (ci := 0) hf (cx_isGood hpg hpv (by omega) (by omega) (by omega)) lk_X0_X0_isGood hd_X0_isGood rfl rfl rfl ⟨rfl, rfl⟩ (by decide) (by decide) (Nat.le_of_ble_eq_true rfl) dX0_fault_22 rfl (kk_e (fun r22 => ?_))
        refine tt_ifb_eq (tgt := 34) hf dX0_fault_25 (by decide) (fun c25 => ?_) (fun c25 => ?_)
        · refine tt_iload_n hf 1 dX0_fault_34 rfl ?_
          have hq := FI_stop (pgM := pgM) hI (by omega) (fun x => by omega) (Or.inr (by rw [ep, ep0]; exact c25))
          rw [fi_and (P := i < pgM) (by omega), fi_and (P := i < pgM) (by omega), ep] at hq
          exact tt_ireti hf hrT dX0_fault_35 (Nat.le_refl _) (Nat.le_refl _) (by omega) ⟨_, _, hq, rfl⟩
        · refine tt_iinc (lv' := [(1, .int (iI (i + 1))), (0, .ref o)]) hf 1 dX0_fault_28 rfl (by decide) rfl ?_
          refine tt_goto (tgt := 12) hf dX0_fault_31 (by decide) ?_
          refine tt_sub [1, 0] rfl ?_
          exact ih (i + 1) (if gdT (page i) i t e then t + 1 else t) (if gdE (page i) i t e then i else e) (by omega) (by have q := FI_step hI (by rw [ep, ep0]; exact c25); rw [ep] at q; exact q) (by omega)
  refine tt_sub [1, 0] rfl ?_
  exact lp _ 0 0 (-1) (by omega) (Or.inl ⟨rfl, rfl, rfl⟩) (Nat.lt_succ_self _)
