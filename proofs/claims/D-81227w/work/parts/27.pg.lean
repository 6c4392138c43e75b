/-! the page -/
def kb (c : Int) : Int := if c = 110 then 0 else if c = 108 then 1 else if c = 102 then 2 else if c = 115 then 3 else if c = 111 then 4 else -1
theorem kb_rng (c : Int) : -1 ≤ kb c ∧ kb c ≤ 4 := by
  unfold kb
  split; omega
  split; omega
  split; omega
  split; omega
  split <;> omega
def pa (page : Int → Int) (pgM : Int) : Int → Int := fun k => if k < pgM then page k else 0
theorem pa_rng {page : Int → Int} {pgM : Int} (h : ∀ i, 0 ≤ page i ∧ page i ≤ 126) : ∀ k, 0 ≤ pa page pgM k ∧ pa page pgM k ≤ 126 := by
  intro k; unfold pa; have := h k; split <;> omega
/-- kinds from the third sign on -/
def kc (p : Int → Int) : Nat → Int → Int
  | 0, n => n
  | f + 1, n => if kb (p (2 + n)) ≠ -1 then kc p f (n + 1) else n
theorem kc_rng (p : Int → Int) : ∀ (f : Nat) (n : Int), n ≤ kc p f n ∧ kc p f n ≤ n + f
  | 0, n => by simp [kc]
  | f + 1, n => by
    have := kc_rng p f (n + 1)
    simp only [kc]
    split <;> omega
abbrev sgn (c most : Int) : Prop := c = 46 ∨ (0 ≤ c - 97 ∧ c - 97 ≤ most - 1)
def sc (p : Int → Int) (most : Int) : Nat → Int → Int
  | 0, k => k
  | f + 1, k => if sgn (p k) most then sc p most f (k + 1) else k
theorem sc_rng (p : Int → Int) (most : Int) : ∀ (f : Nat) (n : Int), n ≤ sc p most f n ∧ sc p most f n ≤ n + f
  | 0, n => by simp [sc]
  | f + 1, n => by
    have := sc_rng p most f (n + 1)
    simp only [sc]
    split <;> omega
/-- where the page goes wrong; whether it is whole; how many numbers -/
def rdF (p : Int → Int) (pgM : Int) : Int × Int × Int :=
  if ¬ (2 ≤ p 0 - 48 ∧ p 0 - 48 ≤ 3) then (0, 0, 0) else if p 1 ≠ 59 then (1, 0, 0)
  else if kc p 10 0 < 4 ∨ p (2 + kc p 10 0) ≠ 59 then (2 + kc p 10 0, 0, kc p 10 0)
  else (sc p (p 0 - 48) (kc p 10 0).toNat (2 + kc p 10 0 + 1), if sc p (p 0 - 48) (kc p 10 0).toNat (2 + kc p 10 0 + 1) = 2 + kc p 10 0 + 1 + kc p 10 0 ∧ sc p (p 0 - 48) (kc p 10 0).toNat (2 + kc p 10 0 + 1) = pgM then 1 else 0, kc p 10 0)
theorem rdF_rng (p : Int → Int) (pgM : Int) : 0 ≤ (rdF p pgM).1 ∧ (rdF p pgM).1 ≤ 23 ∧ ((rdF p pgM).2.1 = 0 ∨ (rdF p pgM).2.1 = 1) ∧ 0 ≤ (rdF p pgM).2.2 ∧ (rdF p pgM).2.2 ≤ 10 := by
  have h1 := kc_rng p 10 0
  have h2 := sc_rng p (p 0 - 48) (kc p 10 0).toNat (2 + kc p 10 0 + 1)
  unfold rdF
  split
  · simp
  · split
    · simp
    · split
      · refine ⟨?_, ?_, Or.inl rfl, ?_, ?_⟩ <;> dsimp only <;> omega
      · refine ⟨?_, ?_, ?_, ?_, ?_⟩
        · dsimp only; omega
        · dsimp only; omega
        · dsimp only
          split
          · exact Or.inr rfl
          · exact Or.inl rfl
        · dsimp only; omega
        · dsimp only; omega
def cpF (i : Int) (a b : Int → Int) : Int → Int := fun n => if 0 ≤ n ∧ n < i then a n else b n
theorem cpF_0 {a b : Int → Int} : cpF 0 a b = b := by
  funext n; unfold cpF; rw [if_neg (by omega)]
theorem cpF_s {i : Int} {a b : Int → Int} {v : Int} (hi : 0 ≤ i) (hv : v = a i) : uI (cpF i a b) i v = cpF (i + 1) a b := by
  funext n
  by_cases e : n = i
  · subst e; rw [uI_s]; unfold cpF; rw [if_pos (by omega), hv]
  · rw [uI_n e]; unfold cpF
    by_cases q : 0 ≤ n ∧ n < i
    · rw [if_pos q, if_pos (show 0 ≤ n ∧ n < i + 1 by omega)]
    · rw [if_neg q, if_neg (show ¬ (0 ≤ n ∧ n < i + 1) by omega)]
theorem isB_cg {kd r r' : Int → Int} {a b : Int} (h1 : r a = r' a) (h2 : r b = r' b) (h3 : r (a + b) = r' (a + b)) : isB kd r a b ↔ isB kd r' a b := by
  unfold isB; rw [h1, h2, h3]
theorem boN_cg {kd r r' : Int → Int} {v : Int} (hv : 1 ≤ v) : ∀ n : Nat, (∀ i, 1 ≤ i → (i ≤ (n : Int) ∨ i ≤ v) → r i = r' i) → boN kd r v n = boN kd r' v n
  | 0, h => bd_cg (fun i h1 h2 => h i h1 (by omega))
  | n + 1, h => by
    simp only [boN]
    have e1 := bd_cg (kd := kd) (s := v) (fun i h1 h2 => h i h1 (by omega))
    rw [boN_cg hv n (fun i h1 h2 => h i h1 (by omega)), e1]
    by_cases q : v < (n : Int) + 1
    · rw [if_pos q, if_pos q]
      congr 1
      exact ite_iff (isB_cg (h _ (by split <;> omega) (by split <;> omega)) (h _ (by split <;> omega) (by split <;> omega)) (h _ (by split <;> omega) (by split <;> omega)))
    · rw [if_neg q, if_neg q]
/-- what is told of a number -/
def nmE (kd co : Int → Int) (cols many : Int) (sN sW sC : Int → Int) (sM v wh : Int) : Int := if wh = 0 then kd v else if wh = 1 then co v else if wh = 2 then suE (WL kd co cols many) v else if wh = 3 then bv (soF sN sW sC v sM.toNat) else if wh = 4 then askE (soF sN sW sC v sM.toNat) else boN kd co v many.toNat
/-- what is told of all -/
def ctE (kd co : Int → Int) (cols many chg sM pgM brd wh : Int) : Int := if wh = 0 then many else if wh = 1 then cols else if wh = 2 then brN co many.toNat else if wh = 3 then bu kd co many.toNat else if wh = 4 then thN many.toNat else if wh = 5 then chg else if wh = 6 then sM else if wh = 7 then pgM else if wh = 8 then brd else -102
theorem i2b_id {v : Int} (h : -128 ≤ v ∧ v ≤ 127) : (iI v).toInt8.toInt32 = iI v := by
  rw [← vp_nar_byte, nar_b h]
set_option maxHeartbeats 4000000 in
set_option maxRecDepth 100000 in
theorem cm_kindBy {l : Launch} {g : tG} {ws : va_W} {k : Int} (hk : iR k) : Ce l g yX6_kindBy (ws_ yX6_kindBy cX6_kindBy 1 (Option.some Jvm.ClassFile.FieldType.int)) (rmL 1) [.int (iI k)] (ws) (kb k) (ws) := by
  refine Ct.of (by decide) (Nat.le_of_ble_eq_true rfl) ?_
  intro Γ hl hg hf hrT
  subst hl hg
  have hf : Fx Γ RX6 cX6_kindBy 1 := hf
  show T Γ (rmL 1) 1 0 0 (Qe Γ (rmL 1) _) _ 0 [(0, .int (iI k))] []
  refine tt_iload_n hf 0 dX6_kindBy_0 rfl ?_
  by_cases s1_102 : k = 102
  · refine tt_tableIn (off := 75) (tgt := 76) hf dX6_kindBy_1 (by omega) (by omega) (by omega) (by rw [s1_102]; rfl) (by decide) ?_
    refine tt_iconst hf dX6_kindBy_76 ?_
    exact tt_ireti hf hrT dX6_kindBy_77 (Nat.le_refl _) (Nat.le_refl _) (by omega) ⟨(by unfold kb; first | rw [if_pos (by omega)] | rw [if_neg (by omega), if_pos (by omega)] | rw [if_neg (by omega), if_neg (by omega), if_pos (by omega)] | rw [if_neg (by omega), if_neg (by omega), if_neg (by omega), if_pos (by omega)] | rw [if_neg (by omega), if_neg (by omega), if_neg (by omega), if_neg (by omega), if_pos (by omega)] | rw [if_neg (by omega), if_neg (by omega), if_neg (by omega), if_neg (by omega), if_neg (by omega)]), rfl⟩
  by_cases s1_108 : k = 108
  · refine tt_tableIn (off := 73) (tgt := 74) hf dX6_kindBy_1 (by omega) (by omega) (by omega) (by rw [s1_108]; rfl) (by decide) ?_
    refine tt_iconst hf dX6_kindBy_74 ?_
    exact tt_ireti hf hrT dX6_kindBy_75 (Nat.le_refl _) (Nat.le_refl _) (by omega) ⟨(by unfold kb; first | rw [if_pos (by omega)] | rw [if_neg (by omega), if_pos (by omega)] | rw [if_neg (by omega), if_neg (by omega), if_pos (by omega)] | rw [if_neg (by omega), if_neg (by omega), if_neg (by omega), if_pos (by omega)] | rw [if_neg (by omega), if_neg (by omega), if_neg (by omega), if_neg (by omega), if_pos (by omega)] | rw [if_neg (by omega), if_neg (by omega), if_neg (by omega), if_neg (by omega), if_neg (by omega)]), rfl⟩
  by_cases s1_110 : k = 110
  · refine tt_tableIn (off := 71) (tgt := 72) hf dX6_kindBy_1 (by omega) (by omega) (by omega) (by rw [s1_110]; rfl) (by decide) ?_
    refine tt_iconst hf dX6_kindBy_72 ?_
    exact tt_ireti hf hrT dX6_kindBy_73 (Nat.le_refl _) (Nat.le_refl _) (by omega) ⟨(by unfold kb; first | rw [if_pos (by omega)] | rw [if_neg (by omega), if_pos (by omega)] | rw [if_neg (by omega), if_neg (by omega), if_pos (by omega)] | rw [if_neg (by omega), if_neg (by omega), if_neg (by omega), if_pos (by omega)] | rw [if_neg (by omega), if_neg (by omega), if_neg (by omega), if_neg (by omega), if_pos (by omega)] | rw [if_neg (by omega), if_neg (by omega), if_neg (by omega), if_neg (by omega), if_neg (by omega)]), rfl⟩
  by_cases s1_111 : k = 111
  · refine tt_tableIn (off := 79) (tgt := 80) hf dX6_kindBy_1 (by omega) (by omega) (by omega) (by rw [s1_111]; rfl) (by decide) ?_
    refine tt_iconst hf dX6_kindBy_80 ?_
    exact tt_ireti hf hrT dX6_kindBy_81 (Nat.le_refl _) (Nat.le_refl _) (by omega) ⟨(by unfold kb; first | rw [if_pos (by omega)] | rw [if_neg (by omega), if_pos (by omega)] | rw [if_neg (by omega), if_neg (by omega), if_pos (by omega)] | rw [if_neg (by omega), if_neg (by omega), if_neg (by omega), if_pos (by omega)] | rw [if_neg (by omega), if_neg (by omega), if_neg (by omega), if_neg (by omega), if_pos (by omega)] | rw [if_neg (by omega), if_neg (by omega), if_neg (by omega), if_neg (by omega), if_neg (by omega)]), rfl⟩
  by_cases s1_115 : k = 115
  · refine tt_tableIn (off := 77) (tgt := 78) hf dX6_kindBy_1 (by omega) (by omega) (by omega) (by rw [s1_115]; rfl) (by decide) ?_
    refine tt_iconst hf dX6_kindBy_78 ?_
    exact tt_ireti hf hrT dX6_kindBy_79 (Nat.le_refl _) (Nat.le_refl _) (by omega) ⟨(by unfold kb; first | rw [if_pos (by omega)] | rw [if_neg (by omega), if_pos (by omega)] | rw [if_neg (by omega), if_neg (by omega), if_pos (by omega)] | rw [if_neg (by omega), if_neg (by omega), if_neg (by omega), if_pos (by omega)] | rw [if_neg (by omega), if_neg (by omega), if_neg (by omega), if_neg (by omega), if_pos (by omega)] | rw [if_neg (by omega), if_neg (by omega), if_neg (by omega), if_neg (by omega), if_neg (by omega)]), rfl⟩
  by_cases s1_in : 102 ≤ k ∧ k ≤ 115
  · have hoff : (#[75, 81, 81, 81, 81, 81, 73, 81, 71, 79, 81, 81, 81, 77] : Array Int)[(k - 102).toNat]? = some 81 := by
      rcases (show k = 103 ∨ k = 104 ∨ k = 105 ∨ k = 106 ∨ k = 107 ∨ k = 109 ∨ k = 112 ∨ k = 113 ∨ k = 114 by omega) with e | e | e | e | e | e | e | e | e <;> rw [e] <;> rfl
    refine tt_tableIn (off := 81) (tgt := 82) hf dX6_kindBy_1 (by omega) (by omega) (by omega) hoff (by decide) ?_
    refine tt_iconst hf dX6_kindBy_82 ?_
    exact tt_ireti hf hrT dX6_kindBy_83 (Nat.le_refl _) (Nat.le_refl _) (by omega) ⟨(by unfold kb; first | rw [if_pos (by omega)] | rw [if_neg (by omega), if_pos (by omega)] | rw [if_neg (by omega), if_neg (by omega), if_pos (by omega)] | rw [if_neg (by omega), if_neg (by omega), if_neg (by omega), if_pos (by omega)] | rw [if_neg (by omega), if_neg (by omega), if_neg (by omega), if_neg (by omega), if_pos (by omega)] | rw [if_neg (by omega), if_neg (by omega), if_neg (by omega), if_neg (by omega), if_neg (by omega)]), rfl⟩
  · refine tt_tableOut (tgt := 82) hf dX6_kindBy_1 (by omega) (by omega) (by decide) ?_
    refine tt_iconst hf dX6_kindBy_82 ?_
    exact tt_ireti hf hrT dX6_kindBy_83 (Nat.le_refl _) (Nat.le_refl _) (by omega) ⟨(by unfold kb; first | rw [if_pos (by omega)] | rw [if_neg (by omega), if_pos (by omega)] | rw [if_neg (by omega), if_neg (by omega), if_pos (by omega)] | rw [if_neg (by omega), if_neg (by omega), if_neg (by omega), if_pos (by omega)] | rw [if_neg (by omega), if_neg (by omega), if_neg (by omega), if_neg (by omega), if_pos (by omega)] | rw [if_neg (by omega), if_neg (by omega), if_neg (by omega), if_neg (by omega), if_neg (by omega)]), rfl⟩
set_option maxHeartbeats 4000000 in
set_option maxRecDepth 100000 in
theorem cm_at {l : Launch} {g : tG} {o : Nat} {ax : Nat → Nat} {brd many cols : Int} {kd co : Int → Int} {chg sM : Int} {sN sW sC : Int → Int} {pgM : Int} {page : Int → Int} {whl nwN : Int} {now oft wtd : Int → Int} {ways : Int} {svd trn cAt wAt : Int → Int} {seed : Int64} {isK kB kG kS : Int} {kK kO kN kW kC : Int → Int} {hh : Int64} {k : Int} (hpg : 0 ≤ pgM ∧ pgM ≤ 26) (hpv : ∀ i, 0 ≤ page i ∧ page i ≤ 126) (hk : 0 ≤ k ∧ k ≤ 100) : Ce l g yX6_at (ws_ yX6_at cX6_at 2 (Option.some Jvm.ClassFile.FieldType.int)) (rmL 1) [.ref o, .int (iI k)] (mW g o ax brd many cols kd co chg sM sN sW sC pgM page whl nwN now oft wtd ways svd trn cAt wAt seed isK kB kG kS kK kO kN kW kC hh) (pa page pgM k) (mW g o ax brd many cols kd co chg sM sN sW sC pgM page whl nwN now oft wtd ways svd trn cAt wAt seed isK kB kG kS kK kO kN kW kC hh) := by
  refine Ct.of (by decide) (Nat.le_of_ble_eq_true rfl) ?_
  intro Γ hl hg hf hrT
  subst hl hg
  have hf : Fx Γ RX6 cX6_at 2 := hf
  show T Γ (rmL 1) 2 0 0 (Qe Γ (rmL 1) _) _ 0 [(0, .ref o), (1, .int (iI k))] []
  have hq := hpv k
  refine tt_iload_n hf 1 dX6_at_0 rfl ?_
  refine tt_aload_n hf 0 dX6_at_1 rfl ?_
  refine gm_pgM hf dX6_at_2 ?_
  refine tt_icmp_ge (tgt := 17) hf dX6_at_5 (by decide) (by omega) (by omega) (fun c5 => ?_) (fun c5 => ?_)
  · refine tt_iconst hf dX6_at_17 ?_
    exact tt_ireti hf hrT dX6_at_18 (Nat.le_refl _) (Nat.le_refl _) (by omega) ⟨(by unfold pa; rw [if_neg (by omega)]), rfl⟩
  · refine tt_aload_n hf 0 dX6_at_8 rfl ?_
    refine gm_page hf dX6_at_9 ?_
    refine tt_iload_n hf 1 dX6_at_12 rfl ?_
    refine lm_page hf (by omega) dX6_at_13 ?_
    refine tt_goto (tgt := 18) hf dX6_at_14 (by decide) ?_
    exact tt_ireti hf hrT dX6_at_18 (Nat.le_refl _) (Nat.le_refl _) (by omega) ⟨(by unfold pa; rw [if_pos (by omega)]), rfl⟩
set_option maxHeartbeats 4000000 in
set_option maxRecDepth 100000 in
theorem cm_readKinds {l : Launch} {g : tG} {o : Nat} {ax : Nat → Nat} {brd many cols : Int} {kd co : Int → Int} {chg sM : Int} {sN sW sC : Int → Int} {pgM : Int} {page : Int → Int} {whl nwN : Int} {now oft wtd : Int → Int} {ways : Int} {svd trn cAt wAt : Int → Int} {seed : Int64} {isK kB kG kS : Int} {kK kO kN kW kC : Int → Int} {hh : Int64}  (hpg : 0 ≤ pgM ∧ pgM ≤ 26) (hpv : ∀ i, 0 ≤ page i ∧ page i ≤ 126) (hn0 : nwN = 0) : Ce l g yX6_readKinds (ws_ yX6_readKinds cX6_readKinds 2 (Option.some Jvm.ClassFile.FieldType.int)) (rmL 2) [.ref o] (mW g o ax brd many cols kd co chg sM sN sW sC pgM page whl nwN now oft wtd ways svd trn cAt wAt seed isK kB kG kS kK kO kN kW kC hh) (2 + kc (pa page pgM) 10 0) (mW g o ax brd many cols kd co chg sM sN sW sC pgM page whl (kc (pa page pgM) 10 0) now oft wtd ways svd trn cAt wAt seed isK kB kG kS kK kO kN kW kC hh) := by
  refine Ct.of (by decide) (Nat.le_of_ble_eq_true rfl) ?_
  intro Γ hl hg hf hrT
  subst hl hg
  have hf : Fx Γ RX6 cX6_readKinds 2 := hf
  show T Γ (rmL 2) 2 0 0 (Qe Γ (rmL 2) _) _ 0 [(0, .ref o)] []
  have lp : ∀ (N : Nat) (k : Int) (nn : Int), (k = 2 + nn ∧ 0 ≤ nn ∧ nn ≤ 10) → (kc (pa page pgM) 10 0 = kc (pa page pgM) (10 - nn).toNat nn) → (10 - nn).toNat < N → T Γ (rmL 2) 2 0 0 (Qe Γ (rmL 2) (fun vv w => ∃ r : Int, vv = some (.int (iI r)) ∧ iR r ∧ r = (2 + kc (pa page pgM) 10 0) ∧ w = mW (xg Γ) o ax brd many cols kd co chg sM sN sW sC pgM page whl (kc (pa page pgM) 10 0) now oft wtd ways svd trn cAt wAt seed isK kB kG kS kK kO kN kW kC hh)) (mW (xg Γ) o ax brd many cols kd co chg sM sN sW sC pgM page whl nn now oft wtd ways svd trn cAt wAt seed isK kB kG kS kK kO kN kW kC hh) 2 [(0, .ref o), (1, .int (iI k))] [] := by
    intro N
    induction N with
    | zero => intro k nn hk hc hN; exact absurd hN (Nat.not_lt_zero _)
    | succ N ih =>
      intro k nn hk hc hN
      have hpr := pa_rng (pgM := pgM) hpv k
      refine tt_aload_n hf 0 dX6_readKinds_2 rfl ?_
      refine gm_nwN hf dX6_readKinds_3 ?_
      refine tt_bipush hf dX6_readKinds_6 (by decide) ?_
      refine tt_icmp_ge (tgt := 39) hf dX6_readKinds_8 (by decide) (by omega) (by omega) (fun c8 => ?_) (fun c8 => ?_)
      · refine tt_iload_n hf 1 dX6_readKinds_39 rfl ?_
        exact tt_ireti hf hrT dX6_readKinds_40 (Nat.le_refl _) (Nat.le_refl _) (by omega) ⟨(by rw [hc, hk.1, show nn = 10 by omega]; rfl), (by rw [hc, show nn = 10 by omega]; rfl)⟩
      · have hkr := kb_rng (pa page pgM k)
        refine tt_aload_n hf 0 dX6_readKinds_11 rfl ?_
        refine tt_iload_n hf 1 dX6_readKinds_12 rfl ?_
        refine tt_callV0 (As := [.int (iI k)]) (rest := []) (q0 := 0) (ci := 6) hf (cm_at hpg hpv (by omega)) lk_X6_X6_at hd_X6_at rfl rfl rfl ⟨rfl, rfl⟩ (by decide) (by decide) (Nat.le_of_ble_eq_true rfl) dX6_readKinds_13 rfl (kk_e (fun r13 => ?_))
        refine tt_callS0 (As := [.int (iI (pa page pgM k))]) (rest := []) hf (cm_kindBy (by omega)) lk_X6_X6_kindBy hd_X6_kindBy rfl ⟨rfl, rfl⟩ (by decide) (by decide) (Nat.le_of_ble_eq_true rfl) dX6_readKinds_16 rfl (kk_e (fun r16 => ?_))
        refine tt_iconst hf dX6_readKinds_19 ?_
        refine tt_icmp_eq (tgt := 39) hf dX6_readKinds_20 (by decide) (by omega) (by omega) (fun c20 => ?_) (fun c20 => ?_)
        · refine tt_iload_n hf 1 dX6_readKinds_39 rfl ?_
          exact tt_ireti hf hrT dX6_readKinds_40 (Nat.le_refl _) (Nat.le_refl _) (by omega) ⟨(by rw [hc, show (10 - nn).toNat = (10 - (nn + 1)).toNat + 1 by omega]; simp only [kc]; rw [if_neg (by rw [← hk.1]; exact fun q => q c20), hk.1]), (by rw [hc, show (10 - nn).toNat = (10 - (nn + 1)).toNat + 1 by omega]; simp only [kc]; rw [if_neg (by rw [← hk.1]; exact fun q => q c20)])⟩
        · refine tt_aload_n hf 0 dX6_readKinds_23 rfl ?_
          refine tt_dup hf dX6_readKinds_24 rfl ?_
          refine gm_nwN hf dX6_readKinds_25 ?_
          refine tt_iconst hf dX6_readKinds_28 ?_
          refine tt_iadd hf dX6_readKinds_29 ?_
          refine pm_nwN hf dX6_readKinds_30 ?_
          refine tt_iinc (lv' := [(1, .int (iI (k + 1))), (0, .ref o)]) hf 1 dX6_readKinds_33 rfl (by decide) rfl ?_
          refine tt_goto (tgt := 2) hf dX6_readKinds_36 (by decide) ?_
          refine tt_sub [1, 0] rfl ?_
          exact ih (k + 1) (nn + 1) (by omega) (by rw [hc, show (10 - nn).toNat = (10 - (nn + 1)).toNat + 1 by omega]; simp only [kc]; rw [if_pos (by rw [← hk.1]; exact c20)]) (by omega)
  refine tt_iconst hf dX6_readKinds_0 ?_
  refine tt_istore_n (lv' := [(1, .int (iI 2)), (0, .ref o)]) hf dX6_readKinds_1 (by decide) rfl ?_
  refine tt_sub [1, 0] rfl ?_
  exact lp _ 2 nwN (by omega) (by rw [hn0]; rfl) (Nat.lt_succ_self _)
set_option maxHeartbeats 4000000 in
set_option maxRecDepth 100000 in
theorem cm_readSigns {l : Launch} {g : tG} {o : Nat} {ax : Nat → Nat} {brd many cols : Int} {kd co : Int → Int} {chg sM : Int} {sN sW sC : Int → Int} {pgM : Int} {page : Int → Int} {whl nwN : Int} {now oft wtd : Int → Int} {ways : Int} {svd trn cAt wAt : Int → Int} {seed : Int64} {isK kB kG kS : Int} {kK kO kN kW kC : Int → Int} {hh : Int64} {fr most : Int} (hpg : 0 ≤ pgM ∧ pgM ≤ 26) (hpv : ∀ i, 0 ≤ page i ∧ page i ≤ 126) (hnn : 0 ≤ nwN ∧ nwN ≤ 10) (hfr : 0 ≤ fr ∧ fr ≤ 20) (hmo : 2 ≤ most ∧ most ≤ 3) : Ce l g yX6_readSigns (ws_ yX6_readSigns cX6_readSigns 4 (Option.some Jvm.ClassFile.FieldType.int)) (rmL 2) [.ref o, .int (iI fr), .int (iI most)] (mW g o ax brd many cols kd co chg sM sN sW sC pgM page whl nwN now oft wtd ways svd trn cAt wAt seed isK kB kG kS kK kO kN kW kC hh) (sc (pa page pgM) most nwN.toNat fr) (mW g o ax brd many cols kd co chg sM sN sW sC pgM page (if sc (pa page pgM) most nwN.toNat fr = fr + nwN ∧ sc (pa page pgM) most nwN.toNat fr = pgM then 1 else 0) nwN now oft wtd ways svd trn cAt wAt seed isK kB kG kS kK kO kN kW kC hh) := by
  refine Ct.of (by decide) (Nat.le_of_ble_eq_true rfl) ?_
  intro Γ hl hg hf hrT
  subst hl hg
  have hf : Fx Γ RX6 cX6_readSigns 4 := hf
  show T Γ (rmL 2) 4 0 0 (Qe Γ (rmL 2) _) _ 0 [(0, .ref o), (1, .int (iI fr)), (2, .int (iI most))] []
  have lp : ∀ (N : Nat) (k : Int), (fr ≤ k ∧ k ≤ fr + nwN) → (sc (pa page pgM) most nwN.toNat fr = sc (pa page pgM) most (fr + nwN - k).toNat k) → (fr + nwN - k).toNat < N → T Γ (rmL 2) 4 0 0 (Qe Γ (rmL 2) (fun vv w => ∃ r : Int, vv = some (.int (iI r)) ∧ iR r ∧ r = (sc (pa page pgM) most nwN.toNat fr) ∧ w = mW (xg Γ) o ax brd many cols kd co chg sM sN sW sC pgM page (if sc (pa page pgM) most nwN.toNat fr = fr + nwN ∧ sc (pa page pgM) most nwN.toNat fr = pgM then 1 else 0) nwN now oft wtd ways svd trn cAt wAt seed isK kB kG kS kK kO kN kW kC hh)) (mW (xg Γ) o ax brd many cols kd co chg sM sN sW sC pgM page whl nwN now oft wtd ways svd trn cAt wAt seed isK kB kG kS kK kO kN kW kC hh) 2 [(0, .ref o), (1, .int (iI fr)), (2, .int (iI most)), (3, .int (iI k))] [] := by
    intro N
    induction N with
    | zero => intro k hk hs hN; exact absurd hN (Nat.not_lt_zero _)
    | succ N ih =>
      intro k hk hs hN
      have hpr := pa_rng (pgM := pgM) hpv k
      refine tt_iload_n hf 3 dX6_readSigns_2 rfl ?_
      refine tt_iload_n hf 1 dX6_readSigns_3 rfl ?_
      refine tt_aload_n hf 0 dX6_readSigns_4 rfl ?_
      refine gm_nwN hf dX6_readSigns_5 ?_
      refine tt_iadd hf dX6_readSigns_8 ?_
      refine tt_icmp_ge (tgt := 46) hf dX6_readSigns_9 (by decide) (by omega) (by omega) (fun c9 => ?_) (fun c9 => ?_)
      · refine tt_aload_n hf 0 dX6_readSigns_46 rfl ?_
        refine tt_iload_n hf 3 dX6_readSigns_47 rfl ?_
        refine tt_iload_n hf 1 dX6_readSigns_48 rfl ?_
        refine tt_aload_n hf 0 dX6_readSigns_49 rfl ?_
        refine gm_nwN hf dX6_readSigns_50 ?_
        refine tt_iadd hf dX6_readSigns_53 ?_
        refine tt_icmp_ne (tgt := 69) hf dX6_readSigns_54 (by decide) (by omega) (by omega) (fun c54 => ?_) (fun c54 => ?_)
        · refine tt_iconst hf dX6_readSigns_69 ?_
          refine pm_whl hf dX6_readSigns_70 (by omega) ?_
          refine tt_iload_n hf 3 dX6_readSigns_73 rfl ?_
          have es : sc (pa page pgM) most nwN.toNat fr = k := by rw [hs, show (fr + nwN - k).toNat = 0 by omega]; rfl
          exact tt_ireti hf hrT dX6_readSigns_74 (Nat.le_refl _) (Nat.le_refl _) (by omega) ⟨es.symm, (by rw [es, if_neg (by omega)])⟩
        · refine tt_iload_n hf 3 dX6_readSigns_57 rfl ?_
          refine tt_aload_n hf 0 dX6_readSigns_58 rfl ?_
          refine gm_pgM hf dX6_readSigns_59 ?_
          refine tt_icmp_ne (tgt := 69) hf dX6_readSigns_62 (by decide) (by omega) (by omega) (fun c62 => ?_) (fun c62 => ?_)
          · refine tt_iconst hf dX6_readSigns_69 ?_
            refine pm_whl hf dX6_readSigns_70 (by omega) ?_
            refine tt_iload_n hf 3 dX6_readSigns_73 rfl ?_
            have es : sc (pa page pgM) most nwN.toNat fr = k := by rw [hs, show (fr + nwN - k).toNat = 0 by omega]; rfl
            exact tt_ireti hf hrT dX6_readSigns_74 (Nat.le_refl _) (Nat.le_refl _) (by omega) ⟨es.symm, (by rw [es, if_neg (by omega)])⟩
          · refine tt_iconst hf dX6_readSigns_65 ?_
            refine tt_goto (tgt := 70) hf dX6_readSigns_66 (by decide) ?_
            refine pm_whl hf dX6_readSigns_70 (by omega) ?_
            refine tt_iload_n hf 3 dX6_readSigns_73 rfl ?_
            have es : sc (pa page pgM) most nwN.toNat fr = k := by rw [hs, show (fr + nwN - k).toNat = 0 by omega]; rfl
            exact tt_ireti hf hrT dX6_readSigns_74 (Nat.le_refl _) (Nat.le_refl _) (by omega) ⟨es.symm, (by rw [es, if_pos ⟨by omega, by omega⟩])⟩
      · refine tt_aload_n hf 0 dX6_readSigns_12 rfl ?_
        refine tt_iload_n hf 3 dX6_readSigns_13 rfl ?_
        refine tt_callV0 (As := [.int (iI k)]) (rest := []) (q0 := 0) (ci := 6) hf (cm_at hpg hpv (by omega)) lk_X6_X6_at hd_X6_at rfl rfl rfl ⟨rfl, rfl⟩ (by decide) (by decide) (Nat.le_of_ble_eq_true rfl) dX6_readSigns_14 rfl (kk_e (fun r14 => ?_))
        refine tt_bipush hf dX6_readSigns_17 (by decide) ?_
        refine tt_icmp_eq (tgt := 40) hf dX6_readSigns_19 (by decide) (by omega) (by omega) (fun c19 => ?_) (fun c19 => ?_)
        · refine tt_iinc (lv' := [(3, .int (iI (k + 1))), (0, .ref o), (1, .int (iI fr)), (2, .int (iI most))]) hf 3 dX6_readSigns_40 rfl (by decide) rfl ?_
          refine tt_goto (tgt := 2) hf dX6_readSigns_43 (by decide) ?_
          refine tt_sub [1, 2, 3, 0] rfl ?_
          exact ih (k + 1) (by omega) (by rw [hs, show (fr + nwN - k).toNat = (fr + nwN - (k + 1)).toNat + 1 by omega]; simp only [sc]; rw [if_pos (Or.inl c19)]) (by omega)
        · refine tt_aload_n hf 0 dX6_readSigns_22 rfl ?_
          refine tt_iload_n hf 3 dX6_readSigns_23 rfl ?_
          refine tt_callV0 (As := [.int (iI k)]) (rest := []) (q0 := 0) (ci := 6) hf (cm_at hpg hpv (by omega)) lk_X6_X6_at hd_X6_at rfl rfl rfl ⟨rfl, rfl⟩ (by decide) (by decide) (Nat.le_of_ble_eq_true rfl) dX6_readSigns_24 rfl (kk_e (fun r24 => ?_))
          refine tt_bipush hf dX6_readSigns_27 (by decide) ?_
          refine tt_isub hf dX6_readSigns_29 ?_
          refine tt_iconst hf dX6_readSigns_30 ?_
          refine tt_iload_n hf 2 dX6_readSigns_31 rfl ?_
          refine tt_iconst hf dX6_readSigns_32 ?_
          refine tt_isub hf dX6_readSigns_33 ?_
          refine tt_callS0 (As := [.int (iI ((pa page pgM k) - 97)), .int (iI 0), .int (iI (most - 1))]) (rest := []) hf (cm_within (by omega) (by omega) (by omega)) lk_X6_X6_within hd_X6_within rfl ⟨rfl, rfl⟩ (by decide) (by decide) (Nat.le_of_ble_eq_true rfl) dX6_readSigns_34 rfl (kk_e (fun r34 => ?_))
          refine tt_ifb_eq (tgt := 46) hf dX6_readSigns_37 (by decide) (fun c37 => ?_) (fun c37 => ?_)
          · refine tt_aload_n hf 0 dX6_readSigns_46 rfl ?_
            refine tt_iload_n hf 3 dX6_readSigns_47 rfl ?_
            refine tt_iload_n hf 1 dX6_readSigns_48 rfl ?_
            refine tt_aload_n hf 0 dX6_readSigns_49 rfl ?_
            refine gm_nwN hf dX6_readSigns_50 ?_
            refine tt_iadd hf dX6_readSigns_53 ?_
            refine tt_icmp_ne (tgt := 69) hf dX6_readSigns_54 (by decide) (by omega) (by omega) (fun c54 => ?_) (fun c54 => ?_)
            · refine tt_iconst hf dX6_readSigns_69 ?_
              refine pm_whl hf dX6_readSigns_70 (by omega) ?_
              refine tt_iload_n hf 3 dX6_readSigns_73 rfl ?_
              have es : sc (pa page pgM) most nwN.toNat fr = k := by rw [hs, show (fr + nwN - k).toNat = (fr + nwN - (k + 1)).toNat + 1 by omega]; simp only [sc]; rw [if_neg (by rintro (q | q); exact c19 q; exact c37 q)]
              exact tt_ireti hf hrT dX6_readSigns_74 (Nat.le_refl _) (Nat.le_refl _) (by omega) ⟨es.symm, (by rw [es, if_neg (by omega)])⟩
            · refine tt_iload_n hf 3 dX6_readSigns_57 rfl ?_
              refine tt_aload_n hf 0 dX6_readSigns_58 rfl ?_
              refine gm_pgM hf dX6_readSigns_59 ?_
              refine tt_icmp_ne (tgt := 69) hf dX6_readSigns_62 (by decide) (by omega) (by omega) (fun c62 => ?_) (fun c62 => ?_)
              · refine tt_iconst hf dX6_readSigns_69 ?_
                refine pm_whl hf dX6_readSigns_70 (by omega) ?_
                refine tt_iload_n hf 3 dX6_readSigns_73 rfl ?_
                have es : sc (pa page pgM) most nwN.toNat fr = k := by rw [hs, show (fr + nwN - k).toNat = (fr + nwN - (k + 1)).toNat + 1 by omega]; simp only [sc]; rw [if_neg (by rintro (q | q); exact c19 q; exact c37 q)]
                exact tt_ireti hf hrT dX6_readSigns_74 (Nat.le_refl _) (Nat.le_refl _) (by omega) ⟨es.symm, (by rw [es, if_neg (by omega)])⟩
              · refine tt_iconst hf dX6_readSigns_65 ?_
                refine tt_goto (tgt := 70) hf dX6_readSigns_66 (by decide) ?_
                refine pm_whl hf dX6_readSigns_70 (by omega) ?_
                refine tt_iload_n hf 3 dX6_readSigns_73 rfl ?_
                have es : sc (pa page pgM) most nwN.toNat fr = k := by rw [hs, show (fr + nwN - k).toNat = (fr + nwN - (k + 1)).toNat + 1 by omega]; simp only [sc]; rw [if_neg (by rintro (q | q); exact c19 q; exact c37 q)]
                exact tt_ireti hf hrT dX6_readSigns_74 (Nat.le_refl _) (Nat.le_refl _) (by omega) ⟨es.symm, (by rw [es, if_pos ⟨by omega, by omega⟩])⟩
          · refine tt_iinc (lv' := [(3, .int (iI (k + 1))), (0, .ref o), (1, .int (iI fr)), (2, .int (iI most))]) hf 3 dX6_readSigns_40 rfl (by decide) rfl ?_
            refine tt_goto (tgt := 2) hf dX6_readSigns_43 (by decide) ?_
            refine tt_sub [1, 2, 3, 0] rfl ?_
            exact ih (k + 1) (by omega) (by rw [hs, show (fr + nwN - k).toNat = (fr + nwN - (k + 1)).toNat + 1 by omega]; simp only [sc]; rw [if_pos (Or.inr c37)]) (by omega)
  refine tt_iload_n hf 1 dX6_readSigns_0 rfl ?_
  refine tt_istore_n (lv' := [(3, .int (iI fr)), (0, .ref o), (1, .int (iI fr)), (2, .int (iI most))]) hf dX6_readSigns_1 (by decide) rfl ?_
  refine tt_sub [1, 2, 3, 0] rfl ?_
  exact lp _ fr (by omega) (by rw [show fr + nwN - fr = nwN by omega]) (Nat.lt_succ_self _)
set_option maxHeartbeats 4000000 in
set_option maxRecDepth 100000 in
theorem cm_read {l : Launch} {g : tG} {o : Nat} {ax : Nat → Nat} {brd many cols : Int} {kd co : Int → Int} {chg sM : Int} {sN sW sC : Int → Int} {pgM : Int} {page : Int → Int} {whl nwN : Int} {now oft wtd : Int → Int} {ways : Int} {svd trn cAt wAt : Int → Int} {seed : Int64} {isK kB kG kS : Int} {kK kO kN kW kC : Int → Int} {hh : Int64}  (hpg : 0 ≤ pgM ∧ pgM ≤ 26) (hpv : ∀ i, 0 ≤ page i ∧ page i ≤ 126) : Ce l g yX6_read (ws_ yX6_read cX6_read 3 (Option.some Jvm.ClassFile.FieldType.int)) (rmL 3) [.ref o] (mW g o ax brd many cols kd co chg sM sN sW sC pgM page whl nwN now oft wtd ways svd trn cAt wAt seed isK kB kG kS kK kO kN kW kC hh) ((rdF (pa page pgM) pgM).1) (mW g o ax brd many cols kd co chg sM sN sW sC pgM page ((rdF (pa page pgM) pgM).2.1) ((rdF (pa page pgM) pgM).2.2) now oft wtd ways svd trn cAt wAt seed isK kB kG kS kK kO kN kW kC hh) := by
  refine Ct.of (by decide) (Nat.le_of_ble_eq_true rfl) ?_
  intro Γ hl hg hf hrT
  subst hl hg
  have hf : Fx Γ RX6 cX6_read 3 := hf
  show T Γ (rmL 3) 3 0 0 (Qe Γ (rmL 3) _) _ 0 [(0, .ref o)] []
  have hp0 := pa_rng (pgM := pgM) hpv 0
  have hp1 := pa_rng (pgM := pgM) hpv 1
  have hkr := kc_rng (pa page pgM) 10 0
  have hp2 := pa_rng (pgM := pgM) hpv (2 + kc (pa page pgM) 10 0)
  have hsr := sc_rng (pa page pgM) (pa page pgM 0 - 48) (kc (pa page pgM) 10 0).toNat (2 + kc (pa page pgM) 10 0 + 1)
  have hrd : rdF (pa page pgM) pgM = rdF (pa page pgM) pgM := rfl
  conv at hrd => rhs; unfold rdF
  refine tt_aload_n hf 0 dX6_read_0 rfl ?_
  refine tt_iconst hf dX6_read_1 ?_
  refine pm_whl hf dX6_read_2 (by omega) ?_
  refine tt_aload_n hf 0 dX6_read_5 rfl ?_
  refine tt_iconst hf dX6_read_6 ?_
  refine pm_nwN hf dX6_read_7 ?_
  refine tt_aload_n hf 0 dX6_read_10 rfl ?_
  refine tt_iconst hf dX6_read_11 ?_
  refine tt_callV0 (As := [.int (iI 0)]) (rest := []) (q0 := 0) (ci := 6) hf (cm_at hpg hpv (by omega)) lk_X6_X6_at hd_X6_at rfl rfl rfl ⟨rfl, rfl⟩ (by decide) (by decide) (Nat.le_of_ble_eq_true rfl) dX6_read_12 rfl (kk_e (fun r12 => ?_))
  refine tt_bipush hf dX6_read_15 (by decide) ?_
  refine tt_isub hf dX6_read_17 ?_
  refine tt_istore_n (lv' := [(1, .int (iI ((pa page pgM 0) - 48))), (0, .ref o)]) hf dX6_read_18 (by decide) rfl ?_
  refine tt_iload_n hf 0 dX6_read_19 rfl ?_
  refine tt_iconst hf dX6_read_20 ?_
  refine tt_iconst hf dX6_read_21 ?_
  refine tt_callS0 (As := [.int (iI ((pa page pgM 0) - 48)), .int (iI 2), .int (iI 3)]) (rest := []) hf (cm_within (by omega) (by omega) (by omega)) lk_X6_X6_within hd_X6_within rfl ⟨rfl, rfl⟩ (by decide) (by decide) (Nat.le_of_ble_eq_true rfl) dX6_read_22 rfl (kk_e (fun r22 => ?_))
  refine tt_ifb_ne (tgt := 30) hf dX6_read_25 (by decide) (fun c25 => ?_) (fun c25 => ?_)
  · refine tt_aload_n hf 1 dX6_read_30 rfl ?_
    refine tt_iconst hf dX6_read_31 ?_
    refine tt_callV0 (As := [.int (iI 1)]) (rest := []) (q0 := 0) (ci := 6) hf (cm_at hpg hpv (by omega)) lk_X6_X6_at hd_X6_at rfl rfl rfl ⟨rfl, rfl⟩ (by decide) (by decide) (Nat.le_of_ble_eq_true rfl) dX6_read_32 rfl (kk_e (fun r32 => ?_))
    refine tt_bipush hf dX6_read_35 (by decide) ?_
    refine tt_icmp_eq (tgt := 42) hf dX6_read_37 (by decide) (by omega) (by omega) (fun c37 => ?_) (fun c37 => ?_)
    · refine tt_aload_n hf 1 dX6_read_42 rfl ?_
      refine tt_callV0 (As := []) (rest := []) (q0 := 0) (ci := 6) hf (cm_readKinds hpg hpv rfl) lk_X6_X6_readKinds hd_X6_readKinds rfl rfl rfl ⟨rfl, rfl⟩ (by decide) (by decide) (Nat.le_of_ble_eq_true rfl) dX6_read_43 rfl (kk_e (fun r43 => ?_))
      refine tt_istore_n (lv' := [(2, .int (iI (2 + kc (pa page pgM) 10 0))), (1, .int (iI ((pa page pgM 0) - 48))), (0, .ref o)]) hf dX6_read_46 (by decide) rfl ?_
      refine tt_aload_n hf 2 dX6_read_47 rfl ?_
      refine gm_nwN hf dX6_read_48 ?_
      refine tt_iconst hf dX6_read_51 ?_
      refine tt_icmp_lt (tgt := 65) hf dX6_read_52 (by decide) (by omega) (by omega) (fun c52 => ?_) (fun c52 => ?_)
      · refine tt_iload_n hf 0 dX6_read_65 rfl ?_
        rw [if_neg (fun q => q c25), if_neg (fun q => q c37), if_pos (Or.inl c52)] at hrd
        exact tt_ireti hf hrT dX6_read_66 (Nat.le_refl _) (Nat.le_refl _) (by omega) ⟨(by rw [hrd]), (by rw [hrd])⟩
      · refine tt_aload_n hf 2 dX6_read_55 rfl ?_
        refine tt_iload_n hf 0 dX6_read_56 rfl ?_
        refine tt_callV0 (As := [.int (iI (2 + kc (pa page pgM) 10 0))]) (rest := []) (q0 := 0) (ci := 6) hf (cm_at hpg hpv (by omega)) lk_X6_X6_at hd_X6_at rfl rfl rfl ⟨rfl, rfl⟩ (by decide) (by decide) (Nat.le_of_ble_eq_true rfl) dX6_read_57 rfl (kk_e (fun r57 => ?_))
        refine tt_bipush hf dX6_read_60 (by decide) ?_
        refine tt_icmp_eq (tgt := 67) hf dX6_read_62 (by decide) (by omega) (by omega) (fun c62 => ?_) (fun c62 => ?_)
        · refine tt_aload_n hf 2 dX6_read_67 rfl ?_
          refine tt_iload_n hf 0 dX6_read_68 rfl ?_
          refine tt_iconst hf dX6_read_69 ?_
          refine tt_iadd hf dX6_read_70 ?_
          refine tt_iload_n hf 1 dX6_read_71 rfl ?_
          refine tt_callV0 (As := [.int (iI ((2 + kc (pa page pgM) 10 0) + 1)), .int (iI ((pa page pgM 0) - 48))]) (rest := []) (q0 := 0) (ci := 6) hf (cm_readSigns hpg hpv (by omega) (by omega) (by omega)) lk_X6_X6_readSigns hd_X6_readSigns rfl rfl rfl ⟨rfl, rfl⟩ (by decide) (by decide) (Nat.le_of_ble_eq_true rfl) dX6_read_72 rfl (kk_e (fun r72 => ?_))
          rw [if_neg (fun q => q c25), if_neg (fun q => q c37), if_neg (by rintro (q | q); exact absurd q (by omega); exact q c62)] at hrd
          exact tt_ireti hf hrT dX6_read_75 (Nat.le_refl _) (Nat.le_refl _) (by omega) ⟨(by rw [hrd]), (by rw [hrd])⟩
        · refine tt_iload_n hf 0 dX6_read_65 rfl ?_
          rw [if_neg (fun q => q c25), if_neg (fun q => q c37), if_pos (Or.inr c62)] at hrd
          exact tt_ireti hf hrT dX6_read_66 (Nat.le_refl _) (Nat.le_refl _) (by omega) ⟨(by rw [hrd]), (by rw [hrd])⟩
    · refine tt_iconst hf dX6_read_40 ?_
      rw [if_neg (fun q => q c25), if_pos c37] at hrd
      exact tt_ireti hf hrT dX6_read_41 (Nat.le_refl _) (Nat.le_refl _) (by omega) ⟨(by rw [hrd]), (by rw [hrd])⟩
  · refine tt_iconst hf dX6_read_28 ?_
    rw [if_pos c25] at hrd
    exact tt_ireti hf hrT dX6_read_29 (Nat.le_refl _) (Nat.le_refl _) (by omega) ⟨(by rw [hrd]), (by rw [hrd])⟩
set_option maxHeartbeats 4000000 in
set_option maxRecDepth 100000 in
theorem cm_fault {l : Launch} {g : tG} {o : Nat} {ax : Nat → Nat} {brd many cols : Int} {kd co : Int → Int} {chg sM : Int} {sN sW sC : Int → Int} {pgM : Int} {page : Int → Int} {whl nwN : Int} {now oft wtd : Int → Int} {ways : Int} {svd trn cAt wAt : Int → Int} {seed : Int64} {isK kB kG kS : Int} {kK kO kN kW kC : Int → Int} {hh : Int64}  (hpg : 0 ≤ pgM ∧ pgM ≤ 26) (hpv : ∀ i, 0 ≤ page i ∧ page i ≤ 126) : Ce l g yX6_fault (ws_ yX6_fault cX6_fault 1 (Option.some Jvm.ClassFile.FieldType.int)) (rmL 4) [.ref o] (mW g o ax brd many cols kd co chg sM sN sW sC pgM page whl nwN now oft wtd ways svd trn cAt wAt seed isK kB kG kS kK kO kN kW kC hh) ((rdF (pa page pgM) pgM).1) (mW g o ax brd many cols kd co chg sM sN sW sC pgM page ((rdF (pa page pgM) pgM).2.1) ((rdF (pa page pgM) pgM).2.2) now oft wtd ways svd trn cAt wAt seed isK kB kG kS kK kO kN kW kC hh) := by
  refine Ct.of (by decide) (Nat.le_of_ble_eq_true rfl) ?_
  intro Γ hl hg hf hrT
  subst hl hg
  have hf : Fx Γ RX6 cX6_fault 1 := hf
  show T Γ (rmL 4) 1 0 0 (Qe Γ (rmL 4) _) _ 0 [(0, .ref o)] []
  refine tt_aload_n hf 0 dX6_fault_0 rfl ?_
  refine tt_callV0 (As := []) (rest := []) (q0 := 0) (ci := 6) hf (cm_read hpg hpv) lk_X6_X6_read hd_X6_read rfl rfl rfl ⟨rfl, rfl⟩ (by decide) (by decide) (Nat.le_of_ble_eq_true rfl) dX6_fault_1 rfl (kk_e (fun r1 => ?_))
  exact tt_ireti hf hrT dX6_fault_4 (Nat.le_refl _) (Nat.le_refl _) r1 ⟨rfl, rfl⟩
set_option maxHeartbeats 4000000 in
set_option maxRecDepth 100000 in
theorem cm_board {l : Launch} {g : tG} {o : Nat} {ax : Nat → Nat} {brd many cols : Int} {kd co : Int → Int} {chg sM : Int} {sN sW sC : Int → Int} {pgM : Int} {page : Int → Int} {whl nwN : Int} {now oft wtd : Int → Int} {ways : Int} {svd trn cAt wAt : Int → Int} {seed : Int64} {isK kB kG kS : Int} {kK kO kN kW kC : Int → Int} {hh : Int64}  (hpg : 0 ≤ pgM ∧ pgM ≤ 26) (hpv : ∀ i, 0 ≤ page i ∧ page i ≤ 126) : Ce l g yX6_board (ws_ yX6_board cX6_board 3 (Option.some Jvm.ClassFile.FieldType.int)) (rmL 4) [.ref o] (mW g o ax brd many cols kd co chg sM sN sW sC pgM page whl nwN now oft wtd ways svd trn cAt wAt seed isK kB kG kS kK kO kN kW kC hh) (if (rdF (pa page pgM) pgM).2.1 = 1 then (rdF (pa page pgM) pgM).2.2 else -103) (mW g o ax (if (rdF (pa page pgM) pgM).2.1 = 1 then brd + 1 else brd) (if (rdF (pa page pgM) pgM).2.1 = 1 then (rdF (pa page pgM) pgM).2.2 else many) (if (rdF (pa page pgM) pgM).2.1 = 1 then page 0 - 48 else cols) (if (rdF (pa page pgM) pgM).2.1 = 1 then mixF ((rdF (pa page pgM) pgM).2.2 + 1) (fun i => kb (page (1 + i))) kd else kd) (if (rdF (pa page pgM) pgM).2.1 = 1 then mixF ((rdF (pa page pgM) pgM).2.2 + 1) (fun i => if page (2 + (rdF (pa page pgM) pgM).2.2 + i) = 46 then -1 else page (2 + (rdF (pa page pgM) pgM).2.2 + i) - 97) co else co) (if (rdF (pa page pgM) pgM).2.1 = 1 then 0 else chg) (if (rdF (pa page pgM) pgM).2.1 = 1 then 0 else sM) sN sW sC (if (rdF (pa page pgM) pgM).2.1 = 1 then 0 else pgM) page ((rdF (pa page pgM) pgM).2.1) ((rdF (pa page pgM) pgM).2.2) now oft wtd ways svd trn cAt wAt seed isK kB kG kS kK kO kN kW kC hh) := by
  refine Ct.of (by decide) (Nat.le_of_ble_eq_true rfl) ?_
  intro Γ hl hg hf hrT
  subst hl hg
  have hf : Fx Γ RX6 cX6_board 3 := hf
  show T Γ (rmL 4) 3 0 0 (Qe Γ (rmL 4) _) _ 0 [(0, .ref o)] []
  have hrr := rdF_rng (pa page pgM) pgM
  refine tt_aload_n hf 0 dX6_board_0 rfl ?_
  refine tt_callV0 (As := []) (rest := []) (q0 := 0) (ci := 6) hf (cm_read hpg hpv) lk_X6_X6_read hd_X6_read rfl rfl rfl ⟨rfl, rfl⟩ (by decide) (by decide) (Nat.le_of_ble_eq_true rfl) dX6_board_1 rfl (kk_e (fun r1 => ?_))
  refine tt_pop hf dX6_board_4 rfl ?_
  refine tt_aload_n hf 0 dX6_board_5 rfl ?_
  refine gm_whl hf dX6_board_6 ?_
  refine tt_if_ne (tgt := 15) hf dX6_board_9 (by decide) (by omega) (fun c9 => ?_) (fun c9 => ?_)
  · refine tt_aload_n hf 0 dX6_board_15 rfl ?_
    refine tt_aload_n hf 0 dX6_board_16 rfl ?_
    refine gm_page hf dX6_board_17 ?_
    refine tt_iconst hf dX6_board_20 ?_
    refine lm_page hf (by omega) dX6_board_21 ?_
    refine tt_bipush hf dX6_board_22 (by decide) ?_
    refine tt_isub hf dX6_board_24 ?_
    refine pm_cols hf dX6_board_25 ?_
    refine tt_aload_n hf 0 dX6_board_28 rfl ?_
    refine tt_aload_n hf 0 dX6_board_29 rfl ?_
    refine gm_nwN hf dX6_board_30 ?_
    refine pm_many hf dX6_board_33 ?_
    refine tt_iconst hf dX6_board_36 ?_
    refine tt_istore_n (lv' := [(1, .int (iI 1)), (0, .ref o)]) hf dX6_board_37 (by decide) rfl ?_
    have hwh : (rdF (pa page pgM) pgM).2.1 = 1 := by omega
    have lp : ∀ (N : Nat) (i : Int) (kx : Int → Int) (cx : Int → Int), (1 ≤ i ∧ i ≤ (rdF (pa page pgM) pgM).2.2 + 1) → (kx = mixF i (fun i => kb (page (1 + i))) kd) → (cx = mixF i (fun i => if page (2 + (rdF (pa page pgM) pgM).2.2 + i) = 46 then -1 else page (2 + (rdF (pa page pgM) pgM).2.2 + i) - 97) co) → (11 - i).toNat < N → T Γ (rmL 4) 3 0 0 (Qe Γ (rmL 4) (fun vv w => ∃ r : Int, vv = some (.int (iI r)) ∧ iR r ∧ r = (if (rdF (pa page pgM) pgM).2.1 = 1 then (rdF (pa page pgM) pgM).2.2 else -103) ∧ w = mW (xg Γ) o ax (if (rdF (pa page pgM) pgM).2.1 = 1 then brd + 1 else brd) (if (rdF (pa page pgM) pgM).2.1 = 1 then (rdF (pa page pgM) pgM).2.2 else many) (if (rdF (pa page pgM) pgM).2.1 = 1 then page 0 - 48 else cols) (if (rdF (pa page pgM) pgM).2.1 = 1 then mixF ((rdF (pa page pgM) pgM).2.2 + 1) (fun i => kb (page (1 + i))) kd else kd) (if (rdF (pa page pgM) pgM).2.1 = 1 then mixF ((rdF (pa page pgM) pgM).2.2 + 1) (fun i => if page (2 + (rdF (pa page pgM) pgM).2.2 + i) = 46 then -1 else page (2 + (rdF (pa page pgM) pgM).2.2 + i) - 97) co else co) (if (rdF (pa page pgM) pgM).2.1 = 1 then 0 else chg) (if (rdF (pa page pgM) pgM).2.1 = 1 then 0 else sM) sN sW sC (if (rdF (pa page pgM) pgM).2.1 = 1 then 0 else pgM) page ((rdF (pa page pgM) pgM).2.1) ((rdF (pa page pgM) pgM).2.2) now oft wtd ways svd trn cAt wAt seed isK kB kG kS kK kO kN kW kC hh)) (mW (xg Γ) o ax brd ((rdF (pa page pgM) pgM).2.2) ((page 0) - 48) kx cx chg sM sN sW sC pgM page ((rdF (pa page pgM) pgM).2.1) ((rdF (pa page pgM) pgM).2.2) now oft wtd ways svd trn cAt wAt seed isK kB kG kS kK kO kN kW kC hh) 38 [(0, .ref o), (1, .int (iI i))] [] := by
      intro N
      induction N with
      | zero => intro i kx cx hi hkx hcx hN; exact absurd hN (Nat.not_lt_zero _)
      | succ N ih =>
        intro i kx cx hi hkx hcx hN
        refine tt_iload_n hf 1 dX6_board_38 rfl ?_
        refine tt_aload_n hf 0 dX6_board_39 rfl ?_
        refine gm_many hf dX6_board_40 ?_
        refine tt_icmp_gt (tgt := 103) hf dX6_board_43 (by decide) (by omega) (by omega) (fun c43 => ?_) (fun c43 => ?_)
        · refine tt_aload_n hf 0 dX6_board_103 rfl ?_
          refine tt_iconst hf dX6_board_104 ?_
          refine pm_chg hf dX6_board_105 ?_
          refine tt_aload_n hf 0 dX6_board_108 rfl ?_
          refine tt_dup hf dX6_board_109 rfl ?_
          refine gm_brd hf dX6_board_110 ?_
          refine tt_iconst hf dX6_board_113 ?_
          refine tt_iadd hf dX6_board_114 ?_
          refine pm_brd hf dX6_board_115 ?_
          refine tt_aload_n hf 0 dX6_board_118 rfl ?_
          refine tt_iconst hf dX6_board_119 ?_
          refine pm_sM hf dX6_board_120 ?_
          refine tt_aload_n hf 0 dX6_board_123 rfl ?_
          refine tt_iconst hf dX6_board_124 ?_
          refine pm_pgM hf dX6_board_125 ?_
          refine tt_aload_n hf 0 dX6_board_128 rfl ?_
          refine gm_many hf dX6_board_129 ?_
          have ei : i = (rdF (pa page pgM) pgM).2.2 + 1 := by omega
          rw [ei] at hkx hcx
          exact tt_ireti hf hrT dX6_board_132 (Nat.le_refl _) (Nat.le_refl _) (by omega) ⟨(by rw [if_pos hwh]), (by rw [if_pos hwh, if_pos hwh, if_pos hwh, if_pos hwh, if_pos hwh, if_pos hwh, if_pos hwh, if_pos hwh, ← hkx, ← hcx])⟩
        · have hv1 := hpv (2 + (rdF (pa page pgM) pgM).2.2 + i)
          have hv2 := hpv (1 + i)
          refine tt_aload_n hf 0 dX6_board_46 rfl ?_
          refine gm_page hf dX6_board_47 ?_
          refine tt_iconst hf dX6_board_50 ?_
          refine tt_aload_n hf 0 dX6_board_51 rfl ?_
          refine gm_many hf dX6_board_52 ?_
          refine tt_iadd hf dX6_board_55 ?_
          refine tt_iload_n hf 1 dX6_board_56 rfl ?_
          refine tt_iadd hf dX6_board_57 ?_
          refine lm_page hf (by omega) dX6_board_58 ?_
          refine tt_istore_n (lv' := [(2, .int (iI (page ((2 + ((rdF (pa page pgM) pgM).2.2)) + i)))), (0, .ref o), (1, .int (iI i))]) hf dX6_board_59 (by decide) rfl ?_
          refine tt_aload_n hf 1 dX6_board_60 rfl ?_
          refine gm_kd hf dX6_board_61 ?_
          refine tt_iload_n hf 2 dX6_board_64 rfl ?_
          refine tt_aload_n hf 1 dX6_board_65 rfl ?_
          refine gm_page hf dX6_board_66 ?_
          refine tt_iconst hf dX6_board_69 ?_
          refine tt_iload_n hf 2 dX6_board_70 rfl ?_
          refine tt_iadd hf dX6_board_71 ?_
          refine lm_page hf (by omega) dX6_board_72 ?_
          refine tt_callS0 (As := [.int (iI (page (1 + i)))]) (rest := [.int (iI i), .ref (ax 3)]) hf (cm_kindBy (by omega)) lk_X6_X6_kindBy hd_X6_kindBy rfl ⟨rfl, rfl⟩ (by decide) (by decide) (Nat.le_of_ble_eq_true rfl) dX6_board_73 rfl (kk_e (fun r73 => ?_))
          refine sm_kd hf (by omega) dX6_board_76 ?_
          refine tt_aload_n hf 1 dX6_board_77 rfl ?_
          refine gm_co hf dX6_board_78 ?_
          refine tt_iload_n hf 2 dX6_board_81 rfl ?_
          refine tt_iload_n hf 0 dX6_board_82 rfl ?_
          refine tt_bipush hf dX6_board_83 (by decide) ?_
          refine tt_icmp_ne (tgt := 92) hf dX6_board_85 (by decide) (by omega) (by omega) (fun c85 => ?_) (fun c85 => ?_)
          · refine tt_iload_n hf 0 dX6_board_92 rfl ?_
            refine tt_bipush hf dX6_board_93 (by decide) ?_
            refine tt_isub hf dX6_board_95 ?_
            refine sm_co hf (by omega) dX6_board_96 ?_
            refine tt_iinc (lv' := [(1, .int (iI (i + 1))), (2, .int (iI (page ((2 + ((rdF (pa page pgM) pgM).2.2)) + i)))), (0, .ref o)]) hf 2 dX6_board_97 rfl (by decide) rfl ?_
            refine tt_goto (tgt := 38) hf dX6_board_100 (by decide) ?_
            refine tt_sub [2, 0] rfl ?_
            exact ih (i + 1) (uI kx i (kb (page (1 + i)))) (uI cx i ((page ((2 + ((rdF (pa page pgM) pgM).2.2)) + i)) - 97)) (by omega) (by rw [hkx]; exact mixF_s (by omega) rfl) (by rw [hcx]; exact mixF_s (by omega) (if_neg c85).symm) (by omega)
          · refine tt_iconst hf dX6_board_88 ?_
            refine tt_goto (tgt := 96) hf dX6_board_89 (by decide) ?_
            refine sm_co hf (by omega) dX6_board_96 ?_
            refine tt_iinc (lv' := [(1, .int (iI (i + 1))), (2, .int (iI (page ((2 + ((rdF (pa page pgM) pgM).2.2)) + i)))), (0, .ref o)]) hf 2 dX6_board_97 rfl (by decide) rfl ?_
            refine tt_goto (tgt := 38) hf dX6_board_100 (by decide) ?_
            refine tt_sub [2, 0] rfl ?_
            exact ih (i + 1) (uI kx i (kb (page (1 + i)))) (uI cx i (-1)) (by omega) (by rw [hkx]; exact mixF_s (by omega) rfl) (by rw [hcx]; exact mixF_s (by omega) (if_pos c85).symm) (by omega)
    refine tt_sub [1, 0] rfl ?_
    exact lp _ 1 kd co (by omega) mixF_1.symm mixF_1.symm (Nat.lt_succ_self _)
  · refine tt_bipush hf dX6_board_12 (by decide) ?_
    have hwh : ¬ (rdF (pa page pgM) pgM).2.1 = 1 := by omega
    exact tt_ireti hf hrT dX6_board_14 (Nat.le_refl _) (Nat.le_refl _) (by omega) ⟨(by rw [if_neg hwh]), (by rw [if_neg hwh, if_neg hwh, if_neg hwh, if_neg hwh, if_neg hwh, if_neg hwh, if_neg hwh, if_neg hwh])⟩
set_option maxHeartbeats 4000000 in
set_option maxRecDepth 100000 in
theorem cm_letter {l : Launch} {g : tG} {o : Nat} {ax : Nat → Nat} {brd many cols : Int} {kd co : Int → Int} {chg sM : Int} {sN sW sC : Int → Int} {pgM : Int} {page : Int → Int} {whl nwN : Int} {now oft wtd : Int → Int} {ways : Int} {svd trn cAt wAt : Int → Int} {seed : Int64} {isK kB kG kS : Int} {kK kO kN kW kC : Int → Int} {hh : Int64} {v : Int} (hpg : 0 ≤ pgM ∧ pgM ≤ 26) (hpv : ∀ i, 0 ≤ page i ∧ page i ≤ 126) (hv : iR v) : Ce l g yX6_letter (ws_ yX6_letter cX6_letter 2 (Option.some Jvm.ClassFile.FieldType.int)) (rmL 2) [.ref o, .int (iI v)] (mW g o ax brd many cols kd co chg sM sN sW sC pgM page whl nwN now oft wtd ways svd trn cAt wAt seed isK kB kG kS kK kO kN kW kC hh) (if (32 ≤ v ∧ v ≤ 126) ∧ pgM ≠ 26 then pgM + 1 else if 32 ≤ v ∧ v ≤ 126 then -104 else -102) (mW g o ax brd many cols kd co chg sM sN sW sC (if (32 ≤ v ∧ v ≤ 126) ∧ pgM ≠ 26 then pgM + 1 else pgM) (if (32 ≤ v ∧ v ≤ 126) ∧ pgM ≠ 26 then uI page pgM v else page) whl nwN now oft wtd ways svd trn cAt wAt seed isK kB kG kS kK kO kN kW kC hh) := by
  refine Ct.of (by decide) (Nat.le_of_ble_eq_true rfl) ?_
  intro Γ hl hg hf hrT
  subst hl hg
  have hf : Fx Γ RX6 cX6_letter 2 := hf
  show T Γ (rmL 2) 2 0 0 (Qe Γ (rmL 2) _) _ 0 [(0, .ref o), (1, .int (iI v))] []
  refine tt_iload_n hf 1 dX6_letter_0 rfl ?_
  refine tt_bipush hf dX6_letter_1 (by decide) ?_
  refine tt_bipush hf dX6_letter_3 (by decide) ?_
  refine tt_callS0 (As := [.int (iI v), .int (iI 32), .int (iI 126)]) (rest := []) hf (cm_within (by omega) (by omega) (by omega)) lk_X6_X6_within hd_X6_within rfl ⟨rfl, rfl⟩ (by decide) (by decide) (Nat.le_of_ble_eq_true rfl) dX6_letter_5 rfl (kk_e (fun r5 => ?_))
  refine tt_ifb_ne (tgt := 14) hf dX6_letter_8 (by decide) (fun c8 => ?_) (fun c8 => ?_)
  · refine tt_aload_n hf 0 dX6_letter_14 rfl ?_
    refine gm_pgM hf dX6_letter_15 ?_
    refine tt_bipush hf dX6_letter_18 (by decide) ?_
    refine tt_icmp_ne (tgt := 26) hf dX6_letter_20 (by decide) (by omega) (by omega) (fun c20 => ?_) (fun c20 => ?_)
    · refine tt_aload_n hf 0 dX6_letter_26 rfl ?_
      refine gm_page hf dX6_letter_27 ?_
      refine tt_aload_n hf 0 dX6_letter_30 rfl ?_
      refine gm_pgM hf dX6_letter_31 ?_
      refine tt_iload_n hf 1 dX6_letter_34 rfl ?_
      refine tt_i2b (z := v) hf dX6_letter_35 (i2b_id (by omega)) ?_
      refine sm_page hf (by omega) (by omega) dX6_letter_36 ?_
      refine tt_aload_n hf 0 dX6_letter_37 rfl ?_
      refine tt_dup hf dX6_letter_38 rfl ?_
      refine gm_pgM hf dX6_letter_39 ?_
      refine tt_iconst hf dX6_letter_42 ?_
      refine tt_iadd hf dX6_letter_43 ?_
      refine pm_pgM hf dX6_letter_44 ?_
      refine tt_aload_n hf 0 dX6_letter_47 rfl ?_
      refine gm_pgM hf dX6_letter_48 ?_
      exact tt_ireti hf hrT dX6_letter_51 (Nat.le_refl _) (Nat.le_refl _) (by omega) ⟨(by rw [if_pos ⟨c8, c20⟩]), (by rw [if_pos ⟨c8, c20⟩, if_pos ⟨c8, c20⟩])⟩
    · refine tt_bipush hf dX6_letter_23 (by decide) ?_
      exact tt_ireti hf hrT dX6_letter_25 (Nat.le_refl _) (Nat.le_refl _) (by omega) ⟨(by rw [if_neg (fun q => q.2 c20), if_pos c8]), (by rw [if_neg (fun q => q.2 c20), if_neg (fun q => q.2 c20)])⟩
  · refine tt_bipush hf dX6_letter_11 (by decide) ?_
    exact tt_ireti hf hrT dX6_letter_13 (Nat.le_refl _) (Nat.le_refl _) (by omega) ⟨(by rw [if_neg (fun q => c8 q.1), if_neg c8]), (by rw [if_neg (fun q => c8 q.1), if_neg (fun q => c8 q.1)])⟩
set_option maxHeartbeats 4000000 in
set_option maxRecDepth 100000 in
theorem cm_blank {l : Launch} {g : tG} {o : Nat} {ax : Nat → Nat} {brd many cols : Int} {kd co : Int → Int} {chg sM : Int} {sN sW sC : Int → Int} {pgM : Int} {page : Int → Int} {whl nwN : Int} {now oft wtd : Int → Int} {ways : Int} {svd trn cAt wAt : Int → Int} {seed : Int64} {isK kB kG kS : Int} {kK kO kN kW kC : Int → Int} {hh : Int64}  (hpg : 0 ≤ pgM ∧ pgM ≤ 26) (hpv : ∀ i, 0 ≤ page i ∧ page i ≤ 126) : Ce l g yX6_blank (ws_ yX6_blank cX6_blank 2 (Option.some Jvm.ClassFile.FieldType.int)) (rmL 1) [.ref o] (mW g o ax brd many cols kd co chg sM sN sW sC pgM page whl nwN now oft wtd ways svd trn cAt wAt seed isK kB kG kS kK kO kN kW kC hh) (pgM) (mW g o ax brd many cols kd co chg sM sN sW sC 0 page whl nwN now oft wtd ways svd trn cAt wAt seed isK kB kG kS kK kO kN kW kC hh) := by
  refine Ct.of (by decide) (Nat.le_of_ble_eq_true rfl) ?_
  intro Γ hl hg hf hrT
  subst hl hg
  have hf : Fx Γ RX6 cX6_blank 2 := hf
  show T Γ (rmL 1) 2 0 0 (Qe Γ (rmL 1) _) _ 0 [(0, .ref o)] []
  refine tt_aload_n hf 0 dX6_blank_0 rfl ?_
  refine gm_pgM hf dX6_blank_1 ?_
  refine tt_istore_n (lv' := [(1, .int (iI pgM)), (0, .ref o)]) hf dX6_blank_4 (by decide) rfl ?_
  refine tt_aload_n hf 1 dX6_blank_5 rfl ?_
  refine tt_iconst hf dX6_blank_6 ?_
  refine pm_pgM hf dX6_blank_7 ?_
  refine tt_iload_n hf 0 dX6_blank_10 rfl ?_
  exact tt_ireti hf hrT dX6_blank_11 (Nat.le_refl _) (Nat.le_refl _) (by omega) ⟨rfl, rfl⟩
set_option maxHeartbeats 4000000 in
set_option maxRecDepth 100000 in
theorem cm_as {l : Launch} {g : tG} {o : Nat} {ax : Nat → Nat} {brd many cols : Int} {kd co : Int → Int} {chg sM : Int} {sN sW sC : Int → Int} {pgM : Int} {page : Int → Int} {whl nwN : Int} {now oft wtd : Int → Int} {ways : Int} {svd trn cAt wAt : Int → Int} {seed : Int64} {isK kB kG kS : Int} {kK kO kN kW kC : Int → Int} {hh : Int64} {v k : Int} (hm : 0 ≤ many ∧ many ≤ 10) (hkd : ∀ i, 0 ≤ kd i ∧ kd i ≤ 4) (hv : iR v) (hk : iR k) : Ce l g yX6_as (ws_ yX6_as cX6_as 4 (Option.some Jvm.ClassFile.FieldType.int)) (rmL 3) [.ref o, .int (iI v), .int (iI k)] (mW g o ax brd many cols kd co chg sM sN sW sC pgM page whl nwN now oft wtd ways svd trn cAt wAt seed isK kB kG kS kK kO kN kW kC hh) (if 1 ≤ v ∧ v ≤ many then (if 0 ≤ k ∧ k ≤ 4 then (if k = 0 ∨ kd v = k ∨ (k = 3 ∧ kd v = 4) then v else -1) else -102) else -101) (mW g o ax brd many cols kd co chg sM sN sW sC pgM page whl nwN now oft wtd ways svd trn cAt wAt seed isK kB kG kS kK kO kN kW kC hh) := by
  refine Ct.of (by decide) (Nat.le_of_ble_eq_true rfl) ?_
  intro Γ hl hg hf hrT
  subst hl hg
  have hf : Fx Γ RX6 cX6_as 4 := hf
  show T Γ (rmL 3) 4 0 0 (Qe Γ (rmL 3) _) _ 0 [(0, .ref o), (1, .int (iI v)), (2, .int (iI k))] []
  have hq := hkd v
  refine tt_aload_n hf 0 dX6_as_0 rfl ?_
  refine tt_iload_n hf 1 dX6_as_1 rfl ?_
  refine tt_callV0 (As := [.int (iI v)]) (rest := []) (q0 := 0) (ci := 6) hf (cm_isNumber (by omega) hm) lk_X6_X6_isNumber hd_X6_isNumber rfl rfl rfl ⟨rfl, rfl⟩ (by decide) (by decide) (Nat.le_of_ble_eq_true rfl) dX6_as_2 rfl (kk_e (fun r2 => ?_))
  refine tt_ifb_ne (tgt := 11) hf dX6_as_5 (by decide) (fun c5 => ?_) (fun c5 => ?_)
  · refine tt_iload_n hf 2 dX6_as_11 rfl ?_
    refine tt_iconst hf dX6_as_12 ?_
    refine tt_iconst hf dX6_as_13 ?_
    refine tt_callS0 (As := [.int (iI k), .int (iI 0), .int (iI 4)]) (rest := []) hf (cm_within (by omega) (by omega) (by omega)) lk_X6_X6_within hd_X6_within rfl ⟨rfl, rfl⟩ (by decide) (by decide) (Nat.le_of_ble_eq_true rfl) dX6_as_14 rfl (kk_e (fun r14 => ?_))
    refine tt_ifb_ne (tgt := 23) hf dX6_as_17 (by decide) (fun c17 => ?_) (fun c17 => ?_)
    · refine tt_aload_n hf 0 dX6_as_23 rfl ?_
      refine gm_kd hf dX6_as_24 ?_
      refine tt_iload_n hf 1 dX6_as_27 rfl ?_
      refine lm_kd hf (by omega) dX6_as_28 ?_
      refine tt_istore_n (lv' := [(3, .int (iI (kd v))), (0, .ref o), (1, .int (iI v)), (2, .int (iI k))]) hf dX6_as_29 (by decide) rfl ?_
      refine tt_iload_n hf 3 dX6_as_30 rfl ?_
      refine tt_if_eq (tgt := 49) hf dX6_as_31 (by decide) (by omega) (fun c31 => ?_) (fun c31 => ?_)
      · refine tt_iload_n hf 2 dX6_as_49 rfl ?_
        refine tt_goto (tgt := 54) hf dX6_as_50 (by decide) ?_
        exact tt_ireti hf hrT dX6_as_54 (Nat.le_refl _) (Nat.le_refl _) (by omega) ⟨(by rw [if_pos c5, if_pos c17, if_pos (by omega)]), rfl⟩
      · refine tt_iload_n hf 0 dX6_as_34 rfl ?_
        refine tt_iload_n hf 3 dX6_as_35 rfl ?_
        refine tt_icmp_eq (tgt := 49) hf dX6_as_36 (by decide) (by omega) (by omega) (fun c36 => ?_) (fun c36 => ?_)
        · refine tt_iload_n hf 2 dX6_as_49 rfl ?_
          refine tt_goto (tgt := 54) hf dX6_as_50 (by decide) ?_
          exact tt_ireti hf hrT dX6_as_54 (Nat.le_refl _) (Nat.le_refl _) (by omega) ⟨(by rw [if_pos c5, if_pos c17, if_pos (by omega)]), rfl⟩
        · refine tt_iload_n hf 3 dX6_as_39 rfl ?_
          refine tt_iconst hf dX6_as_40 ?_
          refine tt_icmp_ne (tgt := 53) hf dX6_as_41 (by decide) (by omega) (by omega) (fun c41 => ?_) (fun c41 => ?_)
          · refine tt_iconst hf dX6_as_53 ?_
            exact tt_ireti hf hrT dX6_as_54 (Nat.le_refl _) (Nat.le_refl _) (by omega) ⟨(by rw [if_pos c5, if_pos c17, if_neg (by omega)]), rfl⟩
          · refine tt_iload_n hf 0 dX6_as_44 rfl ?_
            refine tt_iconst hf dX6_as_45 ?_
            refine tt_icmp_ne (tgt := 53) hf dX6_as_46 (by decide) (by omega) (by omega) (fun c46 => ?_) (fun c46 => ?_)
            · refine tt_iconst hf dX6_as_53 ?_
              exact tt_ireti hf hrT dX6_as_54 (Nat.le_refl _) (Nat.le_refl _) (by omega) ⟨(by rw [if_pos c5, if_pos c17, if_neg (by omega)]), rfl⟩
            · refine tt_iload_n hf 2 dX6_as_49 rfl ?_
              refine tt_goto (tgt := 54) hf dX6_as_50 (by decide) ?_
              exact tt_ireti hf hrT dX6_as_54 (Nat.le_refl _) (Nat.le_refl _) (by omega) ⟨(by rw [if_pos c5, if_pos c17, if_pos (by omega)]), rfl⟩
    · refine tt_bipush hf dX6_as_20 (by decide) ?_
      exact tt_ireti hf hrT dX6_as_22 (Nat.le_refl _) (Nat.le_refl _) (by omega) ⟨(by rw [if_pos c5, if_neg c17]), rfl⟩
  · refine tt_bipush hf dX6_as_8 (by decide) ?_
    exact tt_ireti hf hrT dX6_as_10 (Nat.le_refl _) (Nat.le_refl _) (by omega) ⟨(by rw [if_neg c5]), rfl⟩
set_option maxHeartbeats 4000000 in
set_option maxRecDepth 100000 in
theorem cm_paint {l : Launch} {g : tG} {o : Nat} {ax : Nat → Nat} {brd many cols : Int} {kd co : Int → Int} {chg sM : Int} {sN sW sC : Int → Int} {pgM : Int} {page : Int → Int} {whl nwN : Int} {now oft wtd : Int → Int} {ways : Int} {svd trn cAt wAt : Int → Int} {seed : Int64} {isK kB kG kS : Int} {kK kO kN kW kC : Int → Int} {hh : Int64} {v c : Int} (hm : 0 ≤ many ∧ many ≤ 10) (hkd : ∀ i, 0 ≤ kd i ∧ kd i ≤ 4) (hnow : ∀ i, -1 ≤ now i ∧ now i ≤ 2) (hco : ∀ i, -1 ≤ co i ∧ co i ≤ 2) (hcm : 0 < many → 2 ≤ cols ∧ cols ≤ 3) (hcc : ∀ i, 1 ≤ i → i ≤ many → co i ≤ cols - 1) (hcl3 : 0 ≤ cols ∧ cols ≤ 3) (hch : 0 ≤ chg ∧ chg ≤ 999) (hv : iR v) (hc : iR c) : Ci l g yX6_paint (ws_ yX6_paint cX6_paint 3 (Option.some Jvm.ClassFile.FieldType.int)) (rmL 6) [.ref o, .int (iI v), .int (iI c)] (mW g o ax brd many cols kd co chg sM sN sW sC pgM page whl nwN now oft wtd ways svd trn cAt wAt seed isK kB kG kS kK kO kN kW kC hh) (fun r w => ∃ now1 : Int → Int, (∀ i, -1 ≤ now1 i ∧ now1 i ≤ 2) ∧ r = (if (1 ≤ v ∧ v ≤ many) ∧ (0 ≤ c ∧ c ≤ cols - 1) ∧ chg ≠ 999 then bu kd (uI co v c) many.toNat else if ¬ (1 ≤ v ∧ v ≤ many) then -101 else if ¬ (0 ≤ c ∧ c ≤ cols - 1) then -102 else -104) ∧ w = mW g o ax brd many cols kd (if (1 ≤ v ∧ v ≤ many) ∧ (0 ≤ c ∧ c ≤ cols - 1) ∧ chg ≠ 999 then uI co v c else co) (if (1 ≤ v ∧ v ≤ many) ∧ (0 ≤ c ∧ c ≤ cols - 1) ∧ chg ≠ 999 then chg + 1 else chg) sM sN sW sC pgM page whl nwN now1 oft wtd ways svd trn cAt wAt seed isK kB kG kS kK kO kN kW kC hh) := by
  refine Ct.of (by decide) (Nat.le_of_ble_eq_true rfl) ?_
  intro Γ hl hg hf hrT
  subst hl hg
  have hf : Fx Γ RX6 cX6_paint 3 := hf
  show T Γ (rmL 6) 3 0 0 (Qe Γ (rmL 6) _) _ 0 [(0, .ref o), (1, .int (iI v)), (2, .int (iI c))] []
  refine tt_aload_n hf 0 dX6_paint_0 rfl ?_
  refine tt_iload_n hf 1 dX6_paint_1 rfl ?_
  refine tt_callV0 (As := [.int (iI v)]) (rest := []) (q0 := 0) (ci := 6) hf (cm_isNumber (by omega) hm) lk_X6_X6_isNumber hd_X6_isNumber rfl rfl rfl ⟨rfl, rfl⟩ (by decide) (by decide) (Nat.le_of_ble_eq_true rfl) dX6_paint_2 rfl (kk_e (fun r2 => ?_))
  refine tt_ifb_ne (tgt := 11) hf dX6_paint_5 (by decide) (fun c5 => ?_) (fun c5 => ?_)
  · refine tt_aload_n hf 0 dX6_paint_11 rfl ?_
    refine tt_iload_n hf 2 dX6_paint_12 rfl ?_
    refine tt_callV0 (As := [.int (iI c)]) (rest := []) (q0 := 0) (ci := 6) hf (cm_isColour (by omega) hcl3) lk_X6_X6_isColour hd_X6_isColour rfl rfl rfl ⟨rfl, rfl⟩ (by decide) (by decide) (Nat.le_of_ble_eq_true rfl) dX6_paint_13 rfl (kk_e (fun r13 => ?_))
    refine tt_ifb_ne (tgt := 22) hf dX6_paint_16 (by decide) (fun c16 => ?_) (fun c16 => ?_)
    · refine tt_aload_n hf 0 dX6_paint_22 rfl ?_
      refine gm_chg hf dX6_paint_23 ?_
      refine tt_sipush hf dX6_paint_26 (by decide) ?_
      refine tt_icmp_ne (tgt := 35) hf dX6_paint_29 (by decide) (by omega) (by omega) (fun c29 => ?_) (fun c29 => ?_)
      · have hco2 := rng_u (z := v) (v := c) hco (by omega)
        refine tt_aload_n hf 0 dX6_paint_35 rfl ?_
        refine gm_co hf dX6_paint_36 ?_
        refine tt_iload_n hf 1 dX6_paint_39 rfl ?_
        refine tt_iload_n hf 2 dX6_paint_40 rfl ?_
        refine sm_co hf (by omega) dX6_paint_41 ?_
        refine tt_aload_n hf 0 dX6_paint_42 rfl ?_
        refine tt_dup hf dX6_paint_43 rfl ?_
        refine gm_chg hf dX6_paint_44 ?_
        refine tt_iconst hf dX6_paint_47 ?_
        refine tt_iadd hf dX6_paint_48 ?_
        refine pm_chg hf dX6_paint_49 ?_
        refine tt_aload_n hf 0 dX6_paint_52 rfl ?_
        refine tt_callV0 (As := []) (rest := []) (q0 := 0) (ci := 6) hf (cm_badNow hm hkd hnow hco2) lk_X6_X6_badNow hd_X6_badNow rfl rfl rfl ⟨rfl, rfl⟩ (by decide) (by decide) (Nat.le_of_ble_eq_true rfl) dX6_paint_53 rfl (kk_e (fun r53 => ?_))
        exact tt_ireti hf hrT dX6_paint_56 (Nat.le_refl _) (Nat.le_refl _) r53 ⟨lay many (uI co v c) now, lay_rng hco2 hnow, by rw [if_pos ⟨c5, c16, c29⟩, bu_cg _ (fun i h1 h2 => lay_in hm.2 i h1 (by omega))], by rw [if_pos ⟨c5, c16, c29⟩, if_pos ⟨c5, c16, c29⟩]⟩
      · refine tt_bipush hf dX6_paint_32 (by decide) ?_
        have hn : ¬ ((1 ≤ v ∧ v ≤ many) ∧ (0 ≤ c ∧ c ≤ cols - 1) ∧ chg ≠ 999) := by intro q; exact q.2.2 c29
        exact tt_ireti hf hrT dX6_paint_34 (Nat.le_refl _) (Nat.le_refl _) (by omega) ⟨now, hnow, by rw [if_neg hn, if_neg (fun q => q c5), if_neg (fun q => q c16)], by rw [if_neg hn, if_neg hn]⟩
    · refine tt_bipush hf dX6_paint_19 (by decide) ?_
      have hn : ¬ ((1 ≤ v ∧ v ≤ many) ∧ (0 ≤ c ∧ c ≤ cols - 1) ∧ chg ≠ 999) := by intro q; exact c16 q.2.1
      exact tt_ireti hf hrT dX6_paint_21 (Nat.le_refl _) (Nat.le_refl _) (by omega) ⟨now, hnow, by rw [if_neg hn, if_neg (fun q => q c5), if_pos c16], by rw [if_neg hn, if_neg hn]⟩
  · refine tt_bipush hf dX6_paint_8 (by decide) ?_
    have hn : ¬ ((1 ≤ v ∧ v ≤ many) ∧ (0 ≤ c ∧ c ≤ cols - 1) ∧ chg ≠ 999) := by intro q; exact c5 q.1
    exact tt_ireti hf hrT dX6_paint_10 (Nat.le_refl _) (Nat.le_refl _) (by omega) ⟨now, hnow, by rw [if_neg hn, if_pos c5], by rw [if_neg hn, if_neg hn]⟩
set_option maxHeartbeats 4000000 in
set_option maxRecDepth 100000 in
theorem cm_wipe {l : Launch} {g : tG} {o : Nat} {ax : Nat → Nat} {brd many cols : Int} {kd co : Int → Int} {chg sM : Int} {sN sW sC : Int → Int} {pgM : Int} {page : Int → Int} {whl nwN : Int} {now oft wtd : Int → Int} {ways : Int} {svd trn cAt wAt : Int → Int} {seed : Int64} {isK kB kG kS : Int} {kK kO kN kW kC : Int → Int} {hh : Int64} {v : Int} (hm : 0 ≤ many ∧ many ≤ 10) (hco : ∀ i, -1 ≤ co i ∧ co i ≤ 2) (hch : 0 ≤ chg ∧ chg ≤ 999) (hv : iR v) : Ce l g yX6_wipe (ws_ yX6_wipe cX6_wipe 3 (Option.some Jvm.ClassFile.FieldType.int)) (rmL 3) [.ref o, .int (iI v)] (mW g o ax brd many cols kd co chg sM sN sW sC pgM page whl nwN now oft wtd ways svd trn cAt wAt seed isK kB kG kS kK kO kN kW kC hh) (if (1 ≤ v ∧ v ≤ many) ∧ co v ≠ -1 ∧ chg ≠ 999 then co v else if ¬ (1 ≤ v ∧ v ≤ many) then -101 else if co v = -1 then -103 else -104) (mW g o ax brd many cols kd (if (1 ≤ v ∧ v ≤ many) ∧ co v ≠ -1 ∧ chg ≠ 999 then uI co v (-1) else co) (if (1 ≤ v ∧ v ≤ many) ∧ co v ≠ -1 ∧ chg ≠ 999 then chg + 1 else chg) sM sN sW sC pgM page whl nwN now oft wtd ways svd trn cAt wAt seed isK kB kG kS kK kO kN kW kC hh) := by
  refine Ct.of (by decide) (Nat.le_of_ble_eq_true rfl) ?_
  intro Γ hl hg hf hrT
  subst hl hg
  have hf : Fx Γ RX6 cX6_wipe 3 := hf
  show T Γ (rmL 3) 3 0 0 (Qe Γ (rmL 3) _) _ 0 [(0, .ref o), (1, .int (iI v))] []
  have hq := hco v
  refine tt_aload_n hf 0 dX6_wipe_0 rfl ?_
  refine tt_iload_n hf 1 dX6_wipe_1 rfl ?_
  refine tt_callV0 (As := [.int (iI v)]) (rest := []) (q0 := 0) (ci := 6) hf (cm_isNumber (by omega) hm) lk_X6_X6_isNumber hd_X6_isNumber rfl rfl rfl ⟨rfl, rfl⟩ (by decide) (by decide) (Nat.le_of_ble_eq_true rfl) dX6_wipe_2 rfl (kk_e (fun r2 => ?_))
  refine tt_ifb_ne (tgt := 11) hf dX6_wipe_5 (by decide) (fun c5 => ?_) (fun c5 => ?_)
  · refine tt_aload_n hf 0 dX6_wipe_11 rfl ?_
    refine gm_co hf dX6_wipe_12 ?_
    refine tt_iload_n hf 1 dX6_wipe_15 rfl ?_
    refine lm_co hf (by omega) dX6_wipe_16 ?_
    refine tt_iconst hf dX6_wipe_17 ?_
    refine tt_icmp_ne (tgt := 24) hf dX6_wipe_18 (by decide) (by omega) (by omega) (fun c18 => ?_) (fun c18 => ?_)
    · refine tt_aload_n hf 0 dX6_wipe_24 rfl ?_
      refine gm_chg hf dX6_wipe_25 ?_
      refine tt_sipush hf dX6_wipe_28 (by decide) ?_
      refine tt_icmp_ne (tgt := 37) hf dX6_wipe_31 (by decide) (by omega) (by omega) (fun c31 => ?_) (fun c31 => ?_)
      · refine tt_aload_n hf 0 dX6_wipe_37 rfl ?_
        refine gm_co hf dX6_wipe_38 ?_
        refine tt_iload_n hf 1 dX6_wipe_41 rfl ?_
        refine lm_co hf (by omega) dX6_wipe_42 ?_
        refine tt_istore_n (lv' := [(2, .int (iI (co v))), (0, .ref o), (1, .int (iI v))]) hf dX6_wipe_43 (by decide) rfl ?_
        refine tt_aload_n hf 1 dX6_wipe_44 rfl ?_
        refine gm_co hf dX6_wipe_45 ?_
        refine tt_iload_n hf 2 dX6_wipe_48 rfl ?_
        refine tt_iconst hf dX6_wipe_49 ?_
        refine sm_co hf (by omega) dX6_wipe_50 ?_
        refine tt_aload_n hf 1 dX6_wipe_51 rfl ?_
        refine tt_dup hf dX6_wipe_52 rfl ?_
        refine gm_chg hf dX6_wipe_53 ?_
        refine tt_iconst hf dX6_wipe_56 ?_
        refine tt_iadd hf dX6_wipe_57 ?_
        refine pm_chg hf dX6_wipe_58 ?_
        refine tt_iload_n hf 0 dX6_wipe_61 rfl ?_
        exact tt_ireti hf hrT dX6_wipe_62 (Nat.le_refl _) (Nat.le_refl _) (by omega) ⟨(by rw [if_pos ⟨c5, c18, c31⟩]), (by rw [if_pos ⟨c5, c18, c31⟩, if_pos ⟨c5, c18, c31⟩])⟩
      · refine tt_bipush hf dX6_wipe_34 (by decide) ?_
        have hn : ¬ ((1 ≤ v ∧ v ≤ many) ∧ co v ≠ -1 ∧ chg ≠ 999) := by intro q; exact q.2.2 c31
        exact tt_ireti hf hrT dX6_wipe_36 (Nat.le_refl _) (Nat.le_refl _) (by omega) ⟨(by rw [if_neg hn, if_neg (fun q => q c5), if_neg c18]), (by rw [if_neg hn, if_neg hn])⟩
    · refine tt_bipush hf dX6_wipe_21 (by decide) ?_
      have hn : ¬ ((1 ≤ v ∧ v ≤ many) ∧ co v ≠ -1 ∧ chg ≠ 999) := by intro q; exact q.2.1 c18
      exact tt_ireti hf hrT dX6_wipe_23 (Nat.le_refl _) (Nat.le_refl _) (by omega) ⟨(by rw [if_neg hn, if_neg (fun q => q c5), if_pos c18]), (by rw [if_neg hn, if_neg hn])⟩
  · refine tt_bipush hf dX6_wipe_8 (by decide) ?_
    have hn : ¬ ((1 ≤ v ∧ v ≤ many) ∧ co v ≠ -1 ∧ chg ≠ 999) := by intro q; exact c5 q.1
    exact tt_ireti hf hrT dX6_wipe_10 (Nat.le_refl _) (Nat.le_refl _) (by omega) ⟨(by rw [if_neg hn, if_pos c5]), (by rw [if_neg hn, if_neg hn])⟩
set_option maxHeartbeats 4000000 in
set_option maxRecDepth 100000 in
theorem cm_be {l : Launch} {g : tG} {o : Nat} {ax : Nat → Nat} {brd many cols : Int} {kd co : Int → Int} {chg sM : Int} {sN sW sC : Int → Int} {pgM : Int} {page : Int → Int} {whl nwN : Int} {now oft wtd : Int → Int} {ways : Int} {svd trn cAt wAt : Int → Int} {seed : Int64} {isK kB kG kS : Int} {kK kO kN kW kC : Int → Int} {hh : Int64} {v k : Int} (hm : 0 ≤ many ∧ many ≤ 10) (hkd : ∀ i, 0 ≤ kd i ∧ kd i ≤ 4) (hv : iR v) (hk : iR k) : Ce l g yX6_be (ws_ yX6_be cX6_be 4 (Option.some Jvm.ClassFile.FieldType.int)) (rmL 3) [.ref o, .int (iI v), .int (iI k)] (mW g o ax brd many cols kd co chg sM sN sW sC pgM page whl nwN now oft wtd ways svd trn cAt wAt seed isK kB kG kS kK kO kN kW kC hh) (if (1 ≤ v ∧ v ≤ many) ∧ 0 ≤ k ∧ k ≤ 4 then kd v else if ¬ (1 ≤ v ∧ v ≤ many) then -101 else -102) (mW g o ax brd many cols (if (1 ≤ v ∧ v ≤ many) ∧ 0 ≤ k ∧ k ≤ 4 then uI kd v k else kd) co chg sM sN sW sC pgM page whl nwN now oft wtd ways svd trn cAt wAt seed isK kB kG kS kK kO kN kW kC hh) := by
  refine Ct.of (by decide) (Nat.le_of_ble_eq_true rfl) ?_
  intro Γ hl hg hf hrT
  subst hl hg
  have hf : Fx Γ RX6 cX6_be 4 := hf
  show T Γ (rmL 3) 4 0 0 (Qe Γ (rmL 3) _) _ 0 [(0, .ref o), (1, .int (iI v)), (2, .int (iI k))] []
  have hq := hkd v
  refine tt_aload_n hf 0 dX6_be_0 rfl ?_
  refine tt_iload_n hf 1 dX6_be_1 rfl ?_
  refine tt_callV0 (As := [.int (iI v)]) (rest := []) (q0 := 0) (ci := 6) hf (cm_isNumber (by omega) hm) lk_X6_X6_isNumber hd_X6_isNumber rfl rfl rfl ⟨rfl, rfl⟩ (by decide) (by decide) (Nat.le_of_ble_eq_true rfl) dX6_be_2 rfl (kk_e (fun r2 => ?_))
  refine tt_ifb_ne (tgt := 11) hf dX6_be_5 (by decide) (fun c5 => ?_) (fun c5 => ?_)
  · refine tt_iload_n hf 2 dX6_be_11 rfl ?_
    refine tt_iconst hf dX6_be_12 ?_
    refine tt_iconst hf dX6_be_13 ?_
    refine tt_callS0 (As := [.int (iI k), .int (iI 0), .int (iI 4)]) (rest := []) hf (cm_within (by omega) (by omega) (by omega)) lk_X6_X6_within hd_X6_within rfl ⟨rfl, rfl⟩ (by decide) (by decide) (Nat.le_of_ble_eq_true rfl) dX6_be_14 rfl (kk_e (fun r14 => ?_))
    refine tt_ifb_ne (tgt := 23) hf dX6_be_17 (by decide) (fun c17 => ?_) (fun c17 => ?_)
    · refine tt_aload_n hf 0 dX6_be_23 rfl ?_
      refine gm_kd hf dX6_be_24 ?_
      refine tt_iload_n hf 1 dX6_be_27 rfl ?_
      refine lm_kd hf (by omega) dX6_be_28 ?_
      refine tt_istore_n (lv' := [(3, .int (iI (kd v))), (0, .ref o), (1, .int (iI v)), (2, .int (iI k))]) hf dX6_be_29 (by decide) rfl ?_
      refine tt_aload_n hf 1 dX6_be_30 rfl ?_
      refine gm_kd hf dX6_be_31 ?_
      refine tt_iload_n hf 2 dX6_be_34 rfl ?_
      refine tt_iload_n hf 3 dX6_be_35 rfl ?_
      refine sm_kd hf (by omega) dX6_be_36 ?_
      refine tt_iload_n hf 0 dX6_be_37 rfl ?_
      exact tt_ireti hf hrT dX6_be_38 (Nat.le_refl _) (Nat.le_refl _) (by omega) ⟨(by rw [if_pos ⟨c5, c17⟩]), (by rw [if_pos ⟨c5, c17⟩])⟩
    · refine tt_bipush hf dX6_be_20 (by decide) ?_
      exact tt_ireti hf hrT dX6_be_22 (Nat.le_refl _) (Nat.le_refl _) (by omega) ⟨(by rw [if_neg (fun q => c17 q.2), if_neg (fun q => q c5)]), (by rw [if_neg (fun q => c17 q.2)])⟩
  · refine tt_bipush hf dX6_be_8 (by decide) ?_
    exact tt_ireti hf hrT dX6_be_10 (Nat.le_refl _) (Nat.le_refl _) (by omega) ⟨(by rw [if_neg (fun q => c5 q.1), if_pos c5]), (by rw [if_neg (fun q => c5 q.1)])⟩
set_option maxHeartbeats 4000000 in
set_option maxRecDepth 100000 in
theorem cm_see {l : Launch} {g : tG} {o : Nat} {ax : Nat → Nat} {brd many cols : Int} {kd co : Int → Int} {chg sM : Int} {sN sW sC : Int → Int} {pgM : Int} {page : Int → Int} {whl nwN : Int} {now oft wtd : Int → Int} {ways : Int} {svd trn cAt wAt : Int → Int} {seed : Int64} {isK kB kG kS : Int} {kK kO kN kW kC : Int → Int} {hh : Int64} {v u x : Int} (hm : 0 ≤ many ∧ many ≤ 10) (hsM : 0 ≤ sM ∧ sM ≤ 6) (hv : iR v) (hu : iR u) (hx : x = 0 ∨ x = 1) : Ce l g yX6_see (ws_ yX6_see cX6_see 4 (Option.some Jvm.ClassFile.FieldType.int)) (rmL 3) [.ref o, .int (iI v), .int (iI u), .int (iI x)] (mW g o ax brd many cols kd co chg sM sN sW sC pgM page whl nwN now oft wtd ways svd trn cAt wAt seed isK kB kG kS kK kO kN kW kC hh) (if (1 ≤ v ∧ v ≤ many) ∧ (0 ≤ u ∧ u ≤ 2) ∧ sM ≠ 6 then sM + 1 else if ¬ (1 ≤ v ∧ v ≤ many) then -101 else if ¬ (0 ≤ u ∧ u ≤ 2) then -102 else -104) (mW g o ax brd many cols kd co chg (if (1 ≤ v ∧ v ≤ many) ∧ (0 ≤ u ∧ u ≤ 2) ∧ sM ≠ 6 then sM + 1 else sM) (if (1 ≤ v ∧ v ≤ many) ∧ (0 ≤ u ∧ u ≤ 2) ∧ sM ≠ 6 then uI sN sM v else sN) (if (1 ≤ v ∧ v ≤ many) ∧ (0 ≤ u ∧ u ≤ 2) ∧ sM ≠ 6 then uI sW sM u else sW) (if (1 ≤ v ∧ v ≤ many) ∧ (0 ≤ u ∧ u ≤ 2) ∧ sM ≠ 6 then uI sC sM x else sC) pgM page whl nwN now oft wtd ways svd trn cAt wAt seed isK kB kG kS kK kO kN kW kC hh) := by
  refine Ct.of (by decide) (Nat.le_of_ble_eq_true rfl) ?_
  intro Γ hl hg hf hrT
  subst hl hg
  have hf : Fx Γ RX6 cX6_see 4 := hf
  show T Γ (rmL 3) 4 0 0 (Qe Γ (rmL 3) _) _ 0 [(0, .ref o), (1, .int (iI v)), (2, .int (iI u)), (3, .int (iI x))] []
  refine tt_aload_n hf 0 dX6_see_0 rfl ?_
  refine tt_iload_n hf 1 dX6_see_1 rfl ?_
  refine tt_callV0 (As := [.int (iI v)]) (rest := []) (q0 := 0) (ci := 6) hf (cm_isNumber (by omega) hm) lk_X6_X6_isNumber hd_X6_isNumber rfl rfl rfl ⟨rfl, rfl⟩ (by decide) (by decide) (Nat.le_of_ble_eq_true rfl) dX6_see_2 rfl (kk_e (fun r2 => ?_))
  refine tt_ifb_ne (tgt := 11) hf dX6_see_5 (by decide) (fun c5 => ?_) (fun c5 => ?_)
  · refine tt_iload_n hf 2 dX6_see_11 rfl ?_
    refine tt_iconst hf dX6_see_12 ?_
    refine tt_iconst hf dX6_see_13 ?_
    refine tt_callS0 (As := [.int (iI u), .int (iI 0), .int (iI 2)]) (rest := []) hf (cm_within (by omega) (by omega) (by omega)) lk_X6_X6_within hd_X6_within rfl ⟨rfl, rfl⟩ (by decide) (by decide) (Nat.le_of_ble_eq_true rfl) dX6_see_14 rfl (kk_e (fun r14 => ?_))
    refine tt_ifb_ne (tgt := 23) hf dX6_see_17 (by decide) (fun c17 => ?_) (fun c17 => ?_)
    · refine tt_aload_n hf 0 dX6_see_23 rfl ?_
      refine gm_sM hf dX6_see_24 ?_
      refine tt_bipush hf dX6_see_27 (by decide) ?_
      refine tt_icmp_ne (tgt := 35) hf dX6_see_29 (by decide) (by omega) (by omega) (fun c29 => ?_) (fun c29 => ?_)
      · refine tt_aload_n hf 0 dX6_see_35 rfl ?_
        refine gm_sN hf dX6_see_36 ?_
        refine tt_aload_n hf 0 dX6_see_39 rfl ?_
        refine gm_sM hf dX6_see_40 ?_
        refine tt_iload_n hf 1 dX6_see_43 rfl ?_
        refine sm_sN hf (by omega) dX6_see_44 ?_
        refine tt_aload_n hf 0 dX6_see_45 rfl ?_
        refine gm_sW hf dX6_see_46 ?_
        refine tt_aload_n hf 0 dX6_see_49 rfl ?_
        refine gm_sM hf dX6_see_50 ?_
        refine tt_iload_n hf 2 dX6_see_53 rfl ?_
        refine sm_sW hf (by omega) dX6_see_54 ?_
        refine tt_aload_n hf 0 dX6_see_55 rfl ?_
        refine gm_sC hf dX6_see_56 ?_
        refine tt_aload_n hf 0 dX6_see_59 rfl ?_
        refine gm_sM hf dX6_see_60 ?_
        refine tt_iload_n hf 3 dX6_see_63 rfl ?_
        refine tt_if_eq (tgt := 71) hf dX6_see_64 (by decide) (by omega) (fun c64 => ?_) (fun c64 => ?_)
        · refine tt_iconst hf dX6_see_71 ?_
          refine sm_sC hf (by omega) dX6_see_72 ?_
          refine tt_aload_n hf 0 dX6_see_73 rfl ?_
          refine tt_dup hf dX6_see_74 rfl ?_
          refine gm_sM hf dX6_see_75 ?_
          refine tt_iconst hf dX6_see_78 ?_
          refine tt_iadd hf dX6_see_79 ?_
          refine pm_sM hf dX6_see_80 ?_
          refine tt_aload_n hf 0 dX6_see_83 rfl ?_
          refine gm_sM hf dX6_see_84 ?_
          have hy : (1 ≤ v ∧ v ≤ many) ∧ (0 ≤ u ∧ u ≤ 2) ∧ sM ≠ 6 := ⟨c5, c17, c29⟩
          exact tt_ireti hf hrT dX6_see_87 (Nat.le_refl _) (Nat.le_refl _) (by omega) ⟨(by rw [if_pos hy]), (by rw [if_pos hy, if_pos hy, if_pos hy, if_pos hy, show x = 0 by omega])⟩
        · refine tt_iconst hf dX6_see_67 ?_
          refine tt_goto (tgt := 72) hf dX6_see_68 (by decide) ?_
          refine sm_sC hf (by omega) dX6_see_72 ?_
          refine tt_aload_n hf 0 dX6_see_73 rfl ?_
          refine tt_dup hf dX6_see_74 rfl ?_
          refine gm_sM hf dX6_see_75 ?_
          refine tt_iconst hf dX6_see_78 ?_
          refine tt_iadd hf dX6_see_79 ?_
          refine pm_sM hf dX6_see_80 ?_
          refine tt_aload_n hf 0 dX6_see_83 rfl ?_
          refine gm_sM hf dX6_see_84 ?_
          have hy : (1 ≤ v ∧ v ≤ many) ∧ (0 ≤ u ∧ u ≤ 2) ∧ sM ≠ 6 := ⟨c5, c17, c29⟩
          exact tt_ireti hf hrT dX6_see_87 (Nat.le_refl _) (Nat.le_refl _) (by omega) ⟨(by rw [if_pos hy]), (by rw [if_pos hy, if_pos hy, if_pos hy, if_pos hy, show x = 1 by omega])⟩
      · refine tt_bipush hf dX6_see_32 (by decide) ?_
        have hn : ¬ ((1 ≤ v ∧ v ≤ many) ∧ (0 ≤ u ∧ u ≤ 2) ∧ sM ≠ 6) := by intro q; exact q.2.2 c29
        exact tt_ireti hf hrT dX6_see_34 (Nat.le_refl _) (Nat.le_refl _) (by omega) ⟨(by rw [if_neg hn, if_neg (fun q => q c5), if_neg (fun q => q c17)]), (by rw [if_neg hn, if_neg hn, if_neg hn, if_neg hn])⟩
    · refine tt_bipush hf dX6_see_20 (by decide) ?_
      have hn : ¬ ((1 ≤ v ∧ v ≤ many) ∧ (0 ≤ u ∧ u ≤ 2) ∧ sM ≠ 6) := by intro q; exact c17 q.2.1
      exact tt_ireti hf hrT dX6_see_22 (Nat.le_refl _) (Nat.le_refl _) (by omega) ⟨(by rw [if_neg hn, if_neg (fun q => q c5), if_pos c17]), (by rw [if_neg hn, if_neg hn, if_neg hn, if_neg hn])⟩
  · refine tt_bipush hf dX6_see_8 (by decide) ?_
    have hn : ¬ ((1 ≤ v ∧ v ≤ many) ∧ (0 ≤ u ∧ u ≤ 2) ∧ sM ≠ 6) := by intro q; exact c5 q.1
    exact tt_ireti hf hrT dX6_see_10 (Nat.le_refl _) (Nat.le_refl _) (by omega) ⟨(by rw [if_neg hn, if_pos c5]), (by rw [if_neg hn, if_neg hn, if_neg hn, if_neg hn])⟩
set_option maxHeartbeats 4000000 in
set_option maxRecDepth 100000 in
theorem cm_forget {l : Launch} {g : tG} {o : Nat} {ax : Nat → Nat} {brd many cols : Int} {kd co : Int → Int} {chg sM : Int} {sN sW sC : Int → Int} {pgM : Int} {page : Int → Int} {whl nwN : Int} {now oft wtd : Int → Int} {ways : Int} {svd trn cAt wAt : Int → Int} {seed : Int64} {isK kB kG kS : Int} {kK kO kN kW kC : Int → Int} {hh : Int64}  (hsM : 0 ≤ sM ∧ sM ≤ 6) : Ce l g yX6_forget (ws_ yX6_forget cX6_forget 2 (Option.some Jvm.ClassFile.FieldType.int)) (rmL 1) [.ref o] (mW g o ax brd many cols kd co chg sM sN sW sC pgM page whl nwN now oft wtd ways svd trn cAt wAt seed isK kB kG kS kK kO kN kW kC hh) (sM) (mW g o ax brd many cols kd co chg 0 sN sW sC pgM page whl nwN now oft wtd ways svd trn cAt wAt seed isK kB kG kS kK kO kN kW kC hh) := by
  refine Ct.of (by decide) (Nat.le_of_ble_eq_true rfl) ?_
  intro Γ hl hg hf hrT
  subst hl hg
  have hf : Fx Γ RX6 cX6_forget 2 := hf
  show T Γ (rmL 1) 2 0 0 (Qe Γ (rmL 1) _) _ 0 [(0, .ref o)] []
  refine tt_aload_n hf 0 dX6_forget_0 rfl ?_
  refine gm_sM hf dX6_forget_1 ?_
  refine tt_istore_n (lv' := [(1, .int (iI sM)), (0, .ref o)]) hf dX6_forget_4 (by decide) rfl ?_
  refine tt_aload_n hf 1 dX6_forget_5 rfl ?_
  refine tt_iconst hf dX6_forget_6 ?_
  refine pm_sM hf dX6_forget_7 ?_
  refine tt_iload_n hf 0 dX6_forget_10 rfl ?_
  exact tt_ireti hf hrT dX6_forget_11 (Nat.le_refl _) (Nat.le_refl _) (by omega) ⟨rfl, rfl⟩
