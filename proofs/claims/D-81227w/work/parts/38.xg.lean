set_option maxHeartbeats 4000000 in
set_option maxRecDepth 100000 in
theorem cx_see {l : Launch} {g : tG} {o : Nat} {ax : Nat → Nat} {num kpt : Int → Option Nat} {many cols chg brd old : Int} {page : Int → Int} {pgM told enD : Int} {row : Int → Int} {ways far : Int} {hav : Int → Int} {wtd : Int} {fnd : Int → Int} {mdT wnT : Int} {sN sW sC : Int → Int} {sM drw : Int} {kN kW kC : Int → Int} {kS kG kB : Int} {hh : Int64} {L : List Nat} {mf : Nat → Nat × Int × Int × Int} {v u x : Int} (hm : 0 ≤ many ∧ many ≤ 10) (hsM : 0 ≤ sM ∧ sM ≤ 6) (hv : iR v) (hu : iR u) (hx : x = 0 ∨ x = 1) : Ce l g yX0_see (ws_ yX0_see cX0_see 4 (Option.some Jvm.ClassFile.FieldType.int)) (rmL 3) [.ref o, .int (iI v), .int (iI u), .int (iI x)] (xW g o ax num kpt many cols chg brd old page pgM told enD row ways far hav wtd fnd mdT wnT sN sW sC sM drw kN kW kC kS kG kB hh L mf) (if (1 ≤ v ∧ v ≤ many) ∧ (0 ≤ u ∧ u ≤ 2) ∧ sM ≠ 6 then sM + 1 else if ¬ (1 ≤ v ∧ v ≤ many) then -101 else if ¬ (0 ≤ u ∧ u ≤ 2) then -102 else -104) (xW g o ax num kpt many cols chg brd old page pgM told enD row ways far hav wtd fnd mdT wnT (if (1 ≤ v ∧ v ≤ many) ∧ (0 ≤ u ∧ u ≤ 2) ∧ sM ≠ 6 then uI sN sM v else sN) (if (1 ≤ v ∧ v ≤ many) ∧ (0 ≤ u ∧ u ≤ 2) ∧ sM ≠ 6 then uI sW sM u else sW) (if (1 ≤ v ∧ v ≤ many) ∧ (0 ≤ u ∧ u ≤ 2) ∧ sM ≠ 6 then uI sC sM x else sC) (if (1 ≤ v ∧ v ≤ many) ∧ (0 ≤ u ∧ u ≤ 2) ∧ sM ≠ 6 then sM + 1 else sM) drw kN kW kC kS kG kB hh L mf) := by
  refine Ct.of (by decide) (Nat.le_of_ble_eq_true rfl) ?_
  intro Γ hl hg hf hrT
  subst hl hg
  have hf : Fx Γ RX0 cX0_see 4 := hf
  show T Γ (rmL 3) 4 0 0 (Qe Γ (rmL 3) _) _ 0 [(0, .ref o), (1, .int (iI v)), (2, .int (iI u)), (3, .int (iI x))] []
  refine tt_aload_n hf 0 dX0_see_0 rfl ?_
  refine tt_iload_n hf 1 dX0_see_1 rfl ?_
  refine tt_callV0 (As := [.int (iI v)]) (rest := []) (q0 := 0) (ci := 0) hf (cx_isNumber (by omega) hm) lk_X0_X0_isNumber hd_X0_isNumber rfl rfl rfl ⟨rfl, rfl⟩ (by decide) (by decide) (Nat.le_of_ble_eq_true rfl) dX0_see_2 rfl (kk_e (fun r2 => ?_))
  refine tt_ifb_ne (tgt := 11) hf dX0_see_5 (by decide) (fun c5 => ?_) (fun c5 => ?_)
  · refine tt_iload_n hf 2 dX0_see_11 rfl ?_
    refine tt_i2l hf dX0_see_12 ?_
    refine tt_topl (x' := lI u) (lI_of (by omega)) ?_
    refine tt_lconst hf dX0_see_13 ?_
    refine tt_topl (x' := lI 0) (by decide) ?_
    refine tt_ldc2 hf q304 dX0_see_14 ?_
    refine tt_topl (x' := lI 2) (by decide) ?_
    refine tt_callS0 (As := [.long (lI u), .long (lI 0), .long (lI 2)]) (rest := []) hf (cx_isIn (v := u) (lo := 0) (hi := 2) (by omega) (by omega) (by omega)) lk_X0_X0_isIn hd_X0_isIn rfl ⟨rfl, rfl⟩ (by decide) (by decide) (Nat.le_of_ble_eq_true rfl) dX0_see_17 rfl (kk_e (fun r17 => ?_))
    refine tt_ifb_ne (tgt := 26) hf dX0_see_20 (by decide) (fun c20 => ?_) (fun c20 => ?_)
    · refine tt_aload_n hf 0 dX0_see_26 rfl ?_
      refine gx_sM hf dX0_see_27 ?_
      refine tt_bipush hf dX0_see_30 (by decide) ?_
      refine tt_icmp_ne (tgt := 38) hf dX0_see_32 (by decide) (by omega) (by omega) (fun c32 => ?_) (fun c32 => ?_)
      · refine tt_aload_n hf 0 dX0_see_38 rfl ?_
        refine gx_sN hf dX0_see_39 ?_
        refine tt_aload_n hf 0 dX0_see_42 rfl ?_
        refine gx_sM hf dX0_see_43 ?_
        refine tt_iload_n hf 1 dX0_see_46 rfl ?_
        refine sx_sN hf (by omega) dX0_see_47 ?_
        refine tt_aload_n hf 0 dX0_see_48 rfl ?_
        refine gx_sW hf dX0_see_49 ?_
        refine tt_aload_n hf 0 dX0_see_52 rfl ?_
        refine gx_sM hf dX0_see_53 ?_
        refine tt_iload_n hf 2 dX0_see_56 rfl ?_
        refine sx_sW hf (by omega) dX0_see_57 ?_
        refine tt_aload_n hf 0 dX0_see_58 rfl ?_
        refine gx_sC hf dX0_see_59 ?_
        refine tt_aload_n hf 0 dX0_see_62 rfl ?_
        refine gx_sM hf dX0_see_63 ?_
        refine tt_iload_n hf 3 dX0_see_66 rfl ?_
        refine sx_sC hf (by omega) (by omega) dX0_see_67 ?_
        refine tt_aload_n hf 0 dX0_see_68 rfl ?_
        refine tt_dup hf dX0_see_69 rfl ?_
        refine gx_sM hf dX0_see_70 ?_
        refine tt_iconst hf dX0_see_73 ?_
        refine tt_iadd hf dX0_see_74 ?_
        refine px_sM hf dX0_see_75 ?_
        refine tt_aload_n hf 0 dX0_see_78 rfl ?_
        refine gx_sM hf dX0_see_79 ?_
        have hy : (1 ≤ v ∧ v ≤ many) ∧ (0 ≤ u ∧ u ≤ 2) ∧ sM ≠ 6 := ⟨c5, c20, c32⟩
        exact tt_ireti hf hrT dX0_see_82 (Nat.le_refl _) (Nat.le_refl _) (by omega) ⟨(by rw [if_pos hy]), (by rw [if_pos hy, if_pos hy, if_pos hy, if_pos hy])⟩
      · refine tt_bipush hf dX0_see_35 (by decide) ?_
        have hn : ¬ ((1 ≤ v ∧ v ≤ many) ∧ (0 ≤ u ∧ u ≤ 2) ∧ sM ≠ 6) := by intro q; exact q.2.2 c32
        exact tt_ireti hf hrT dX0_see_37 (Nat.le_refl _) (Nat.le_refl _) (by omega) ⟨(by rw [if_neg hn, if_neg (fun q => q c5), if_neg (fun q => q c20)]), (by rw [if_neg hn, if_neg hn, if_neg hn, if_neg hn])⟩
    · refine tt_bipush hf dX0_see_23 (by decide) ?_
      have hn : ¬ ((1 ≤ v ∧ v ≤ many) ∧ (0 ≤ u ∧ u ≤ 2) ∧ sM ≠ 6) := by intro q; exact c20 q.2.1
      exact tt_ireti hf hrT dX0_see_25 (Nat.le_refl _) (Nat.le_refl _) (by omega) ⟨(by rw [if_neg hn, if_neg (fun q => q c5), if_pos c20]), (by rw [if_neg hn, if_neg hn, if_neg hn, if_neg hn])⟩
  · refine tt_bipush hf dX0_see_8 (by decide) ?_
    have hn : ¬ ((1 ≤ v ∧ v ≤ many) ∧ (0 ≤ u ∧ u ≤ 2) ∧ sM ≠ 6) := by intro q; exact c5 q.1
    exact tt_ireti hf hrT dX0_see_10 (Nat.le_refl _) (Nat.le_refl _) (by omega) ⟨(by rw [if_neg hn, if_pos c5]), (by rw [if_neg hn, if_neg hn, if_neg hn, if_neg hn])⟩
set_option maxHeartbeats 4000000 in
set_option maxRecDepth 100000 in
theorem cx_forget {l : Launch} {g : tG} {o : Nat} {ax : Nat → Nat} {num kpt : Int → Option Nat} {many cols chg brd old : Int} {page : Int → Int} {pgM told enD : Int} {row : Int → Int} {ways far : Int} {hav : Int → Int} {wtd : Int} {fnd : Int → Int} {mdT wnT : Int} {sN sW sC : Int → Int} {sM drw : Int} {kN kW kC : Int → Int} {kS kG kB : Int} {hh : Int64} {L : List Nat} {mf : Nat → Nat × Int × Int × Int}  (hsM : 0 ≤ sM ∧ sM ≤ 6) : Ce l g yX0_forget (ws_ yX0_forget cX0_forget 2 (Option.some Jvm.ClassFile.FieldType.int)) (rmL 1) [.ref o] (xW g o ax num kpt many cols chg brd old page pgM told enD row ways far hav wtd fnd mdT wnT sN sW sC sM drw kN kW kC kS kG kB hh L mf) (sM) (xW g o ax num kpt many cols chg brd old page pgM told enD row ways far hav wtd fnd mdT wnT sN sW sC 0 drw kN kW kC kS kG kB hh L mf) := by
  refine Ct.of (by decide) (Nat.le_of_ble_eq_true rfl) ?_
  intro Γ hl hg hf hrT
  subst hl hg
  have hf : Fx Γ RX0 cX0_forget 2 := hf
  show T Γ (rmL 1) 2 0 0 (Qe Γ (rmL 1) _) _ 0 [(0, .ref o)] []
  refine tt_aload_n hf 0 dX0_forget_0 rfl ?_
  refine gx_sM hf dX0_forget_1 ?_
  refine tt_istore_n (lv' := [(1, .int (iI sM)), (0, .ref o)]) hf dX0_forget_4 (by decide) rfl ?_
  refine tt_aload_n hf 1 dX0_forget_5 rfl ?_
  refine tt_iconst hf dX0_forget_6 ?_
  refine px_sM hf dX0_forget_7 ?_
  refine tt_iload_n hf 0 dX0_forget_10 rfl ?_
  exact tt_ireti hf hrT dX0_forget_11 (Nat.le_refl _) (Nat.le_refl _) (by omega) ⟨rfl, rfl⟩
/-- a member's colour changes -/
def cuM (mf : Nat → Nat × Int × Int × Int) (a : Nat) (c : Int) : Nat → Nat × Int × Int × Int := va_up mf a ((mf a).1, (mf a).2.1, c, (mf a).2.2.2)
theorem cuM_s {mf : Nat → Nat × Int × Int × Int} {a : Nat} {c : Int} : cuM mf a c a = ((mf a).1, (mf a).2.1, c, (mf a).2.2.2) := va_up_self _ _ _
theorem cuM_n {mf : Nat → Nat × Int × Int × Int} {a b : Nat} {c : Int} (h : b ≠ a) : cuM mf a c b = mf b := va_up_ne _ _ h
theorem cuM_kept {mf : Nat → Nat × Int × Int × Int} {a : Nat} {c : Int} : ∀ b, (cuM mf a c b).1 = (mf b).1 ∧ (cuM mf a c b).2.1 = (mf b).2.1 ∧ (cuM mf a c b).2.2.2 = (mf b).2.2.2 := by
  intro b
  by_cases q : b = a
  · subst q; rw [cuM_s]; exact ⟨rfl, rfl, rfl⟩
  · rw [cuM_n q]; exact ⟨rfl, rfl, rfl⟩
theorem cuM_xB {many : Int} {num : Int → Option Nat} {L : List Nat} {mf : Nat → Nat × Int × Int × Int} {a : Nat} {c : Int} (h : xB many num L mf) (hc : -1 ≤ c ∧ c ≤ 2) : xB many num L (cuM mf a c) := by
  refine ⟨fun n b hb => ?_, h.2⟩
  have e := h.1 n b hb
  by_cases q : b = a
  · subst q; rw [cuM_s]; exact ⟨e.1, e.2.1, e.2.2.1, hc⟩
  · rw [cuM_n q]; exact e
theorem cuM_kd {num : Int → Option Nat} {mf : Nat → Nat × Int × Int × Int} {a : Nat} {c : Int} : xkd num (cuM mf a c) = xkd num mf := by
  funext n
  unfold xkd
  cases num n with
  | none => rfl
  | some b => simp only; rw [(cuM_kept b).1]
theorem cuM_co {many : Int} {num : Int → Option Nat} {L : List Nat} {mf : Nat → Nat × Int × Int × Int} {a : Nat} {v c : Int} (h : xB many num L mf) (ha : num v = some a) : xco num (cuM mf a c) = uI (xco num mf) v c := by
  funext n
  by_cases q : n = v
  · subst q; rw [uI_s, xco_at ha, cuM_s]
  · rw [uI_n q]
    unfold xco
    cases e : num n with
    | none => rfl
    | some b =>
      simp only
      rw [cuM_n]
      intro q2
      subst q2
      have h1 := (h.1 n b e).2.2.1
      have h2 := (h.1 v b ha).2.2.1
      omega
set_option maxHeartbeats 4000000 in
set_option maxRecDepth 100000 in
theorem cx_paint {l : Launch} {g : tG} {o : Nat} {ax : Nat → Nat} {num kpt : Int → Option Nat} {many cols chg brd old : Int} {page : Int → Int} {pgM told enD : Int} {row : Int → Int} {ways far : Int} {hav : Int → Int} {wtd : Int} {fnd : Int → Int} {mdT wnT : Int} {sN sW sC : Int → Int} {sM drw : Int} {kN kW kC : Int → Int} {kS kG kB : Int} {hh : Int64} {L : List Nat} {mf : Nat → Nat × Int × Int × Int} {v c : Int} (hm : 0 ≤ many ∧ many ≤ 10) (hcl3 : 0 ≤ cols ∧ cols ≤ 3) (hB : xB many num L mf) (hrow : ∀ i, -1 ≤ row i ∧ row i ≤ 2) (ho : old = 0 ∨ old = 1) (hC : xC (xkd num mf) (xco num mf) cols many old ways far hav mdT wnT) (hch : 0 ≤ chg ∧ chg ≤ 999) (hv : iR v) (hcv : iR c) : Ci l g yX0_paint (ws_ yX0_paint cX0_paint 3 (Option.some Jvm.ClassFile.FieldType.int)) (rmL 9) [.ref o, .int (iI v), .int (iI c)] (xW g o ax num kpt many cols chg brd old page pgM told enD row ways far hav wtd fnd mdT wnT sN sW sC sM drw kN kW kC kS kG kB hh L mf) (fun r w => ∃ (old1 : Int) (row1 : Int → Int) (mf1 : Nat → Nat × Int × Int × Int), (∀ i, -1 ≤ row1 i ∧ row1 i ≤ 2) ∧ (old1 = 0 ∨ old1 = 1) ∧ xC (xkd num mf1) (xco num mf1) cols many old1 ways far hav mdT wnT ∧ xB many num L mf1 ∧ xkd num mf1 = (xkd num mf) ∧ xco num mf1 = (if (1 ≤ v ∧ v ≤ many) ∧ (0 ≤ c ∧ c ≤ cols - 1) ∧ chg ≠ 999 then uI (xco num mf) v c else (xco num mf)) ∧ (∀ b, (mf1 b).1 = (mf b).1 ∧ (mf1 b).2.1 = (mf b).2.1 ∧ (mf1 b).2.2.2 = (mf b).2.2.2) ∧ r = (if (1 ≤ v ∧ v ≤ many) ∧ (0 ≤ c ∧ c ≤ cols - 1) ∧ chg ≠ 999 then bu (xkd num mf) (uI (xco num mf) v c) many.toNat else if ¬ (1 ≤ v ∧ v ≤ many) then -101 else if ¬ (0 ≤ c ∧ c ≤ cols - 1) then -102 else -104) ∧ w = xW g o ax num kpt many cols (if (1 ≤ v ∧ v ≤ many) ∧ (0 ≤ c ∧ c ≤ cols - 1) ∧ chg ≠ 999 then chg + 1 else chg) brd old1 page pgM told enD row1 ways far hav wtd fnd mdT wnT sN sW sC sM drw kN kW kC kS kG kB hh L mf1) := by
  refine Ct.of (by decide) (Nat.le_of_ble_eq_true rfl) ?_
  intro Γ hl hg hf hrT
  subst hl hg
  have hf : Fx Γ RX0 cX0_paint 3 := hf
  show T Γ (rmL 9) 3 0 0 (Qe Γ (rmL 9) _) _ 0 [(0, .ref o), (1, .int (iI v)), (2, .int (iI c))] []
  refine tt_aload_n hf 0 dX0_paint_0 rfl ?_
  refine tt_iload_n hf 1 dX0_paint_1 rfl ?_
  refine tt_callV0 (As := [.int (iI v)]) (rest := []) (q0 := 0) (ci := 0) hf (cx_isNumber (by omega) hm) lk_X0_X0_isNumber hd_X0_isNumber rfl rfl rfl ⟨rfl, rfl⟩ (by decide) (by decide) (Nat.le_of_ble_eq_true rfl) dX0_paint_2 rfl (kk_e (fun r2 => ?_))
  refine tt_ifb_ne (tgt := 11) hf dX0_paint_5 (by decide) (fun c5 => ?_) (fun c5 => ?_)
  · refine tt_aload_n hf 0 dX0_paint_11 rfl ?_
    refine tt_iload_n hf 2 dX0_paint_12 rfl ?_
    refine tt_callV0 (As := [.int (iI c)]) (rest := []) (q0 := 0) (ci := 0) hf (cx_isColour (by omega) hcl3) lk_X0_X0_isColour hd_X0_isColour rfl rfl rfl ⟨rfl, rfl⟩ (by decide) (by decide) (Nat.le_of_ble_eq_true rfl) dX0_paint_13 rfl (kk_e (fun r13 => ?_))
    refine tt_ifb_ne (tgt := 22) hf dX0_paint_16 (by decide) (fun c16 => ?_) (fun c16 => ?_)
    · refine tt_aload_n hf 0 dX0_paint_22 rfl ?_
      refine gx_chg hf dX0_paint_23 ?_
      refine tt_sipush hf dX0_paint_26 (by decide) ?_
      refine tt_icmp_ne (tgt := 35) hf dX0_paint_29 (by decide) (by omega) (by omega) (fun c29 => ?_) (fun c29 => ?_)
      · obtain ⟨a0, ha0, ma0, ka0, na0, ca0⟩ := hB.at (n := v) (by omega) (by omega)
        have hB2 := cuM_xB (a := a0) (c := c) hB (by omega)
        refine tt_aload_n hf 0 dX0_paint_35 rfl ?_
        refine gx_num hf dX0_paint_36 ?_
        refine tt_iload_n hf 1 dX0_paint_39 rfl ?_
        refine lx_num hf (by omega) ha0 dX0_paint_40 ?_
        refine tt_iload_n hf 2 dX0_paint_41 rfl ?_
        refine pm_colour hf ma0 ka0 dX0_paint_42 ?_
        refine tt_aload_n hf 0 dX0_paint_45 rfl ?_
        refine tt_dup hf dX0_paint_46 rfl ?_
        refine gx_chg hf dX0_paint_47 ?_
        refine tt_iconst hf dX0_paint_50 ?_
        refine tt_iadd hf dX0_paint_51 ?_
        refine px_chg hf dX0_paint_52 ?_
        refine tt_aload_n hf 0 dX0_paint_55 rfl ?_
        refine tt_iconst hf dX0_paint_56 ?_
        refine px_old hf dX0_paint_57 (by omega) ?_
        refine tt_aload_n hf 0 dX0_paint_60 rfl ?_
        refine tt_callV0 (As := []) (rest := []) (q0 := 0) (ci := 0) hf (cx_badNow hm hB2 hrow) lk_X0_X0_badNow hd_X0_badNow rfl rfl rfl ⟨rfl, rfl⟩ (by decide) (by decide) (Nat.le_of_ble_eq_true rfl) dX0_paint_61 rfl (kk_e (fun r61 => ?_))
        have hy : (1 ≤ v ∧ v ≤ many) ∧ (0 ≤ c ∧ c ≤ cols - 1) ∧ chg ≠ 999 := ⟨c5, c16, c29⟩
        exact tt_ireti hf hrT dX0_paint_64 (Nat.le_refl _) (Nat.le_refl _) r61 ⟨1, _, cuM mf a0 c, mixX_rng (xco_rng hB2) hrow, Or.inr rfl, fun q => absurd q (by decide), hB2, cuM_kd, by rw [if_pos hy]; exact cuM_co hB ha0, cuM_kept, by rw [if_pos hy, ← cuM_co (c := c) hB ha0, ← cuM_kd (mf := mf) (a := a0) (c := c)]; rfl, by rw [if_pos hy]; rfl⟩
      · refine tt_bipush hf dX0_paint_32 (by decide) ?_
        have hn : ¬ ((1 ≤ v ∧ v ≤ many) ∧ (0 ≤ c ∧ c ≤ cols - 1) ∧ chg ≠ 999) := by intro q; exact q.2.2 c29
        exact tt_ireti hf hrT dX0_paint_34 (Nat.le_refl _) (Nat.le_refl _) (by omega) ⟨old, row, mf, hrow, ho, hC, hB, rfl, by rw [if_neg hn], fun b => ⟨rfl, rfl, rfl⟩, by rw [if_neg hn, if_neg (fun q => q c5), if_neg (fun q => q c16)], by rw [if_neg hn]⟩
    · refine tt_bipush hf dX0_paint_19 (by decide) ?_
      have hn : ¬ ((1 ≤ v ∧ v ≤ many) ∧ (0 ≤ c ∧ c ≤ cols - 1) ∧ chg ≠ 999) := by intro q; exact c16 q.2.1
      exact tt_ireti hf hrT dX0_paint_21 (Nat.le_refl _) (Nat.le_refl _) (by omega) ⟨old, row, mf, hrow, ho, hC, hB, rfl, by rw [if_neg hn], fun b => ⟨rfl, rfl, rfl⟩, by rw [if_neg hn, if_neg (fun q => q c5), if_pos c16], by rw [if_neg hn]⟩
  · refine tt_bipush hf dX0_paint_8 (by decide) ?_
    have hn : ¬ ((1 ≤ v ∧ v ≤ many) ∧ (0 ≤ c ∧ c ≤ cols - 1) ∧ chg ≠ 999) := by intro q; exact c5 q.1
    exact tt_ireti hf hrT dX0_paint_10 (Nat.le_refl _) (Nat.le_refl _) (by omega) ⟨old, row, mf, hrow, ho, hC, hB, rfl, by rw [if_neg hn], fun b => ⟨rfl, rfl, rfl⟩, by rw [if_neg hn, if_pos c5], by rw [if_neg hn]⟩
set_option maxHeartbeats 4000000 in
set_option maxRecDepth 100000 in
theorem cx_wipe {l : Launch} {g : tG} {o : Nat} {ax : Nat → Nat} {num kpt : Int → Option Nat} {many cols chg brd old : Int} {page : Int → Int} {pgM told enD : Int} {row : Int → Int} {ways far : Int} {hav : Int → Int} {wtd : Int} {fnd : Int → Int} {mdT wnT : Int} {sN sW sC : Int → Int} {sM drw : Int} {kN kW kC : Int → Int} {kS kG kB : Int} {hh : Int64} {L : List Nat} {mf : Nat → Nat × Int × Int × Int} {v : Int} (hm : 0 ≤ many ∧ many ≤ 10) (hB : xB many num L mf) (hrow : ∀ i, -1 ≤ row i ∧ row i ≤ 2) (ho : old = 0 ∨ old = 1) (hC : xC (xkd num mf) (xco num mf) cols many old ways far hav mdT wnT) (hch : 0 ≤ chg ∧ chg ≤ 999) (hv : iR v) : Ci l g yX0_wipe (ws_ yX0_wipe cX0_wipe 3 (Option.some Jvm.ClassFile.FieldType.int)) (rmL 3) [.ref o, .int (iI v)] (xW g o ax num kpt many cols chg brd old page pgM told enD row ways far hav wtd fnd mdT wnT sN sW sC sM drw kN kW kC kS kG kB hh L mf) (fun r w => ∃ (old1 : Int) (row1 : Int → Int) (mf1 : Nat → Nat × Int × Int × Int), (∀ i, -1 ≤ row1 i ∧ row1 i ≤ 2) ∧ (old1 = 0 ∨ old1 = 1) ∧ xC (xkd num mf1) (xco num mf1) cols many old1 ways far hav mdT wnT ∧ xB many num L mf1 ∧ xkd num mf1 = (xkd num mf) ∧ xco num mf1 = (if (1 ≤ v ∧ v ≤ many) ∧ (xco num mf) v ≠ -1 ∧ chg ≠ 999 then uI (xco num mf) v (-1) else (xco num mf)) ∧ (∀ b, (mf1 b).1 = (mf b).1 ∧ (mf1 b).2.1 = (mf b).2.1 ∧ (mf1 b).2.2.2 = (mf b).2.2.2) ∧ r = (if (1 ≤ v ∧ v ≤ many) ∧ (xco num mf) v ≠ -1 ∧ chg ≠ 999 then (xco num mf) v else if ¬ (1 ≤ v ∧ v ≤ many) then -101 else if (xco num mf) v = -1 then -103 else -104) ∧ w = xW g o ax num kpt many cols (if (1 ≤ v ∧ v ≤ many) ∧ (xco num mf) v ≠ -1 ∧ chg ≠ 999 then chg + 1 else chg) brd old1 page pgM told enD row1 ways far hav wtd fnd mdT wnT sN sW sC sM drw kN kW kC kS kG kB hh L mf1) := by
  refine Ct.of (by decide) (Nat.le_of_ble_eq_true rfl) ?_
  intro Γ hl hg hf hrT
  subst hl hg
  have hf : Fx Γ RX0 cX0_wipe 3 := hf
  show T Γ (rmL 3) 3 0 0 (Qe Γ (rmL 3) _) _ 0 [(0, .ref o), (1, .int (iI v))] []
  refine tt_aload_n hf 0 dX0_wipe_0 rfl ?_
  refine tt_iload_n hf 1 dX0_wipe_1 rfl ?_
  refine tt_callV0 (As := [.int (iI v)]) (rest := []) (q0 := 0) (ci := 0) hf (cx_isNumber (by omega) hm) lk_X0_X0_isNumber hd_X0_isNumber rfl rfl rfl ⟨rfl, rfl⟩ (by decide) (by decide) (Nat.le_of_ble_eq_true rfl) dX0_wipe_2 rfl (kk_e (fun r2 => ?_))
  refine tt_ifb_ne (tgt := 11) hf dX0_wipe_5 (by decide) (fun c5 => ?_) (fun c5 => ?_)
  · obtain ⟨a0, ha0, ma0, ka0, na0, ca0⟩ := hB.at (n := v) (by omega) (by omega)
    have x0 := xco_at (mf := mf) ha0
    have hB2 := cuM_xB (a := a0) (c := -1) hB (by omega)
    refine tt_aload_n hf 0 dX0_wipe_11 rfl ?_
    refine gx_num hf dX0_wipe_12 ?_
    refine tt_iload_n hf 1 dX0_wipe_15 rfl ?_
    refine lx_num hf (by omega) ha0 dX0_wipe_16 ?_
    refine gm_colour hf ma0 ka0 dX0_wipe_17 ?_
    refine tt_istore_n (lv' := [(2, .int (iI ((mf a0).2.2.1))), (0, .ref o), (1, .int (iI v))]) hf dX0_wipe_20 (by decide) rfl ?_
    refine tt_iload_n hf 0 dX0_wipe_21 rfl ?_
    refine tt_iconst hf dX0_wipe_22 ?_
    refine tt_icmp_ne (tgt := 29) hf dX0_wipe_23 (by decide) (by omega) (by omega) (fun c23 => ?_) (fun c23 => ?_)
    · refine tt_aload_n hf 1 dX0_wipe_29 rfl ?_
      refine gx_chg hf dX0_wipe_30 ?_
      refine tt_sipush hf dX0_wipe_33 (by decide) ?_
      refine tt_icmp_ne (tgt := 42) hf dX0_wipe_36 (by decide) (by omega) (by omega) (fun c36 => ?_) (fun c36 => ?_)
      · refine tt_aload_n hf 1 dX0_wipe_42 rfl ?_
        refine gx_num hf dX0_wipe_43 ?_
        refine tt_iload_n hf 2 dX0_wipe_46 rfl ?_
        refine lx_num hf (by omega) ha0 dX0_wipe_47 ?_
        refine tt_iconst hf dX0_wipe_48 ?_
        refine pm_colour hf ma0 ka0 dX0_wipe_49 ?_
        refine tt_aload_n hf 1 dX0_wipe_52 rfl ?_
        refine tt_dup hf dX0_wipe_53 rfl ?_
        refine gx_chg hf dX0_wipe_54 ?_
        refine tt_iconst hf dX0_wipe_57 ?_
        refine tt_iadd hf dX0_wipe_58 ?_
        refine px_chg hf dX0_wipe_59 ?_
        refine tt_aload_n hf 1 dX0_wipe_62 rfl ?_
        refine tt_iconst hf dX0_wipe_63 ?_
        refine px_old hf dX0_wipe_64 (by omega) ?_
        refine tt_iload_n hf 0 dX0_wipe_67 rfl ?_
        have hy : (1 ≤ v ∧ v ≤ many) ∧ (xco num mf) v ≠ -1 ∧ chg ≠ 999 := ⟨c5, fun q => c23 (x0.symm.trans q), c36⟩
        exact tt_ireti hf hrT dX0_wipe_68 (Nat.le_refl _) (Nat.le_refl _) (by omega) ⟨1, row, cuM mf a0 (-1), hrow, Or.inr rfl, fun q => absurd q (by decide), hB2, cuM_kd, by rw [if_pos hy]; exact cuM_co hB ha0, cuM_kept, by rw [if_pos hy, x0], by rw [if_pos hy]; rfl⟩
      · refine tt_bipush hf dX0_wipe_39 (by decide) ?_
        have hn : ¬ ((1 ≤ v ∧ v ≤ many) ∧ (xco num mf) v ≠ -1 ∧ chg ≠ 999) := by intro q; exact q.2.2 c36
        exact tt_ireti hf hrT dX0_wipe_41 (Nat.le_refl _) (Nat.le_refl _) (by omega) ⟨old, row, mf, hrow, ho, hC, hB, rfl, by rw [if_neg hn], fun b => ⟨rfl, rfl, rfl⟩, by rw [if_neg hn, if_neg (fun q => q c5), if_neg (fun q => c23 (x0.symm.trans q))], by rw [if_neg hn]⟩
    · refine tt_bipush hf dX0_wipe_26 (by decide) ?_
      have hn : ¬ ((1 ≤ v ∧ v ≤ many) ∧ (xco num mf) v ≠ -1 ∧ chg ≠ 999) := by intro q; exact q.2.1 (x0.trans c23)
      exact tt_ireti hf hrT dX0_wipe_28 (Nat.le_refl _) (Nat.le_refl _) (by omega) ⟨old, row, mf, hrow, ho, hC, hB, rfl, by rw [if_neg hn], fun b => ⟨rfl, rfl, rfl⟩, by rw [if_neg hn, if_neg (fun q => q c5), if_pos (x0.trans c23)], by rw [if_neg hn]⟩
  · refine tt_bipush hf dX0_wipe_8 (by decide) ?_
    have hn : ¬ ((1 ≤ v ∧ v ≤ many) ∧ (xco num mf) v ≠ -1 ∧ chg ≠ 999) := by intro q; exact c5 q.1
    exact tt_ireti hf hrT dX0_wipe_10 (Nat.le_refl _) (Nat.le_refl _) (by omega) ⟨old, row, mf, hrow, ho, hC, hB, rfl, by rw [if_neg hn], fun b => ⟨rfl, rfl, rfl⟩, by rw [if_neg hn, if_pos c5], by rw [if_neg hn]⟩
set_option maxHeartbeats 4000000 in
set_option maxRecDepth 100000 in
theorem cx_bare {l : Launch} {g : tG} {o : Nat} {ax : Nat → Nat} {num kpt : Int → Option Nat} {many cols chg brd old : Int} {page : Int → Int} {pgM told enD : Int} {row : Int → Int} {ways far : Int} {hav : Int → Int} {wtd : Int} {fnd : Int → Int} {mdT wnT : Int} {sN sW sC : Int → Int} {sM drw : Int} {kN kW kC : Int → Int} {kS kG kB : Int} {hh : Int64} {L : List Nat} {mf : Nat → Nat × Int × Int × Int}  (hm : 0 ≤ many ∧ many ≤ 10) (hB : xB many num L mf) : Ce l g yX0_bare (ws_ yX0_bare cX0_bare 3 (Option.some Jvm.ClassFile.FieldType.int)) (rmL 1) [.ref o] (xW g o ax num kpt many cols chg brd old page pgM told enD row ways far hav wtd fnd mdT wnT sN sW sC sM drw kN kW kC kS kG kB hh L mf) (brN (xco num mf) many.toNat) (xW g o ax num kpt many cols chg brd old page pgM told enD row ways far hav wtd fnd mdT wnT sN sW sC sM drw kN kW kC kS kG kB hh L mf) := by
  refine Ct.of (by decide) (Nat.le_of_ble_eq_true rfl) ?_
  intro Γ hl hg hf hrT
  subst hl hg
  have hf : Fx Γ RX0 cX0_bare 3 := hf
  show T Γ (rmL 1) 3 0 0 (Qe Γ (rmL 1) _) _ 0 [(0, .ref o)] []
  have lp : ∀ (N : Nat) (b : Int) (i : Int), (1 ≤ i ∧ i ≤ many + 1) → (b = brN (xco num mf) (i - 1).toNat) → (11 - i).toNat < N → T Γ (rmL 1) 3 0 0 (Qe Γ (rmL 1) (fun vv w => ∃ r : Int, vv = some (.int (iI r)) ∧ iR r ∧ r = (brN (xco num mf) many.toNat) ∧ w = xW (xg Γ) o ax num kpt many cols chg brd old page pgM told enD row ways far hav wtd fnd mdT wnT sN sW sC sM drw kN kW kC kS kG kB hh L mf)) (xW (xg Γ) o ax num kpt many cols chg brd old page pgM told enD row ways far hav wtd fnd mdT wnT sN sW sC sM drw kN kW kC kS kG kB hh L mf) 4 [(0, .ref o), (1, .int (iI b)), (2, .int (iI i))] [] := by
    intro N
    induction N with
    | zero => intro b i hi hb hN; exact absurd hN (Nat.not_lt_zero _)
    | succ N ih =>
      intro b i hi hb hN
      have hbr := brN_rng (xco num mf) (i - 1).toNat
      rw [← hb] at hbr
      refine tt_iload_n hf 2 dX0_bare_4 rfl ?_
      refine tt_aload_n hf 0 dX0_bare_5 rfl ?_
      refine gx_many hf dX0_bare_6 ?_
      refine tt_icmp_gt (tgt := 39) hf dX0_bare_9 (by decide) (by omega) (by omega) (fun c9 => ?_) (fun c9 => ?_)
      · refine tt_iload_n hf 1 dX0_bare_39 rfl ?_
        exact tt_ireti hf hrT dX0_bare_40 (Nat.le_refl _) (Nat.le_refl _) (by omega) ⟨(by rw [hb, show i - 1 = many by omega]), rfl⟩
      · obtain ⟨a1, ha1, ma1, ka1, na1, ca1⟩ := hB.at (n := i) (by omega) (by omega)
        refine tt_iload_n hf 1 dX0_bare_12 rfl ?_
        refine tt_aload_n hf 0 dX0_bare_13 rfl ?_
        refine gx_num hf dX0_bare_14 ?_
        refine tt_iload_n hf 2 dX0_bare_17 rfl ?_
        refine lx_num hf (by omega) ha1 dX0_bare_18 ?_
        refine gm_colour hf ma1 ka1 dX0_bare_19 ?_
        refine tt_iconst hf dX0_bare_22 ?_
        refine tt_icmp_ne (tgt := 30) hf dX0_bare_23 (by decide) (by omega) (by omega) (fun c23 => ?_) (fun c23 => ?_)
        · refine tt_iconst hf dX0_bare_30 ?_
          refine tt_iadd hf dX0_bare_31 ?_
          refine tt_istore_n (lv' := [(1, .int (iI (b + 0))), (0, .ref o), (2, .int (iI i))]) hf dX0_bare_32 (by decide) rfl ?_
          refine tt_iinc (lv' := [(2, .int (iI (i + 1))), (1, .int (iI (b + 0))), (0, .ref o)]) hf 2 dX0_bare_33 rfl (by decide) rfl ?_
          refine tt_goto (tgt := 4) hf dX0_bare_36 (by decide) ?_
          refine tt_sub [2, 1, 0] rfl ?_
          exact ih (b + 0) (i + 1) (by omega) (by rw [Int.add_sub_cancel, brN_s (by omega), ← hb, xco_at ha1]; first | rw [if_pos c23] | rw [if_neg c23]) (by omega)
        · refine tt_iconst hf dX0_bare_26 ?_
          refine tt_goto (tgt := 31) hf dX0_bare_27 (by decide) ?_
          refine tt_iadd hf dX0_bare_31 ?_
          refine tt_istore_n (lv' := [(1, .int (iI (b + 1))), (0, .ref o), (2, .int (iI i))]) hf dX0_bare_32 (by decide) rfl ?_
          refine tt_iinc (lv' := [(2, .int (iI (i + 1))), (1, .int (iI (b + 1))), (0, .ref o)]) hf 2 dX0_bare_33 rfl (by decide) rfl ?_
          refine tt_goto (tgt := 4) hf dX0_bare_36 (by decide) ?_
          refine tt_sub [2, 1, 0] rfl ?_
          exact ih (b + 1) (i + 1) (by omega) (by rw [Int.add_sub_cancel, brN_s (by omega), ← hb, xco_at ha1]; first | rw [if_pos c23] | rw [if_neg c23]) (by omega)
  refine tt_iconst hf dX0_bare_0 ?_
  refine tt_istore_n (lv' := [(1, .int (iI 0)), (0, .ref o)]) hf dX0_bare_1 (by decide) rfl ?_
  refine tt_iconst hf dX0_bare_2 ?_
  refine tt_istore_n (lv' := [(2, .int (iI 1)), (1, .int (iI 0)), (0, .ref o)]) hf dX0_bare_3 (by decide) rfl ?_
  refine tt_sub [2, 1, 0] rfl ?_
  exact lp _ 0 1 (by omega) rfl (Nat.lt_succ_self _)
theorem thN_rng : ∀ n : Nat, 0 ≤ thN n ∧ thN n ≤ n * n
  | 0 => by simp [thN]
  | n + 1 => by
    have h := thN_rng n
    have e := thN_s (n := (n : Int) + 1) (by omega)
    rw [show ((n : Int) + 1).toNat = n + 1 by omega, show ((n : Int) + 1 - 1).toNat = n by omega] at e
    rw [e]
    have e2 : ((n + 1 : Nat) : Int) * ((n + 1 : Nat) : Int) = (n : Int) * n + 2 * n + 1 := by
      push_cast
      simp only [Int.add_mul, Int.mul_add]
      omega
    omega
set_option maxHeartbeats 4000000 in
set_option maxRecDepth 100000 in
theorem cx_threes {l : Launch} {g : tG} {o : Nat} {ax : Nat → Nat} {num kpt : Int → Option Nat} {many cols chg brd old : Int} {page : Int → Int} {pgM told enD : Int} {row : Int → Int} {ways far : Int} {hav : Int → Int} {wtd : Int} {fnd : Int → Int} {mdT wnT : Int} {sN sW sC : Int → Int} {sM drw : Int} {kN kW kC : Int → Int} {kS kG kB : Int} {hh : Int64} {L : List Nat} {mf : Nat → Nat × Int × Int × Int}  (hm : 0 ≤ many ∧ many ≤ 10) : Ce l g yX0_threes (ws_ yX0_threes cX0_threes 3 (Option.some Jvm.ClassFile.FieldType.int)) (rmL 1) [.ref o] (xW g o ax num kpt many cols chg brd old page pgM told enD row ways far hav wtd fnd mdT wnT sN sW sC sM drw kN kW kC kS kG kB hh L mf) (thN many.toNat) (xW g o ax num kpt many cols chg brd old page pgM told enD row ways far hav wtd fnd mdT wnT sN sW sC sM drw kN kW kC kS kG kB hh L mf) := by
  refine Ct.of (by decide) (Nat.le_of_ble_eq_true rfl) ?_
  intro Γ hl hg hf hrT
  subst hl hg
  have hf : Fx Γ RX0 cX0_threes 3 := hf
  show T Γ (rmL 1) 3 0 0 (Qe Γ (rmL 1) _) _ 0 [(0, .ref o)] []
  have lp : ∀ (N : Nat) (b : Int) (i : Int), (1 ≤ i ∧ i ≤ many + 1) → (b = thN (i - 1).toNat) → (11 - i).toNat < N → T Γ (rmL 1) 3 0 0 (Qe Γ (rmL 1) (fun vv w => ∃ r : Int, vv = some (.int (iI r)) ∧ iR r ∧ r = (thN many.toNat) ∧ w = xW (xg Γ) o ax num kpt many cols chg brd old page pgM told enD row ways far hav wtd fnd mdT wnT sN sW sC sM drw kN kW kC kS kG kB hh L mf)) (xW (xg Γ) o ax num kpt many cols chg brd old page pgM told enD row ways far hav wtd fnd mdT wnT sN sW sC sM drw kN kW kC kS kG kB hh L mf) 4 [(0, .ref o), (1, .int (iI b)), (2, .int (iI i))] [] := by
    intro N
    induction N with
    | zero => intro b i hi hb hN; exact absurd hN (Nat.not_lt_zero _)
    | succ N ih =>
      intro b i hi hb hN
      have hbr := thN_rng (i - 1).toNat
      rw [← hb] at hbr
      have hbq : b ≤ 100 := by have : ((i - 1).toNat : Int) * ((i - 1).toNat : Int) ≤ 10 * 10 := Int.mul_le_mul (by omega) (by omega) (by omega) (by omega); omega
      refine tt_iload_n hf 2 dX0_threes_4 rfl ?_
      refine tt_aload_n hf 0 dX0_threes_5 rfl ?_
      refine gx_many hf dX0_threes_6 ?_
      refine tt_icmp_gt (tgt := 24) hf dX0_threes_9 (by decide) (by omega) (by omega) (fun c9 => ?_) (fun c9 => ?_)
      · refine tt_iload_n hf 1 dX0_threes_24 rfl ?_
        exact tt_ireti hf hrT dX0_threes_25 (Nat.le_refl _) (Nat.le_refl _) (by omega) ⟨(by rw [hb, show i - 1 = many by omega]), rfl⟩
      · refine tt_iload_n hf 1 dX0_threes_12 rfl ?_
        refine tt_iload_n hf 2 dX0_threes_13 rfl ?_
        refine tt_iconst hf dX0_threes_14 ?_
        refine tt_idiv hf dX0_threes_15 (by omega) (by omega) ?_
        refine tt_iadd hf dX0_threes_16 ?_
        refine tt_istore_n (lv' := [(1, .int (iI (b + (i / 2)))), (0, .ref o), (2, .int (iI i))]) hf dX0_threes_17 (by decide) rfl ?_
        refine tt_iinc (lv' := [(2, .int (iI (i + 1))), (1, .int (iI (b + (i / 2)))), (0, .ref o)]) hf 2 dX0_threes_18 rfl (by decide) rfl ?_
        refine tt_goto (tgt := 4) hf dX0_threes_21 (by decide) ?_
        refine tt_sub [2, 1, 0] rfl ?_
        exact ih (b + (i / 2)) (i + 1) (by omega) (by rw [Int.add_sub_cancel, thN_s (by omega), ← hb]) (by omega)
  refine tt_iconst hf dX0_threes_0 ?_
  refine tt_istore_n (lv' := [(1, .int (iI 0)), (0, .ref o)]) hf dX0_threes_1 (by decide) rfl ?_
  refine tt_iconst hf dX0_threes_2 ?_
  refine tt_istore_n (lv' := [(2, .int (iI 1)), (1, .int (iI 0)), (0, .ref o)]) hf dX0_threes_3 (by decide) rfl ?_
  refine tt_sub [2, 1, 0] rfl ?_
  exact lp _ 0 1 (by omega) rfl (Nat.lt_succ_self _)
set_option maxHeartbeats 4000000 in
set_option maxRecDepth 100000 in
theorem cx_count {l : Launch} {g : tG} {o : Nat} {ax : Nat → Nat} {num kpt : Int → Option Nat} {many cols chg brd old : Int} {page : Int → Int} {pgM told enD : Int} {row : Int → Int} {ways far : Int} {hav : Int → Int} {wtd : Int} {fnd : Int → Int} {mdT wnT : Int} {sN sW sC : Int → Int} {sM drw : Int} {kN kW kC : Int → Int} {kS kG kB : Int} {hh : Int64} {L : List Nat} {mf : Nat → Nat × Int × Int × Int} {wh : Int} (hm : 0 ≤ many ∧ many ≤ 10) (hB : xB many num L mf) (hrow : ∀ i, -1 ≤ row i ∧ row i ≤ 2) (hcl3 : 0 ≤ cols ∧ cols ≤ 3) (hch : 0 ≤ chg ∧ chg ≤ 999) (hsM : 0 ≤ sM ∧ sM ≤ 6) (hpg : 0 ≤ pgM ∧ pgM ≤ 26) (hbr : 0 ≤ brd ∧ brd ≤ 1000000) (hwh : iR wh) : Ci l g yX0_count (ws_ yX0_count cX0_count 2 (Option.some Jvm.ClassFile.FieldType.int)) (rmL 9) [.ref o, .int (iI wh)] (xW g o ax num kpt many cols chg brd old page pgM told enD row ways far hav wtd fnd mdT wnT sN sW sC sM drw kN kW kC kS kG kB hh L mf) (fun r w => ∃ row1 : Int → Int, (∀ i, -1 ≤ row1 i ∧ row1 i ≤ 2) ∧ r = ctE (xkd num mf) (xco num mf) cols many chg sM pgM brd wh ∧ w = xW g o ax num kpt many cols chg brd old page pgM told enD row1 ways far hav wtd fnd mdT wnT sN sW sC sM drw kN kW kC kS kG kB hh L mf) := by
  refine Ct.of (by decide) (Nat.le_of_ble_eq_true rfl) ?_
  intro Γ hl hg hf hrT
  subst hl hg
  have hf : Fx Γ RX0 cX0_count 2 := hf
  show T Γ (rmL 9) 2 0 0 (Qe Γ (rmL 9) _) _ 0 [(0, .ref o), (1, .int (iI wh))] []
  refine tt_iload_n hf 1 dX0_count_0 rfl ?_
  by_cases s1_0 : wh = 0
  · refine tt_tableIn (off := 51) (tgt := 52) hf dX0_count_1 (by omega) (by omega) (by omega) (by rw [s1_0]; rfl) (by decide) ?_
    refine tt_aload_n hf 0 dX0_count_52 rfl ?_
    refine gx_many hf dX0_count_53 ?_
    exact tt_ireti hf hrT dX0_count_56 (Nat.le_refl _) (Nat.le_refl _) (by omega) ⟨row, hrow, by unfold ctE; rw [if_pos s1_0], rfl⟩
  by_cases s1_1 : wh = 1
  · refine tt_tableIn (off := 56) (tgt := 57) hf dX0_count_1 (by omega) (by omega) (by omega) (by rw [s1_1]; rfl) (by decide) ?_
    refine tt_aload_n hf 0 dX0_count_57 rfl ?_
    refine gx_cols hf dX0_count_58 ?_
    exact tt_ireti hf hrT dX0_count_61 (Nat.le_refl _) (Nat.le_refl _) (by omega) ⟨row, hrow, by unfold ctE; rw [if_neg s1_0, if_pos s1_1], rfl⟩
  by_cases s1_2 : wh = 2
  · refine tt_tableIn (off := 61) (tgt := 62) hf dX0_count_1 (by omega) (by omega) (by omega) (by rw [s1_2]; rfl) (by decide) ?_
    refine tt_aload_n hf 0 dX0_count_62 rfl ?_
    refine tt_callV0 (As := []) (rest := []) (q0 := 0) (ci := 0) hf (cx_bare hm hB) lk_X0_X0_bare hd_X0_bare rfl rfl rfl ⟨rfl, rfl⟩ (by decide) (by decide) (Nat.le_of_ble_eq_true rfl) dX0_count_63 rfl (kk_e (fun r63 => ?_))
    exact tt_ireti hf hrT dX0_count_66 (Nat.le_refl _) (Nat.le_refl _) r63 ⟨row, hrow, by unfold ctE; rw [if_neg s1_0, if_neg s1_1, if_pos s1_2], rfl⟩
  by_cases s1_3 : wh = 3
  · refine tt_tableIn (off := 66) (tgt := 67) hf dX0_count_1 (by omega) (by omega) (by omega) (by rw [s1_3]; rfl) (by decide) ?_
    refine tt_aload_n hf 0 dX0_count_67 rfl ?_
    refine tt_callV0 (As := []) (rest := []) (q0 := 0) (ci := 0) hf (cx_badNow hm hB hrow) lk_X0_X0_badNow hd_X0_badNow rfl rfl rfl ⟨rfl, rfl⟩ (by decide) (by decide) (Nat.le_of_ble_eq_true rfl) dX0_count_68 rfl (kk_e (fun r68 => ?_))
    exact tt_ireti hf hrT dX0_count_71 (Nat.le_refl _) (Nat.le_refl _) r68 ⟨_, mixX_rng (xco_rng hB) hrow, by unfold ctE; rw [if_neg s1_0, if_neg s1_1, if_neg s1_2, if_pos s1_3], rfl⟩
  by_cases s1_4 : wh = 4
  · refine tt_tableIn (off := 71) (tgt := 72) hf dX0_count_1 (by omega) (by omega) (by omega) (by rw [s1_4]; rfl) (by decide) ?_
    refine tt_aload_n hf 0 dX0_count_72 rfl ?_
    refine tt_callV0 (As := []) (rest := []) (q0 := 0) (ci := 0) hf (cx_threes hm) lk_X0_X0_threes hd_X0_threes rfl rfl rfl ⟨rfl, rfl⟩ (by decide) (by decide) (Nat.le_of_ble_eq_true rfl) dX0_count_73 rfl (kk_e (fun r73 => ?_))
    exact tt_ireti hf hrT dX0_count_76 (Nat.le_refl _) (Nat.le_refl _) r73 ⟨row, hrow, by unfold ctE; rw [if_neg s1_0, if_neg s1_1, if_neg s1_2, if_neg s1_3, if_pos s1_4], rfl⟩
  by_cases s1_5 : wh = 5
  · refine tt_tableIn (off := 76) (tgt := 77) hf dX0_count_1 (by omega) (by omega) (by omega) (by rw [s1_5]; rfl) (by decide) ?_
    refine tt_aload_n hf 0 dX0_count_77 rfl ?_
    refine gx_chg hf dX0_count_78 ?_
    exact tt_ireti hf hrT dX0_count_81 (Nat.le_refl _) (Nat.le_refl _) (by omega) ⟨row, hrow, by unfold ctE; rw [if_neg s1_0, if_neg s1_1, if_neg s1_2, if_neg s1_3, if_neg s1_4, if_pos s1_5], rfl⟩
  by_cases s1_6 : wh = 6
  · refine tt_tableIn (off := 81) (tgt := 82) hf dX0_count_1 (by omega) (by omega) (by omega) (by rw [s1_6]; rfl) (by decide) ?_
    refine tt_aload_n hf 0 dX0_count_82 rfl ?_
    refine gx_sM hf dX0_count_83 ?_
    exact tt_ireti hf hrT dX0_count_86 (Nat.le_refl _) (Nat.le_refl _) (by omega) ⟨row, hrow, by unfold ctE; rw [if_neg s1_0, if_neg s1_1, if_neg s1_2, if_neg s1_3, if_neg s1_4, if_neg s1_5, if_pos s1_6], rfl⟩
  by_cases s1_7 : wh = 7
  · refine tt_tableIn (off := 86) (tgt := 87) hf dX0_count_1 (by omega) (by omega) (by omega) (by rw [s1_7]; rfl) (by decide) ?_
    refine tt_aload_n hf 0 dX0_count_87 rfl ?_
    refine gx_pgM hf dX0_count_88 ?_
    exact tt_ireti hf hrT dX0_count_91 (Nat.le_refl _) (Nat.le_refl _) (by omega) ⟨row, hrow, by unfold ctE; rw [if_neg s1_0, if_neg s1_1, if_neg s1_2, if_neg s1_3, if_neg s1_4, if_neg s1_5, if_neg s1_6, if_pos s1_7], rfl⟩
  by_cases s1_8 : wh = 8
  · refine tt_tableIn (off := 91) (tgt := 92) hf dX0_count_1 (by omega) (by omega) (by omega) (by rw [s1_8]; rfl) (by decide) ?_
    refine tt_aload_n hf 0 dX0_count_92 rfl ?_
    refine gx_brd hf dX0_count_93 ?_
    exact tt_ireti hf hrT dX0_count_96 (Nat.le_refl _) (Nat.le_refl _) (by omega) ⟨row, hrow, by unfold ctE; rw [if_neg s1_0, if_neg s1_1, if_neg s1_2, if_neg s1_3, if_neg s1_4, if_neg s1_5, if_neg s1_6, if_neg s1_7, if_pos s1_8], rfl⟩
  · refine tt_tableOut (tgt := 97) hf dX0_count_1 (by omega) (by omega) (by decide) ?_
    refine tt_bipush hf dX0_count_97 (by decide) ?_
    exact tt_ireti hf hrT dX0_count_99 (Nat.le_refl _) (Nat.le_refl _) (by omega) ⟨row, hrow, by unfold ctE; rw [if_neg s1_0, if_neg s1_1, if_neg s1_2, if_neg s1_3, if_neg s1_4, if_neg s1_5, if_neg s1_6, if_neg s1_7, if_neg s1_8], rfl⟩
set_option maxHeartbeats 4000000 in
set_option maxRecDepth 100000 in
theorem cx_draw {l : Launch} {g : tG} {o : Nat} {ax : Nat → Nat} {num kpt : Int → Option Nat} {many cols chg brd old : Int} {page : Int → Int} {pgM told enD : Int} {row : Int → Int} {ways far : Int} {hav : Int → Int} {wtd : Int} {fnd : Int → Int} {mdT wnT : Int} {sN sW sC : Int → Int} {sM : Int} {kN kW kC : Int → Int} {kS kG kB : Int} {hh : Int64} {L : List Nat} {mf : Nat → Nat × Int × Int × Int} {d : Int} {z : Nat} (hz : z < 2147483648) (hd : 2 ≤ d ∧ d ≤ 3) : Ce l g yX0_draw (ws_ yX0_draw cX0_draw 2 (Option.some Jvm.ClassFile.FieldType.int)) (rmL 1) [.ref o, .int (iI d)] (xW g o ax num kpt many cols chg brd old page pgM told enD row ways far hav wtd fnd mdT wnT sN sW sC sM ((z : Int)) kN kW kC kS kG kB hh L mf) (((dzN z / 65536 % d.toNat : Nat) : Int)) (xW g o ax num kpt many cols chg brd old page pgM told enD row ways far hav wtd fnd mdT wnT sN sW sC sM (((dzN z : Nat) : Int)) kN kW kC kS kG kB hh L mf) := by
  refine Ct.of (by decide) (Nat.le_of_ble_eq_true rfl) ?_
  intro Γ hl hg hf hrT
  subst hl hg
  have hf : Fx Γ RX0 cX0_draw 2 := hf
  show T Γ (rmL 1) 2 0 0 (Qe Γ (rmL 1) _) _ 0 [(0, .ref o), (1, .int (iI d))] []
  have hzl := dzN_lt z
  have hml := Nat.mod_lt (dzN z / 65536) (show d.toNat > 0 by omega)
  refine tt_aload_n hf 0 dX0_draw_0 rfl ?_
  refine tt_ldc2 hf q666 dX0_draw_1 ?_
  refine tt_aload_n hf 0 dX0_draw_4 rfl ?_
  refine gx_drw hf dX0_draw_5 ?_
  refine tt_i2l hf dX0_draw_8 ?_
  refine tt_topl (x' := lN z) ((iI_long (by omega) (by omega)).trans (by rw [Int.toNat_natCast])) ?_
  refine tt_lmul hf dX0_draw_9 ?_
  refine tt_ldc2 hf q667 dX0_draw_10 ?_
  refine tt_ladd hf dX0_draw_13 ?_
  refine tt_ldc2 hf q668 dX0_draw_14 ?_
  refine tt_land hf dX0_draw_17 ?_
  refine tt_topl (x' := lN (dzN z)) (draw_z hz) ?_
  refine tt_l2i (z := ((dzN z : Nat) : Int)) hf dX0_draw_18 ((lN_i _).trans (nI_iI _)) ?_
  refine px_drw hf dX0_draw_19 ?_
  refine tt_aload_n hf 0 dX0_draw_22 rfl ?_
  refine gx_drw hf dX0_draw_23 ?_
  refine tt_ldcw hf (65536) q669 (by decide) dX0_draw_26 ?_
  refine tt_idiv hf dX0_draw_29 (by omega) (by omega) ?_
  refine tt_iload_n hf 1 dX0_draw_30 rfl ?_
  refine tt_irem hf dX0_draw_31 (by omega) (by omega) ?_
  refine tt_top (z' := ((dzN z / 65536 % d.toNat : Nat) : Int)) (by rw [Int.natCast_emod, Int.natCast_ediv, show ((d.toNat : Nat) : Int) = d by omega]; rfl) ?_
  exact tt_ireti hf hrT dX0_draw_32 (Nat.le_refl _) (Nat.le_refl _) (by omega) ⟨rfl, rfl⟩
