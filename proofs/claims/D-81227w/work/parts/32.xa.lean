/-! the class's own methods -/
def lI (z : Int) : Int64 := Int64.ofInt z
theorem lI_toInt {z : Int} (h : iR z) : (lI z).toInt = z := by
  unfold lI
  rw [Int64.toInt_ofInt]
  have := h
  unfold iR at this
  exact Int.bmod_eq_of_le (by show -((18446744073709551616 : Int) / 2) ≤ z; omega) (by show z < ((18446744073709551616 : Int) + 1) / 2; omega)
theorem lI_of {z : Int} (h : iR z) : (iI z).toInt64 = lI z := by
  apply Int64.toInt_inj.mp
  rw [Int32.toInt_toInt64, iI_toInt h, lI_toInt h]
theorem lI_cmp {x y : Int} (hx : iR x) (hy : iR y) : lg_cmp (lI x) (lI y) = iI (if y < x then 1 else if x = y then 0 else -1) := by
  unfold lg_cmp
  have e1 : (lI x > lI y) ↔ y < x := by rw [gt_iff_lt, Int64.lt_iff_toInt_lt, lI_toInt hx, lI_toInt hy]
  have e2 : (lI x = lI y) ↔ x = y := by rw [← Int64.toInt_inj, lI_toInt hx, lI_toInt hy]
  by_cases q1 : y < x
  · rw [if_pos (e1.mpr q1), if_pos q1]; rfl
  · rw [if_neg (fun c => q1 (e1.mp c)), if_neg q1]
    by_cases q2 : x = y
    · rw [if_pos (e2.mpr q2), if_pos q2]; rfl
    · rw [if_neg (fun c => q2 (e2.mp c)), if_neg q2]; rfl
set_option maxHeartbeats 4000000 in
set_option maxRecDepth 100000 in
theorem cx_isIn {l : Launch} {g : tG} {ws : va_W} {v lo hi : Int} (hv : iR v) (hlo : iR lo) (hhi : iR hi) : Ce l g yX0_isIn (ws_ yX0_isIn cX0_isIn 6 (Option.some Jvm.ClassFile.FieldType.boolean)) (rmL 1) [.long (lI v), .long (lI lo), .long (lI hi)] (ws) (if lo ≤ v ∧ v ≤ hi then 1 else 0) (ws) := by
  refine Ct.of (by decide) (Nat.le_of_ble_eq_true rfl) ?_
  intro Γ hl hg hf hrT
  subst hl hg
  have hf : Fx Γ RX0 cX0_isIn 6 := hf
  show T Γ (rmL 1) 6 0 0 (Qe Γ (rmL 1) _) _ 0 [(0, .long (lI v)), (2, .long (lI lo)), (4, .long (lI hi))] []
  refine tt_lload_n hf 0 dX0_isIn_0 rfl ?_
  refine tt_lload_n hf 1 dX0_isIn_1 rfl ?_
  refine tt_lcmp (z := if lo < v then 1 else if v = lo then 0 else -1) hf dX0_isIn_2 (lI_cmp hv hlo) ?_
  obtain ⟨z1, ez1⟩ : ∃ z : Int, z = if lo < v then 1 else if v = lo then 0 else -1 := ⟨_, rfl⟩
  refine tt_top (z' := z1) ez1.symm ?_
  have fz1 : (z1 = 1 ∧ lo < v) ∨ (z1 = 0 ∧ v = lo) ∨ (z1 = -1 ∧ v < lo) := by rw [ez1]; split; omega; split <;> omega
  refine tt_if_lt (tgt := 17) hf dX0_isIn_3 (by decide) (by omega) (fun c3 => ?_) (fun c3 => ?_)
  · refine tt_iconst hf dX0_isIn_17 ?_
    exact tt_iretz hf hrT dX0_isIn_18 (Nat.le_refl _) (Nat.le_refl _) (by omega) ⟨(by first | rw [if_pos (by omega)] | rw [if_neg (by omega)]), rfl⟩
  · refine tt_lload_n hf 0 dX0_isIn_6 rfl ?_
    refine tt_lload hf 2 dX0_isIn_7 rfl ?_
    refine tt_lcmp (z := if hi < v then 1 else if v = hi then 0 else -1) hf dX0_isIn_9 (lI_cmp hv hhi) ?_
    obtain ⟨z2, ez2⟩ : ∃ z : Int, z = if hi < v then 1 else if v = hi then 0 else -1 := ⟨_, rfl⟩
    refine tt_top (z' := z2) ez2.symm ?_
    have fz2 : (z2 = 1 ∧ hi < v) ∨ (z2 = 0 ∧ v = hi) ∨ (z2 = -1 ∧ v < hi) := by rw [ez2]; split; omega; split <;> omega
    refine tt_if_gt (tgt := 17) hf dX0_isIn_10 (by decide) (by omega) (fun c10 => ?_) (fun c10 => ?_)
    · refine tt_iconst hf dX0_isIn_17 ?_
      exact tt_iretz hf hrT dX0_isIn_18 (Nat.le_refl _) (Nat.le_refl _) (by omega) ⟨(by first | rw [if_pos (by omega)] | rw [if_neg (by omega)]), rfl⟩
    · refine tt_iconst hf dX0_isIn_13 ?_
      refine tt_goto (tgt := 18) hf dX0_isIn_14 (by decide) ?_
      exact tt_iretz hf hrT dX0_isIn_18 (Nat.le_refl _) (Nat.le_refl _) (by omega) ⟨(by first | rw [if_pos (by omega)] | rw [if_neg (by omega)]), rfl⟩
set_option maxHeartbeats 4000000 in
set_option maxRecDepth 100000 in
theorem cx_isNumber {l : Launch} {g : tG} {o : Nat} {ax : Nat → Nat} {num kpt : Int → Option Nat} {many cols chg brd old : Int} {page : Int → Int} {pgM told enD : Int} {row : Int → Int} {ways far : Int} {hav : Int → Int} {wtd : Int} {fnd : Int → Int} {mdT wnT : Int} {sN sW sC : Int → Int} {sM drw : Int} {kN kW kC : Int → Int} {kS kG kB : Int} {hh : Int64} {L : List Nat} {mf : Nat → Nat × Int × Int × Int} {v : Int} (hv : iR v) (hm : 0 ≤ many ∧ many ≤ 10) : Ce l g yX0_isNumber (ws_ yX0_isNumber cX0_isNumber 2 (Option.some Jvm.ClassFile.FieldType.boolean)) (rmL 2) [.ref o, .int (iI v)] (xW g o ax num kpt many cols chg brd old page pgM told enD row ways far hav wtd fnd mdT wnT sN sW sC sM drw kN kW kC kS kG kB hh L mf) (if 1 ≤ v ∧ v ≤ many then 1 else 0) (xW g o ax num kpt many cols chg brd old page pgM told enD row ways far hav wtd fnd mdT wnT sN sW sC sM drw kN kW kC kS kG kB hh L mf) := by
  refine Ct.of (by decide) (Nat.le_of_ble_eq_true rfl) ?_
  intro Γ hl hg hf hrT
  subst hl hg
  have hf : Fx Γ RX0 cX0_isNumber 2 := hf
  show T Γ (rmL 2) 2 0 0 (Qe Γ (rmL 2) _) _ 0 [(0, .ref o), (1, .int (iI v))] []
  refine tt_iload_n hf 1 dX0_isNumber_0 rfl ?_
  refine tt_i2l hf dX0_isNumber_1 ?_
  refine tt_topl (x' := lI v) (lI_of (by omega)) ?_
  refine tt_lconst hf dX0_isNumber_2 ?_
  refine tt_topl (x' := lI 1) (by decide) ?_
  refine tt_aload_n hf 0 dX0_isNumber_3 rfl ?_
  refine gx_many hf dX0_isNumber_4 ?_
  refine tt_i2l hf dX0_isNumber_7 ?_
  refine tt_topl (x' := lI many) (lI_of (by omega)) ?_
  refine tt_callS0 (As := [.long (lI v), .long (lI 1), .long (lI many)]) (rest := []) hf (cx_isIn (v := v) (lo := 1) (hi := many) (by omega) (by omega) (by omega)) lk_X0_X0_isIn hd_X0_isIn rfl ⟨rfl, rfl⟩ (by decide) (by decide) (Nat.le_of_ble_eq_true rfl) dX0_isNumber_8 rfl (kk_e (fun r8 => ?_))
  exact tt_iretz hf hrT dX0_isNumber_11 (Nat.le_refl _) (Nat.le_refl _) (by split <;> omega) ⟨rfl, rfl⟩
set_option maxHeartbeats 4000000 in
set_option maxRecDepth 100000 in
theorem cx_isColour {l : Launch} {g : tG} {o : Nat} {ax : Nat → Nat} {num kpt : Int → Option Nat} {many cols chg brd old : Int} {page : Int → Int} {pgM told enD : Int} {row : Int → Int} {ways far : Int} {hav : Int → Int} {wtd : Int} {fnd : Int → Int} {mdT wnT : Int} {sN sW sC : Int → Int} {sM drw : Int} {kN kW kC : Int → Int} {kS kG kB : Int} {hh : Int64} {L : List Nat} {mf : Nat → Nat × Int × Int × Int} {v : Int} (hv : iR v) (hc : 0 ≤ cols ∧ cols ≤ 3) : Ce l g yX0_isColour (ws_ yX0_isColour cX0_isColour 2 (Option.some Jvm.ClassFile.FieldType.boolean)) (rmL 2) [.ref o, .int (iI v)] (xW g o ax num kpt many cols chg brd old page pgM told enD row ways far hav wtd fnd mdT wnT sN sW sC sM drw kN kW kC kS kG kB hh L mf) (if 0 ≤ v ∧ v ≤ cols - 1 then 1 else 0) (xW g o ax num kpt many cols chg brd old page pgM told enD row ways far hav wtd fnd mdT wnT sN sW sC sM drw kN kW kC kS kG kB hh L mf) := by
  refine Ct.of (by decide) (Nat.le_of_ble_eq_true rfl) ?_
  intro Γ hl hg hf hrT
  subst hl hg
  have hf : Fx Γ RX0 cX0_isColour 2 := hf
  show T Γ (rmL 2) 2 0 0 (Qe Γ (rmL 2) _) _ 0 [(0, .ref o), (1, .int (iI v))] []
  refine tt_iload_n hf 1 dX0_isColour_0 rfl ?_
  refine tt_i2l hf dX0_isColour_1 ?_
  refine tt_topl (x' := lI v) (lI_of (by omega)) ?_
  refine tt_lconst hf dX0_isColour_2 ?_
  refine tt_topl (x' := lI 0) (by decide) ?_
  refine tt_aload_n hf 0 dX0_isColour_3 rfl ?_
  refine gx_cols hf dX0_isColour_4 ?_
  refine tt_iconst hf dX0_isColour_7 ?_
  refine tt_isub hf dX0_isColour_8 ?_
  refine tt_i2l hf dX0_isColour_9 ?_
  refine tt_topl (x' := lI (cols - 1)) (lI_of (by omega)) ?_
  refine tt_callS0 (As := [.long (lI v), .long (lI 0), .long (lI (cols - 1))]) (rest := []) hf (cx_isIn (v := v) (lo := 0) (hi := (cols - 1)) (by omega) (by omega) (by omega)) lk_X0_X0_isIn hd_X0_isIn rfl ⟨rfl, rfl⟩ (by decide) (by decide) (Nat.le_of_ble_eq_true rfl) dX0_isColour_10 rfl (kk_e (fun r10 => ?_))
  exact tt_iretz hf hrT dX0_isColour_13 (Nat.le_refl _) (Nat.le_refl _) (by split <;> omega) ⟨rfl, rfl⟩
set_option maxHeartbeats 4000000 in
set_option maxRecDepth 100000 in
theorem cx_kindOf {l : Launch} {g : tG} {ws : va_W} {k : Int} (hk : iR k) : Ce l g yX0_kindOf (ws_ yX0_kindOf cX0_kindOf 1 (Option.some Jvm.ClassFile.FieldType.int)) (rmL 1) [.int (iI k)] (ws) (kb k) (ws) := by
  refine Ct.of (by decide) (Nat.le_of_ble_eq_true rfl) ?_
  intro Γ hl hg hf hrT
  subst hl hg
  have hf : Fx Γ RX0 cX0_kindOf 1 := hf
  show T Γ (rmL 1) 1 0 0 (Qe Γ (rmL 1) _) _ 0 [(0, .int (iI k))] []
  refine tt_iload_n hf 0 dX0_kindOf_0 rfl ?_
  by_cases s1_102 : k = 102
  · refine tt_tableIn (off := 75) (tgt := 76) hf dX0_kindOf_1 (by omega) (by omega) (by omega) (by rw [s1_102]; rfl) (by decide) ?_
    refine tt_iconst hf dX0_kindOf_76 ?_
    exact tt_ireti hf hrT dX0_kindOf_77 (Nat.le_refl _) (Nat.le_refl _) (by omega) ⟨(by unfold kb; first | rw [if_pos (by omega)] | rw [if_neg (by omega), if_pos (by omega)] | rw [if_neg (by omega), if_neg (by omega), if_pos (by omega)] | rw [if_neg (by omega), if_neg (by omega), if_neg (by omega), if_pos (by omega)] | rw [if_neg (by omega), if_neg (by omega), if_neg (by omega), if_neg (by omega), if_pos (by omega)] | rw [if_neg (by omega), if_neg (by omega), if_neg (by omega), if_neg (by omega), if_neg (by omega)]), rfl⟩
  by_cases s1_108 : k = 108
  · refine tt_tableIn (off := 73) (tgt := 74) hf dX0_kindOf_1 (by omega) (by omega) (by omega) (by rw [s1_108]; rfl) (by decide) ?_
    refine tt_iconst hf dX0_kindOf_74 ?_
    exact tt_ireti hf hrT dX0_kindOf_75 (Nat.le_refl _) (Nat.le_refl _) (by omega) ⟨(by unfold kb; first | rw [if_pos (by omega)] | rw [if_neg (by omega), if_pos (by omega)] | rw [if_neg (by omega), if_neg (by omega), if_pos (by omega)] | rw [if_neg (by omega), if_neg (by omega), if_neg (by omega), if_pos (by omega)] | rw [if_neg (by omega), if_neg (by omega), if_neg (by omega), if_neg (by omega), if_pos (by omega)] | rw [if_neg (by omega), if_neg (by omega), if_neg (by omega), if_neg (by omega), if_neg (by omega)]), rfl⟩
  by_cases s1_110 : k = 110
  · refine tt_tableIn (off := 71) (tgt := 72) hf dX0_kindOf_1 (by omega) (by omega) (by omega) (by rw [s1_110]; rfl) (by decide) ?_
    refine tt_iconst hf dX0_kindOf_72 ?_
    exact tt_ireti hf hrT dX0_kindOf_73 (Nat.le_refl _) (Nat.le_refl _) (by omega) ⟨(by unfold kb; first | rw [if_pos (by omega)] | rw [if_neg (by omega), if_pos (by omega)] | rw [if_neg (by omega), if_neg (by omega), if_pos (by omega)] | rw [if_neg (by omega), if_neg (by omega), if_neg (by omega), if_pos (by omega)] | rw [if_neg (by omega), if_neg (by omega), if_neg (by omega), if_neg (by omega), if_pos (by omega)] | rw [if_neg (by omega), if_neg (by omega), if_neg (by omega), if_neg (by omega), if_neg (by omega)]), rfl⟩
  by_cases s1_111 : k = 111
  · refine tt_tableIn (off := 79) (tgt := 80) hf dX0_kindOf_1 (by omega) (by omega) (by omega) (by rw [s1_111]; rfl) (by decide) ?_
    refine tt_iconst hf dX0_kindOf_80 ?_
    exact tt_ireti hf hrT dX0_kindOf_81 (Nat.le_refl _) (Nat.le_refl _) (by omega) ⟨(by unfold kb; first | rw [if_pos (by omega)] | rw [if_neg (by omega), if_pos (by omega)] | rw [if_neg (by omega), if_neg (by omega), if_pos (by omega)] | rw [if_neg (by omega), if_neg (by omega), if_neg (by omega), if_pos (by omega)] | rw [if_neg (by omega), if_neg (by omega), if_neg (by omega), if_neg (by omega), if_pos (by omega)] | rw [if_neg (by omega), if_neg (by omega), if_neg (by omega), if_neg (by omega), if_neg (by omega)]), rfl⟩
  by_cases s1_115 : k = 115
  · refine tt_tableIn (off := 77) (tgt := 78) hf dX0_kindOf_1 (by omega) (by omega) (by omega) (by rw [s1_115]; rfl) (by decide) ?_
    refine tt_iconst hf dX0_kindOf_78 ?_
    exact tt_ireti hf hrT dX0_kindOf_79 (Nat.le_refl _) (Nat.le_refl _) (by omega) ⟨(by unfold kb; first | rw [if_pos (by omega)] | rw [if_neg (by omega), if_pos (by omega)] | rw [if_neg (by omega), if_neg (by omega), if_pos (by omega)] | rw [if_neg (by omega), if_neg (by omega), if_neg (by omega), if_pos (by omega)] | rw [if_neg (by omega), if_neg (by omega), if_neg (by omega), if_neg (by omega), if_pos (by omega)] | rw [if_neg (by omega), if_neg (by omega), if_neg (by omega), if_neg (by omega), if_neg (by omega)]), rfl⟩
  by_cases s1_in : 102 ≤ k ∧ k ≤ 115
  · have hoff : (#[75, 81, 81, 81, 81, 81, 73, 81, 71, 79, 81, 81, 81, 77] : Array Int)[(k - 102).toNat]? = some 81 := by
      rcases (show k = 103 ∨ k = 104 ∨ k = 105 ∨ k = 106 ∨ k = 107 ∨ k = 109 ∨ k = 112 ∨ k = 113 ∨ k = 114 by omega) with e | e | e | e | e | e | e | e | e <;> rw [e] <;> rfl
    refine tt_tableIn (off := 81) (tgt := 82) hf dX0_kindOf_1 (by omega) (by omega) (by omega) hoff (by decide) ?_
    refine tt_iconst hf dX0_kindOf_82 ?_
    exact tt_ireti hf hrT dX0_kindOf_83 (Nat.le_refl _) (Nat.le_refl _) (by omega) ⟨(by unfold kb; first | rw [if_pos (by omega)] | rw [if_neg (by omega), if_pos (by omega)] | rw [if_neg (by omega), if_neg (by omega), if_pos (by omega)] | rw [if_neg (by omega), if_neg (by omega), if_neg (by omega), if_pos (by omega)] | rw [if_neg (by omega), if_neg (by omega), if_neg (by omega), if_neg (by omega), if_pos (by omega)] | rw [if_neg (by omega), if_neg (by omega), if_neg (by omega), if_neg (by omega), if_neg (by omega)]), rfl⟩
  · refine tt_tableOut (tgt := 82) hf dX0_kindOf_1 (by omega) (by omega) (by decide) ?_
    refine tt_iconst hf dX0_kindOf_82 ?_
    exact tt_ireti hf hrT dX0_kindOf_83 (Nat.le_refl _) (Nat.le_refl _) (by omega) ⟨(by unfold kb; first | rw [if_pos (by omega)] | rw [if_neg (by omega), if_pos (by omega)] | rw [if_neg (by omega), if_neg (by omega), if_pos (by omega)] | rw [if_neg (by omega), if_neg (by omega), if_neg (by omega), if_pos (by omega)] | rw [if_neg (by omega), if_neg (by omega), if_neg (by omega), if_neg (by omega), if_pos (by omega)] | rw [if_neg (by omega), if_neg (by omega), if_neg (by omega), if_neg (by omega), if_neg (by omega)]), rfl⟩
set_option maxHeartbeats 4000000 in
set_option maxRecDepth 100000 in
theorem cx_letter {l : Launch} {g : tG} {o : Nat} {ax : Nat → Nat} {num kpt : Int → Option Nat} {many cols chg brd old : Int} {page : Int → Int} {pgM told enD : Int} {row : Int → Int} {ways far : Int} {hav : Int → Int} {wtd : Int} {fnd : Int → Int} {mdT wnT : Int} {sN sW sC : Int → Int} {sM drw : Int} {kN kW kC : Int → Int} {kS kG kB : Int} {hh : Int64} {L : List Nat} {mf : Nat → Nat × Int × Int × Int} {v : Int} (hpg : 0 ≤ pgM ∧ pgM ≤ 26) (hpv : ∀ i, 0 ≤ page i ∧ page i ≤ 126) (hv : iR v) : Ce l g yX0_letter (ws_ yX0_letter cX0_letter 2 (Option.some Jvm.ClassFile.FieldType.int)) (rmL 2) [.ref o, .int (iI v)] (xW g o ax num kpt many cols chg brd old page pgM told enD row ways far hav wtd fnd mdT wnT sN sW sC sM drw kN kW kC kS kG kB hh L mf) (if (32 ≤ v ∧ v ≤ 126) ∧ pgM ≠ 26 then pgM + 1 else if 32 ≤ v ∧ v ≤ 126 then -104 else -102) (xW g o ax num kpt many cols chg brd old (if (32 ≤ v ∧ v ≤ 126) ∧ pgM ≠ 26 then uI page pgM v else page) (if (32 ≤ v ∧ v ≤ 126) ∧ pgM ≠ 26 then pgM + 1 else pgM) told enD row ways far hav wtd fnd mdT wnT sN sW sC sM drw kN kW kC kS kG kB hh L mf) := by
  refine Ct.of (by decide) (Nat.le_of_ble_eq_true rfl) ?_
  intro Γ hl hg hf hrT
  subst hl hg
  have hf : Fx Γ RX0 cX0_letter 2 := hf
  show T Γ (rmL 2) 2 0 0 (Qe Γ (rmL 2) _) _ 0 [(0, .ref o), (1, .int (iI v))] []
  refine tt_iload_n hf 1 dX0_letter_0 rfl ?_
  refine tt_i2l hf dX0_letter_1 ?_
  refine tt_topl (x' := lI v) (lI_of (by omega)) ?_
  refine tt_ldc2 hf q265 dX0_letter_2 ?_
  refine tt_topl (x' := lI 32) (by decide) ?_
  refine tt_ldc2 hf q266 dX0_letter_5 ?_
  refine tt_topl (x' := lI 126) (by decide) ?_
  refine tt_callS0 (As := [.long (lI v), .long (lI 32), .long (lI 126)]) (rest := []) hf (cx_isIn (v := v) (lo := 32) (hi := 126) (by omega) (by omega) (by omega)) lk_X0_X0_isIn hd_X0_isIn rfl ⟨rfl, rfl⟩ (by decide) (by decide) (Nat.le_of_ble_eq_true rfl) dX0_letter_8 rfl (kk_e (fun r8 => ?_))
  refine tt_ifb_ne (tgt := 17) hf dX0_letter_11 (by decide) (fun c11 => ?_) (fun c11 => ?_)
  · refine tt_aload_n hf 0 dX0_letter_17 rfl ?_
    refine gx_pgM hf dX0_letter_18 ?_
    refine tt_bipush hf dX0_letter_21 (by decide) ?_
    refine tt_icmp_ne (tgt := 29) hf dX0_letter_23 (by decide) (by omega) (by omega) (fun c23 => ?_) (fun c23 => ?_)
    · refine tt_aload_n hf 0 dX0_letter_29 rfl ?_
      refine gx_page hf dX0_letter_30 ?_
      refine tt_aload_n hf 0 dX0_letter_33 rfl ?_
      refine gx_pgM hf dX0_letter_34 ?_
      refine tt_iload_n hf 1 dX0_letter_37 rfl ?_
      refine sx_page hf (by omega) dX0_letter_38 ?_
      refine tt_aload_n hf 0 dX0_letter_39 rfl ?_
      refine tt_dup hf dX0_letter_40 rfl ?_
      refine gx_pgM hf dX0_letter_41 ?_
      refine tt_iconst hf dX0_letter_44 ?_
      refine tt_iadd hf dX0_letter_45 ?_
      refine px_pgM hf dX0_letter_46 ?_
      refine tt_aload_n hf 0 dX0_letter_49 rfl ?_
      refine gx_pgM hf dX0_letter_50 ?_
      exact tt_ireti hf hrT dX0_letter_53 (Nat.le_refl _) (Nat.le_refl _) (by omega) ⟨(by rw [if_pos ⟨c11, c23⟩]), (by rw [if_pos ⟨c11, c23⟩, if_pos ⟨c11, c23⟩])⟩
    · refine tt_bipush hf dX0_letter_26 (by decide) ?_
      exact tt_ireti hf hrT dX0_letter_28 (Nat.le_refl _) (Nat.le_refl _) (by omega) ⟨(by rw [if_neg (fun q => q.2 c23), if_pos c11]), (by rw [if_neg (fun q => q.2 c23), if_neg (fun q => q.2 c23)])⟩
  · refine tt_bipush hf dX0_letter_14 (by decide) ?_
    exact tt_ireti hf hrT dX0_letter_16 (Nat.le_refl _) (Nat.le_refl _) (by omega) ⟨(by rw [if_neg (fun q => c11 q.1), if_neg c11]), (by rw [if_neg (fun q => c11 q.1), if_neg (fun q => c11 q.1)])⟩
set_option maxHeartbeats 4000000 in
set_option maxRecDepth 100000 in
theorem cx_blank {l : Launch} {g : tG} {o : Nat} {ax : Nat → Nat} {num kpt : Int → Option Nat} {many cols chg brd old : Int} {page : Int → Int} {pgM told enD : Int} {row : Int → Int} {ways far : Int} {hav : Int → Int} {wtd : Int} {fnd : Int → Int} {mdT wnT : Int} {sN sW sC : Int → Int} {sM drw : Int} {kN kW kC : Int → Int} {kS kG kB : Int} {hh : Int64} {L : List Nat} {mf : Nat → Nat × Int × Int × Int}  (hpg : 0 ≤ pgM ∧ pgM ≤ 26) (hpv : ∀ i, 0 ≤ page i ∧ page i ≤ 126) : Ce l g yX0_blank (ws_ yX0_blank cX0_blank 2 (Option.some Jvm.ClassFile.FieldType.int)) (rmL 1) [.ref o] (xW g o ax num kpt many cols chg brd old page pgM told enD row ways far hav wtd fnd mdT wnT sN sW sC sM drw kN kW kC kS kG kB hh L mf) (pgM) (xW g o ax num kpt many cols chg brd old page 0 told enD row ways far hav wtd fnd mdT wnT sN sW sC sM drw kN kW kC kS kG kB hh L mf) := by
  refine Ct.of (by decide) (Nat.le_of_ble_eq_true rfl) ?_
  intro Γ hl hg hf hrT
  subst hl hg
  have hf : Fx Γ RX0 cX0_blank 2 := hf
  show T Γ (rmL 1) 2 0 0 (Qe Γ (rmL 1) _) _ 0 [(0, .ref o)] []
  refine tt_aload_n hf 0 dX0_blank_0 rfl ?_
  refine gx_pgM hf dX0_blank_1 ?_
  refine tt_istore_n (lv' := [(1, .int (iI pgM)), (0, .ref o)]) hf dX0_blank_4 (by decide) rfl ?_
  refine tt_aload_n hf 1 dX0_blank_5 rfl ?_
  refine tt_iconst hf dX0_blank_6 ?_
  refine px_pgM hf dX0_blank_7 ?_
  refine tt_iload_n hf 0 dX0_blank_10 rfl ?_
  exact tt_ireti hf hrT dX0_blank_11 (Nat.le_refl _) (Nat.le_refl _) (by omega) ⟨rfl, rfl⟩
set_option maxHeartbeats 4000000 in
set_option maxRecDepth 100000 in
theorem cx_layRow {l : Launch} {g : tG} {o : Nat} {ax : Nat → Nat} {num kpt : Int → Option Nat} {many cols chg brd old : Int} {page : Int → Int} {pgM told enD : Int} {row : Int → Int} {ways far : Int} {hav : Int → Int} {wtd : Int} {fnd : Int → Int} {mdT wnT : Int} {sN sW sC : Int → Int} {sM drw : Int} {kN kW kC : Int → Int} {kS kG kB : Int} {hh : Int64} {L : List Nat} {mf : Nat → Nat × Int × Int × Int}  (hm : 0 ≤ many ∧ many ≤ 10) (hB : xB many num L mf) : Cv l g yX0_layRow (ws_ yX0_layRow cX0_layRow 2 (Option.none : Option Jvm.ClassFile.FieldType)) (rmL 1) [.ref o] (xW g o ax num kpt many cols chg brd old page pgM told enD row ways far hav wtd fnd mdT wnT sN sW sC sM drw kN kW kC kS kG kB hh L mf) (fun w => w = xW g o ax num kpt many cols chg brd old page pgM told enD (mixF (many + 1) (xco num mf) row) ways far hav wtd fnd mdT wnT sN sW sC sM drw kN kW kC kS kG kB hh L mf) := by
  refine Ct.of (by decide) (Nat.le_of_ble_eq_true rfl) ?_
  intro Γ hl hg hf hrT
  subst hl hg
  have hf : Fx Γ RX0 cX0_layRow 2 := hf
  show T Γ (rmL 1) 2 0 0 (Qe Γ (rmL 1) _) _ 0 [(0, .ref o)] []
  have lp : ∀ (N : Nat) (i : Int) (rr : Int → Int), (1 ≤ i ∧ i ≤ many + 1) → (rr = mixF i (xco num mf) row) → (11 - i).toNat < N → T Γ (rmL 1) 2 0 0 (Qe Γ (rmL 1) (fun vv w => vv = none ∧ w = xW (xg Γ) o ax num kpt many cols chg brd old page pgM told enD (mixF (many + 1) (xco num mf) row) ways far hav wtd fnd mdT wnT sN sW sC sM drw kN kW kC kS kG kB hh L mf)) (xW (xg Γ) o ax num kpt many cols chg brd old page pgM told enD rr ways far hav wtd fnd mdT wnT sN sW sC sM drw kN kW kC kS kG kB hh L mf) 2 [(0, .ref o), (1, .int (iI i))] [] := by
    intro N
    induction N with
    | zero => intro i rr hi hr hN; exact absurd hN (Nat.not_lt_zero _)
    | succ N ih =>
      intro i rr hi hr hN
      refine tt_iload_n hf 1 dX0_layRow_2 rfl ?_
      refine tt_aload_n hf 0 dX0_layRow_3 rfl ?_
      refine gx_many hf dX0_layRow_4 ?_
      refine tt_icmp_gt (tgt := 31) hf dX0_layRow_7 (by decide) (by omega) (by omega) (fun c7 => ?_) (fun c7 => ?_)
      · exact tt_vretv hf hrT dX0_layRow_31 (Nat.le_refl _) (Nat.le_refl _) (by rw [hr, show i = many + 1 by omega])
      · refine tt_aload_n hf 0 dX0_layRow_10 rfl ?_
        refine gx_row hf dX0_layRow_11 ?_
        refine tt_iload_n hf 1 dX0_layRow_14 rfl ?_
        refine tt_aload_n hf 0 dX0_layRow_15 rfl ?_
        refine gx_num hf dX0_layRow_16 ?_
        refine tt_iload_n hf 1 dX0_layRow_19 rfl ?_
        obtain ⟨a1, ha1, ma1, ka1, na1, ca1⟩ := hB.at (n := i) (by omega) (by omega)
        refine lx_num hf (by omega) ha1 dX0_layRow_20 ?_
        refine gm_colour hf ma1 ka1 dX0_layRow_21 ?_
        refine sx_row hf (by omega) dX0_layRow_24 ?_
        refine tt_iinc (lv' := [(1, .int (iI (i + 1))), (0, .ref o)]) hf 1 dX0_layRow_25 rfl (by decide) rfl ?_
        refine tt_goto (tgt := 2) hf dX0_layRow_28 (by decide) ?_
        refine tt_sub [1, 0] rfl ?_
        exact ih (i + 1) (uI rr i ((mf a1).2.2.1)) (by omega) (by rw [hr]; exact mixF_s (by omega) (xco_at ha1).symm) (by omega)
  refine tt_iconst hf dX0_layRow_0 ?_
  refine tt_istore_n (lv' := [(1, .int (iI 1)), (0, .ref o)]) hf dX0_layRow_1 (by decide) rfl ?_
  refine tt_sub [1, 0] rfl ?_
  exact lp _ 1 row (by omega) mixF_1.symm (Nat.lt_succ_self _)
set_option maxHeartbeats 4000000 in
set_option maxRecDepth 100000 in
theorem cx_isBad {l : Launch} {g : tG} {o : Nat} {ax : Nat → Nat} {num kpt : Int → Option Nat} {many cols chg brd old : Int} {page : Int → Int} {pgM told enD : Int} {row : Int → Int} {ways far : Int} {hav : Int → Int} {wtd : Int} {fnd : Int → Int} {mdT wnT : Int} {sN sW sC : Int → Int} {sM drw : Int} {kN kW kC : Int → Int} {kS kG kB : Int} {hh : Int64} {L : List Nat} {mf : Nat → Nat × Int × Int × Int} {a b : Int} (hm : 0 ≤ many ∧ many ≤ 10) (hB : xB many num L mf) (hrow : ∀ i, -1 ≤ row i ∧ row i ≤ 2) (ha : 1 ≤ a) (hb : 1 ≤ b) (hs : a + b ≤ many) : Ce l g yX0_isBad (ws_ yX0_isBad cX0_isBad 5 (Option.some Jvm.ClassFile.FieldType.boolean)) (rmL 5) [.ref o, .int (iI a), .int (iI b)] (xW g o ax num kpt many cols chg brd old page pgM told enD row ways far hav wtd fnd mdT wnT sN sW sC sM drw kN kW kC kS kG kB hh L mf) (if isB (xkd num mf) row a b then 1 else 0) (xW g o ax num kpt many cols chg brd old page pgM told enD row ways far hav wtd fnd mdT wnT sN sW sC sM drw kN kW kC kS kG kB hh L mf) := by
  refine Ct.of (by decide) (Nat.le_of_ble_eq_true rfl) ?_
  intro Γ hl hg hf hrT
  subst hl hg
  have hf : Fx Γ RX0 cX0_isBad 5 := hf
  show T Γ (rmL 5) 5 0 0 (Qe Γ (rmL 5) _) _ 0 [(0, .ref o), (1, .int (iI a)), (2, .int (iI b))] []
  have n1 := hrow a
  have n2 := hrow b
  have n3 := hrow (a + b)
  obtain ⟨a1, ha1, ma1, ka1, na1, ca1⟩ := hB.at (n := a) (by omega) (by omega)
  obtain ⟨a2, ha2, ma2, ka2, na2, ca2⟩ := hB.at (n := b) (by omega) (by omega)
  obtain ⟨a3, ha3, ma3, ka3, na3, ca3⟩ := hB.at (n := a + b) (by omega) (by omega)
  have x1 := xkd_at (mf := mf) ha1
  have x2 := xkd_at (mf := mf) ha2
  have x3 := xkd_at (mf := mf) ha3
  refine tt_iload_n hf 1 dX0_isBad_0 rfl ?_
  refine tt_iload_n hf 2 dX0_isBad_1 rfl ?_
  refine tt_iadd hf dX0_isBad_2 ?_
  refine tt_istore_n (lv' := [(3, .int (iI (a + b))), (0, .ref o), (1, .int (iI a)), (2, .int (iI b))]) hf dX0_isBad_3 (by decide) rfl ?_
  refine tt_aload_n hf 1 dX0_isBad_4 rfl ?_
  refine gx_row hf dX0_isBad_5 ?_
  refine tt_iload_n hf 2 dX0_isBad_8 rfl ?_
  refine lx_row hf (by omega) dX0_isBad_9 ?_
  refine tt_iconst hf dX0_isBad_10 ?_
  refine tt_icmp_eq (tgt := 48) hf dX0_isBad_11 (by decide) (by omega) (by omega) (fun c11 => ?_) (fun c11 => ?_)
  · refine tt_iconst hf dX0_isBad_48 ?_
    refine tt_istore (lv' := [(4, .int (iI 0)), (3, .int (iI (a + b))), (0, .ref o), (1, .int (iI a)), (2, .int (iI b))]) hf dX0_isBad_49 (by decide) rfl ?_
    refine tt_iload hf 0 dX0_isBad_51 rfl ?_
    refine tt_if_eq (tgt := 106) hf dX0_isBad_53 (by decide) (by omega) (fun _ => ?_) (fun c => absurd c (by decide))
    refine tt_iconst hf dX0_isBad_106 ?_
    exact tt_iretz hf hrT dX0_isBad_107 (Nat.le_refl _) (Nat.le_refl _) (by omega) ⟨(by first | rw [if_neg (by unfold isB prt mnd at *; omega)] | rw [if_pos (by unfold isB prt mnd at *; omega)]), rfl⟩
  · refine tt_aload_n hf 1 dX0_isBad_14 rfl ?_
    refine gx_row hf dX0_isBad_15 ?_
    refine tt_iload_n hf 2 dX0_isBad_18 rfl ?_
    refine lx_row hf (by omega) dX0_isBad_19 ?_
    refine tt_aload_n hf 1 dX0_isBad_20 rfl ?_
    refine gx_row hf dX0_isBad_21 ?_
    refine tt_iload_n hf 3 dX0_isBad_24 rfl ?_
    refine lx_row hf (by omega) dX0_isBad_25 ?_
    refine tt_icmp_ne (tgt := 48) hf dX0_isBad_26 (by decide) (by omega) (by omega) (fun c26 => ?_) (fun c26 => ?_)
    · refine tt_iconst hf dX0_isBad_48 ?_
      refine tt_istore (lv' := [(4, .int (iI 0)), (3, .int (iI (a + b))), (0, .ref o), (1, .int (iI a)), (2, .int (iI b))]) hf dX0_isBad_49 (by decide) rfl ?_
      refine tt_iload hf 0 dX0_isBad_51 rfl ?_
      refine tt_if_eq (tgt := 106) hf dX0_isBad_53 (by decide) (by omega) (fun _ => ?_) (fun c => absurd c (by decide))
      refine tt_iconst hf dX0_isBad_106 ?_
      exact tt_iretz hf hrT dX0_isBad_107 (Nat.le_refl _) (Nat.le_refl _) (by omega) ⟨(by first | rw [if_neg (by unfold isB prt mnd at *; omega)] | rw [if_pos (by unfold isB prt mnd at *; omega)]), rfl⟩
    · refine tt_aload_n hf 1 dX0_isBad_29 rfl ?_
      refine gx_row hf dX0_isBad_30 ?_
      refine tt_iload_n hf 2 dX0_isBad_33 rfl ?_
      refine lx_row hf (by omega) dX0_isBad_34 ?_
      refine tt_aload_n hf 1 dX0_isBad_35 rfl ?_
      refine gx_row hf dX0_isBad_36 ?_
      refine tt_iload_n hf 0 dX0_isBad_39 rfl ?_
      refine lx_row hf (by omega) dX0_isBad_40 ?_
      refine tt_icmp_ne (tgt := 48) hf dX0_isBad_41 (by decide) (by omega) (by omega) (fun c41 => ?_) (fun c41 => ?_)
      · refine tt_iconst hf dX0_isBad_48 ?_
        refine tt_istore (lv' := [(4, .int (iI 0)), (3, .int (iI (a + b))), (0, .ref o), (1, .int (iI a)), (2, .int (iI b))]) hf dX0_isBad_49 (by decide) rfl ?_
        refine tt_iload hf 0 dX0_isBad_51 rfl ?_
        refine tt_if_eq (tgt := 106) hf dX0_isBad_53 (by decide) (by omega) (fun _ => ?_) (fun c => absurd c (by decide))
        refine tt_iconst hf dX0_isBad_106 ?_
        exact tt_iretz hf hrT dX0_isBad_107 (Nat.le_refl _) (Nat.le_refl _) (by omega) ⟨(by first | rw [if_neg (by unfold isB prt mnd at *; omega)] | rw [if_pos (by unfold isB prt mnd at *; omega)]), rfl⟩
      · refine tt_iconst hf dX0_isBad_44 ?_
        refine tt_goto (tgt := 49) hf dX0_isBad_45 (by decide) ?_
        refine tt_istore (lv' := [(4, .int (iI 1)), (3, .int (iI (a + b))), (0, .ref o), (1, .int (iI a)), (2, .int (iI b))]) hf dX0_isBad_49 (by decide) rfl ?_
        refine tt_iload hf 0 dX0_isBad_51 rfl ?_
        refine tt_if_eq (tgt := 106) hf dX0_isBad_53 (by decide) (by omega) (fun c => absurd c (by decide)) (fun _ => ?_)
        refine tt_aload_n hf 2 dX0_isBad_56 rfl ?_
        refine gx_num hf dX0_isBad_57 ?_
        refine tt_iload_n hf 3 dX0_isBad_60 rfl ?_
        refine lx_num hf (by omega) ha1 dX0_isBad_61 ?_
        refine xm_isPart hf ma1 ka1 (by decide) (by decide) (Nat.le_of_ble_eq_true rfl) dX0_isBad_62 ?_
        refine tt_ifb_eq (tgt := 106) hf dX0_isBad_65 (by decide) (fun c65 => ?_) (fun c65 => ?_)
        · refine tt_iconst hf dX0_isBad_106 ?_
          exact tt_iretz hf hrT dX0_isBad_107 (Nat.le_refl _) (Nat.le_refl _) (by omega) ⟨(by first | rw [if_neg (by unfold isB prt mnd at *; omega)] | rw [if_pos (by unfold isB prt mnd at *; omega)]), rfl⟩
        · refine tt_aload_n hf 2 dX0_isBad_68 rfl ?_
          refine gx_num hf dX0_isBad_69 ?_
          refine tt_iload_n hf 4 dX0_isBad_72 rfl ?_
          refine lx_num hf (by omega) ha2 dX0_isBad_73 ?_
          refine xm_isPart hf ma2 ka2 (by decide) (by decide) (Nat.le_of_ble_eq_true rfl) dX0_isBad_74 ?_
          refine tt_ifb_eq (tgt := 106) hf dX0_isBad_77 (by decide) (fun c77 => ?_) (fun c77 => ?_)
          · refine tt_iconst hf dX0_isBad_106 ?_
            exact tt_iretz hf hrT dX0_isBad_107 (Nat.le_refl _) (Nat.le_refl _) (by omega) ⟨(by first | rw [if_neg (by unfold isB prt mnd at *; omega)] | rw [if_pos (by unfold isB prt mnd at *; omega)]), rfl⟩
          · refine tt_aload_n hf 2 dX0_isBad_80 rfl ?_
            refine gx_num hf dX0_isBad_81 ?_
            refine tt_iload_n hf 1 dX0_isBad_84 rfl ?_
            refine lx_num hf (by omega) ha3 dX0_isBad_85 ?_
            refine tt_iload_n hf 3 dX0_isBad_86 rfl ?_
            refine tt_iload_n hf 4 dX0_isBad_87 rfl ?_
            refine tt_icmp_ne (tgt := 95) hf dX0_isBad_88 (by decide) (by omega) (by omega) (fun c88 => ?_) (fun c88 => ?_)
            · refine tt_iconst hf dX0_isBad_95 ?_
              refine xm_isMinding hf ma3 ka3 (by decide) (by decide) (by decide) (Nat.le_of_ble_eq_true rfl) dX0_isBad_96 ?_
              refine tt_ifb_eq (tgt := 106) hf dX0_isBad_99 (by decide) (fun c99 => ?_) (fun c99 => ?_)
              · refine tt_iconst hf dX0_isBad_106 ?_
                exact tt_iretz hf hrT dX0_isBad_107 (Nat.le_refl _) (Nat.le_refl _) (by omega) ⟨(by first | rw [if_neg (by unfold isB prt mnd at *; omega)] | rw [if_pos (by unfold isB prt mnd at *; omega)]), rfl⟩
              · refine tt_iconst hf dX0_isBad_102 ?_
                refine tt_goto (tgt := 107) hf dX0_isBad_103 (by decide) ?_
                exact tt_iretz hf hrT dX0_isBad_107 (Nat.le_refl _) (Nat.le_refl _) (by omega) ⟨(by first | rw [if_neg (by unfold isB prt mnd at *; omega)] | rw [if_pos (by unfold isB prt mnd at *; omega)]), rfl⟩
            · refine tt_iconst hf dX0_isBad_91 ?_
              refine tt_goto (tgt := 96) hf dX0_isBad_92 (by decide) ?_
              refine xm_isMinding hf ma3 ka3 (by decide) (by decide) (by decide) (Nat.le_of_ble_eq_true rfl) dX0_isBad_96 ?_
              refine tt_ifb_eq (tgt := 106) hf dX0_isBad_99 (by decide) (fun c99 => ?_) (fun c99 => ?_)
              · refine tt_iconst hf dX0_isBad_106 ?_
                exact tt_iretz hf hrT dX0_isBad_107 (Nat.le_refl _) (Nat.le_refl _) (by omega) ⟨(by first | rw [if_neg (by unfold isB prt mnd at *; omega)] | rw [if_pos (by unfold isB prt mnd at *; omega)]), rfl⟩
              · refine tt_iconst hf dX0_isBad_102 ?_
                refine tt_goto (tgt := 107) hf dX0_isBad_103 (by decide) ?_
                exact tt_iretz hf hrT dX0_isBad_107 (Nat.le_refl _) (Nat.le_refl _) (by omega) ⟨(by first | rw [if_neg (by unfold isB prt mnd at *; omega)] | rw [if_pos (by unfold isB prt mnd at *; omega)]), rfl⟩
set_option maxHeartbeats 4000000 in
set_option maxRecDepth 100000 in
theorem cx_badAt {l : Launch} {g : tG} {o : Nat} {ax : Nat → Nat} {num kpt : Int → Option Nat} {many cols chg brd old : Int} {page : Int → Int} {pgM told enD : Int} {row : Int → Int} {ways far : Int} {hav : Int → Int} {wtd : Int} {fnd : Int → Int} {mdT wnT : Int} {sN sW sC : Int → Int} {sM drw : Int} {kN kW kC : Int → Int} {kS kG kB : Int} {hh : Int64} {L : List Nat} {mf : Nat → Nat × Int × Int × Int} {s : Int} (hm : 0 ≤ many ∧ many ≤ 10) (hB : xB many num L mf) (hrow : ∀ i, -1 ≤ row i ∧ row i ≤ 2) (hs : 0 ≤ s ∧ s ≤ many) : Ce l g yX0_badAt (ws_ yX0_badAt cX0_badAt 4 (Option.some Jvm.ClassFile.FieldType.int)) (rmL 6) [.ref o, .int (iI s)] (xW g o ax num kpt many cols chg brd old page pgM told enD row ways far hav wtd fnd mdT wnT sN sW sC sM drw kN kW kC kS kG kB hh L mf) (bd (xkd num mf) row s) (xW g o ax num kpt many cols chg brd old page pgM told enD row ways far hav wtd fnd mdT wnT sN sW sC sM drw kN kW kC kS kG kB hh L mf) := by
  refine Ct.of (by decide) (Nat.le_of_ble_eq_true rfl) ?_
  intro Γ hl hg hf hrT
  subst hl hg
  have hf : Fx Γ RX0 cX0_badAt 4 := hf
  show T Γ (rmL 6) 4 0 0 (Qe Γ (rmL 6) _) _ 0 [(0, .ref o), (1, .int (iI s))] []
  have lp : ∀ (N : Nat) (b : Int) (i : Int), (1 ≤ i ∧ 2 * (i - 1) ≤ s) → (b = bdN (xkd num mf) row s (i - 1).toNat) → (11 - i).toNat < N → T Γ (rmL 6) 4 0 0 (Qe Γ (rmL 6) (fun vv w => ∃ r : Int, vv = some (.int (iI r)) ∧ iR r ∧ r = (bd (xkd num mf) row s) ∧ w = xW (xg Γ) o ax num kpt many cols chg brd old page pgM told enD row ways far hav wtd fnd mdT wnT sN sW sC sM drw kN kW kC kS kG kB hh L mf)) (xW (xg Γ) o ax num kpt many cols chg brd old page pgM told enD row ways far hav wtd fnd mdT wnT sN sW sC sM drw kN kW kC kS kG kB hh L mf) 4 [(0, .ref o), (1, .int (iI s)), (2, .int (iI b)), (3, .int (iI i))] [] := by
    intro N
    induction N with
    | zero => intro b i hi hb hN; exact absurd hN (Nat.not_lt_zero _)
    | succ N ih =>
      intro b i hi hb hN
      have hbr := bdN_rng (xkd num mf) row s (i - 1).toNat
      rw [← hb] at hbr
      refine tt_iconst hf dX0_badAt_4 ?_
      refine tt_iload_n hf 3 dX0_badAt_5 rfl ?_
      refine tt_imul hf dX0_badAt_6 ?_
      refine tt_iload_n hf 1 dX0_badAt_7 rfl ?_
      refine tt_icmp_gt (tgt := 36) hf dX0_badAt_8 (by decide) (by omega) (by omega) (fun c8 => ?_) (fun c8 => ?_)
      · refine tt_iload_n hf 2 dX0_badAt_36 rfl ?_
        exact tt_ireti hf hrT dX0_badAt_37 (Nat.le_refl _) (Nat.le_refl _) (by omega) ⟨(by have e : (i - 1).toNat = (s / 2).toNat := (by omega); rw [e] at hb; exact hb), rfl⟩
      · refine tt_iload_n hf 2 dX0_badAt_11 rfl ?_
        refine tt_aload_n hf 0 dX0_badAt_12 rfl ?_
        refine tt_iload_n hf 3 dX0_badAt_13 rfl ?_
        refine tt_iload_n hf 1 dX0_badAt_14 rfl ?_
        refine tt_iload_n hf 3 dX0_badAt_15 rfl ?_
        refine tt_isub hf dX0_badAt_16 ?_
        refine tt_callV0 (As := [.int (iI i), .int (iI (s - i))]) (rest := [.int (iI b)]) (q0 := 0) (ci := 0) hf (cx_isBad hm hB hrow (by omega) (by omega) (by omega)) lk_X0_X0_isBad hd_X0_isBad rfl rfl rfl ⟨rfl, rfl⟩ (by decide) (by decide) (Nat.le_of_ble_eq_true rfl) dX0_badAt_17 rfl (kk_e (fun r17 => ?_))
        refine tt_ifb_eq (tgt := 27) hf dX0_badAt_20 (by decide) (fun c20 => ?_) (fun c20 => ?_)
        · refine tt_iconst hf dX0_badAt_27 ?_
          refine tt_iadd hf dX0_badAt_28 ?_
          refine tt_istore_n (lv' := [(2, .int (iI (b + 0))), (0, .ref o), (1, .int (iI s)), (3, .int (iI i))]) hf dX0_badAt_29 (by decide) rfl ?_
          refine tt_iinc (lv' := [(3, .int (iI (i + 1))), (2, .int (iI (b + 0))), (0, .ref o), (1, .int (iI s))]) hf 3 dX0_badAt_30 rfl (by decide) rfl ?_
          refine tt_goto (tgt := 4) hf dX0_badAt_33 (by decide) ?_
          refine tt_sub [2, 3, 1, 0] rfl ?_
          exact ih (b + 0) (i + 1) (by omega) (by have e := bdN_s (xkd num mf) row s i (by omega); rw [Int.add_sub_cancel, e, ← hb]; first | rw [if_pos c20] | (rw [if_neg c20])) (by omega)
        · refine tt_iconst hf dX0_badAt_23 ?_
          refine tt_goto (tgt := 28) hf dX0_badAt_24 (by decide) ?_
          refine tt_iadd hf dX0_badAt_28 ?_
          refine tt_istore_n (lv' := [(2, .int (iI (b + 1))), (0, .ref o), (1, .int (iI s)), (3, .int (iI i))]) hf dX0_badAt_29 (by decide) rfl ?_
          refine tt_iinc (lv' := [(3, .int (iI (i + 1))), (2, .int (iI (b + 1))), (0, .ref o), (1, .int (iI s))]) hf 3 dX0_badAt_30 rfl (by decide) rfl ?_
          refine tt_goto (tgt := 4) hf dX0_badAt_33 (by decide) ?_
          refine tt_sub [2, 3, 1, 0] rfl ?_
          exact ih (b + 1) (i + 1) (by omega) (by have e := bdN_s (xkd num mf) row s i (by omega); rw [Int.add_sub_cancel, e, ← hb]; first | rw [if_pos c20] | (rw [if_neg c20])) (by omega)
  refine tt_iconst hf dX0_badAt_0 ?_
  refine tt_istore_n (lv' := [(2, .int (iI 0)), (0, .ref o), (1, .int (iI s))]) hf dX0_badAt_1 (by decide) rfl ?_
  refine tt_iconst hf dX0_badAt_2 ?_
  refine tt_istore_n (lv' := [(3, .int (iI 1)), (2, .int (iI 0)), (0, .ref o), (1, .int (iI s))]) hf dX0_badAt_3 (by decide) rfl ?_
  refine tt_sub [2, 3, 1, 0] rfl ?_
  exact lp _ 0 1 (by omega) rfl (Nat.lt_succ_self _)
set_option maxHeartbeats 4000000 in
set_option maxRecDepth 100000 in
theorem cx_badUpTo {l : Launch} {g : tG} {o : Nat} {ax : Nat → Nat} {num kpt : Int → Option Nat} {many cols chg brd old : Int} {page : Int → Int} {pgM told enD : Int} {row : Int → Int} {ways far : Int} {hav : Int → Int} {wtd : Int} {fnd : Int → Int} {mdT wnT : Int} {sN sW sC : Int → Int} {sM drw : Int} {kN kW kC : Int → Int} {kS kG kB : Int} {hh : Int64} {L : List Nat} {mf : Nat → Nat × Int × Int × Int} {s : Int} (hm : 0 ≤ many ∧ many ≤ 10) (hB : xB many num L mf) (hrow : ∀ i, -1 ≤ row i ∧ row i ≤ 2) (hs : 0 ≤ s ∧ s ≤ many) : Ce l g yX0_badUpTo (ws_ yX0_badUpTo cX0_badUpTo 4 (Option.some Jvm.ClassFile.FieldType.int)) (rmL 7) [.ref o, .int (iI s)] (xW g o ax num kpt many cols chg brd old page pgM told enD row ways far hav wtd fnd mdT wnT sN sW sC sM drw kN kW kC kS kG kB hh L mf) (bu (xkd num mf) row s.toNat) (xW g o ax num kpt many cols chg brd old page pgM told enD row ways far hav wtd fnd mdT wnT sN sW sC sM drw kN kW kC kS kG kB hh L mf) := by
  refine Ct.of (by decide) (Nat.le_of_ble_eq_true rfl) ?_
  intro Γ hl hg hf hrT
  subst hl hg
  have hf : Fx Γ RX0 cX0_badUpTo 4 := hf
  show T Γ (rmL 7) 4 0 0 (Qe Γ (rmL 7) _) _ 0 [(0, .ref o), (1, .int (iI s))] []
  have lp : ∀ (N : Nat) (b : Int) (i : Int), (1 ≤ i ∧ i ≤ s + 1) → (b = bu (xkd num mf) row (i - 1).toNat) → (11 - i).toNat < N → T Γ (rmL 7) 4 0 0 (Qe Γ (rmL 7) (fun vv w => ∃ r : Int, vv = some (.int (iI r)) ∧ iR r ∧ r = (bu (xkd num mf) row s.toNat) ∧ w = xW (xg Γ) o ax num kpt many cols chg brd old page pgM told enD row ways far hav wtd fnd mdT wnT sN sW sC sM drw kN kW kC kS kG kB hh L mf)) (xW (xg Γ) o ax num kpt many cols chg brd old page pgM told enD row ways far hav wtd fnd mdT wnT sN sW sC sM drw kN kW kC kS kG kB hh L mf) 4 [(0, .ref o), (1, .int (iI s)), (2, .int (iI b)), (3, .int (iI i))] [] := by
    intro N
    induction N with
    | zero => intro b i hi hb hN; exact absurd hN (Nat.not_lt_zero _)
    | succ N ih =>
      intro b i hi hb hN
      have hbr := bu_rng (xkd num mf) row (i - 1).toNat
      rw [← hb] at hbr
      have hbq : b ≤ 100 := by have : ((i - 1).toNat : Int) * ((i - 1).toNat : Int) ≤ 10 * 10 := Int.mul_le_mul (by omega) (by omega) (by omega) (by omega); omega
      have hbd := bd_rng (kd := (xkd num mf)) (row := row) (s := i) (by omega)
      refine tt_iload_n hf 3 dX0_badUpTo_4 rfl ?_
      refine tt_iload_n hf 1 dX0_badUpTo_5 rfl ?_
      refine tt_icmp_gt (tgt := 23) hf dX0_badUpTo_6 (by decide) (by omega) (by omega) (fun c6 => ?_) (fun c6 => ?_)
      · refine tt_iload_n hf 2 dX0_badUpTo_23 rfl ?_
        exact tt_ireti hf hrT dX0_badUpTo_24 (Nat.le_refl _) (Nat.le_refl _) (by omega) ⟨(by rw [hb, show i - 1 = s by omega]), rfl⟩
      · refine tt_iload_n hf 2 dX0_badUpTo_9 rfl ?_
        refine tt_aload_n hf 0 dX0_badUpTo_10 rfl ?_
        refine tt_iload_n hf 3 dX0_badUpTo_11 rfl ?_
        refine tt_callV0 (As := [.int (iI i)]) (rest := [.int (iI b)]) (q0 := 0) (ci := 0) hf (cx_badAt hm hB hrow (by omega)) lk_X0_X0_badAt hd_X0_badAt rfl rfl rfl ⟨rfl, rfl⟩ (by decide) (by decide) (Nat.le_of_ble_eq_true rfl) dX0_badUpTo_12 rfl (kk_e (fun r12 => ?_))
        refine tt_iadd hf dX0_badUpTo_15 ?_
        refine tt_istore_n (lv' := [(2, .int (iI (b + (bd (xkd num mf) row i)))), (0, .ref o), (1, .int (iI s)), (3, .int (iI i))]) hf dX0_badUpTo_16 (by decide) rfl ?_
        refine tt_iinc (lv' := [(3, .int (iI (i + 1))), (2, .int (iI (b + (bd (xkd num mf) row i)))), (0, .ref o), (1, .int (iI s))]) hf 3 dX0_badUpTo_17 rfl (by decide) rfl ?_
        refine tt_goto (tgt := 4) hf dX0_badUpTo_20 (by decide) ?_
        refine tt_sub [2, 3, 1, 0] rfl ?_
        exact ih (b + (bd (xkd num mf) row i)) (i + 1) (by omega) (by have e := bu_s (xkd num mf) row i (by omega); rw [Int.add_sub_cancel, e, ← hb]) (by omega)
  refine tt_iconst hf dX0_badUpTo_0 ?_
  refine tt_istore_n (lv' := [(2, .int (iI 0)), (0, .ref o), (1, .int (iI s))]) hf dX0_badUpTo_1 (by decide) rfl ?_
  refine tt_iconst hf dX0_badUpTo_2 ?_
  refine tt_istore_n (lv' := [(3, .int (iI 1)), (2, .int (iI 0)), (0, .ref o), (1, .int (iI s))]) hf dX0_badUpTo_3 (by decide) rfl ?_
  refine tt_sub [2, 3, 1, 0] rfl ?_
  exact lp _ 0 1 (by omega) rfl (Nat.lt_succ_self _)
theorem mixX_rng {a b : Int → Int} {i : Int} (h1 : ∀ n, -1 ≤ a n ∧ a n ≤ 2) (h2 : ∀ n, -1 ≤ b n ∧ b n ≤ 2) : ∀ n, -1 ≤ mixF i a b n ∧ mixF i a b n ≤ 2 := by
  intro n; unfold mixF; split
  · exact h1 n
  · exact h2 n
set_option maxHeartbeats 4000000 in
set_option maxRecDepth 100000 in
theorem cx_badNow {l : Launch} {g : tG} {o : Nat} {ax : Nat → Nat} {num kpt : Int → Option Nat} {many cols chg brd old : Int} {page : Int → Int} {pgM told enD : Int} {row : Int → Int} {ways far : Int} {hav : Int → Int} {wtd : Int} {fnd : Int → Int} {mdT wnT : Int} {sN sW sC : Int → Int} {sM drw : Int} {kN kW kC : Int → Int} {kS kG kB : Int} {hh : Int64} {L : List Nat} {mf : Nat → Nat × Int × Int × Int}  (hm : 0 ≤ many ∧ many ≤ 10) (hB : xB many num L mf) (hrow : ∀ i, -1 ≤ row i ∧ row i ≤ 2) : Ce l g yX0_badNow (ws_ yX0_badNow cX0_badNow 1 (Option.some Jvm.ClassFile.FieldType.int)) (rmL 8) [.ref o] (xW g o ax num kpt many cols chg brd old page pgM told enD row ways far hav wtd fnd mdT wnT sN sW sC sM drw kN kW kC kS kG kB hh L mf) (bu (xkd num mf) (xco num mf) many.toNat) (xW g o ax num kpt many cols chg brd old page pgM told enD (mixF (many + 1) (xco num mf) row) ways far hav wtd fnd mdT wnT sN sW sC sM drw kN kW kC kS kG kB hh L mf) := by
  refine Ct.of (by decide) (Nat.le_of_ble_eq_true rfl) ?_
  intro Γ hl hg hf hrT
  subst hl hg
  have hf : Fx Γ RX0 cX0_badNow 1 := hf
  show T Γ (rmL 8) 1 0 0 (Qe Γ (rmL 8) _) _ 0 [(0, .ref o)] []
  refine tt_aload_n hf 0 dX0_badNow_0 rfl ?_
  refine tt_callV0 (As := []) (rest := []) (q0 := 0) (ci := 0) hf (cx_layRow hm hB) lk_X0_X0_layRow hd_X0_layRow rfl rfl rfl ⟨rfl, rfl⟩ (by decide) (by decide) (Nat.le_of_ble_eq_true rfl) dX0_badNow_1 rfl (kk_v (fun w hw => ?_))
  subst hw
  refine tt_aload_n hf 0 dX0_badNow_4 rfl ?_
  refine tt_aload_n hf 0 dX0_badNow_5 rfl ?_
  refine gx_many hf dX0_badNow_6 ?_
  refine tt_callV0 (As := [.int (iI many)]) (rest := []) (q0 := 0) (ci := 0) hf (cx_badUpTo hm hB (mixX_rng (xco_rng hB) hrow) (by omega)) lk_X0_X0_badUpTo hd_X0_badUpTo rfl rfl rfl ⟨rfl, rfl⟩ (by decide) (by decide) (Nat.le_of_ble_eq_true rfl) dX0_badNow_9 rfl (kk_e (fun r9 => ?_))
  exact tt_ireti hf hrT dX0_badNow_12 (Nat.le_refl _) (Nat.le_refl _) (by have := bu_rng (xkd num mf) (mixF (many + 1) (xco num mf) row) many.toNat; have : (many.toNat : Int) * (many.toNat : Int) ≤ 10 * 10 := Int.mul_le_mul (by omega) (by omega) (by omega) (by omega); omega) ⟨(bu_cg _ (fun i h1 h2 => by unfold mixF; rw [if_pos (by omega)])), rfl⟩
