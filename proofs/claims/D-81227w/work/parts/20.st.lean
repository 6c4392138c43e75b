set_option maxHeartbeats 4000000 in
set_option maxRecDepth 100000 in
/-- within -/
theorem cm_within {l : Launch} {g : tG} {ws : va_W} {v lo hi : Int} (hv : iR v) (hlo : iR lo) (hhi : iR hi) : Ce l g yX6_within (ws_ yX6_within cX6_within 3 (Option.some Jvm.ClassFile.FieldType.boolean)) (rmL 1) [.int (iI v), .int (iI lo), .int (iI hi)] (ws) (if lo ≤ v ∧ v ≤ hi then 1 else 0) (ws) := by
  refine Ct.of (by decide) (Nat.le_of_ble_eq_true rfl) ?_
  intro Γ hl hg hf hrT
  subst hl hg
  have hf : Fx Γ RX6 cX6_within 3 := hf
  show T Γ (rmL 1) 3 0 0 (Qe Γ (rmL 1) _) _ 0 [(0, .int (iI v)), (1, .int (iI lo)), (2, .int (iI hi))] []
  refine tt_iload_n hf 0 dX6_within_0 rfl ?_
  refine tt_iload_n hf 1 dX6_within_1 rfl ?_
  refine tt_icmp_lt (tgt := 14) hf dX6_within_2 (by decide) (by omega) (by omega) (fun c2 => ?_) (fun c2 => ?_)
  · refine tt_iconst hf dX6_within_14 ?_
    exact tt_iretz hf hrT dX6_within_15 (Nat.le_refl _) (Nat.le_refl _) (by omega) ⟨(by first | rw [if_pos (by omega)] | rw [if_neg (by omega)]), rfl⟩
  · refine tt_iload_n hf 0 dX6_within_5 rfl ?_
    refine tt_iload_n hf 2 dX6_within_6 rfl ?_
    refine tt_icmp_gt (tgt := 14) hf dX6_within_7 (by decide) (by omega) (by omega) (fun c7 => ?_) (fun c7 => ?_)
    · refine tt_iconst hf dX6_within_14 ?_
      exact tt_iretz hf hrT dX6_within_15 (Nat.le_refl _) (Nat.le_refl _) (by omega) ⟨(by first | rw [if_pos (by omega)] | rw [if_neg (by omega)]), rfl⟩
    · refine tt_iconst hf dX6_within_10 ?_
      refine tt_goto (tgt := 15) hf dX6_within_11 (by decide) ?_
      exact tt_iretz hf hrT dX6_within_15 (Nat.le_refl _) (Nat.le_refl _) (by omega) ⟨(by first | rw [if_pos (by omega)] | rw [if_neg (by omega)]), rfl⟩
set_option maxHeartbeats 4000000 in
set_option maxRecDepth 100000 in
theorem cm_isNumber {l : Launch} {g : tG} {o : Nat} {ax : Nat → Nat} {brd many cols : Int} {kd co : Int → Int} {chg sM : Int} {sN sW sC : Int → Int} {pgM : Int} {page : Int → Int} {whl nwN : Int} {now oft wtd : Int → Int} {ways : Int} {svd trn cAt wAt : Int → Int} {seed : Int64} {isK kB kG kS : Int} {kK kO kN kW kC : Int → Int} {hh : Int64} {v : Int} (hv : iR v) (hm : 0 ≤ many ∧ many ≤ 10) : Ce l g yX6_isNumber (ws_ yX6_isNumber cX6_isNumber 2 (Option.some Jvm.ClassFile.FieldType.boolean)) (rmL 2) [.ref o, .int (iI v)] (mW g o ax brd many cols kd co chg sM sN sW sC pgM page whl nwN now oft wtd ways svd trn cAt wAt seed isK kB kG kS kK kO kN kW kC hh) (if 1 ≤ v ∧ v ≤ many then 1 else 0) (mW g o ax brd many cols kd co chg sM sN sW sC pgM page whl nwN now oft wtd ways svd trn cAt wAt seed isK kB kG kS kK kO kN kW kC hh) := by
  refine Ct.of (by decide) (Nat.le_of_ble_eq_true rfl) ?_
  intro Γ hl hg hf hrT
  subst hl hg
  have hf : Fx Γ RX6 cX6_isNumber 2 := hf
  show T Γ (rmL 2) 2 0 0 (Qe Γ (rmL 2) _) _ 0 [(0, .ref o), (1, .int (iI v))] []
  refine tt_iload_n hf 1 dX6_isNumber_0 rfl ?_
  refine tt_iconst hf dX6_isNumber_1 ?_
  refine tt_aload_n hf 0 dX6_isNumber_2 rfl ?_
  refine gm_many hf dX6_isNumber_3 ?_
  refine tt_callS0 (As := [.int (iI v), .int (iI 1), .int (iI many)]) (rest := []) hf (cm_within (by omega) (by omega) (by omega)) lk_X6_X6_within hd_X6_within rfl ⟨rfl, rfl⟩ (by decide) (by decide) (Nat.le_of_ble_eq_true rfl) dX6_isNumber_6 rfl (kk_e (fun r6 => ?_))
  exact tt_iretz hf hrT dX6_isNumber_9 (Nat.le_refl _) (Nat.le_refl _) (by split <;> omega) ⟨rfl, rfl⟩
set_option maxHeartbeats 4000000 in
set_option maxRecDepth 100000 in
theorem cm_isColour {l : Launch} {g : tG} {o : Nat} {ax : Nat → Nat} {brd many cols : Int} {kd co : Int → Int} {chg sM : Int} {sN sW sC : Int → Int} {pgM : Int} {page : Int → Int} {whl nwN : Int} {now oft wtd : Int → Int} {ways : Int} {svd trn cAt wAt : Int → Int} {seed : Int64} {isK kB kG kS : Int} {kK kO kN kW kC : Int → Int} {hh : Int64} {v : Int} (hv : iR v) (hc : 0 ≤ cols ∧ cols ≤ 3) : Ce l g yX6_isColour (ws_ yX6_isColour cX6_isColour 2 (Option.some Jvm.ClassFile.FieldType.boolean)) (rmL 2) [.ref o, .int (iI v)] (mW g o ax brd many cols kd co chg sM sN sW sC pgM page whl nwN now oft wtd ways svd trn cAt wAt seed isK kB kG kS kK kO kN kW kC hh) (if 0 ≤ v ∧ v ≤ cols - 1 then 1 else 0) (mW g o ax brd many cols kd co chg sM sN sW sC pgM page whl nwN now oft wtd ways svd trn cAt wAt seed isK kB kG kS kK kO kN kW kC hh) := by
  refine Ct.of (by decide) (Nat.le_of_ble_eq_true rfl) ?_
  intro Γ hl hg hf hrT
  subst hl hg
  have hf : Fx Γ RX6 cX6_isColour 2 := hf
  show T Γ (rmL 2) 2 0 0 (Qe Γ (rmL 2) _) _ 0 [(0, .ref o), (1, .int (iI v))] []
  refine tt_iload_n hf 1 dX6_isColour_0 rfl ?_
  refine tt_iconst hf dX6_isColour_1 ?_
  refine tt_aload_n hf 0 dX6_isColour_2 rfl ?_
  refine gm_cols hf dX6_isColour_3 ?_
  refine tt_iconst hf dX6_isColour_6 ?_
  refine tt_isub hf dX6_isColour_7 ?_
  refine tt_callS0 (As := [.int (iI v), .int (iI 0), .int (iI (cols - 1))]) (rest := []) hf (cm_within (by omega) (by omega) (by omega)) lk_X6_X6_within hd_X6_within rfl ⟨rfl, rfl⟩ (by decide) (by decide) (Nat.le_of_ble_eq_true rfl) dX6_isColour_8 rfl (kk_e (fun r8 => ?_))
  exact tt_iretz hf hrT dX6_isColour_11 (Nat.le_refl _) (Nat.le_refl _) (by split <;> omega) ⟨rfl, rfl⟩
set_option maxHeartbeats 4000000 in
set_option maxRecDepth 100000 in
theorem cm_isPart {l : Launch} {g : tG} {ws : va_W} {k : Int} (hk : iR k) : Ce l g yX6_isPart (ws_ yX6_isPart cX6_isPart 1 (Option.some Jvm.ClassFile.FieldType.boolean)) (rmL 1) [.int (iI k)] (ws) (if prt k then 1 else 0) (ws) := by
  refine Ct.of (by decide) (Nat.le_of_ble_eq_true rfl) ?_
  intro Γ hl hg hf hrT
  subst hl hg
  have hf : Fx Γ RX6 cX6_isPart 1 := hf
  show T Γ (rmL 1) 1 0 0 (Qe Γ (rmL 1) _) _ 0 [(0, .int (iI k))] []
  refine tt_iload_n hf 0 dX6_isPart_0 rfl ?_
  refine tt_iconst hf dX6_isPart_1 ?_
  refine tt_icmp_eq (tgt := 14) hf dX6_isPart_2 (by decide) (by omega) (by omega) (fun c2 => ?_) (fun c2 => ?_)
  · refine tt_iconst hf dX6_isPart_14 ?_
    exact tt_iretz hf hrT dX6_isPart_15 (Nat.le_refl _) (Nat.le_refl _) (by omega) ⟨(by first | rw [if_pos (by omega)] | rw [if_neg (by omega)]), rfl⟩
  · refine tt_iload_n hf 0 dX6_isPart_5 rfl ?_
    refine tt_iconst hf dX6_isPart_6 ?_
    refine tt_icmp_eq (tgt := 14) hf dX6_isPart_7 (by decide) (by omega) (by omega) (fun c7 => ?_) (fun c7 => ?_)
    · refine tt_iconst hf dX6_isPart_14 ?_
      exact tt_iretz hf hrT dX6_isPart_15 (Nat.le_refl _) (Nat.le_refl _) (by omega) ⟨(by first | rw [if_pos (by omega)] | rw [if_neg (by omega)]), rfl⟩
    · refine tt_iconst hf dX6_isPart_10 ?_
      refine tt_goto (tgt := 15) hf dX6_isPart_11 (by decide) ?_
      exact tt_iretz hf hrT dX6_isPart_15 (Nat.le_refl _) (Nat.le_refl _) (by omega) ⟨(by first | rw [if_pos (by omega)] | rw [if_neg (by omega)]), rfl⟩
set_option maxHeartbeats 4000000 in
set_option maxRecDepth 100000 in
theorem cm_minds {l : Launch} {g : tG} {ws : va_W} {k u : Int} (hk : iR k) (hu : u = 0 ∨ u = 1) : Ce l g yX6_minds (ws_ yX6_minds cX6_minds 2 (Option.some Jvm.ClassFile.FieldType.boolean)) (rmL 1) [.int (iI k), .int (iI u)] (ws) (if mnd k (u = 0) then 1 else 0) (ws) := by
  refine Ct.of (by decide) (Nat.le_of_ble_eq_true rfl) ?_
  intro Γ hl hg hf hrT
  subst hl hg
  have hf : Fx Γ RX6 cX6_minds 2 := hf
  show T Γ (rmL 1) 2 0 0 (Qe Γ (rmL 1) _) _ 0 [(0, .int (iI k)), (1, .int (iI u))] []
  refine tt_iload_n hf 0 dX6_minds_0 rfl ?_
  refine tt_if_eq (tgt := 18) hf dX6_minds_1 (by decide) (by omega) (fun c1 => ?_) (fun c1 => ?_)
  · refine tt_iconst hf dX6_minds_18 ?_
    refine tt_goto (tgt := 23) hf dX6_minds_19 (by decide) ?_
    exact tt_iretz hf hrT dX6_minds_23 (Nat.le_refl _) (Nat.le_refl _) (by omega) ⟨(by first | rw [if_pos (by omega)] | rw [if_neg (by omega)]), rfl⟩
  · refine tt_iload_n hf 0 dX6_minds_4 rfl ?_
    refine tt_iconst hf dX6_minds_5 ?_
    refine tt_icmp_eq (tgt := 18) hf dX6_minds_6 (by decide) (by omega) (by omega) (fun c6 => ?_) (fun c6 => ?_)
    · refine tt_iconst hf dX6_minds_18 ?_
      refine tt_goto (tgt := 23) hf dX6_minds_19 (by decide) ?_
      exact tt_iretz hf hrT dX6_minds_23 (Nat.le_refl _) (Nat.le_refl _) (by omega) ⟨(by first | rw [if_pos (by omega)] | rw [if_neg (by omega)]), rfl⟩
    · refine tt_iload_n hf 0 dX6_minds_9 rfl ?_
      refine tt_iconst hf dX6_minds_10 ?_
      refine tt_icmp_ne (tgt := 22) hf dX6_minds_11 (by decide) (by omega) (by omega) (fun c11 => ?_) (fun c11 => ?_)
      · refine tt_iconst hf dX6_minds_22 ?_
        exact tt_iretz hf hrT dX6_minds_23 (Nat.le_refl _) (Nat.le_refl _) (by omega) ⟨(by first | rw [if_pos (by omega)] | rw [if_neg (by omega)]), rfl⟩
      · refine tt_iload_n hf 1 dX6_minds_14 rfl ?_
        refine tt_if_eq (tgt := 22) hf dX6_minds_15 (by decide) (by omega) (fun c15 => ?_) (fun c15 => ?_)
        · refine tt_iconst hf dX6_minds_22 ?_
          exact tt_iretz hf hrT dX6_minds_23 (Nat.le_refl _) (Nat.le_refl _) (by omega) ⟨(by first | rw [if_pos (by omega)] | rw [if_neg (by omega)]), rfl⟩
        · refine tt_iconst hf dX6_minds_18 ?_
          refine tt_goto (tgt := 23) hf dX6_minds_19 (by decide) ?_
          exact tt_iretz hf hrT dX6_minds_23 (Nat.le_refl _) (Nat.le_refl _) (by omega) ⟨(by first | rw [if_pos (by omega)] | rw [if_neg (by omega)]), rfl⟩
set_option maxHeartbeats 4000000 in
set_option maxRecDepth 100000 in
theorem cm_isBad {l : Launch} {g : tG} {o : Nat} {ax : Nat → Nat} {brd many cols : Int} {kd co : Int → Int} {chg sM : Int} {sN sW sC : Int → Int} {pgM : Int} {page : Int → Int} {whl nwN : Int} {now oft wtd : Int → Int} {ways : Int} {svd trn cAt wAt : Int → Int} {seed : Int64} {isK kB kG kS : Int} {kK kO kN kW kC : Int → Int} {hh : Int64} {a b : Int} (hkd : ∀ i, 0 ≤ kd i ∧ kd i ≤ 4) (hnow : ∀ i, -1 ≤ now i ∧ now i ≤ 2) (ha : 1 ≤ a) (hb : 1 ≤ b) (hs : a + b ≤ 10) : Ce l g yX6_isBad (ws_ yX6_isBad cX6_isBad 5 (Option.some Jvm.ClassFile.FieldType.boolean)) (rmL 2) [.ref o, .int (iI a), .int (iI b)] (mW g o ax brd many cols kd co chg sM sN sW sC pgM page whl nwN now oft wtd ways svd trn cAt wAt seed isK kB kG kS kK kO kN kW kC hh) (if isB kd now a b then 1 else 0) (mW g o ax brd many cols kd co chg sM sN sW sC pgM page whl nwN now oft wtd ways svd trn cAt wAt seed isK kB kG kS kK kO kN kW kC hh) := by
  refine Ct.of (by decide) (Nat.le_of_ble_eq_true rfl) ?_
  intro Γ hl hg hf hrT
  subst hl hg
  have hf : Fx Γ RX6 cX6_isBad 5 := hf
  show T Γ (rmL 2) 5 0 0 (Qe Γ (rmL 2) _) _ 0 [(0, .ref o), (1, .int (iI a)), (2, .int (iI b))] []
  have k1 := hkd a
  have k2 := hkd b
  have k3 := hkd (a + b)
  have n1 := hnow a
  have n2 := hnow b
  have n3 := hnow (a + b)
  refine tt_iload_n hf 1 dX6_isBad_0 rfl ?_
  refine tt_iload_n hf 2 dX6_isBad_1 rfl ?_
  refine tt_iadd hf dX6_isBad_2 ?_
  refine tt_istore_n (lv' := [(3, .int (iI (a + b))), (0, .ref o), (1, .int (iI a)), (2, .int (iI b))]) hf dX6_isBad_3 (by decide) rfl ?_
  refine tt_aload_n hf 1 dX6_isBad_4 rfl ?_
  refine gm_now hf dX6_isBad_5 ?_
  refine tt_iload_n hf 2 dX6_isBad_8 rfl ?_
  refine lm_now hf (by omega) dX6_isBad_9 ?_
  refine tt_iconst hf dX6_isBad_10 ?_
  refine tt_icmp_eq (tgt := 48) hf dX6_isBad_11 (by decide) (by omega) (by omega) (fun c11 => ?_) (fun c11 => ?_)
  · refine tt_iconst hf dX6_isBad_48 ?_
    refine tt_istore (lv' := [(4, .int (iI 0)), (3, .int (iI (a + b))), (0, .ref o), (1, .int (iI a)), (2, .int (iI b))]) hf dX6_isBad_49 (by decide) rfl ?_
    refine tt_iload hf 0 dX6_isBad_51 rfl ?_
    refine tt_if_eq (tgt := 106) hf dX6_isBad_53 (by decide) (by omega) (fun _ => ?_) (fun c => absurd c (by decide))
    refine tt_iconst hf dX6_isBad_106 ?_
    exact tt_iretz hf hrT dX6_isBad_107 (Nat.le_refl _) (Nat.le_refl _) (by omega) ⟨(by first | rw [if_neg (by unfold isB prt mnd; omega)] | rw [if_pos (by unfold isB prt mnd; omega)]), rfl⟩
  · refine tt_aload_n hf 1 dX6_isBad_14 rfl ?_
    refine gm_now hf dX6_isBad_15 ?_
    refine tt_iload_n hf 2 dX6_isBad_18 rfl ?_
    refine lm_now hf (by omega) dX6_isBad_19 ?_
    refine tt_aload_n hf 1 dX6_isBad_20 rfl ?_
    refine gm_now hf dX6_isBad_21 ?_
    refine tt_iload_n hf 3 dX6_isBad_24 rfl ?_
    refine lm_now hf (by omega) dX6_isBad_25 ?_
    refine tt_icmp_ne (tgt := 48) hf dX6_isBad_26 (by decide) (by omega) (by omega) (fun c26 => ?_) (fun c26 => ?_)
    · refine tt_iconst hf dX6_isBad_48 ?_
      refine tt_istore (lv' := [(4, .int (iI 0)), (3, .int (iI (a + b))), (0, .ref o), (1, .int (iI a)), (2, .int (iI b))]) hf dX6_isBad_49 (by decide) rfl ?_
      refine tt_iload hf 0 dX6_isBad_51 rfl ?_
      refine tt_if_eq (tgt := 106) hf dX6_isBad_53 (by decide) (by omega) (fun _ => ?_) (fun c => absurd c (by decide))
      refine tt_iconst hf dX6_isBad_106 ?_
      exact tt_iretz hf hrT dX6_isBad_107 (Nat.le_refl _) (Nat.le_refl _) (by omega) ⟨(by first | rw [if_neg (by unfold isB prt mnd; omega)] | rw [if_pos (by unfold isB prt mnd; omega)]), rfl⟩
    · refine tt_aload_n hf 1 dX6_isBad_29 rfl ?_
      refine gm_now hf dX6_isBad_30 ?_
      refine tt_iload_n hf 2 dX6_isBad_33 rfl ?_
      refine lm_now hf (by omega) dX6_isBad_34 ?_
      refine tt_aload_n hf 1 dX6_isBad_35 rfl ?_
      refine gm_now hf dX6_isBad_36 ?_
      refine tt_iload_n hf 0 dX6_isBad_39 rfl ?_
      refine lm_now hf (by omega) dX6_isBad_40 ?_
      refine tt_icmp_ne (tgt := 48) hf dX6_isBad_41 (by decide) (by omega) (by omega) (fun c41 => ?_) (fun c41 => ?_)
      · refine tt_iconst hf dX6_isBad_48 ?_
        refine tt_istore (lv' := [(4, .int (iI 0)), (3, .int (iI (a + b))), (0, .ref o), (1, .int (iI a)), (2, .int (iI b))]) hf dX6_isBad_49 (by decide) rfl ?_
        refine tt_iload hf 0 dX6_isBad_51 rfl ?_
        refine tt_if_eq (tgt := 106) hf dX6_isBad_53 (by decide) (by omega) (fun _ => ?_) (fun c => absurd c (by decide))
        refine tt_iconst hf dX6_isBad_106 ?_
        exact tt_iretz hf hrT dX6_isBad_107 (Nat.le_refl _) (Nat.le_refl _) (by omega) ⟨(by first | rw [if_neg (by unfold isB prt mnd; omega)] | rw [if_pos (by unfold isB prt mnd; omega)]), rfl⟩
      · refine tt_iconst hf dX6_isBad_44 ?_
        refine tt_goto (tgt := 49) hf dX6_isBad_45 (by decide) ?_
        refine tt_istore (lv' := [(4, .int (iI 1)), (3, .int (iI (a + b))), (0, .ref o), (1, .int (iI a)), (2, .int (iI b))]) hf dX6_isBad_49 (by decide) rfl ?_
        refine tt_iload hf 0 dX6_isBad_51 rfl ?_
        refine tt_if_eq (tgt := 106) hf dX6_isBad_53 (by decide) (by omega) (fun c => absurd c (by decide)) (fun _ => ?_)
        refine tt_aload_n hf 2 dX6_isBad_56 rfl ?_
        refine gm_kd hf dX6_isBad_57 ?_
        refine tt_iload_n hf 3 dX6_isBad_60 rfl ?_
        refine lm_kd hf (by omega) dX6_isBad_61 ?_
        refine tt_callS0 (As := [.int (iI (kd a))]) (rest := []) hf (cm_isPart (by omega)) lk_X6_X6_isPart hd_X6_isPart rfl ⟨rfl, rfl⟩ (by decide) (by decide) (Nat.le_of_ble_eq_true rfl) dX6_isBad_62 rfl (kk_e (fun r62 => ?_))
        refine tt_ifb_eq (tgt := 106) hf dX6_isBad_65 (by decide) (fun c65 => ?_) (fun c65 => ?_)
        · refine tt_iconst hf dX6_isBad_106 ?_
          exact tt_iretz hf hrT dX6_isBad_107 (Nat.le_refl _) (Nat.le_refl _) (by omega) ⟨(by first | rw [if_neg (by unfold isB prt mnd; omega)] | rw [if_pos (by unfold isB prt mnd; omega)]), rfl⟩
        · refine tt_aload_n hf 2 dX6_isBad_68 rfl ?_
          refine gm_kd hf dX6_isBad_69 ?_
          refine tt_iload_n hf 4 dX6_isBad_72 rfl ?_
          refine lm_kd hf (by omega) dX6_isBad_73 ?_
          refine tt_callS0 (As := [.int (iI (kd b))]) (rest := []) hf (cm_isPart (by omega)) lk_X6_X6_isPart hd_X6_isPart rfl ⟨rfl, rfl⟩ (by decide) (by decide) (Nat.le_of_ble_eq_true rfl) dX6_isBad_74 rfl (kk_e (fun r74 => ?_))
          refine tt_ifb_eq (tgt := 106) hf dX6_isBad_77 (by decide) (fun c77 => ?_) (fun c77 => ?_)
          · refine tt_iconst hf dX6_isBad_106 ?_
            exact tt_iretz hf hrT dX6_isBad_107 (Nat.le_refl _) (Nat.le_refl _) (by omega) ⟨(by first | rw [if_neg (by unfold isB prt mnd; omega)] | rw [if_pos (by unfold isB prt mnd; omega)]), rfl⟩
          · refine tt_aload_n hf 2 dX6_isBad_80 rfl ?_
            refine gm_kd hf dX6_isBad_81 ?_
            refine tt_iload_n hf 1 dX6_isBad_84 rfl ?_
            refine lm_kd hf (by omega) dX6_isBad_85 ?_
            refine tt_iload_n hf 3 dX6_isBad_86 rfl ?_
            refine tt_iload_n hf 4 dX6_isBad_87 rfl ?_
            refine tt_icmp_eq (tgt := 95) hf dX6_isBad_88 (by decide) (by omega) (by omega) (fun c88 => ?_) (fun c88 => ?_)
            · refine tt_iconst hf dX6_isBad_95 ?_
              refine tt_callS0 (As := [.int (iI (kd (a + b))), .int (iI 0)]) (rest := []) hf (cm_minds (by omega) (by omega)) lk_X6_X6_minds hd_X6_minds rfl ⟨rfl, rfl⟩ (by decide) (by decide) (Nat.le_of_ble_eq_true rfl) dX6_isBad_96 rfl (kk_e (fun r96 => ?_))
              refine tt_ifb_eq (tgt := 106) hf dX6_isBad_99 (by decide) (fun c99 => ?_) (fun c99 => ?_)
              · refine tt_iconst hf dX6_isBad_106 ?_
                exact tt_iretz hf hrT dX6_isBad_107 (Nat.le_refl _) (Nat.le_refl _) (by omega) ⟨(by first | rw [if_neg (by unfold isB prt mnd; omega)] | rw [if_pos (by unfold isB prt mnd; omega)]), rfl⟩
              · refine tt_iconst hf dX6_isBad_102 ?_
                refine tt_goto (tgt := 107) hf dX6_isBad_103 (by decide) ?_
                exact tt_iretz hf hrT dX6_isBad_107 (Nat.le_refl _) (Nat.le_refl _) (by omega) ⟨(by first | rw [if_neg (by unfold isB prt mnd; omega)] | rw [if_pos (by unfold isB prt mnd; omega)]), rfl⟩
            · refine tt_iconst hf dX6_isBad_91 ?_
              refine tt_goto (tgt := 96) hf dX6_isBad_92 (by decide) ?_
              refine tt_callS0 (As := [.int (iI (kd (a + b))), .int (iI 1)]) (rest := []) hf (cm_minds (by omega) (by omega)) lk_X6_X6_minds hd_X6_minds rfl ⟨rfl, rfl⟩ (by decide) (by decide) (Nat.le_of_ble_eq_true rfl) dX6_isBad_96 rfl (kk_e (fun r96 => ?_))
              refine tt_ifb_eq (tgt := 106) hf dX6_isBad_99 (by decide) (fun c99 => ?_) (fun c99 => ?_)
              · refine tt_iconst hf dX6_isBad_106 ?_
                exact tt_iretz hf hrT dX6_isBad_107 (Nat.le_refl _) (Nat.le_refl _) (by omega) ⟨(by first | rw [if_neg (by unfold isB prt mnd; omega)] | rw [if_pos (by unfold isB prt mnd; omega)]), rfl⟩
              · refine tt_iconst hf dX6_isBad_102 ?_
                refine tt_goto (tgt := 107) hf dX6_isBad_103 (by decide) ?_
                exact tt_iretz hf hrT dX6_isBad_107 (Nat.le_refl _) (Nat.le_refl _) (by omega) ⟨(by first | rw [if_neg (by unfold isB prt mnd; omega)] | rw [if_pos (by unfold isB prt mnd; omega)]), rfl⟩
set_option maxHeartbeats 4000000 in
set_option maxRecDepth 100000 in
theorem cm_badWith {l : Launch} {g : tG} {o : Nat} {ax : Nat → Nat} {brd many cols : Int} {kd co : Int → Int} {chg sM : Int} {sN sW sC : Int → Int} {pgM : Int} {page : Int → Int} {whl nwN : Int} {now oft wtd : Int → Int} {ways : Int} {svd trn cAt wAt : Int → Int} {seed : Int64} {isK kB kG kS : Int} {kK kO kN kW kC : Int → Int} {hh : Int64} {s : Int} (hkd : ∀ i, 0 ≤ kd i ∧ kd i ≤ 4) (hnow : ∀ i, -1 ≤ now i ∧ now i ≤ 2) (hs : 0 ≤ s ∧ s ≤ 10) : Ce l g yX6_badWith (ws_ yX6_badWith cX6_badWith 4 (Option.some Jvm.ClassFile.FieldType.int)) (rmL 3) [.ref o, .int (iI s)] (mW g o ax brd many cols kd co chg sM sN sW sC pgM page whl nwN now oft wtd ways svd trn cAt wAt seed isK kB kG kS kK kO kN kW kC hh) (bd kd now s) (mW g o ax brd many cols kd co chg sM sN sW sC pgM page whl nwN now oft wtd ways svd trn cAt wAt seed isK kB kG kS kK kO kN kW kC hh) := by
  refine Ct.of (by decide) (Nat.le_of_ble_eq_true rfl) ?_
  intro Γ hl hg hf hrT
  subst hl hg
  have hf : Fx Γ RX6 cX6_badWith 4 := hf
  show T Γ (rmL 3) 4 0 0 (Qe Γ (rmL 3) _) _ 0 [(0, .ref o), (1, .int (iI s))] []
  have lp : ∀ (N : Nat) (b : Int) (i : Int), (1 ≤ i ∧ 2 * (i - 1) ≤ s) → (b = bdN kd now s (i - 1).toNat) → (11 - i).toNat < N → T Γ (rmL 3) 4 0 0 (Qe Γ (rmL 3) (fun vv w => ∃ r : Int, vv = some (.int (iI r)) ∧ iR r ∧ r = (bd kd now s) ∧ w = mW (xg Γ) o ax brd many cols kd co chg sM sN sW sC pgM page whl nwN now oft wtd ways svd trn cAt wAt seed isK kB kG kS kK kO kN kW kC hh)) (mW (xg Γ) o ax brd many cols kd co chg sM sN sW sC pgM page whl nwN now oft wtd ways svd trn cAt wAt seed isK kB kG kS kK kO kN kW kC hh) 4 [(0, .ref o), (1, .int (iI s)), (2, .int (iI b)), (3, .int (iI i))] [] := by
    intro N
    induction N with
    | zero => intro b i hi hb hN; exact absurd hN (Nat.not_lt_zero _)
    | succ N ih =>
      intro b i hi hb hN
      have hbr := bdN_rng kd now s (i - 1).toNat
      rw [← hb] at hbr
      refine tt_iload_n hf 3 dX6_badWith_4 rfl ?_
      refine tt_iload_n hf 1 dX6_badWith_5 rfl ?_
      refine tt_iload_n hf 3 dX6_badWith_6 rfl ?_
      refine tt_isub hf dX6_badWith_7 ?_
      refine tt_icmp_gt (tgt := 36) hf dX6_badWith_8 (by decide) (by omega) (by omega) (fun c8 => ?_) (fun c8 => ?_)
      · refine tt_iload_n hf 2 dX6_badWith_36 rfl ?_
        exact tt_ireti hf hrT dX6_badWith_37 (Nat.le_refl _) (Nat.le_refl _) (by omega) ⟨(by have e : (i - 1).toNat = (s / 2).toNat := (by omega); rw [e] at hb; exact hb), rfl⟩
      · refine tt_iload_n hf 2 dX6_badWith_11 rfl ?_
        refine tt_aload_n hf 0 dX6_badWith_12 rfl ?_
        refine tt_iload_n hf 3 dX6_badWith_13 rfl ?_
        refine tt_iload_n hf 1 dX6_badWith_14 rfl ?_
        refine tt_iload_n hf 3 dX6_badWith_15 rfl ?_
        refine tt_isub hf dX6_badWith_16 ?_
        refine tt_callV0 (As := [.int (iI i), .int (iI (s - i))]) (rest := [.int (iI b)]) (q0 := 0) (ci := 6) hf (cm_isBad hkd hnow (by omega) (by omega) (by omega)) lk_X6_X6_isBad hd_X6_isBad rfl rfl rfl ⟨rfl, rfl⟩ (by decide) (by decide) (Nat.le_of_ble_eq_true rfl) dX6_badWith_17 rfl (kk_e (fun r17 => ?_))
        refine tt_ifb_eq (tgt := 27) hf dX6_badWith_20 (by decide) (fun c20 => ?_) (fun c20 => ?_)
        · refine tt_iconst hf dX6_badWith_27 ?_
          refine tt_iadd hf dX6_badWith_28 ?_
          refine tt_istore_n (lv' := [(2, .int (iI (b + 0))), (0, .ref o), (1, .int (iI s)), (3, .int (iI i))]) hf dX6_badWith_29 (by decide) rfl ?_
          refine tt_iinc (lv' := [(3, .int (iI (i + 1))), (2, .int (iI (b + 0))), (0, .ref o), (1, .int (iI s))]) hf 3 dX6_badWith_30 rfl (by decide) rfl ?_
          refine tt_goto (tgt := 4) hf dX6_badWith_33 (by decide) ?_
          refine tt_sub [2, 3, 1, 0] rfl ?_
          exact ih (b + 0) (i + 1) (by omega) (by have e := bdN_s kd now s i (by omega); rw [Int.add_sub_cancel, e, ← hb]; first | rw [if_pos c20] | (rw [if_neg c20])) (by omega)
        · refine tt_iconst hf dX6_badWith_23 ?_
          refine tt_goto (tgt := 28) hf dX6_badWith_24 (by decide) ?_
          refine tt_iadd hf dX6_badWith_28 ?_
          refine tt_istore_n (lv' := [(2, .int (iI (b + 1))), (0, .ref o), (1, .int (iI s)), (3, .int (iI i))]) hf dX6_badWith_29 (by decide) rfl ?_
          refine tt_iinc (lv' := [(3, .int (iI (i + 1))), (2, .int (iI (b + 1))), (0, .ref o), (1, .int (iI s))]) hf 3 dX6_badWith_30 rfl (by decide) rfl ?_
          refine tt_goto (tgt := 4) hf dX6_badWith_33 (by decide) ?_
          refine tt_sub [2, 3, 1, 0] rfl ?_
          exact ih (b + 1) (i + 1) (by omega) (by have e := bdN_s kd now s i (by omega); rw [Int.add_sub_cancel, e, ← hb]; first | rw [if_pos c20] | (rw [if_neg c20])) (by omega)
  refine tt_iconst hf dX6_badWith_0 ?_
  refine tt_istore_n (lv' := [(2, .int (iI 0)), (0, .ref o), (1, .int (iI s))]) hf dX6_badWith_1 (by decide) rfl ?_
  refine tt_iconst hf dX6_badWith_2 ?_
  refine tt_istore_n (lv' := [(3, .int (iI 1)), (2, .int (iI 0)), (0, .ref o), (1, .int (iI s))]) hf dX6_badWith_3 (by decide) rfl ?_
  refine tt_sub [2, 3, 1, 0] rfl ?_
  exact lp _ 0 1 (by omega) rfl (Nat.lt_succ_self _)
set_option maxHeartbeats 4000000 in
set_option maxRecDepth 100000 in
theorem cm_badUpTo {l : Launch} {g : tG} {o : Nat} {ax : Nat → Nat} {brd many cols : Int} {kd co : Int → Int} {chg sM : Int} {sN sW sC : Int → Int} {pgM : Int} {page : Int → Int} {whl nwN : Int} {now oft wtd : Int → Int} {ways : Int} {svd trn cAt wAt : Int → Int} {seed : Int64} {isK kB kG kS : Int} {kK kO kN kW kC : Int → Int} {hh : Int64} {s : Int} (hkd : ∀ i, 0 ≤ kd i ∧ kd i ≤ 4) (hnow : ∀ i, -1 ≤ now i ∧ now i ≤ 2) (hs : 0 ≤ s ∧ s ≤ 10) : Ce l g yX6_badUpTo (ws_ yX6_badUpTo cX6_badUpTo 4 (Option.some Jvm.ClassFile.FieldType.int)) (rmL 4) [.ref o, .int (iI s)] (mW g o ax brd many cols kd co chg sM sN sW sC pgM page whl nwN now oft wtd ways svd trn cAt wAt seed isK kB kG kS kK kO kN kW kC hh) (bu kd now s.toNat) (mW g o ax brd many cols kd co chg sM sN sW sC pgM page whl nwN now oft wtd ways svd trn cAt wAt seed isK kB kG kS kK kO kN kW kC hh) := by
  refine Ct.of (by decide) (Nat.le_of_ble_eq_true rfl) ?_
  intro Γ hl hg hf hrT
  subst hl hg
  have hf : Fx Γ RX6 cX6_badUpTo 4 := hf
  show T Γ (rmL 4) 4 0 0 (Qe Γ (rmL 4) _) _ 0 [(0, .ref o), (1, .int (iI s))] []
  have lp : ∀ (N : Nat) (b : Int) (i : Int), (2 ≤ i ∧ (i ≤ s + 1 ∨ i = 2)) → (b = bu kd now (i - 1).toNat) → (11 - i).toNat < N → T Γ (rmL 4) 4 0 0 (Qe Γ (rmL 4) (fun vv w => ∃ r : Int, vv = some (.int (iI r)) ∧ iR r ∧ r = (bu kd now s.toNat) ∧ w = mW (xg Γ) o ax brd many cols kd co chg sM sN sW sC pgM page whl nwN now oft wtd ways svd trn cAt wAt seed isK kB kG kS kK kO kN kW kC hh)) (mW (xg Γ) o ax brd many cols kd co chg sM sN sW sC pgM page whl nwN now oft wtd ways svd trn cAt wAt seed isK kB kG kS kK kO kN kW kC hh) 4 [(0, .ref o), (1, .int (iI s)), (2, .int (iI b)), (3, .int (iI i))] [] := by
    intro N
    induction N with
    | zero => intro b i hi hb hN; exact absurd hN (Nat.not_lt_zero _)
    | succ N ih =>
      intro b i hi hb hN
      have hbr := bu_rng kd now (i - 1).toNat
      rw [← hb] at hbr
      have hbq : b ≤ 100 := by have : ((i - 1).toNat : Int) * ((i - 1).toNat : Int) ≤ 10 * 10 := Int.mul_le_mul (by omega) (by omega) (by omega) (by omega); omega
      have hbd := bd_rng (kd := kd) (row := now) (s := i) (by omega)
      refine tt_iload_n hf 3 dX6_badUpTo_4 rfl ?_
      refine tt_iload_n hf 1 dX6_badUpTo_5 rfl ?_
      refine tt_icmp_gt (tgt := 23) hf dX6_badUpTo_6 (by decide) (by omega) (by omega) (fun c6 => ?_) (fun c6 => ?_)
      · refine tt_iload_n hf 2 dX6_badUpTo_23 rfl ?_
        exact tt_ireti hf hrT dX6_badUpTo_24 (Nat.le_refl _) (Nat.le_refl _) (by omega) ⟨(hb.trans (bu_exit hs.1 (by omega) hi)), rfl⟩
      · refine tt_iload_n hf 2 dX6_badUpTo_9 rfl ?_
        refine tt_aload_n hf 0 dX6_badUpTo_10 rfl ?_
        refine tt_iload_n hf 3 dX6_badUpTo_11 rfl ?_
        refine tt_callV0 (As := [.int (iI i)]) (rest := [.int (iI b)]) (q0 := 0) (ci := 6) hf (cm_badWith hkd hnow (by omega)) lk_X6_X6_badWith hd_X6_badWith rfl rfl rfl ⟨rfl, rfl⟩ (by decide) (by decide) (Nat.le_of_ble_eq_true rfl) dX6_badUpTo_12 rfl (kk_e (fun r12 => ?_))
        refine tt_iadd hf dX6_badUpTo_15 ?_
        refine tt_istore_n (lv' := [(2, .int (iI (b + (bd kd now i)))), (0, .ref o), (1, .int (iI s)), (3, .int (iI i))]) hf dX6_badUpTo_16 (by decide) rfl ?_
        refine tt_iinc (lv' := [(3, .int (iI (i + 1))), (2, .int (iI (b + (bd kd now i)))), (0, .ref o), (1, .int (iI s))]) hf 3 dX6_badUpTo_17 rfl (by decide) rfl ?_
        refine tt_goto (tgt := 4) hf dX6_badUpTo_20 (by decide) ?_
        refine tt_sub [2, 3, 1, 0] rfl ?_
        exact ih (b + (bd kd now i)) (i + 1) (by omega) (by have e := bu_s kd now i (by omega); rw [Int.add_sub_cancel, e, ← hb]) (by omega)
  refine tt_iconst hf dX6_badUpTo_0 ?_
  refine tt_istore_n (lv' := [(2, .int (iI 0)), (0, .ref o), (1, .int (iI s))]) hf dX6_badUpTo_1 (by decide) rfl ?_
  refine tt_iconst hf dX6_badUpTo_2 ?_
  refine tt_istore_n (lv' := [(3, .int (iI 2)), (2, .int (iI 0)), (0, .ref o), (1, .int (iI s))]) hf dX6_badUpTo_3 (by decide) rfl ?_
  refine tt_sub [2, 3, 1, 0] rfl ?_
  exact lp _ 0 2 (by omega) (bu_1 kd now).symm (Nat.lt_succ_self _)
