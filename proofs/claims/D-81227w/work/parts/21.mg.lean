set_option maxHeartbeats 4000000 in
set_option maxRecDepth 100000 in
theorem cm_layNow {l : Launch} {g : tG} {o : Nat} {ax : Nat → Nat} {brd many cols : Int} {kd co : Int → Int} {chg sM : Int} {sN sW sC : Int → Int} {pgM : Int} {page : Int → Int} {whl nwN : Int} {now oft wtd : Int → Int} {ways : Int} {svd trn cAt wAt : Int → Int} {seed : Int64} {isK kB kG kS : Int} {kK kO kN kW kC : Int → Int} {hh : Int64}  (hm : 0 ≤ many ∧ many ≤ 10) : Cv l g yX6_layNow (ws_ yX6_layNow cX6_layNow 2 (Option.none : Option Jvm.ClassFile.FieldType)) (rmL 1) [.ref o] (mW g o ax brd many cols kd co chg sM sN sW sC pgM page whl nwN now oft wtd ways svd trn cAt wAt seed isK kB kG kS kK kO kN kW kC hh) (fun w => w = mW g o ax brd many cols kd co chg sM sN sW sC pgM page whl nwN (lay many co now) oft wtd ways svd trn cAt wAt seed isK kB kG kS kK kO kN kW kC hh) := by
  refine Ct.of (by decide) (Nat.le_of_ble_eq_true rfl) ?_
  intro Γ hl hg hf hrT
  subst hl hg
  have hf : Fx Γ RX6 cX6_layNow 2 := hf
  show T Γ (rmL 1) 2 0 0 (Qe Γ (rmL 1) _) _ 0 [(0, .ref o)] []
  have lp : ∀ (N : Nat) (i : Int) (nw : Int → Int), (1 ≤ i ∧ i ≤ 11) → (nw = layN i many co now) → (11 - i).toNat < N → T Γ (rmL 1) 2 0 0 (Qe Γ (rmL 1) (fun vv w => vv = none ∧ w = mW (xg Γ) o ax brd many cols kd co chg sM sN sW sC pgM page whl nwN (lay many co now) oft wtd ways svd trn cAt wAt seed isK kB kG kS kK kO kN kW kC hh)) (mW (xg Γ) o ax brd many cols kd co chg sM sN sW sC pgM page whl nwN nw oft wtd ways svd trn cAt wAt seed isK kB kG kS kK kO kN kW kC hh) 2 [(0, .ref o), (1, .int (iI i))] [] := by
    intro N
    induction N with
    | zero => intro i nw hi hw hN; exact absurd hN (Nat.not_lt_zero _)
    | succ N ih =>
      intro i nw hi hw hN
      refine tt_iload_n hf 1 dX6_layNow_2 rfl ?_
      refine tt_bipush hf dX6_layNow_3 (by decide) ?_
      refine tt_icmp_gt (tgt := 38) hf dX6_layNow_5 (by decide) (by omega) (by omega) (fun c5 => ?_) (fun c5 => ?_)
      · exact tt_vretv hf hrT dX6_layNow_38 (Nat.le_refl _) (Nat.le_refl _) (by have e : i = 11 := (by omega); subst e; rw [hw, layN_11])
      · refine tt_aload_n hf 0 dX6_layNow_8 rfl ?_
        refine gm_now hf dX6_layNow_9 ?_
        refine tt_iload_n hf 1 dX6_layNow_12 rfl ?_
        refine tt_iload_n hf 1 dX6_layNow_13 rfl ?_
        refine tt_aload_n hf 0 dX6_layNow_14 rfl ?_
        refine gm_many hf dX6_layNow_15 ?_
        refine tt_icmp_gt (tgt := 30) hf dX6_layNow_18 (by decide) (by omega) (by omega) (fun c18 => ?_) (fun c18 => ?_)
        · refine tt_iconst hf dX6_layNow_30 ?_
          refine sm_now hf (by omega) dX6_layNow_31 ?_
          refine tt_iinc (lv' := [(1, .int (iI (i + 1))), (0, .ref o)]) hf 1 dX6_layNow_32 rfl (by decide) rfl ?_
          refine tt_goto (tgt := 2) hf dX6_layNow_35 (by decide) ?_
          refine tt_sub [1, 0] rfl ?_
          exact ih (i + 1) (uI nw i (-1)) (by omega) (by rw [hw]; exact layN_s (by omega) (by rw [if_neg (by omega)])) (by omega)
        · refine tt_aload_n hf 0 dX6_layNow_21 rfl ?_
          refine gm_co hf dX6_layNow_22 ?_
          refine tt_iload_n hf 1 dX6_layNow_25 rfl ?_
          refine lm_co hf (by omega) dX6_layNow_26 ?_
          refine tt_goto (tgt := 31) hf dX6_layNow_27 (by decide) ?_
          refine sm_now hf (by omega) dX6_layNow_31 ?_
          refine tt_iinc (lv' := [(1, .int (iI (i + 1))), (0, .ref o)]) hf 1 dX6_layNow_32 rfl (by decide) rfl ?_
          refine tt_goto (tgt := 2) hf dX6_layNow_35 (by decide) ?_
          refine tt_sub [1, 0] rfl ?_
          exact ih (i + 1) (uI nw i (co i)) (by omega) (by rw [hw]; exact layN_s (by omega) (by rw [if_pos (by omega)])) (by omega)
  refine tt_iconst hf dX6_layNow_0 ?_
  refine tt_istore_n (lv' := [(1, .int (iI 1)), (0, .ref o)]) hf dX6_layNow_1 (by decide) rfl ?_
  refine tt_sub [1, 0] rfl ?_
  exact lp _ 1 now (by omega) layN_1.symm (Nat.lt_succ_self _)
set_option maxHeartbeats 4000000 in
set_option maxRecDepth 100000 in
theorem cm_badNow {l : Launch} {g : tG} {o : Nat} {ax : Nat → Nat} {brd many cols : Int} {kd co : Int → Int} {chg sM : Int} {sN sW sC : Int → Int} {pgM : Int} {page : Int → Int} {whl nwN : Int} {now oft wtd : Int → Int} {ways : Int} {svd trn cAt wAt : Int → Int} {seed : Int64} {isK kB kG kS : Int} {kK kO kN kW kC : Int → Int} {hh : Int64}  (hm : 0 ≤ many ∧ many ≤ 10) (hkd : ∀ i, 0 ≤ kd i ∧ kd i ≤ 4) (hnow : ∀ i, -1 ≤ now i ∧ now i ≤ 2) (hco : ∀ i, -1 ≤ co i ∧ co i ≤ 2) : Ce l g yX6_badNow (ws_ yX6_badNow cX6_badNow 1 (Option.some Jvm.ClassFile.FieldType.int)) (rmL 5) [.ref o] (mW g o ax brd many cols kd co chg sM sN sW sC pgM page whl nwN now oft wtd ways svd trn cAt wAt seed isK kB kG kS kK kO kN kW kC hh) (bu kd (lay many co now) many.toNat) (mW g o ax brd many cols kd co chg sM sN sW sC pgM page whl nwN (lay many co now) oft wtd ways svd trn cAt wAt seed isK kB kG kS kK kO kN kW kC hh) := by
  refine Ct.of (by decide) (Nat.le_of_ble_eq_true rfl) ?_
  intro Γ hl hg hf hrT
  subst hl hg
  have hf : Fx Γ RX6 cX6_badNow 1 := hf
  show T Γ (rmL 5) 1 0 0 (Qe Γ (rmL 5) _) _ 0 [(0, .ref o)] []
  refine tt_aload_n hf 0 dX6_badNow_0 rfl ?_
  refine tt_callV0 (As := []) (rest := []) (q0 := 0) (ci := 6) hf (cm_layNow hm) lk_X6_X6_layNow hd_X6_layNow rfl rfl rfl ⟨rfl, rfl⟩ (by decide) (by decide) (Nat.le_of_ble_eq_true rfl) dX6_badNow_1 rfl (kk_v (fun w hw => ?_))
  subst hw
  refine tt_aload_n hf 0 dX6_badNow_4 rfl ?_
  refine tt_aload_n hf 0 dX6_badNow_5 rfl ?_
  refine gm_many hf dX6_badNow_6 ?_
  refine tt_callV0 (As := [.int (iI many)]) (rest := []) (q0 := 0) (ci := 6) hf (cm_badUpTo hkd (lay_rng hco hnow) (by omega)) lk_X6_X6_badUpTo hd_X6_badUpTo rfl rfl rfl ⟨rfl, rfl⟩ (by decide) (by decide) (Nat.le_of_ble_eq_true rfl) dX6_badNow_9 rfl (kk_e (fun r9 => ?_))
  exact tt_ireti hf hrT dX6_badNow_12 (Nat.le_refl _) (Nat.le_refl _) (by omega) ⟨rfl, rfl⟩
set_option maxHeartbeats 4000000 in
set_option maxRecDepth 100000 in
theorem cm_turnBack {l : Launch} {g : tG} {o : Nat} {ax : Nat → Nat} {brd many cols : Int} {kd co : Int → Int} {chg sM : Int} {sN sW sC : Int → Int} {pgM : Int} {page : Int → Int} {whl nwN : Int} {now oft wtd : Int → Int} {ways : Int} {svd trn cAt wAt : Int → Int} {seed : Int64} {isK kB kG kS : Int} {kK kO kN kW kC : Int → Int} {hh : Int64} {fr : Int} (hc : 2 ≤ cols ∧ cols ≤ 3) (hco : ∀ i, -1 ≤ co i ∧ co i ≤ 2) (hfr : 0 ≤ fr ∧ fr ≤ 10) (hcc : ∀ i, 1 ≤ i → i ≤ fr → co i ≤ cols - 1) (hok : rOk cols now) : Ce l g yX6_turnBack (ws_ yX6_turnBack cX6_turnBack 3 (Option.some Jvm.ClassFile.FieldType.int)) (rmL 1) [.ref o, .int (iI fr)] (mW g o ax brd many cols kd co chg sM sN sW sC pgM page whl nwN now oft wtd ways svd trn cAt wAt seed isK kB kG kS kK kO kN kW kC hh) ((tb cols co fr.toNat now).1) (mW g o ax brd many cols kd co chg sM sN sW sC pgM page whl nwN ((tb cols co fr.toNat now).2) oft wtd ways svd trn cAt wAt seed isK kB kG kS kK kO kN kW kC hh) := by
  refine Ct.of (by decide) (Nat.le_of_ble_eq_true rfl) ?_
  intro Γ hl hg hf hrT
  subst hl hg
  have hf : Fx Γ RX6 cX6_turnBack 3 := hf
  show T Γ (rmL 1) 3 0 0 (Qe Γ (rmL 1) _) _ 0 [(0, .ref o), (1, .int (iI fr))] []
  have lp : ∀ (N : Nat) (n : Int) (nw : Int → Int), (0 ≤ n ∧ n ≤ fr) → (rOk cols nw) → (tb cols co fr.toNat now = tb cols co n.toNat nw) → n.toNat < N → T Γ (rmL 1) 3 0 0 (Qe Γ (rmL 1) (fun vv w => ∃ r : Int, vv = some (.int (iI r)) ∧ iR r ∧ r = ((tb cols co fr.toNat now).1) ∧ w = mW (xg Γ) o ax brd many cols kd co chg sM sN sW sC pgM page whl nwN ((tb cols co fr.toNat now).2) oft wtd ways svd trn cAt wAt seed isK kB kG kS kK kO kN kW kC hh)) (mW (xg Γ) o ax brd many cols kd co chg sM sN sW sC pgM page whl nwN nw oft wtd ways svd trn cAt wAt seed isK kB kG kS kK kO kN kW kC hh) 2 [(0, .ref o), (1, .int (iI fr)), (2, .int (iI n))] [] := by
    intro N
    induction N with
    | zero => intro n nw hn hr ht hN; exact absurd hN (Nat.not_lt_zero _)
    | succ N ih =>
      intro n nw hn hr ht hN
      have q1 := hr.1 n
      have q2 := hco n
      refine tt_iload_n hf 2 dX6_turnBack_2 rfl ?_
      refine tt_if_le (tgt := 49) hf dX6_turnBack_3 (by decide) (by omega) (fun c3 => ?_) (fun c3 => ?_)
      · refine tt_iload_n hf 2 dX6_turnBack_49 rfl ?_
        refine tt_if_le (tgt := 63) hf dX6_turnBack_50 (by decide) (by omega) (fun c50 => ?_) (fun c50 => ?_)
        · refine tt_iload_n hf 2 dX6_turnBack_63 rfl ?_
          exact tt_ireti hf hrT dX6_turnBack_64 (Nat.le_refl _) (Nat.le_refl _) (by omega) ⟨(by have e : n = 0 := (by omega); subst e; rw [ht]; rfl), (by have e : n = 0 := (by omega); subst e; rw [ht]; rfl)⟩
        · exact absurd c50 (by omega)
      · refine tt_aload_n hf 0 dX6_turnBack_6 rfl ?_
        refine gm_co hf dX6_turnBack_7 ?_
        refine tt_iload_n hf 2 dX6_turnBack_10 rfl ?_
        refine lm_co hf (by omega) dX6_turnBack_11 ?_
        refine tt_iconst hf dX6_turnBack_12 ?_
        refine tt_icmp_ne (tgt := 31) hf dX6_turnBack_13 (by decide) (by omega) (by omega) (fun c13 => ?_) (fun c13 => ?_)
        · refine tt_aload_n hf 0 dX6_turnBack_31 rfl ?_
          refine gm_now hf dX6_turnBack_32 ?_
          refine tt_iload_n hf 2 dX6_turnBack_35 rfl ?_
          refine tt_aload_n hf 0 dX6_turnBack_36 rfl ?_
          refine gm_co hf dX6_turnBack_37 ?_
          refine tt_iload_n hf 2 dX6_turnBack_40 rfl ?_
          refine lm_co hf (by omega) dX6_turnBack_41 ?_
          refine sm_now hf (by omega) dX6_turnBack_42 ?_
          refine tt_iinc (lv' := [(2, .int (iI (n + (-1)))), (0, .ref o), (1, .int (iI fr))]) hf 2 dX6_turnBack_43 rfl (by decide) rfl ?_
          refine tt_goto (tgt := 2) hf dX6_turnBack_46 (by decide) ?_
          refine tt_sub [1, 2, 0] rfl ?_
          exact ih (n + (-1)) (uI nw n (co n)) (by omega) (rOk_u hr q2 (hcc n (by omega) (by omega))) (by rw [ht, tb_s (by omega), if_pos (by omega)]; rfl) (by omega)
        · refine tt_aload_n hf 0 dX6_turnBack_16 rfl ?_
          refine gm_now hf dX6_turnBack_17 ?_
          refine tt_iload_n hf 2 dX6_turnBack_20 rfl ?_
          refine lm_now hf (by omega) dX6_turnBack_21 ?_
          refine tt_aload_n hf 0 dX6_turnBack_22 rfl ?_
          refine gm_cols hf dX6_turnBack_23 ?_
          refine tt_iconst hf dX6_turnBack_26 ?_
          refine tt_isub hf dX6_turnBack_27 ?_
          refine tt_icmp_ne (tgt := 49) hf dX6_turnBack_28 (by decide) (by omega) (by omega) (fun c28 => ?_) (fun c28 => ?_)
          · refine tt_iload_n hf 2 dX6_turnBack_49 rfl ?_
            refine tt_if_le (tgt := 63) hf dX6_turnBack_50 (by decide) (by omega) (fun c50 => ?_) (fun c50 => ?_)
            · exact absurd c50 (by omega)
            · refine tt_aload_n hf 0 dX6_turnBack_53 rfl ?_
              refine gm_now hf dX6_turnBack_54 ?_
              refine tt_iload_n hf 2 dX6_turnBack_57 rfl ?_
              refine tt_dup2 hf dX6_turnBack_58 rfl rfl ?_
              refine lm_now hf (by omega) dX6_turnBack_59 ?_
              refine tt_iconst hf dX6_turnBack_60 ?_
              refine tt_iadd hf dX6_turnBack_61 ?_
              refine sm_now hf (by omega) dX6_turnBack_62 ?_
              refine tt_iload_n hf 2 dX6_turnBack_63 rfl ?_
              exact tt_ireti hf hrT dX6_turnBack_64 (Nat.le_refl _) (Nat.le_refl _) (by omega) ⟨(by rw [ht, tb_s (by omega), if_neg (by intro q; rcases q with q | q <;> omega)]), (by rw [ht, tb_s (by omega), if_neg (by intro q; rcases q with q | q <;> omega)])⟩
          · refine tt_aload_n hf 0 dX6_turnBack_31 rfl ?_
            refine gm_now hf dX6_turnBack_32 ?_
            refine tt_iload_n hf 2 dX6_turnBack_35 rfl ?_
            refine tt_aload_n hf 0 dX6_turnBack_36 rfl ?_
            refine gm_co hf dX6_turnBack_37 ?_
            refine tt_iload_n hf 2 dX6_turnBack_40 rfl ?_
            refine lm_co hf (by omega) dX6_turnBack_41 ?_
            refine sm_now hf (by omega) dX6_turnBack_42 ?_
            refine tt_iinc (lv' := [(2, .int (iI (n + (-1)))), (0, .ref o), (1, .int (iI fr))]) hf 2 dX6_turnBack_43 rfl (by decide) rfl ?_
            refine tt_goto (tgt := 2) hf dX6_turnBack_46 (by decide) ?_
            refine tt_sub [1, 2, 0] rfl ?_
            exact ih (n + (-1)) (uI nw n (co n)) (by omega) (rOk_u hr q2 (hcc n (by omega) (by omega))) (by rw [ht, tb_s (by omega), if_pos (by omega)]; rfl) (by omega)
  refine tt_iload_n hf 1 dX6_turnBack_0 rfl ?_
  refine tt_istore_n (lv' := [(2, .int (iI fr)), (0, .ref o), (1, .int (iI fr))]) hf dX6_turnBack_1 (by decide) rfl ?_
  refine tt_sub [1, 2, 0] rfl ?_
  exact lp _ fr now (by omega) hok rfl (Nat.lt_succ_self _)
set_option maxHeartbeats 4000000 in
set_option maxRecDepth 100000 in
theorem cm_goOn {l : Launch} {g : tG} {o : Nat} {ax : Nat → Nat} {brd many cols : Int} {kd co : Int → Int} {chg sM : Int} {sN sW sC : Int → Int} {pgM : Int} {page : Int → Int} {whl nwN : Int} {now oft wtd : Int → Int} {ways : Int} {svd trn cAt wAt : Int → Int} {seed : Int64} {isK kB kG kS : Int} {kK kO kN kW kC : Int → Int} {hh : Int64} {fr la : Int} {E0 : Prop} {E1 : (Int → Int) → Prop} (hkd : ∀ i, 0 ≤ kd i ∧ kd i ≤ 4) (hco : ∀ i, -1 ≤ co i ∧ co i ≤ 2) (hc : 2 ≤ cols ∧ cols ≤ 3) (hla : 0 ≤ la ∧ la ≤ 10) (hfr : 0 ≤ fr ∧ fr ≤ la + 1) (hcc : ∀ i, 1 ≤ i → i ≤ la → co i ≤ cols - 1) (hok : rOk cols now) (hgo : goS kd co cols la fr now E0 E1) : Ci l g yX6_goOn (ws_ yX6_goOn cX6_goOn 4 (Option.some Jvm.ClassFile.FieldType.int)) (rmL 4) [.ref o, .int (iI fr), .int (iI la)] (mW g o ax brd many cols kd co chg sM sN sW sC pgM page whl nwN now oft wtd ways svd trn cAt wAt seed isK kB kG kS kK kO kN kW kC hh) (fun r w => ∃ now1 : Int → Int, rOk cols now1 ∧ ((r = 0 ∧ E0) ∨ (r = la + 1 ∧ E1 now1)) ∧ w = mW g o ax brd many cols kd co chg sM sN sW sC pgM page whl nwN now1 oft wtd ways svd trn cAt wAt seed isK kB kG kS kK kO kN kW kC hh) := by
  refine Ct.of (by decide) (Nat.le_of_ble_eq_true rfl) ?_
  intro Γ hl hg hf hrT
  subst hl hg
  have hf : Fx Γ RX6 cX6_goOn 4 := hf
  show T Γ (rmL 4) 4 0 0 (Qe Γ (rmL 4) _) _ 0 [(0, .ref o), (1, .int (iI fr)), (2, .int (iI la))] []
  have key : T Γ (rmL 4) 4 0 0 (Qe Γ (rmL 4) (fun vv w => ∃ r : Int, vv = some (.int (iI r)) ∧ iR r ∧ (∃ now1 : Int → Int, rOk cols now1 ∧ ((r = 0 ∧ E0) ∨ (r = la + 1 ∧ E1 now1)) ∧ w = mW (xg Γ) o ax brd many cols kd co chg sM sN sW sC pgM page whl nwN now1 oft wtd ways svd trn cAt wAt seed isK kB kG kS kK kO kN kW kC hh))) (mW (xg Γ) o ax brd many cols kd co chg sM sN sW sC pgM page whl nwN now oft wtd ways svd trn cAt wAt seed isK kB kG kS kK kO kN kW kC hh) 2 [(0, .ref o), (1, .int (iI fr)), (2, .int (iI la)), (3, .int (iI fr))] [] := by
    refine hgo (fun n rw => 0 ≤ n → n ≤ la + 1 → rOk cols rw → T Γ (rmL 4) 4 0 0 (Qe Γ (rmL 4) (fun vv w => ∃ r : Int, vv = some (.int (iI r)) ∧ iR r ∧ (∃ now1 : Int → Int, rOk cols now1 ∧ ((r = 0 ∧ E0) ∨ (r = la + 1 ∧ E1 now1)) ∧ w = mW (xg Γ) o ax brd many cols kd co chg sM sN sW sC pgM page whl nwN now1 oft wtd ways svd trn cAt wAt seed isK kB kG kS kK kO kN kW kC hh))) (mW (xg Γ) o ax brd many cols kd co chg sM sN sW sC pgM page whl nwN rw oft wtd ways svd trn cAt wAt seed isK kB kG kS kK kO kN kW kC hh) 2 [(0, .ref o), (1, .int (iI fr)), (2, .int (iI la)), (3, .int (iI n))] []) ?_ ?_ ?_ hfr.1 hfr.2 hok
    · intro n rw h1 h2 hbad hgood h3 h4 hr
      have q1 := hr.1 n
      refine tt_iload_n hf 3 dX6_goOn_2 rfl ?_
      refine tt_if_le (tgt := 51) hf dX6_goOn_3 (by decide) (by omega) (fun c3 => ?_) (fun c3 => ?_)
      · exact absurd c3 (by omega)
      · refine tt_iload_n hf 3 dX6_goOn_6 rfl ?_
        refine tt_iload_n hf 2 dX6_goOn_7 rfl ?_
        refine tt_icmp_gt (tgt := 51) hf dX6_goOn_8 (by decide) (by omega) (by omega) (fun c8 => ?_) (fun c8 => ?_)
        · exact absurd c8 (by omega)
        · refine tt_aload_n hf 0 dX6_goOn_11 rfl ?_
          refine gm_now hf dX6_goOn_12 ?_
          refine tt_iload_n hf 3 dX6_goOn_15 rfl ?_
          refine lm_now hf (by omega) dX6_goOn_16 ?_
          refine tt_iconst hf dX6_goOn_17 ?_
          refine tt_icmp_ne (tgt := 28) hf dX6_goOn_18 (by decide) (by omega) (by omega) (fun c18 => ?_) (fun c18 => ?_)
          · have e0 : fst0 rw n = rw := by unfold fst0; rw [if_neg c18]
            rw [e0] at hbad hgood
            have hr1 : rOk cols rw := hr
            have hb0 := bd_rng (kd := kd) (row := rw) (s := n) (by omega)
            have htb := tb_ok hc hco n.toNat rw (by omega) (fun i h1 h2 => hcc i h1 (by omega)) hr1
            refine tt_aload_n hf 0 dX6_goOn_28 rfl ?_
            refine tt_iload_n hf 3 dX6_goOn_29 rfl ?_
            refine tt_callV0 (As := [.int (iI n)]) (rest := []) (q0 := 0) (ci := 6) hf (cm_badWith hkd hr1.1 (by omega)) lk_X6_X6_badWith hd_X6_badWith rfl rfl rfl ⟨rfl, rfl⟩ (by decide) (by decide) (Nat.le_of_ble_eq_true rfl) dX6_goOn_30 rfl (kk_e (fun r30 => ?_))
            refine tt_if_le (tgt := 44) hf dX6_goOn_33 (by decide) (by omega) (fun c33 => ?_) (fun c33 => ?_)
            · refine tt_iload_n hf 3 dX6_goOn_44 rfl ?_
              refine tt_iconst hf dX6_goOn_45 ?_
              refine tt_iadd hf dX6_goOn_46 ?_
              refine tt_istore_n (lv' := [(3, .int (iI (n + 1))), (0, .ref o), (1, .int (iI fr)), (2, .int (iI la))]) hf dX6_goOn_47 (by decide) rfl ?_
              refine tt_goto (tgt := 2) hf dX6_goOn_48 (by decide) ?_
              refine tt_sub [1, 2, 3, 0] rfl ?_
              exact hgood (by omega) (by omega) (by omega) hr1
            · refine tt_aload_n hf 0 dX6_goOn_36 rfl ?_
              refine tt_iload_n hf 3 dX6_goOn_37 rfl ?_
              refine tt_callV0 (As := [.int (iI n)]) (rest := []) (q0 := 0) (ci := 6) hf (cm_turnBack hc hco (by omega) (fun i h1 h2 => hcc i h1 (by omega)) hr1) lk_X6_X6_turnBack hd_X6_turnBack rfl rfl rfl ⟨rfl, rfl⟩ (by decide) (by decide) (Nat.le_of_ble_eq_true rfl) dX6_goOn_38 rfl (kk_e (fun r38 => ?_))
              refine tt_goto (tgt := 47) hf dX6_goOn_41 (by decide) ?_
              refine tt_istore_n (lv' := [(3, .int (iI ((tb cols co n.toNat rw).1))), (0, .ref o), (1, .int (iI fr)), (2, .int (iI la))]) hf dX6_goOn_47 (by decide) rfl ?_
              refine tt_goto (tgt := 2) hf dX6_goOn_48 (by decide) ?_
              refine tt_sub [1, 2, 3, 0] rfl ?_
              exact hbad (by omega) htb.2.1 (by omega) htb.1
          · refine tt_aload_n hf 0 dX6_goOn_21 rfl ?_
            refine gm_now hf dX6_goOn_22 ?_
            refine tt_iload_n hf 3 dX6_goOn_25 rfl ?_
            refine tt_iconst hf dX6_goOn_26 ?_
            refine sm_now hf (by omega) dX6_goOn_27 ?_
            have e0 : fst0 rw n = uI rw n 0 := by unfold fst0; rw [if_pos c18]
            rw [e0] at hbad hgood
            have hr1 : rOk cols (uI rw n 0) := rOk_u hr (by omega) (by omega)
            have hb0 := bd_rng (kd := kd) (row := uI rw n 0) (s := n) (by omega)
            have htb := tb_ok hc hco n.toNat (uI rw n 0) (by omega) (fun i h1 h2 => hcc i h1 (by omega)) hr1
            refine tt_aload_n hf 0 dX6_goOn_28 rfl ?_
            refine tt_iload_n hf 3 dX6_goOn_29 rfl ?_
            refine tt_callV0 (As := [.int (iI n)]) (rest := []) (q0 := 0) (ci := 6) hf (cm_badWith hkd hr1.1 (by omega)) lk_X6_X6_badWith hd_X6_badWith rfl rfl rfl ⟨rfl, rfl⟩ (by decide) (by decide) (Nat.le_of_ble_eq_true rfl) dX6_goOn_30 rfl (kk_e (fun r30 => ?_))
            refine tt_if_le (tgt := 44) hf dX6_goOn_33 (by decide) (by omega) (fun c33 => ?_) (fun c33 => ?_)
            · refine tt_iload_n hf 3 dX6_goOn_44 rfl ?_
              refine tt_iconst hf dX6_goOn_45 ?_
              refine tt_iadd hf dX6_goOn_46 ?_
              refine tt_istore_n (lv' := [(3, .int (iI (n + 1))), (0, .ref o), (1, .int (iI fr)), (2, .int (iI la))]) hf dX6_goOn_47 (by decide) rfl ?_
              refine tt_goto (tgt := 2) hf dX6_goOn_48 (by decide) ?_
              refine tt_sub [1, 2, 3, 0] rfl ?_
              exact hgood (by omega) (by omega) (by omega) hr1
            · refine tt_aload_n hf 0 dX6_goOn_36 rfl ?_
              refine tt_iload_n hf 3 dX6_goOn_37 rfl ?_
              refine tt_callV0 (As := [.int (iI n)]) (rest := []) (q0 := 0) (ci := 6) hf (cm_turnBack hc hco (by omega) (fun i h1 h2 => hcc i h1 (by omega)) hr1) lk_X6_X6_turnBack hd_X6_turnBack rfl rfl rfl ⟨rfl, rfl⟩ (by decide) (by decide) (Nat.le_of_ble_eq_true rfl) dX6_goOn_38 rfl (kk_e (fun r38 => ?_))
              refine tt_goto (tgt := 47) hf dX6_goOn_41 (by decide) ?_
              refine tt_istore_n (lv' := [(3, .int (iI ((tb cols co n.toNat (uI rw n 0)).1))), (0, .ref o), (1, .int (iI fr)), (2, .int (iI la))]) hf dX6_goOn_47 (by decide) rfl ?_
              refine tt_goto (tgt := 2) hf dX6_goOn_48 (by decide) ?_
              refine tt_sub [1, 2, 3, 0] rfl ?_
              exact hbad (by omega) htb.2.1 (by omega) htb.1
    · intro h0 rw h3 h4 hr
      refine tt_iload_n hf 3 dX6_goOn_2 rfl ?_
      refine tt_if_le (tgt := 51) hf dX6_goOn_3 (by decide) (by omega) (fun _ => ?_) (fun c => absurd c (by decide))
      refine tt_iload_n hf 3 dX6_goOn_51 rfl ?_
      exact tt_ireti hf hrT dX6_goOn_52 (Nat.le_refl _) (Nat.le_refl _) (by omega) ⟨rw, hr, Or.inl ⟨rfl, h0⟩, rfl⟩
    · intro rw hE h3 h4 hr
      refine tt_iload_n hf 3 dX6_goOn_2 rfl ?_
      refine tt_if_le (tgt := 51) hf dX6_goOn_3 (by decide) (by omega) (fun c3 => ?_) (fun c3 => ?_)
      · exact absurd c3 (by omega)
      · refine tt_iload_n hf 3 dX6_goOn_6 rfl ?_
        refine tt_iload_n hf 2 dX6_goOn_7 rfl ?_
        refine tt_icmp_gt (tgt := 51) hf dX6_goOn_8 (by decide) (by omega) (by omega) (fun c8 => ?_) (fun c8 => ?_)
        · refine tt_iload_n hf 3 dX6_goOn_51 rfl ?_
          exact tt_ireti hf hrT dX6_goOn_52 (Nat.le_refl _) (Nat.le_refl _) (by omega) ⟨rw, hr, Or.inr ⟨rfl, hE⟩, rfl⟩
        · exact absurd c8 (by omega)
  refine tt_iload_n hf 1 dX6_goOn_0 rfl ?_
  refine tt_istore_n (lv' := [(3, .int (iI fr)), (0, .ref o), (1, .int (iI fr)), (2, .int (iI la))]) hf dX6_goOn_1 (by decide) rfl ?_
  refine tt_sub [1, 2, 3, 0] rfl ?_
  exact key
set_option maxHeartbeats 4000000 in
set_option maxRecDepth 100000 in
theorem cm_takeWay {l : Launch} {g : tG} {o : Nat} {ax : Nat → Nat} {brd many cols : Int} {kd co : Int → Int} {chg sM : Int} {sN sW sC : Int → Int} {pgM : Int} {page : Int → Int} {whl nwN : Int} {now oft wtd : Int → Int} {ways : Int} {svd trn cAt wAt : Int → Int} {seed : Int64} {isK kB kG kS : Int} {kK kO kN kW kC : Int → Int} {hh : Int64} {nb : Int} (hm : 0 ≤ many ∧ many ≤ 10) (hnb : iR nb) (hwy : iR ways) (hnw : ∀ i, 1 ≤ i → i ≤ many → 0 ≤ now i ∧ now i ≤ 2) : Cv l g yX6_takeWay (ws_ yX6_takeWay cX6_takeWay 3 (Option.none : Option Jvm.ClassFile.FieldType)) (rmL 1) [.ref o, .int (iI nb)] (mW g o ax brd many cols kd co chg sM sN sW sC pgM page whl nwN now oft wtd ways svd trn cAt wAt seed isK kB kG kS kK kO kN kW kC hh) (fun w => w = mW g o ax brd many cols kd co chg sM sN sW sC pgM page whl nwN now (hvF (many + 1) now oft) (wtF (many + 1) ways nb now wtd) (ways + 1) svd trn cAt wAt seed isK kB kG kS kK kO kN kW kC hh) := by
  refine Ct.of (by decide) (Nat.le_of_ble_eq_true rfl) ?_
  intro Γ hl hg hf hrT
  subst hl hg
  have hf : Fx Γ RX6 cX6_takeWay 3 := hf
  show T Γ (rmL 1) 3 0 0 (Qe Γ (rmL 1) _) _ 0 [(0, .ref o), (1, .int (iI nb))] []
  have lp : ∀ (N : Nat) (i : Int) (of : Int → Int) (wt : Int → Int), (1 ≤ i ∧ i ≤ many + 1) → (of = hvF i now oft) → (wt = wtF i ways nb now wtd) → (11 - i).toNat < N → T Γ (rmL 1) 3 0 0 (Qe Γ (rmL 1) (fun vv w => vv = none ∧ w = mW (xg Γ) o ax brd many cols kd co chg sM sN sW sC pgM page whl nwN now (hvF (many + 1) now oft) (wtF (many + 1) ways nb now wtd) (ways + 1) svd trn cAt wAt seed isK kB kG kS kK kO kN kW kC hh)) (mW (xg Γ) o ax brd many cols kd co chg sM sN sW sC pgM page whl nwN now of wt ways svd trn cAt wAt seed isK kB kG kS kK kO kN kW kC hh) 2 [(0, .ref o), (1, .int (iI nb)), (2, .int (iI i))] [] := by
    intro N
    induction N with
    | zero => intro i of wt hi ho hw hN; exact absurd hN (Nat.not_lt_zero _)
    | succ N ih =>
      intro i of wt hi ho hw hN
      refine tt_iload_n hf 2 dX6_takeWay_2 rfl ?_
      refine tt_aload_n hf 0 dX6_takeWay_3 rfl ?_
      refine gm_many hf dX6_takeWay_4 ?_
      refine tt_icmp_gt (tgt := 64) hf dX6_takeWay_7 (by decide) (by omega) (by omega) (fun c7 => ?_) (fun c7 => ?_)
      · refine tt_aload_n hf 0 dX6_takeWay_64 rfl ?_
        refine tt_dup hf dX6_takeWay_65 rfl ?_
        refine gm_ways hf dX6_takeWay_66 ?_
        refine tt_iconst hf dX6_takeWay_69 ?_
        refine tt_iadd hf dX6_takeWay_70 ?_
        refine pm_ways hf dX6_takeWay_71 ?_
        exact tt_vretv hf hrT dX6_takeWay_74 (Nat.le_refl _) (Nat.le_refl _) (by have e : i = many + 1 := (by omega); subst e; rw [ho, hw])
      · have hq := hnw i (by omega) (by omega)
        refine tt_aload_n hf 0 dX6_takeWay_10 rfl ?_
        refine gm_oft hf dX6_takeWay_11 ?_
        refine tt_iconst hf dX6_takeWay_14 ?_
        refine tt_iload_n hf 2 dX6_takeWay_15 rfl ?_
        refine tt_imul hf dX6_takeWay_16 ?_
        refine tt_aload_n hf 0 dX6_takeWay_17 rfl ?_
        refine gm_now hf dX6_takeWay_18 ?_
        refine tt_iload_n hf 2 dX6_takeWay_21 rfl ?_
        refine lm_now hf (by omega) dX6_takeWay_22 ?_
        refine tt_iadd hf dX6_takeWay_23 ?_
        refine tt_dup2 hf dX6_takeWay_24 rfl rfl ?_
        refine lm_oft hf (by omega) dX6_takeWay_25 ?_
        refine tt_iconst hf dX6_takeWay_26 ?_
        refine tt_iadd hf dX6_takeWay_27 ?_
        refine sm_oft hf (by omega) dX6_takeWay_28 ?_
        refine tt_aload_n hf 0 dX6_takeWay_29 rfl ?_
        refine gm_wtd hf dX6_takeWay_30 ?_
        refine tt_iload_n hf 2 dX6_takeWay_33 rfl ?_
        refine tt_aload_n hf 0 dX6_takeWay_34 rfl ?_
        refine gm_ways hf dX6_takeWay_35 ?_
        refine tt_iload_n hf 1 dX6_takeWay_38 rfl ?_
        refine tt_icmp_ne (tgt := 51) hf dX6_takeWay_39 (by decide) (by omega) (by omega) (fun c39 => ?_) (fun c39 => ?_)
        · refine tt_aload_n hf 0 dX6_takeWay_51 rfl ?_
          refine gm_wtd hf dX6_takeWay_52 ?_
          refine tt_iload_n hf 2 dX6_takeWay_55 rfl ?_
          refine lm_wtd hf (by omega) dX6_takeWay_56 ?_
          refine sm_wtd hf (by omega) dX6_takeWay_57 ?_
          refine tt_iinc (lv' := [(2, .int (iI (i + 1))), (0, .ref o), (1, .int (iI nb))]) hf 2 dX6_takeWay_58 rfl (by decide) rfl ?_
          refine tt_goto (tgt := 2) hf dX6_takeWay_61 (by decide) ?_
          refine tt_sub [1, 2, 0] rfl ?_
          exact ih (i + 1) (uI of ((3 * i) + (now i)) ((of ((3 * i) + (now i))) + 1)) (uI wt i (wt i)) (by omega) (by rw [ho]; exact hvF_s (by omega) hq) (by rw [hw]; exact wtF_n c39) (by omega)
        · refine tt_aload_n hf 0 dX6_takeWay_42 rfl ?_
          refine gm_now hf dX6_takeWay_43 ?_
          refine tt_iload_n hf 2 dX6_takeWay_46 rfl ?_
          refine lm_now hf (by omega) dX6_takeWay_47 ?_
          refine tt_goto (tgt := 57) hf dX6_takeWay_48 (by decide) ?_
          refine sm_wtd hf (by omega) dX6_takeWay_57 ?_
          refine tt_iinc (lv' := [(2, .int (iI (i + 1))), (0, .ref o), (1, .int (iI nb))]) hf 2 dX6_takeWay_58 rfl (by decide) rfl ?_
          refine tt_goto (tgt := 2) hf dX6_takeWay_61 (by decide) ?_
          refine tt_sub [1, 2, 0] rfl ?_
          exact ih (i + 1) (uI of ((3 * i) + (now i)) ((of ((3 * i) + (now i))) + 1)) (uI wt i (now i)) (by omega) (by rw [ho]; exact hvF_s (by omega) hq) (by rw [hw]; exact wtF_y (by omega) c39) (by omega)
  refine tt_iconst hf dX6_takeWay_0 ?_
  refine tt_istore_n (lv' := [(2, .int (iI 1)), (0, .ref o), (1, .int (iI nb))]) hf dX6_takeWay_1 (by decide) rfl ?_
  refine tt_sub [1, 2, 0] rfl ?_
  exact lp _ 1 oft wtd (by omega) hvF_1.symm wtF_1.symm (Nat.lt_succ_self _)
