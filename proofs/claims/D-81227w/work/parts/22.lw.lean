set_option maxHeartbeats 4000000 in
set_option maxRecDepth 100000 in
theorem cm_layWays {l : Launch} {g : tG} {o : Nat} {ax : Nat → Nat} {brd many cols : Int} {kd co : Int → Int} {chg sM : Int} {sN sW sC : Int → Int} {pgM : Int} {page : Int → Int} {whl nwN : Int} {now oft wtd : Int → Int} {ways : Int} {svd trn cAt wAt : Int → Int} {seed : Int64} {isK kB kG kS : Int} {kK kO kN kW kC : Int → Int} {hh : Int64} {nb : Int} (hm : 0 ≤ many ∧ many ≤ 10) (hkd : ∀ i, 0 ≤ kd i ∧ kd i ≤ 4) (hnow : ∀ i, -1 ≤ now i ∧ now i ≤ 2) (hco : ∀ i, -1 ≤ co i ∧ co i ≤ 2) (hc : 2 ≤ cols ∧ cols ≤ 3) (hcc : ∀ i, 1 ≤ i → i ≤ many → co i ≤ cols - 1) (hnb : iR nb) : Ci l g yX6_layWays (ws_ yX6_layWays cX6_layWays 3 (Option.some Jvm.ClassFile.FieldType.int)) (rmL 5) [.ref o, .int (iI nb)] (mW g o ax brd many cols kd co chg sM sN sW sC pgM page whl nwN now oft wtd ways svd trn cAt wAt seed isK kB kG kS kK kO kN kW kC hh) (fun r w => ∃ now1 oft1 wtd1 : Int → Int, rOk cols now1 ∧ cntOk kd co cols many oft1 ∧ wtOk kd co cols many nb wtd1 ∧ r = ((WL kd co cols many).length : Int) ∧ w = mW g o ax brd many cols kd co chg sM sN sW sC pgM page whl nwN now1 oft1 wtd1 (((WL kd co cols many).length : Int)) svd trn cAt wAt seed isK kB kG kS kK kO kN kW kC hh) := by
  refine Ct.of (by decide) (Nat.le_of_ble_eq_true rfl) ?_
  intro Γ hl hg hf hrT
  subst hl hg
  have hf : Fx Γ RX6 cX6_layWays 3 := hf
  show T Γ (rmL 5) 3 0 0 (Qe Γ (rmL 5) _) _ 0 [(0, .ref o), (1, .int (iI nb))] []
  have hle := WL_le (kd := kd) (co := co) (many := many) hc.2 hm.2 (lay many co now)
  have lp : ∀ (N : Nat) (i : Int) (of : Int → Int), (0 ≤ i ∧ i ≤ 33) → (of = zF i oft) → (34 - i).toNat < N → T Γ (rmL 5) 3 0 0 (Qe Γ (rmL 5) (fun vv w => ∃ r : Int, vv = some (.int (iI r)) ∧ iR r ∧ (∃ now1 oft1 wtd1 : Int → Int, rOk cols now1 ∧ cntOk kd co cols many oft1 ∧ wtOk kd co cols many nb wtd1 ∧ r = ((WL kd co cols many).length : Int) ∧ w = mW (xg Γ) o ax brd many cols kd co chg sM sN sW sC pgM page whl nwN now1 oft1 wtd1 (((WL kd co cols many).length : Int)) svd trn cAt wAt seed isK kB kG kS kK kO kN kW kC hh))) (mW (xg Γ) o ax brd many cols kd co chg sM sN sW sC pgM page whl nwN now of wtd ways svd trn cAt wAt seed isK kB kG kS kK kO kN kW kC hh) 2 [(0, .ref o), (1, .int (iI nb)), (2, .int (iI i))] [] := by
    intro N
    induction N with
    | zero => intro i of hi ho hN; exact absurd hN (Nat.not_lt_zero _)
    | succ N ih =>
      intro i of hi ho hN
      refine tt_iload_n hf 2 dX6_layWays_2 rfl ?_
      refine tt_bipush hf dX6_layWays_3 (by decide) ?_
      refine tt_icmp_ge (tgt := 21) hf dX6_layWays_5 (by decide) (by omega) (by omega) (fun c5 => ?_) (fun c5 => ?_)
      · refine tt_aload_n hf 0 dX6_layWays_21 rfl ?_
        refine tt_iconst hf dX6_layWays_22 ?_
        refine pm_ways hf dX6_layWays_23 ?_
        refine tt_aload_n hf 0 dX6_layWays_26 rfl ?_
        refine tt_callV0 (As := []) (rest := []) (q0 := 0) (ci := 6) hf (cm_layNow hm) lk_X6_X6_layNow hd_X6_layNow rfl rfl rfl ⟨rfl, rfl⟩ (by decide) (by decide) (Nat.le_of_ble_eq_true rfl) dX6_layWays_27 rfl (kk_v (fun w hw => ?_))
        subst hw
        refine tt_aload_n hf 0 dX6_layWays_30 rfl ?_
        refine tt_iconst hf dX6_layWays_31 ?_
        refine tt_aload_n hf 0 dX6_layWays_32 rfl ?_
        refine gm_many hf dX6_layWays_33 ?_
        refine tt_callV0 (As := [.int (iI 1), .int (iI many)]) (rest := []) (q0 := 0) (ci := 6) hf (cm_goOn hkd hco hc (by omega) (by omega) hcc (lay_ok hc.1 hco hcc hnow) (goS_startI (by omega) (by omega) (lay_in hm.2))) lk_X6_X6_goOn hd_X6_goOn rfl rfl rfl ⟨rfl, rfl⟩ (by decide) (by decide) (Nat.le_of_ble_eq_true rfl) dX6_layWays_36 rfl (kk_i (fun r36 w hr36 hp36 => ?_))
        obtain ⟨nw1, hoknw1, hgonw1, rfl⟩ := hp36
        refine tt_istore_n (lv' := [(2, .int (iI r36)), (0, .ref o), (1, .int (iI nb))]) hf dX6_layWays_39 (by decide) rfl ?_
        have lq : ∀ (N : Nat) (n : Int) (nw : Int → Int) (of2 : Int → Int) (wt : Int → Int) (wy : Int) (rem : List (Int → Int)), ((n = 0 ∧ rem = []) ∨ (n = many + 1 ∧ ∃ rest, rem = nw :: rest ∧ up kd co cols many.toNat many.toNat nw = rest)) → (rOk cols nw) → (lwI (cmp kd co cols many.toNat 1 (lay many co now)) rem many nb wy of2 wt) → rem.length < N → T Γ (rmL 5) 3 0 0 (Qe Γ (rmL 5) (fun vv w => ∃ r : Int, vv = some (.int (iI r)) ∧ iR r ∧ (∃ now1 oft1 wtd1 : Int → Int, rOk cols now1 ∧ cntOk kd co cols many oft1 ∧ wtOk kd co cols many nb wtd1 ∧ r = ((WL kd co cols many).length : Int) ∧ w = mW (xg Γ) o ax brd many cols kd co chg sM sN sW sC pgM page whl nwN now1 oft1 wtd1 (((WL kd co cols many).length : Int)) svd trn cAt wAt seed isK kB kG kS kK kO kN kW kC hh))) (mW (xg Γ) o ax brd many cols kd co chg sM sN sW sC pgM page whl nwN nw of2 wt wy svd trn cAt wAt seed isK kB kG kS kK kO kN kW kC hh) 40 [(0, .ref o), (1, .int (iI nb)), (2, .int (iI n))] [] := by
          intro N
          induction N with
          | zero => intro n nw of2 wt wy rem hn hok hI hN; exact absurd hN (Nat.not_lt_zero _)
          | succ N ih =>
            intro n nw of2 wt wy rem hn hok hI hN
            refine tt_iload_n hf 2 dX6_layWays_40 rfl ?_
            refine tt_if_le (tgt := 69) hf dX6_layWays_41 (by decide) (by omega) (fun c41 => ?_) (fun c41 => ?_)
            · refine tt_aload_n hf 0 dX6_layWays_69 rfl ?_
              refine gm_ways hf dX6_layWays_70 ?_
              have hrem : rem = [] := by rcases hn with ⟨_, q⟩ | ⟨q, _⟩; exact q; exact absurd q (by omega)
              subst hrem
              obtain ⟨e1, e2, e3⟩ := lwI_end hm.1 hI
              have hl2 := WL_len (kd := kd) (co := co) (cols := cols) hm.1 (lay many co now)
              exact tt_ireti hf hrT dX6_layWays_73 (Nat.le_refl _) (Nat.le_refl _) (by omega) ⟨nw, of2, wt, hok, e1, e2, e3, by rw [e3]⟩
            · obtain ⟨rest, hrem, hup⟩ : ∃ rest, rem = nw :: rest ∧ up kd co cols many.toNat many.toNat nw = rest := by rcases hn with ⟨q, _⟩ | ⟨_, q⟩; exact absurd q (by omega); exact q
              subst hrem
              have hmem := hI.2.2.1 nw List.mem_cons_self
              have hwl := hI.2.1
              have hwy := hI.1
              simp only [List.length_cons] at hwl hN
              have htb := tb_ok hc hco many.toNat nw (by omega) (fun i h1 h2 => hcc i h1 (by omega)) hok
              refine tt_aload_n hf 0 dX6_layWays_44 rfl ?_
              refine tt_iload_n hf 1 dX6_layWays_45 rfl ?_
              refine tt_callV0 (As := [.int (iI nb)]) (rest := []) (q0 := 0) (ci := 6) hf (cm_takeWay hm hnb (by omega) (fun i h1 h2 => by have := WL_at hco hcc hm.1 hmem i h1 h2; omega)) lk_X6_X6_takeWay hd_X6_takeWay rfl rfl rfl ⟨rfl, rfl⟩ (by decide) (by decide) (Nat.le_of_ble_eq_true rfl) dX6_layWays_46 rfl (kk_v (fun w hw => ?_))
              subst hw
              refine tt_aload_n hf 0 dX6_layWays_49 rfl ?_
              refine tt_aload_n hf 0 dX6_layWays_50 rfl ?_
              refine tt_aload_n hf 0 dX6_layWays_51 rfl ?_
              refine gm_many hf dX6_layWays_52 ?_
              refine tt_callV0 (As := [.int (iI many)]) (rest := [.ref o]) (q0 := 0) (ci := 6) hf (cm_turnBack hc hco (by omega) hcc hok) lk_X6_X6_turnBack hd_X6_turnBack rfl rfl rfl ⟨rfl, rfl⟩ (by decide) (by decide) (Nat.le_of_ble_eq_true rfl) dX6_layWays_55 rfl (kk_e (fun r55 => ?_))
              refine tt_aload_n hf 0 dX6_layWays_58 rfl ?_
              refine gm_many hf dX6_layWays_59 ?_
              refine tt_callV0 (As := [.int (iI ((tb cols co many.toNat nw).1)), .int (iI many)]) (rest := []) (q0 := 0) (ci := 6) hf (cm_goOn hkd hco hc (by omega) ⟨htb.2.1, by omega⟩ hcc htb.1 (goS_nextI (by omega) hm.1 (fun i h1 h2 _ => WL_at hco hcc hm.1 hmem i h1 h2))) lk_X6_X6_goOn hd_X6_goOn rfl rfl rfl ⟨rfl, rfl⟩ (by decide) (by decide) (Nat.le_of_ble_eq_true rfl) dX6_layWays_62 rfl (kk_i (fun r62 w hr62 hp62 => ?_))
              obtain ⟨nw2, hoknw2, hgonw2, rfl⟩ := hp62
              refine tt_istore_n (lv' := [(2, .int (iI r62)), (0, .ref o), (1, .int (iI nb))]) hf dX6_layWays_65 (by decide) rfl ?_
              refine tt_goto (tgt := 40) hf dX6_layWays_66 (by decide) ?_
              refine tt_sub [1, 2, 0] rfl ?_
              exact ih r62 nw2 (hvF (many + 1) nw of2) (wtF (many + 1) wy nb nw wt) (wy + 1) rest (by rcases hgonw2 with ⟨q1, q2⟩ | ⟨q1, q2⟩; exact Or.inl ⟨q1, hup ▸ q2⟩; exact Or.inr ⟨q1, hup ▸ q2⟩) hoknw2 (lwI_s hI) (by omega)
        subst ho
        refine tt_sub [1, 2, 0] rfl ?_
        exact lq _ r36 nw1 (zF i oft) wtd 0 (cmp kd co cols many.toNat 1 (lay many co now)) (by rcases hgonw1 with ⟨q1, q2⟩ | ⟨q1, q2⟩; exact Or.inl ⟨q1, q2⟩; exact Or.inr ⟨q1, q2⟩) hoknw1 (by rw [show i = 33 by omega]; exact lwI_0 hm.2) (Nat.lt_succ_self _)
      · refine tt_aload_n hf 0 dX6_layWays_8 rfl ?_
        refine gm_oft hf dX6_layWays_9 ?_
        refine tt_iload_n hf 2 dX6_layWays_12 rfl ?_
        refine tt_iconst hf dX6_layWays_13 ?_
        refine sm_oft hf (by omega) dX6_layWays_14 ?_
        refine tt_iinc (lv' := [(2, .int (iI (i + 1))), (0, .ref o), (1, .int (iI nb))]) hf 2 dX6_layWays_15 rfl (by decide) rfl ?_
        refine tt_goto (tgt := 2) hf dX6_layWays_18 (by decide) ?_
        refine tt_sub [1, 2, 0] rfl ?_
        exact ih (i + 1) (uI of i 0) (by omega) (by rw [ho]; exact zF_s (by omega)) (by omega)
  refine tt_iconst hf dX6_layWays_0 ?_
  refine tt_istore_n (lv' := [(2, .int (iI 0)), (0, .ref o), (1, .int (iI nb))]) hf dX6_layWays_1 (by decide) rfl ?_
  refine tt_sub [1, 2, 0] rfl ?_
  exact lp _ 0 oft (by omega) zF_0.symm (Nat.lt_succ_self _)
set_option maxHeartbeats 4000000 in
set_option maxRecDepth 100000 in
theorem cm_sureOf {l : Launch} {g : tG} {o : Nat} {ax : Nat → Nat} {brd many cols : Int} {kd co : Int → Int} {chg sM : Int} {sN sW sC : Int → Int} {pgM : Int} {page : Int → Int} {whl nwN : Int} {now oft wtd : Int → Int} {ways : Int} {svd trn cAt wAt : Int → Int} {seed : Int64} {isK kB kG kS : Int} {kK kO kN kW kC : Int → Int} {hh : Int64} {v : Int} (hc : 2 ≤ cols ∧ cols ≤ 3) (hv : 1 ≤ v ∧ v ≤ 10) (hwy : iR ways) (hof : ∀ c, 0 ≤ c → c ≤ 2 → iR (oft (3 * v + c))) : Ci l g yX6_sureOf (ws_ yX6_sureOf cX6_sureOf 3 (Option.some Jvm.ClassFile.FieldType.int)) (rmL 1) [.ref o, .int (iI v)] (mW g o ax brd many cols kd co chg sM sN sW sC pgM page whl nwN now oft wtd ways svd trn cAt wAt seed isK kB kG kS kK kO kN kW kC hh) (fun r w => suR ways cols oft v r ∧ w = mW g o ax brd many cols kd co chg sM sN sW sC pgM page whl nwN now oft wtd ways svd trn cAt wAt seed isK kB kG kS kK kO kN kW kC hh) := by
  refine Ct.of (by decide) (Nat.le_of_ble_eq_true rfl) ?_
  intro Γ hl hg hf hrT
  subst hl hg
  have hf : Fx Γ RX6 cX6_sureOf 3 := hf
  show T Γ (rmL 1) 3 0 0 (Qe Γ (rmL 1) _) _ 0 [(0, .ref o), (1, .int (iI v))] []
  have lp : ∀ (N : Nat) (i : Int), (0 ≤ i ∧ i ≤ cols) → (∀ c, 0 ≤ c → c < i → ¬ (0 < ways ∧ oft (3 * v + c) = ways)) → (4 - i).toNat < N → T Γ (rmL 1) 3 0 0 (Qe Γ (rmL 1) (fun vv w => ∃ r : Int, vv = some (.int (iI r)) ∧ iR r ∧ (suR ways cols oft v r ∧ w = mW (xg Γ) o ax brd many cols kd co chg sM sN sW sC pgM page whl nwN now oft wtd ways svd trn cAt wAt seed isK kB kG kS kK kO kN kW kC hh))) (mW (xg Γ) o ax brd many cols kd co chg sM sN sW sC pgM page whl nwN now oft wtd ways svd trn cAt wAt seed isK kB kG kS kK kO kN kW kC hh) 2 [(0, .ref o), (1, .int (iI v)), (2, .int (iI i))] [] := by
    intro N
    induction N with
    | zero => intro i hi hno hN; exact absurd hN (Nat.not_lt_zero _)
    | succ N ih =>
      intro i hi hno hN
      refine tt_iload_n hf 2 dX6_sureOf_2 rfl ?_
      refine tt_aload_n hf 0 dX6_sureOf_3 rfl ?_
      refine gm_cols hf dX6_sureOf_4 ?_
      refine tt_icmp_ge (tgt := 42) hf dX6_sureOf_7 (by decide) (by omega) (by omega) (fun c7 => ?_) (fun c7 => ?_)
      · refine tt_iconst hf dX6_sureOf_42 ?_
        exact tt_ireti hf hrT dX6_sureOf_43 (Nat.le_refl _) (Nat.le_refl _) (by omega) ⟨Or.inl ⟨rfl, fun c h1 h2 => hno c h1 (by omega)⟩, rfl⟩
      · refine tt_aload_n hf 0 dX6_sureOf_10 rfl ?_
        refine gm_ways hf dX6_sureOf_11 ?_
        refine tt_if_le (tgt := 36) hf dX6_sureOf_14 (by decide) (by omega) (fun c14 => ?_) (fun c14 => ?_)
        · refine tt_iinc (lv' := [(2, .int (iI (i + 1))), (0, .ref o), (1, .int (iI v))]) hf 2 dX6_sureOf_36 rfl (by decide) rfl ?_
          refine tt_goto (tgt := 2) hf dX6_sureOf_39 (by decide) ?_
          refine tt_sub [1, 2, 0] rfl ?_
          exact ih (i + 1) (by omega) (fun z h1 h2 => by intro q; omega) (by omega)
        · have hq := hof i (by omega) (by omega)
          refine tt_aload_n hf 0 dX6_sureOf_17 rfl ?_
          refine gm_oft hf dX6_sureOf_18 ?_
          refine tt_iconst hf dX6_sureOf_21 ?_
          refine tt_iload_n hf 1 dX6_sureOf_22 rfl ?_
          refine tt_imul hf dX6_sureOf_23 ?_
          refine tt_iload_n hf 2 dX6_sureOf_24 rfl ?_
          refine tt_iadd hf dX6_sureOf_25 ?_
          refine lm_oft hf (by omega) dX6_sureOf_26 ?_
          refine tt_aload_n hf 0 dX6_sureOf_27 rfl ?_
          refine gm_ways hf dX6_sureOf_28 ?_
          refine tt_icmp_ne (tgt := 36) hf dX6_sureOf_31 (by decide) (by omega) (by omega) (fun c31 => ?_) (fun c31 => ?_)
          · refine tt_iinc (lv' := [(2, .int (iI (i + 1))), (0, .ref o), (1, .int (iI v))]) hf 2 dX6_sureOf_36 rfl (by decide) rfl ?_
            refine tt_goto (tgt := 2) hf dX6_sureOf_39 (by decide) ?_
            refine tt_sub [1, 2, 0] rfl ?_
            exact ih (i + 1) (by omega) (fun z h1 h2 => by rcases (show z < i ∨ z = i by omega) with e | e; exact hno z h1 e; subst e; exact fun q => c31 q.2) (by omega)
          · refine tt_iload_n hf 2 dX6_sureOf_34 rfl ?_
            exact tt_ireti hf hrT dX6_sureOf_35 (Nat.le_refl _) (Nat.le_refl _) (by omega) ⟨Or.inr ⟨by omega, by omega, by omega, c31⟩, rfl⟩
  refine tt_iconst hf dX6_sureOf_0 ?_
  refine tt_istore_n (lv' := [(2, .int (iI 0)), (0, .ref o), (1, .int (iI v))]) hf dX6_sureOf_1 (by decide) rfl ?_
  refine tt_sub [1, 2, 0] rfl ?_
  exact lp _ 0 (by omega) (fun z h1 h2 => by omega) (Nat.lt_succ_self _)
set_option maxHeartbeats 4000000 in
set_option maxRecDepth 100000 in
theorem cm_bare {l : Launch} {g : tG} {o : Nat} {ax : Nat → Nat} {brd many cols : Int} {kd co : Int → Int} {chg sM : Int} {sN sW sC : Int → Int} {pgM : Int} {page : Int → Int} {whl nwN : Int} {now oft wtd : Int → Int} {ways : Int} {svd trn cAt wAt : Int → Int} {seed : Int64} {isK kB kG kS : Int} {kK kO kN kW kC : Int → Int} {hh : Int64}  (hm : 0 ≤ many ∧ many ≤ 10) (hco : ∀ i, -1 ≤ co i ∧ co i ≤ 2) : Ce l g yX6_bare (ws_ yX6_bare cX6_bare 3 (Option.some Jvm.ClassFile.FieldType.int)) (rmL 1) [.ref o] (mW g o ax brd many cols kd co chg sM sN sW sC pgM page whl nwN now oft wtd ways svd trn cAt wAt seed isK kB kG kS kK kO kN kW kC hh) (brN co many.toNat) (mW g o ax brd many cols kd co chg sM sN sW sC pgM page whl nwN now oft wtd ways svd trn cAt wAt seed isK kB kG kS kK kO kN kW kC hh) := by
  refine Ct.of (by decide) (Nat.le_of_ble_eq_true rfl) ?_
  intro Γ hl hg hf hrT
  subst hl hg
  have hf : Fx Γ RX6 cX6_bare 3 := hf
  show T Γ (rmL 1) 3 0 0 (Qe Γ (rmL 1) _) _ 0 [(0, .ref o)] []
  have lp : ∀ (N : Nat) (b : Int) (i : Int), (1 ≤ i ∧ i ≤ many + 1) → (b = brN co (i - 1).toNat) → (11 - i).toNat < N → T Γ (rmL 1) 3 0 0 (Qe Γ (rmL 1) (fun vv w => ∃ r : Int, vv = some (.int (iI r)) ∧ iR r ∧ r = (brN co many.toNat) ∧ w = mW (xg Γ) o ax brd many cols kd co chg sM sN sW sC pgM page whl nwN now oft wtd ways svd trn cAt wAt seed isK kB kG kS kK kO kN kW kC hh)) (mW (xg Γ) o ax brd many cols kd co chg sM sN sW sC pgM page whl nwN now oft wtd ways svd trn cAt wAt seed isK kB kG kS kK kO kN kW kC hh) 4 [(0, .ref o), (1, .int (iI b)), (2, .int (iI i))] [] := by
    intro N
    induction N with
    | zero => intro b i hi hb hN; exact absurd hN (Nat.not_lt_zero _)
    | succ N ih =>
      intro b i hi hb hN
      have q := hco i
      have hbr := brN_rng co (i - 1).toNat
      rw [← hb] at hbr
      refine tt_iload_n hf 2 dX6_bare_4 rfl ?_
      refine tt_aload_n hf 0 dX6_bare_5 rfl ?_
      refine gm_many hf dX6_bare_6 ?_
      refine tt_icmp_gt (tgt := 36) hf dX6_bare_9 (by decide) (by omega) (by omega) (fun c9 => ?_) (fun c9 => ?_)
      · refine tt_iload_n hf 1 dX6_bare_36 rfl ?_
        exact tt_ireti hf hrT dX6_bare_37 (Nat.le_refl _) (Nat.le_refl _) (by omega) ⟨(by rw [hb, show i - 1 = many by omega]), rfl⟩
      · refine tt_iload_n hf 1 dX6_bare_12 rfl ?_
        refine tt_aload_n hf 0 dX6_bare_13 rfl ?_
        refine gm_co hf dX6_bare_14 ?_
        refine tt_iload_n hf 2 dX6_bare_17 rfl ?_
        refine lm_co hf (by omega) dX6_bare_18 ?_
        refine tt_iconst hf dX6_bare_19 ?_
        refine tt_icmp_ne (tgt := 27) hf dX6_bare_20 (by decide) (by omega) (by omega) (fun c20 => ?_) (fun c20 => ?_)
        · refine tt_iconst hf dX6_bare_27 ?_
          refine tt_iadd hf dX6_bare_28 ?_
          refine tt_istore_n (lv' := [(1, .int (iI (b + 0))), (0, .ref o), (2, .int (iI i))]) hf dX6_bare_29 (by decide) rfl ?_
          refine tt_iinc (lv' := [(2, .int (iI (i + 1))), (1, .int (iI (b + 0))), (0, .ref o)]) hf 2 dX6_bare_30 rfl (by decide) rfl ?_
          refine tt_goto (tgt := 4) hf dX6_bare_33 (by decide) ?_
          refine tt_sub [2, 1, 0] rfl ?_
          exact ih (b + 0) (i + 1) (by omega) (by rw [Int.add_sub_cancel, brN_s (by omega), ← hb]; first | rw [if_neg c20] | rw [if_pos c20]) (by omega)
        · refine tt_iconst hf dX6_bare_23 ?_
          refine tt_goto (tgt := 28) hf dX6_bare_24 (by decide) ?_
          refine tt_iadd hf dX6_bare_28 ?_
          refine tt_istore_n (lv' := [(1, .int (iI (b + 1))), (0, .ref o), (2, .int (iI i))]) hf dX6_bare_29 (by decide) rfl ?_
          refine tt_iinc (lv' := [(2, .int (iI (i + 1))), (1, .int (iI (b + 1))), (0, .ref o)]) hf 2 dX6_bare_30 rfl (by decide) rfl ?_
          refine tt_goto (tgt := 4) hf dX6_bare_33 (by decide) ?_
          refine tt_sub [2, 1, 0] rfl ?_
          exact ih (b + 1) (i + 1) (by omega) (by rw [Int.add_sub_cancel, brN_s (by omega), ← hb]; first | rw [if_neg c20] | rw [if_pos c20]) (by omega)
  refine tt_iconst hf dX6_bare_0 ?_
  refine tt_istore_n (lv' := [(1, .int (iI 0)), (0, .ref o)]) hf dX6_bare_1 (by decide) rfl ?_
  refine tt_iconst hf dX6_bare_2 ?_
  refine tt_istore_n (lv' := [(2, .int (iI 1)), (1, .int (iI 0)), (0, .ref o)]) hf dX6_bare_3 (by decide) rfl ?_
  refine tt_sub [2, 1, 0] rfl ?_
  exact lp _ 0 1 (by omega) rfl (Nat.lt_succ_self _)
set_option maxHeartbeats 4000000 in
set_option maxRecDepth 100000 in
theorem cm_threes {l : Launch} {g : tG} {o : Nat} {ax : Nat → Nat} {brd many cols : Int} {kd co : Int → Int} {chg sM : Int} {sN sW sC : Int → Int} {pgM : Int} {page : Int → Int} {whl nwN : Int} {now oft wtd : Int → Int} {ways : Int} {svd trn cAt wAt : Int → Int} {seed : Int64} {isK kB kG kS : Int} {kK kO kN kW kC : Int → Int} {hh : Int64}  (hm : 0 ≤ many ∧ many ≤ 10) : Ce l g yX6_threes (ws_ yX6_threes cX6_threes 3 (Option.some Jvm.ClassFile.FieldType.int)) (rmL 1) [.ref o] (mW g o ax brd many cols kd co chg sM sN sW sC pgM page whl nwN now oft wtd ways svd trn cAt wAt seed isK kB kG kS kK kO kN kW kC hh) (thN many.toNat) (mW g o ax brd many cols kd co chg sM sN sW sC pgM page whl nwN now oft wtd ways svd trn cAt wAt seed isK kB kG kS kK kO kN kW kC hh) := by
  refine Ct.of (by decide) (Nat.le_of_ble_eq_true rfl) ?_
  intro Γ hl hg hf hrT
  subst hl hg
  have hf : Fx Γ RX6 cX6_threes 3 := hf
  show T Γ (rmL 1) 3 0 0 (Qe Γ (rmL 1) _) _ 0 [(0, .ref o)] []
  have lp : ∀ (N : Nat) (b : Int) (i : Int), (2 ≤ i ∧ (i ≤ many + 1 ∨ i = 2)) → (b = thN (i - 1).toNat) → (0 ≤ b ∧ b ≤ 5 * i) → (11 - i).toNat < N → T Γ (rmL 1) 3 0 0 (Qe Γ (rmL 1) (fun vv w => ∃ r : Int, vv = some (.int (iI r)) ∧ iR r ∧ r = (thN many.toNat) ∧ w = mW (xg Γ) o ax brd many cols kd co chg sM sN sW sC pgM page whl nwN now oft wtd ways svd trn cAt wAt seed isK kB kG kS kK kO kN kW kC hh)) (mW (xg Γ) o ax brd many cols kd co chg sM sN sW sC pgM page whl nwN now oft wtd ways svd trn cAt wAt seed isK kB kG kS kK kO kN kW kC hh) 4 [(0, .ref o), (1, .int (iI b)), (2, .int (iI i))] [] := by
    intro N
    induction N with
    | zero => intro b i hi hb hbr hN; exact absurd hN (Nat.not_lt_zero _)
    | succ N ih =>
      intro b i hi hb hbr hN
      refine tt_iload_n hf 2 dX6_threes_4 rfl ?_
      refine tt_aload_n hf 0 dX6_threes_5 rfl ?_
      refine gm_many hf dX6_threes_6 ?_
      refine tt_icmp_gt (tgt := 24) hf dX6_threes_9 (by decide) (by omega) (by omega) (fun c9 => ?_) (fun c9 => ?_)
      · refine tt_iload_n hf 1 dX6_threes_24 rfl ?_
        exact tt_ireti hf hrT dX6_threes_25 (Nat.le_refl _) (Nat.le_refl _) (by omega) ⟨(by rcases (show i - 1 = many ∨ (i = 2 ∧ (many = 0 ∨ many = 1)) by omega) with e | ⟨e, e2 | e2⟩ <;> (subst e; try subst e2) <;> rw [hb] <;> rfl), rfl⟩
      · refine tt_iload_n hf 1 dX6_threes_12 rfl ?_
        refine tt_iload_n hf 2 dX6_threes_13 rfl ?_
        refine tt_iconst hf dX6_threes_14 ?_
        refine tt_idiv hf dX6_threes_15 (by omega) (by omega) ?_
        refine tt_iadd hf dX6_threes_16 ?_
        refine tt_istore_n (lv' := [(1, .int (iI (b + (i / 2)))), (0, .ref o), (2, .int (iI i))]) hf dX6_threes_17 (by decide) rfl ?_
        refine tt_iinc (lv' := [(2, .int (iI (i + 1))), (1, .int (iI (b + (i / 2)))), (0, .ref o)]) hf 2 dX6_threes_18 rfl (by decide) rfl ?_
        refine tt_goto (tgt := 4) hf dX6_threes_21 (by decide) ?_
        refine tt_sub [2, 1, 0] rfl ?_
        exact ih (b + (i / 2)) (i + 1) (by omega) (by rw [Int.add_sub_cancel, thN_s (by omega), ← hb]) (by omega) (by omega)
  refine tt_iconst hf dX6_threes_0 ?_
  refine tt_istore_n (lv' := [(1, .int (iI 0)), (0, .ref o)]) hf dX6_threes_1 (by decide) rfl ?_
  refine tt_iconst hf dX6_threes_2 ?_
  refine tt_istore_n (lv' := [(2, .int (iI 2)), (1, .int (iI 0)), (0, .ref o)]) hf dX6_threes_3 (by decide) rfl ?_
  refine tt_sub [2, 1, 0] rfl ?_
  exact lp _ 0 2 (by omega) rfl (by omega) (Nat.lt_succ_self _)
