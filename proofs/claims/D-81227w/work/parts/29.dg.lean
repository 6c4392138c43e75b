set_option maxHeartbeats 4000000 in
set_option maxRecDepth 100000 in
theorem cm_mixBoard {l : Launch} {g : tG} {o : Nat} {ax : Nat → Nat} {brd many cols : Int} {kd co : Int → Int} {chg sM : Int} {sN sW sC : Int → Int} {pgM : Int} {page : Int → Int} {whl nwN : Int} {now oft wtd : Int → Int} {ways : Int} {svd trn cAt wAt : Int → Int} {seed : Int64} {isK kB kG kS : Int} {kK kO kN kW kC : Int → Int} {hh : Int64}  (hm : 0 ≤ many ∧ many ≤ 10) (hkd : ∀ i, 0 ≤ kd i ∧ kd i ≤ 4) (hnow : ∀ i, -1 ≤ now i ∧ now i ≤ 2) (hco : ∀ i, -1 ≤ co i ∧ co i ≤ 2) (hc : 2 ≤ cols ∧ cols ≤ 3) (hcc : ∀ i, 1 ≤ i → i ≤ many → co i ≤ cols - 1) : Cv l g yX6_mixBoard (ws_ yX6_mixBoard cX6_mixBoard 2 (Option.none : Option Jvm.ClassFile.FieldType)) (rmL 8) [.ref o] (mW g o ax brd many cols kd co chg sM sN sW sC pgM page whl nwN now oft wtd ways svd trn cAt wAt seed isK kB kG kS kK kO kN kW kC hh) (fun w => ∃ (now1 oft1 wtd1 : Int → Int) (ways1 : Int) (svd1 trn1 cAt1 wAt1 : Int → Int), (∀ i, -1 ≤ now1 i ∧ now1 i ≤ 2) ∧ w = mW g o ax brd many cols kd co chg sM sN sW sC pgM page whl nwN now1 oft1 wtd1 ways1 svd1 trn1 cAt1 wAt1 seed isK kB kG kS kK kO kN kW kC (bdH kd co cols many hh)) := by
  refine Ct.of (by decide) (Nat.le_of_ble_eq_true rfl) ?_
  intro Γ hl hg hf hrT
  subst hl hg
  have hf : Fx Γ RX6 cX6_mixBoard 2 := hf
  show T Γ (rmL 8) 2 0 0 (Qe Γ (rmL 8) _) _ 0 [(0, .ref o)] []
  refine tt_iconst hf dX6_mixBoard_0 ?_
  refine tt_istore_n (lv' := [(1, .int (iI 0)), (0, .ref o)]) hf dX6_mixBoard_1 (by decide) rfl ?_
  refine tt_iload_n hf 0 dX6_mixBoard_2 rfl ?_
  refine tt_iconst hf dX6_mixBoard_3 ?_
  refine tt_icmp_ge (tgt := 23) hf dX6_mixBoard_4 (by decide) (by omega) (by omega) (fun c => absurd c (by decide)) (fun _ => ?_)
  refine tt_aload_n hf 1 dX6_mixBoard_7 rfl ?_
  refine tt_aload_n hf 1 dX6_mixBoard_8 rfl ?_
  refine tt_iload_n hf 0 dX6_mixBoard_9 rfl ?_
  refine tt_callV0 (As := [.int (iI 0)]) (rest := [.ref o]) (q0 := 0) (ci := 6) hf (cm_waysNow hm hkd hnow hco hc hcc (by omega)) lk_X6_X6_waysNow hd_X6_waysNow rfl rfl rfl ⟨rfl, rfl⟩ (by decide) (by decide) (Nat.le_of_ble_eq_true rfl) dX6_mixBoard_10 rfl (kk_i (fun r10 w hr10 hp10 => ?_))
  obtain ⟨now1, oft1, wtd1, ways1, hnw1, hrl1, rfl⟩ := hp10
  rw [hrl1]
  refine tt_i2l hf dX6_mixBoard_13 ?_
  refine tt_callV0 (As := [.long ((iI (wyE kd co cols many 0)).toInt64)]) (rest := []) (q0 := 0) (ci := 6) hf (cm_mix ) lk_X6_X6_mix hd_X6_mix rfl rfl rfl ⟨rfl, rfl⟩ (by decide) (by decide) (Nat.le_of_ble_eq_true rfl) dX6_mixBoard_14 rfl (kk_v (fun w hw => ?_))
  subst hw
  refine tt_iinc (lv' := [(1, .int (iI 1)), (0, .ref o)]) hf 0 dX6_mixBoard_17 rfl (by decide) rfl ?_
  refine tt_goto (tgt := 2) hf dX6_mixBoard_20 (by decide) ?_
  refine tt_iload_n hf 0 dX6_mixBoard_2 rfl ?_
  refine tt_iconst hf dX6_mixBoard_3 ?_
  refine tt_icmp_ge (tgt := 23) hf dX6_mixBoard_4 (by decide) (by omega) (by omega) (fun c => absurd c (by decide)) (fun _ => ?_)
  refine tt_aload_n hf 1 dX6_mixBoard_7 rfl ?_
  refine tt_aload_n hf 1 dX6_mixBoard_8 rfl ?_
  refine tt_iload_n hf 0 dX6_mixBoard_9 rfl ?_
  refine tt_callV0 (As := [.int (iI 1)]) (rest := [.ref o]) (q0 := 0) (ci := 6) hf (cm_waysNow hm hkd hnw1 hco hc hcc (by omega)) lk_X6_X6_waysNow hd_X6_waysNow rfl rfl rfl ⟨rfl, rfl⟩ (by decide) (by decide) (Nat.le_of_ble_eq_true rfl) dX6_mixBoard_10 rfl (kk_i (fun r10 w hr10 hp10 => ?_))
  obtain ⟨now2, oft2, wtd2, ways2, hnw2, hrl2, rfl⟩ := hp10
  rw [hrl2]
  refine tt_i2l hf dX6_mixBoard_13 ?_
  refine tt_callV0 (As := [.long ((iI (wyE kd co cols many 1)).toInt64)]) (rest := []) (q0 := 0) (ci := 6) hf (cm_mix ) lk_X6_X6_mix hd_X6_mix rfl rfl rfl ⟨rfl, rfl⟩ (by decide) (by decide) (Nat.le_of_ble_eq_true rfl) dX6_mixBoard_14 rfl (kk_v (fun w hw => ?_))
  subst hw
  refine tt_iinc (lv' := [(1, .int (iI 2)), (0, .ref o)]) hf 0 dX6_mixBoard_17 rfl (by decide) rfl ?_
  refine tt_goto (tgt := 2) hf dX6_mixBoard_20 (by decide) ?_
  refine tt_iload_n hf 0 dX6_mixBoard_2 rfl ?_
  refine tt_iconst hf dX6_mixBoard_3 ?_
  refine tt_icmp_ge (tgt := 23) hf dX6_mixBoard_4 (by decide) (by omega) (by omega) (fun c => absurd c (by decide)) (fun _ => ?_)
  refine tt_aload_n hf 1 dX6_mixBoard_7 rfl ?_
  refine tt_aload_n hf 1 dX6_mixBoard_8 rfl ?_
  refine tt_iload_n hf 0 dX6_mixBoard_9 rfl ?_
  refine tt_callV0 (As := [.int (iI 2)]) (rest := [.ref o]) (q0 := 0) (ci := 6) hf (cm_waysNow hm hkd hnw2 hco hc hcc (by omega)) lk_X6_X6_waysNow hd_X6_waysNow rfl rfl rfl ⟨rfl, rfl⟩ (by decide) (by decide) (Nat.le_of_ble_eq_true rfl) dX6_mixBoard_10 rfl (kk_i (fun r10 w hr10 hp10 => ?_))
  obtain ⟨now3, oft3, wtd3, ways3, hnw3, hrl3, rfl⟩ := hp10
  rw [hrl3]
  refine tt_i2l hf dX6_mixBoard_13 ?_
  refine tt_callV0 (As := [.long ((iI (wyE kd co cols many 2)).toInt64)]) (rest := []) (q0 := 0) (ci := 6) hf (cm_mix ) lk_X6_X6_mix hd_X6_mix rfl rfl rfl ⟨rfl, rfl⟩ (by decide) (by decide) (Nat.le_of_ble_eq_true rfl) dX6_mixBoard_14 rfl (kk_v (fun w hw => ?_))
  subst hw
  refine tt_iinc (lv' := [(1, .int (iI 3)), (0, .ref o)]) hf 0 dX6_mixBoard_17 rfl (by decide) rfl ?_
  refine tt_goto (tgt := 2) hf dX6_mixBoard_20 (by decide) ?_
  refine tt_iload_n hf 0 dX6_mixBoard_2 rfl ?_
  refine tt_iconst hf dX6_mixBoard_3 ?_
  refine tt_icmp_ge (tgt := 23) hf dX6_mixBoard_4 (by decide) (by omega) (by omega) (fun _ => ?_) (fun c => absurd c (by decide))
  refine tt_aload_n hf 1 dX6_mixBoard_23 rfl ?_
  refine tt_aload_n hf 1 dX6_mixBoard_24 rfl ?_
  refine tt_callV0 (As := []) (rest := [.ref o]) (q0 := 0) (ci := 6) hf (cm_mendNow hm hkd hnw3 hco hc hcc) lk_X6_X6_mendNow hd_X6_mendNow rfl rfl rfl ⟨rfl, rfl⟩ (by decide) (by decide) (Nat.le_of_ble_eq_true rfl) dX6_mixBoard_25 rfl (kk_i (fun r25 w hr25 hp25 => ?_))
  obtain ⟨now4, svd4, hnw4, hrl4, rfl⟩ := hp25
  rw [hrl4]
  refine tt_i2l hf dX6_mixBoard_28 ?_
  refine tt_callV0 (As := [.long ((iI (mdE kd co cols many)).toInt64)]) (rest := []) (q0 := 0) (ci := 6) hf (cm_mix ) lk_X6_X6_mix hd_X6_mix rfl rfl rfl ⟨rfl, rfl⟩ (by decide) (by decide) (Nat.le_of_ble_eq_true rfl) dX6_mixBoard_29 rfl (kk_v (fun w hw => ?_))
  subst hw
  refine tt_aload_n hf 1 dX6_mixBoard_32 rfl ?_
  refine tt_aload_n hf 1 dX6_mixBoard_33 rfl ?_
  refine tt_iconst hf dX6_mixBoard_34 ?_
  refine tt_callV0 (As := [.int (iI 0)]) (rest := [.ref o]) (q0 := 0) (ci := 6) hf (cm_winsNow hm hkd hnw4 hco hc hcc (by omega)) lk_X6_X6_winsNow hd_X6_winsNow rfl rfl rfl ⟨rfl, rfl⟩ (by decide) (by decide) (Nat.le_of_ble_eq_true rfl) dX6_mixBoard_35 rfl (kk_i (fun r35 w hr35 hp35 => ?_))
  obtain ⟨now5, trn5, cAt5, wAt5, hnw5, hrl5, rfl⟩ := hp35
  rw [hrl5]
  refine tt_i2l hf dX6_mixBoard_38 ?_
  refine tt_callV0 (As := [.long ((iI (wnsE kd co cols many 0)).toInt64)]) (rest := []) (q0 := 0) (ci := 6) hf (cm_mix ) lk_X6_X6_mix hd_X6_mix rfl rfl rfl ⟨rfl, rfl⟩ (by decide) (by decide) (Nat.le_of_ble_eq_true rfl) dX6_mixBoard_39 rfl (kk_v (fun w hw => ?_))
  subst hw
  refine tt_aload_n hf 1 dX6_mixBoard_42 rfl ?_
  refine tt_aload_n hf 1 dX6_mixBoard_43 rfl ?_
  refine tt_iconst hf dX6_mixBoard_44 ?_
  refine tt_callV0 (As := [.int (iI 1)]) (rest := [.ref o]) (q0 := 0) (ci := 6) hf (cm_winsNow hm hkd hnw5 hco hc hcc (by omega)) lk_X6_X6_winsNow hd_X6_winsNow rfl rfl rfl ⟨rfl, rfl⟩ (by decide) (by decide) (Nat.le_of_ble_eq_true rfl) dX6_mixBoard_45 rfl (kk_i (fun r45 w hr45 hp45 => ?_))
  obtain ⟨now6, trn6, cAt6, wAt6, hnw6, hrl6, rfl⟩ := hp45
  rw [hrl6]
  refine tt_i2l hf dX6_mixBoard_48 ?_
  refine tt_callV0 (As := [.long ((iI (wnsE kd co cols many 1)).toInt64)]) (rest := []) (q0 := 0) (ci := 6) hf (cm_mix ) lk_X6_X6_mix hd_X6_mix rfl rfl rfl ⟨rfl, rfl⟩ (by decide) (by decide) (Nat.le_of_ble_eq_true rfl) dX6_mixBoard_49 rfl (kk_v (fun w hw => ?_))
  subst hw
  exact tt_vretv hf hrT dX6_mixBoard_52 (Nat.le_refl _) (Nat.le_refl _) ⟨now6, oft3, wtd3, ways3, svd4, trn6, cAt6, wAt6, hnw6, rfl⟩
set_option maxHeartbeats 4000000 in
set_option maxRecDepth 100000 in
theorem cm_digest {l : Launch} {g : tG} {o : Nat} {ax : Nat → Nat} {brd many cols : Int} {kd co : Int → Int} {chg sM : Int} {sN sW sC : Int → Int} {pgM : Int} {page : Int → Int} {whl nwN : Int} {now oft wtd : Int → Int} {ways : Int} {svd trn cAt wAt : Int → Int} {seed : Int64} {isK kB kG kS : Int} {kK kO kN kW kC : Int → Int} {hh : Int64}  (hm : 0 ≤ many ∧ many ≤ 10) (hkd : ∀ i, 0 ≤ kd i ∧ kd i ≤ 4) (hnow : ∀ i, -1 ≤ now i ∧ now i ≤ 2) (hco : ∀ i, -1 ≤ co i ∧ co i ≤ 2) (hcm : 0 < many → 2 ≤ cols ∧ cols ≤ 3) (hcc : ∀ i, 1 ≤ i → i ≤ many → co i ≤ cols - 1) (hcl3 : 0 ≤ cols ∧ cols ≤ 3) (hsM : 0 ≤ sM ∧ sM ≤ 6) (hsN : ∀ i, 0 ≤ sN i ∧ sN i ≤ 10) (hsW : ∀ i, 0 ≤ sW i ∧ sW i ≤ 2) (hsC : ∀ i, 0 ≤ sC i ∧ sC i ≤ 1) (hch : 0 ≤ chg ∧ chg ≤ 999) (hpg : 0 ≤ pgM ∧ pgM ≤ 26) (hpv : ∀ i, 0 ≤ page i ∧ page i ≤ 126) (hbr : 0 ≤ brd ∧ brd ≤ 1000000) : Cl l g yX6_digest (ws_ yX6_digest cX6_digest 3 (Option.some Jvm.ClassFile.FieldType.long)) (rmL 9) [.ref o] (mW g o ax brd many cols kd co chg sM sN sW sC pgM page whl nwN now oft wtd ways svd trn cAt wAt seed isK kB kG kS kK kO kN kW kC hh) (fun r w => ∃ (hh1 : Int64) (now1 oft1 wtd1 : Int → Int) (ways1 : Int) (svd1 trn1 cAt1 wAt1 : Int → Int), (∀ i, -1 ≤ now1 i ∧ now1 i ≤ 2) ∧ r = dgE kd co cols many sN sW sC sM chg pgM brd page ∧ w = mW g o ax brd many cols kd co chg sM sN sW sC pgM page whl nwN now1 oft1 wtd1 ways1 svd1 trn1 cAt1 wAt1 seed isK kB kG kS kK kO kN kW kC hh1) := by
  refine Ct.of (by decide) (Nat.le_of_ble_eq_true rfl) ?_
  intro Γ hl hg hf hrT
  subst hl hg
  have hf : Fx Γ RX6 cX6_digest 3 := hf
  show T Γ (rmL 9) 3 0 0 (Qe Γ (rmL 9) _) _ 0 [(0, .ref o)] []
  have lp : ∀ (N : Nat) (i : Int) (h1 : Int64) (nwA : Int → Int) (ofA : Int → Int) (wtA : Int → Int) (wyA : Int), (1 ≤ i ∧ i ≤ many + 1) → (h1 = dgN (nmE kd co cols many sN sW sC sM) (fun n u => odE (cnt (WL kd co cols many) n 0) ((WL kd co cols many).length : Int) u) (i - 1).toNat) → (∀ i, -1 ≤ nwA i ∧ nwA i ≤ 2) → (11 - i).toNat < N → T Γ (rmL 9) 3 0 0 (Qe Γ (rmL 9) (fun vv w => ∃ r : Int64, vv = some (.long r) ∧ (∃ (hh1 : Int64) (now1 oft1 wtd1 : Int → Int) (ways1 : Int) (svd1 trn1 cAt1 wAt1 : Int → Int), (∀ i, -1 ≤ now1 i ∧ now1 i ≤ 2) ∧ r = dgE kd co cols many sN sW sC sM chg pgM brd page ∧ w = mW (xg Γ) o ax brd many cols kd co chg sM sN sW sC pgM page whl nwN now1 oft1 wtd1 ways1 svd1 trn1 cAt1 wAt1 seed isK kB kG kS kK kO kN kW kC hh1))) (mW (xg Γ) o ax brd many cols kd co chg sM sN sW sC pgM page whl nwN nwA ofA wtA wyA svd trn cAt wAt seed isK kB kG kS kK kO kN kW kC h1) 9 [(0, .ref o), (1, .int (iI i))] [] := by
    intro N
    induction N with
    | zero => intro i h1 nwA ofA wtA wyA hi hdg hnA hN; exact absurd hN (Nat.not_lt_zero _)
    | succ N ih =>
      intro i h1 nwA ofA wtA wyA hi hdg hnA hN
      refine tt_iload_n hf 1 dX6_digest_9 rfl ?_
      refine tt_aload_n hf 0 dX6_digest_10 rfl ?_
      refine gm_many hf dX6_digest_11 ?_
      refine tt_icmp_gt (tgt := 72) hf dX6_digest_14 (by decide) (by omega) (by omega) (fun c14 => ?_) (fun c14 => ?_)
      · refine tt_aload_n hf 0 dX6_digest_72 rfl ?_
        refine gm_many hf dX6_digest_73 ?_
        refine tt_if_le (tgt := 83) hf dX6_digest_76 (by decide) (by omega) (fun c76 => ?_) (fun c76 => ?_)
        · refine tt_iconst hf dX6_digest_83 ?_
          refine tt_istore_n (lv' := [(1, .int (iI 0)), (0, .ref o)]) hf dX6_digest_84 (by decide) rfl ?_
          have lK : ∀ (N : Nat) (k : Int) (h2 : Int64), (0 ≤ k ∧ k ≤ pgM) → (h2 = pgH page h1 k.toNat) → (27 - k).toNat < N → T Γ (rmL 9) 3 0 0 (Qe Γ (rmL 9) (fun vv w => ∃ r : Int64, vv = some (.long r) ∧ (∃ (hh1 : Int64) (now1 oft1 wtd1 : Int → Int) (ways1 : Int) (svd1 trn1 cAt1 wAt1 : Int → Int), (∀ i, -1 ≤ now1 i ∧ now1 i ≤ 2) ∧ r = dgE kd co cols many sN sW sC sM chg pgM brd page ∧ w = mW (xg Γ) o ax brd many cols kd co chg sM sN sW sC pgM page whl nwN now1 oft1 wtd1 ways1 svd1 trn1 cAt1 wAt1 seed isK kB kG kS kK kO kN kW kC hh1))) (mW (xg Γ) o ax brd many cols kd co chg sM sN sW sC pgM page whl nwN nwA ofA wtA wyA svd trn cAt wAt seed isK kB kG kS kK kO kN kW kC h2) 85 [(0, .ref o), (1, .int (iI k))] [] := by
            intro N
            induction N with
            | zero => intro k h2 hk hk2 hN; exact absurd hN (Nat.not_lt_zero _)
            | succ N ih =>
              intro k h2 hk hk2 hN
              refine tt_iload_n hf 1 dX6_digest_85 rfl ?_
              refine tt_aload_n hf 0 dX6_digest_86 rfl ?_
              refine gm_pgM hf dX6_digest_87 ?_
              refine tt_icmp_ge (tgt := 110) hf dX6_digest_90 (by decide) (by omega) (by omega) (fun c90 => ?_) (fun c90 => ?_)
              · refine tt_iconst hf dX6_digest_110 ?_
                refine tt_istore_n (lv' := [(1, .int (iI 0)), (0, .ref o)]) hf dX6_digest_111 (by decide) rfl ?_
                refine tt_iload_n hf 0 dX6_digest_112 rfl ?_
                refine tt_bipush hf dX6_digest_113 (by decide) ?_
                refine tt_icmp_ge (tgt := 134) hf dX6_digest_115 (by decide) (by omega) (by omega) (fun c => absurd c (by decide)) (fun _ => ?_)
                refine tt_aload_n hf 1 dX6_digest_118 rfl ?_
                refine tt_aload_n hf 1 dX6_digest_119 rfl ?_
                refine tt_iload_n hf 0 dX6_digest_120 rfl ?_
                refine tt_callV0 (As := [.int (iI 0)]) (rest := [.ref o]) (q0 := 0) (ci := 6) hf (cm_howMany hm hkd hnA hco hcl3 hch hsM hpg hbr (by omega)) lk_X6_X6_howMany hd_X6_howMany rfl rfl rfl ⟨rfl, rfl⟩ (by decide) (by decide) (Nat.le_of_ble_eq_true rfl) dX6_digest_121 rfl (kk_i (fun r121 w hr121 hp121 => ?_))
                obtain ⟨now1, hnw1, hrl1, rfl⟩ := hp121
                rw [hrl1]
                refine tt_i2l hf dX6_digest_124 ?_
                refine tt_callV0 (As := [.long ((iI (ctE kd co cols many chg sM pgM brd 0)).toInt64)]) (rest := []) (q0 := 0) (ci := 6) hf (cm_mix ) lk_X6_X6_mix hd_X6_mix rfl rfl rfl ⟨rfl, rfl⟩ (by decide) (by decide) (Nat.le_of_ble_eq_true rfl) dX6_digest_125 rfl (kk_v (fun w hw => ?_))
                subst hw
                refine tt_iinc (lv' := [(1, .int (iI 1)), (0, .ref o)]) hf 0 dX6_digest_128 rfl (by decide) rfl ?_
                refine tt_goto (tgt := 112) hf dX6_digest_131 (by decide) ?_
                refine tt_iload_n hf 0 dX6_digest_112 rfl ?_
                refine tt_bipush hf dX6_digest_113 (by decide) ?_
                refine tt_icmp_ge (tgt := 134) hf dX6_digest_115 (by decide) (by omega) (by omega) (fun c => absurd c (by decide)) (fun _ => ?_)
                refine tt_aload_n hf 1 dX6_digest_118 rfl ?_
                refine tt_aload_n hf 1 dX6_digest_119 rfl ?_
                refine tt_iload_n hf 0 dX6_digest_120 rfl ?_
                refine tt_callV0 (As := [.int (iI 1)]) (rest := [.ref o]) (q0 := 0) (ci := 6) hf (cm_howMany hm hkd hnw1 hco hcl3 hch hsM hpg hbr (by omega)) lk_X6_X6_howMany hd_X6_howMany rfl rfl rfl ⟨rfl, rfl⟩ (by decide) (by decide) (Nat.le_of_ble_eq_true rfl) dX6_digest_121 rfl (kk_i (fun r121 w hr121 hp121 => ?_))
                obtain ⟨now2, hnw2, hrl2, rfl⟩ := hp121
                rw [hrl2]
                refine tt_i2l hf dX6_digest_124 ?_
                refine tt_callV0 (As := [.long ((iI (ctE kd co cols many chg sM pgM brd 1)).toInt64)]) (rest := []) (q0 := 0) (ci := 6) hf (cm_mix ) lk_X6_X6_mix hd_X6_mix rfl rfl rfl ⟨rfl, rfl⟩ (by decide) (by decide) (Nat.le_of_ble_eq_true rfl) dX6_digest_125 rfl (kk_v (fun w hw => ?_))
                subst hw
                refine tt_iinc (lv' := [(1, .int (iI 2)), (0, .ref o)]) hf 0 dX6_digest_128 rfl (by decide) rfl ?_
                refine tt_goto (tgt := 112) hf dX6_digest_131 (by decide) ?_
                refine tt_iload_n hf 0 dX6_digest_112 rfl ?_
                refine tt_bipush hf dX6_digest_113 (by decide) ?_
                refine tt_icmp_ge (tgt := 134) hf dX6_digest_115 (by decide) (by omega) (by omega) (fun c => absurd c (by decide)) (fun _ => ?_)
                refine tt_aload_n hf 1 dX6_digest_118 rfl ?_
                refine tt_aload_n hf 1 dX6_digest_119 rfl ?_
                refine tt_iload_n hf 0 dX6_digest_120 rfl ?_
                refine tt_callV0 (As := [.int (iI 2)]) (rest := [.ref o]) (q0 := 0) (ci := 6) hf (cm_howMany hm hkd hnw2 hco hcl3 hch hsM hpg hbr (by omega)) lk_X6_X6_howMany hd_X6_howMany rfl rfl rfl ⟨rfl, rfl⟩ (by decide) (by decide) (Nat.le_of_ble_eq_true rfl) dX6_digest_121 rfl (kk_i (fun r121 w hr121 hp121 => ?_))
                obtain ⟨now3, hnw3, hrl3, rfl⟩ := hp121
                rw [hrl3]
                refine tt_i2l hf dX6_digest_124 ?_
                refine tt_callV0 (As := [.long ((iI (ctE kd co cols many chg sM pgM brd 2)).toInt64)]) (rest := []) (q0 := 0) (ci := 6) hf (cm_mix ) lk_X6_X6_mix hd_X6_mix rfl rfl rfl ⟨rfl, rfl⟩ (by decide) (by decide) (Nat.le_of_ble_eq_true rfl) dX6_digest_125 rfl (kk_v (fun w hw => ?_))
                subst hw
                refine tt_iinc (lv' := [(1, .int (iI 3)), (0, .ref o)]) hf 0 dX6_digest_128 rfl (by decide) rfl ?_
                refine tt_goto (tgt := 112) hf dX6_digest_131 (by decide) ?_
                refine tt_iload_n hf 0 dX6_digest_112 rfl ?_
                refine tt_bipush hf dX6_digest_113 (by decide) ?_
                refine tt_icmp_ge (tgt := 134) hf dX6_digest_115 (by decide) (by omega) (by omega) (fun c => absurd c (by decide)) (fun _ => ?_)
                refine tt_aload_n hf 1 dX6_digest_118 rfl ?_
                refine tt_aload_n hf 1 dX6_digest_119 rfl ?_
                refine tt_iload_n hf 0 dX6_digest_120 rfl ?_
                refine tt_callV0 (As := [.int (iI 3)]) (rest := [.ref o]) (q0 := 0) (ci := 6) hf (cm_howMany hm hkd hnw3 hco hcl3 hch hsM hpg hbr (by omega)) lk_X6_X6_howMany hd_X6_howMany rfl rfl rfl ⟨rfl, rfl⟩ (by decide) (by decide) (Nat.le_of_ble_eq_true rfl) dX6_digest_121 rfl (kk_i (fun r121 w hr121 hp121 => ?_))
                obtain ⟨now4, hnw4, hrl4, rfl⟩ := hp121
                rw [hrl4]
                refine tt_i2l hf dX6_digest_124 ?_
                refine tt_callV0 (As := [.long ((iI (ctE kd co cols many chg sM pgM brd 3)).toInt64)]) (rest := []) (q0 := 0) (ci := 6) hf (cm_mix ) lk_X6_X6_mix hd_X6_mix rfl rfl rfl ⟨rfl, rfl⟩ (by decide) (by decide) (Nat.le_of_ble_eq_true rfl) dX6_digest_125 rfl (kk_v (fun w hw => ?_))
                subst hw
                refine tt_iinc (lv' := [(1, .int (iI 4)), (0, .ref o)]) hf 0 dX6_digest_128 rfl (by decide) rfl ?_
                refine tt_goto (tgt := 112) hf dX6_digest_131 (by decide) ?_
                refine tt_iload_n hf 0 dX6_digest_112 rfl ?_
                refine tt_bipush hf dX6_digest_113 (by decide) ?_
                refine tt_icmp_ge (tgt := 134) hf dX6_digest_115 (by decide) (by omega) (by omega) (fun c => absurd c (by decide)) (fun _ => ?_)
                refine tt_aload_n hf 1 dX6_digest_118 rfl ?_
                refine tt_aload_n hf 1 dX6_digest_119 rfl ?_
                refine tt_iload_n hf 0 dX6_digest_120 rfl ?_
                refine tt_callV0 (As := [.int (iI 4)]) (rest := [.ref o]) (q0 := 0) (ci := 6) hf (cm_howMany hm hkd hnw4 hco hcl3 hch hsM hpg hbr (by omega)) lk_X6_X6_howMany hd_X6_howMany rfl rfl rfl ⟨rfl, rfl⟩ (by decide) (by decide) (Nat.le_of_ble_eq_true rfl) dX6_digest_121 rfl (kk_i (fun r121 w hr121 hp121 => ?_))
                obtain ⟨now5, hnw5, hrl5, rfl⟩ := hp121
                rw [hrl5]
                refine tt_i2l hf dX6_digest_124 ?_
                refine tt_callV0 (As := [.long ((iI (ctE kd co cols many chg sM pgM brd 4)).toInt64)]) (rest := []) (q0 := 0) (ci := 6) hf (cm_mix ) lk_X6_X6_mix hd_X6_mix rfl rfl rfl ⟨rfl, rfl⟩ (by decide) (by decide) (Nat.le_of_ble_eq_true rfl) dX6_digest_125 rfl (kk_v (fun w hw => ?_))
                subst hw
                refine tt_iinc (lv' := [(1, .int (iI 5)), (0, .ref o)]) hf 0 dX6_digest_128 rfl (by decide) rfl ?_
                refine tt_goto (tgt := 112) hf dX6_digest_131 (by decide) ?_
                refine tt_iload_n hf 0 dX6_digest_112 rfl ?_
                refine tt_bipush hf dX6_digest_113 (by decide) ?_
                refine tt_icmp_ge (tgt := 134) hf dX6_digest_115 (by decide) (by omega) (by omega) (fun c => absurd c (by decide)) (fun _ => ?_)
                refine tt_aload_n hf 1 dX6_digest_118 rfl ?_
                refine tt_aload_n hf 1 dX6_digest_119 rfl ?_
                refine tt_iload_n hf 0 dX6_digest_120 rfl ?_
                refine tt_callV0 (As := [.int (iI 5)]) (rest := [.ref o]) (q0 := 0) (ci := 6) hf (cm_howMany hm hkd hnw5 hco hcl3 hch hsM hpg hbr (by omega)) lk_X6_X6_howMany hd_X6_howMany rfl rfl rfl ⟨rfl, rfl⟩ (by decide) (by decide) (Nat.le_of_ble_eq_true rfl) dX6_digest_121 rfl (kk_i (fun r121 w hr121 hp121 => ?_))
                obtain ⟨now6, hnw6, hrl6, rfl⟩ := hp121
                rw [hrl6]
                refine tt_i2l hf dX6_digest_124 ?_
                refine tt_callV0 (As := [.long ((iI (ctE kd co cols many chg sM pgM brd 5)).toInt64)]) (rest := []) (q0 := 0) (ci := 6) hf (cm_mix ) lk_X6_X6_mix hd_X6_mix rfl rfl rfl ⟨rfl, rfl⟩ (by decide) (by decide) (Nat.le_of_ble_eq_true rfl) dX6_digest_125 rfl (kk_v (fun w hw => ?_))
                subst hw
                refine tt_iinc (lv' := [(1, .int (iI 6)), (0, .ref o)]) hf 0 dX6_digest_128 rfl (by decide) rfl ?_
                refine tt_goto (tgt := 112) hf dX6_digest_131 (by decide) ?_
                refine tt_iload_n hf 0 dX6_digest_112 rfl ?_
                refine tt_bipush hf dX6_digest_113 (by decide) ?_
                refine tt_icmp_ge (tgt := 134) hf dX6_digest_115 (by decide) (by omega) (by omega) (fun c => absurd c (by decide)) (fun _ => ?_)
                refine tt_aload_n hf 1 dX6_digest_118 rfl ?_
                refine tt_aload_n hf 1 dX6_digest_119 rfl ?_
                refine tt_iload_n hf 0 dX6_digest_120 rfl ?_
                refine tt_callV0 (As := [.int (iI 6)]) (rest := [.ref o]) (q0 := 0) (ci := 6) hf (cm_howMany hm hkd hnw6 hco hcl3 hch hsM hpg hbr (by omega)) lk_X6_X6_howMany hd_X6_howMany rfl rfl rfl ⟨rfl, rfl⟩ (by decide) (by decide) (Nat.le_of_ble_eq_true rfl) dX6_digest_121 rfl (kk_i (fun r121 w hr121 hp121 => ?_))
                obtain ⟨now7, hnw7, hrl7, rfl⟩ := hp121
                rw [hrl7]
                refine tt_i2l hf dX6_digest_124 ?_
                refine tt_callV0 (As := [.long ((iI (ctE kd co cols many chg sM pgM brd 6)).toInt64)]) (rest := []) (q0 := 0) (ci := 6) hf (cm_mix ) lk_X6_X6_mix hd_X6_mix rfl rfl rfl ⟨rfl, rfl⟩ (by decide) (by decide) (Nat.le_of_ble_eq_true rfl) dX6_digest_125 rfl (kk_v (fun w hw => ?_))
                subst hw
                refine tt_iinc (lv' := [(1, .int (iI 7)), (0, .ref o)]) hf 0 dX6_digest_128 rfl (by decide) rfl ?_
                refine tt_goto (tgt := 112) hf dX6_digest_131 (by decide) ?_
                refine tt_iload_n hf 0 dX6_digest_112 rfl ?_
                refine tt_bipush hf dX6_digest_113 (by decide) ?_
                refine tt_icmp_ge (tgt := 134) hf dX6_digest_115 (by decide) (by omega) (by omega) (fun c => absurd c (by decide)) (fun _ => ?_)
                refine tt_aload_n hf 1 dX6_digest_118 rfl ?_
                refine tt_aload_n hf 1 dX6_digest_119 rfl ?_
                refine tt_iload_n hf 0 dX6_digest_120 rfl ?_
                refine tt_callV0 (As := [.int (iI 7)]) (rest := [.ref o]) (q0 := 0) (ci := 6) hf (cm_howMany hm hkd hnw7 hco hcl3 hch hsM hpg hbr (by omega)) lk_X6_X6_howMany hd_X6_howMany rfl rfl rfl ⟨rfl, rfl⟩ (by decide) (by decide) (Nat.le_of_ble_eq_true rfl) dX6_digest_121 rfl (kk_i (fun r121 w hr121 hp121 => ?_))
                obtain ⟨now8, hnw8, hrl8, rfl⟩ := hp121
                rw [hrl8]
                refine tt_i2l hf dX6_digest_124 ?_
                refine tt_callV0 (As := [.long ((iI (ctE kd co cols many chg sM pgM brd 7)).toInt64)]) (rest := []) (q0 := 0) (ci := 6) hf (cm_mix ) lk_X6_X6_mix hd_X6_mix rfl rfl rfl ⟨rfl, rfl⟩ (by decide) (by decide) (Nat.le_of_ble_eq_true rfl) dX6_digest_125 rfl (kk_v (fun w hw => ?_))
                subst hw
                refine tt_iinc (lv' := [(1, .int (iI 8)), (0, .ref o)]) hf 0 dX6_digest_128 rfl (by decide) rfl ?_
                refine tt_goto (tgt := 112) hf dX6_digest_131 (by decide) ?_
                refine tt_iload_n hf 0 dX6_digest_112 rfl ?_
                refine tt_bipush hf dX6_digest_113 (by decide) ?_
                refine tt_icmp_ge (tgt := 134) hf dX6_digest_115 (by decide) (by omega) (by omega) (fun c => absurd c (by decide)) (fun _ => ?_)
                refine tt_aload_n hf 1 dX6_digest_118 rfl ?_
                refine tt_aload_n hf 1 dX6_digest_119 rfl ?_
                refine tt_iload_n hf 0 dX6_digest_120 rfl ?_
                refine tt_callV0 (As := [.int (iI 8)]) (rest := [.ref o]) (q0 := 0) (ci := 6) hf (cm_howMany hm hkd hnw8 hco hcl3 hch hsM hpg hbr (by omega)) lk_X6_X6_howMany hd_X6_howMany rfl rfl rfl ⟨rfl, rfl⟩ (by decide) (by decide) (Nat.le_of_ble_eq_true rfl) dX6_digest_121 rfl (kk_i (fun r121 w hr121 hp121 => ?_))
                obtain ⟨now9, hnw9, hrl9, rfl⟩ := hp121
                rw [hrl9]
                refine tt_i2l hf dX6_digest_124 ?_
                refine tt_callV0 (As := [.long ((iI (ctE kd co cols many chg sM pgM brd 8)).toInt64)]) (rest := []) (q0 := 0) (ci := 6) hf (cm_mix ) lk_X6_X6_mix hd_X6_mix rfl rfl rfl ⟨rfl, rfl⟩ (by decide) (by decide) (Nat.le_of_ble_eq_true rfl) dX6_digest_125 rfl (kk_v (fun w hw => ?_))
                subst hw
                refine tt_iinc (lv' := [(1, .int (iI 9)), (0, .ref o)]) hf 0 dX6_digest_128 rfl (by decide) rfl ?_
                refine tt_goto (tgt := 112) hf dX6_digest_131 (by decide) ?_
                refine tt_iload_n hf 0 dX6_digest_112 rfl ?_
                refine tt_bipush hf dX6_digest_113 (by decide) ?_
                refine tt_icmp_ge (tgt := 134) hf dX6_digest_115 (by decide) (by omega) (by omega) (fun _ => ?_) (fun c => absurd c (by decide))
                refine tt_aload_n hf 1 dX6_digest_134 rfl ?_
                refine gm_hh hf dX6_digest_135 ?_
                have ek : k.toNat = pgM.toNat := by omega
                rw [ek] at hk2
                have hfin : hx (hx (hx (hx (hx (hx (hx (hx (hx h2 (ctE kd co cols many chg sM pgM brd 0)) (ctE kd co cols many chg sM pgM brd 1)) (ctE kd co cols many chg sM pgM brd 2)) (ctE kd co cols many chg sM pgM brd 3)) (ctE kd co cols many chg sM pgM brd 4)) (ctE kd co cols many chg sM pgM brd 5)) (ctE kd co cols many chg sM pgM brd 6)) (ctE kd co cols many chg sM pgM brd 7)) (ctE kd co cols many chg sM pgM brd 8) = dgE kd co cols many sN sW sC sM chg pgM brd page := by
                  unfold dgE
                  rw [if_neg (show ¬ 0 < many by omega), show many.toNat = (i - 1).toNat by omega, ← hdg, ← hk2]
                  rfl
                exact tt_lretl hf hrT dX6_digest_138 (Nat.le_refl _) (Nat.le_refl _) ⟨hx (hx (hx (hx (hx (hx (hx (hx (hx h2 (ctE kd co cols many chg sM pgM brd 0)) (ctE kd co cols many chg sM pgM brd 1)) (ctE kd co cols many chg sM pgM brd 2)) (ctE kd co cols many chg sM pgM brd 3)) (ctE kd co cols many chg sM pgM brd 4)) (ctE kd co cols many chg sM pgM brd 5)) (ctE kd co cols many chg sM pgM brd 6)) (ctE kd co cols many chg sM pgM brd 7)) (ctE kd co cols many chg sM pgM brd 8), now9, ofA, wtA, wyA, svd, trn, cAt, wAt, hnw9, hfin, rfl⟩
              · have hpq := hpv k
                refine tt_aload_n hf 0 dX6_digest_93 rfl ?_
                refine tt_aload_n hf 0 dX6_digest_94 rfl ?_
                refine gm_page hf dX6_digest_95 ?_
                refine tt_iload_n hf 1 dX6_digest_98 rfl ?_
                refine lm_page hf (by omega) dX6_digest_99 ?_
                refine tt_i2l hf dX6_digest_100 ?_
                refine tt_callV0 (As := [.long ((iI (page k)).toInt64)]) (rest := []) (q0 := 0) (ci := 6) hf (cm_mix ) lk_X6_X6_mix hd_X6_mix rfl rfl rfl ⟨rfl, rfl⟩ (by decide) (by decide) (Nat.le_of_ble_eq_true rfl) dX6_digest_101 rfl (kk_v (fun w hw => ?_))
                subst hw
                refine tt_iinc (lv' := [(1, .int (iI (k + 1))), (0, .ref o)]) hf 1 dX6_digest_104 rfl (by decide) rfl ?_
                refine tt_goto (tgt := 85) hf dX6_digest_107 (by decide) ?_
                refine tt_sub [1, 0] rfl ?_
                exact ih (k + 1) (hx h2 (page k)) (by omega) (by rw [pgH_s (by omega), ← hk2]) (by omega)
          refine tt_sub [1, 0] rfl ?_
          exact lK _ 0 h1 (by omega) rfl (Nat.lt_succ_self _)
        · have hc := hcm (by omega)
          refine tt_aload_n hf 0 dX6_digest_79 rfl ?_
          refine tt_callV0 (As := []) (rest := []) (q0 := 0) (ci := 6) hf (cm_mixBoard hm hkd hnA hco hc hcc) lk_X6_X6_mixBoard hd_X6_mixBoard rfl rfl rfl ⟨rfl, rfl⟩ (by decide) (by decide) (Nat.le_of_ble_eq_true rfl) dX6_digest_80 rfl (kk_v (fun w hp80 => ?_))
          obtain ⟨now10, oft10, wtd10, ways10, svd10, trn10, cAt10, wAt10, hnw10, rfl⟩ := hp80
          refine tt_iconst hf dX6_digest_83 ?_
          refine tt_istore_n (lv' := [(1, .int (iI 0)), (0, .ref o)]) hf dX6_digest_84 (by decide) rfl ?_
          have lK : ∀ (N : Nat) (k : Int) (h2 : Int64), (0 ≤ k ∧ k ≤ pgM) → (h2 = pgH page (bdH kd co cols many h1) k.toNat) → (27 - k).toNat < N → T Γ (rmL 9) 3 0 0 (Qe Γ (rmL 9) (fun vv w => ∃ r : Int64, vv = some (.long r) ∧ (∃ (hh1 : Int64) (now1 oft1 wtd1 : Int → Int) (ways1 : Int) (svd1 trn1 cAt1 wAt1 : Int → Int), (∀ i, -1 ≤ now1 i ∧ now1 i ≤ 2) ∧ r = dgE kd co cols many sN sW sC sM chg pgM brd page ∧ w = mW (xg Γ) o ax brd many cols kd co chg sM sN sW sC pgM page whl nwN now1 oft1 wtd1 ways1 svd1 trn1 cAt1 wAt1 seed isK kB kG kS kK kO kN kW kC hh1))) (mW (xg Γ) o ax brd many cols kd co chg sM sN sW sC pgM page whl nwN now10 oft10 wtd10 ways10 svd10 trn10 cAt10 wAt10 seed isK kB kG kS kK kO kN kW kC h2) 85 [(0, .ref o), (1, .int (iI k))] [] := by
            intro N
            induction N with
            | zero => intro k h2 hk hk2 hN; exact absurd hN (Nat.not_lt_zero _)
            | succ N ih =>
              intro k h2 hk hk2 hN
              refine tt_iload_n hf 1 dX6_digest_85 rfl ?_
              refine tt_aload_n hf 0 dX6_digest_86 rfl ?_
              refine gm_pgM hf dX6_digest_87 ?_
              refine tt_icmp_ge (tgt := 110) hf dX6_digest_90 (by decide) (by omega) (by omega) (fun c90 => ?_) (fun c90 => ?_)
              · refine tt_iconst hf dX6_digest_110 ?_
                refine tt_istore_n (lv' := [(1, .int (iI 0)), (0, .ref o)]) hf dX6_digest_111 (by decide) rfl ?_
                refine tt_iload_n hf 0 dX6_digest_112 rfl ?_
                refine tt_bipush hf dX6_digest_113 (by decide) ?_
                refine tt_icmp_ge (tgt := 134) hf dX6_digest_115 (by decide) (by omega) (by omega) (fun c => absurd c (by decide)) (fun _ => ?_)
                refine tt_aload_n hf 1 dX6_digest_118 rfl ?_
                refine tt_aload_n hf 1 dX6_digest_119 rfl ?_
                refine tt_iload_n hf 0 dX6_digest_120 rfl ?_
                refine tt_callV0 (As := [.int (iI 0)]) (rest := [.ref o]) (q0 := 0) (ci := 6) hf (cm_howMany hm hkd hnw10 hco hcl3 hch hsM hpg hbr (by omega)) lk_X6_X6_howMany hd_X6_howMany rfl rfl rfl ⟨rfl, rfl⟩ (by decide) (by decide) (Nat.le_of_ble_eq_true rfl) dX6_digest_121 rfl (kk_i (fun r121 w hr121 hp121 => ?_))
                obtain ⟨now11, hnw11, hrl11, rfl⟩ := hp121
                rw [hrl11]
                refine tt_i2l hf dX6_digest_124 ?_
                refine tt_callV0 (As := [.long ((iI (ctE kd co cols many chg sM pgM brd 0)).toInt64)]) (rest := []) (q0 := 0) (ci := 6) hf (cm_mix ) lk_X6_X6_mix hd_X6_mix rfl rfl rfl ⟨rfl, rfl⟩ (by decide) (by decide) (Nat.le_of_ble_eq_true rfl) dX6_digest_125 rfl (kk_v (fun w hw => ?_))
                subst hw
                refine tt_iinc (lv' := [(1, .int (iI 1)), (0, .ref o)]) hf 0 dX6_digest_128 rfl (by decide) rfl ?_
                refine tt_goto (tgt := 112) hf dX6_digest_131 (by decide) ?_
                refine tt_iload_n hf 0 dX6_digest_112 rfl ?_
                refine tt_bipush hf dX6_digest_113 (by decide) ?_
                refine tt_icmp_ge (tgt := 134) hf dX6_digest_115 (by decide) (by omega) (by omega) (fun c => absurd c (by decide)) (fun _ => ?_)
                refine tt_aload_n hf 1 dX6_digest_118 rfl ?_
                refine tt_aload_n hf 1 dX6_digest_119 rfl ?_
                refine tt_iload_n hf 0 dX6_digest_120 rfl ?_
                refine tt_callV0 (As := [.int (iI 1)]) (rest := [.ref o]) (q0 := 0) (ci := 6) hf (cm_howMany hm hkd hnw11 hco hcl3 hch hsM hpg hbr (by omega)) lk_X6_X6_howMany hd_X6_howMany rfl rfl rfl ⟨rfl, rfl⟩ (by decide) (by decide) (Nat.le_of_ble_eq_true rfl) dX6_digest_121 rfl (kk_i (fun r121 w hr121 hp121 => ?_))
                obtain ⟨now12, hnw12, hrl12, rfl⟩ := hp121
                rw [hrl12]
                refine tt_i2l hf dX6_digest_124 ?_
                refine tt_callV0 (As := [.long ((iI (ctE kd co cols many chg sM pgM brd 1)).toInt64)]) (rest := []) (q0 := 0) (ci := 6) hf (cm_mix ) lk_X6_X6_mix hd_X6_mix rfl rfl rfl ⟨rfl, rfl⟩ (by decide) (by decide) (Nat.le_of_ble_eq_true rfl) dX6_digest_125 rfl (kk_v (fun w hw => ?_))
                subst hw
                refine tt_iinc (lv' := [(1, .int (iI 2)), (0, .ref o)]) hf 0 dX6_digest_128 rfl (by decide) rfl ?_
                refine tt_goto (tgt := 112) hf dX6_digest_131 (by decide) ?_
                refine tt_iload_n hf 0 dX6_digest_112 rfl ?_
                refine tt_bipush hf dX6_digest_113 (by decide) ?_
                refine tt_icmp_ge (tgt := 134) hf dX6_digest_115 (by decide) (by omega) (by omega) (fun c => absurd c (by decide)) (fun _ => ?_)
                refine tt_aload_n hf 1 dX6_digest_118 rfl ?_
                refine tt_aload_n hf 1 dX6_digest_119 rfl ?_
                refine tt_iload_n hf 0 dX6_digest_120 rfl ?_
                refine tt_callV0 (As := [.int (iI 2)]) (rest := [.ref o]) (q0 := 0) (ci := 6) hf (cm_howMany hm hkd hnw12 hco hcl3 hch hsM hpg hbr (by omega)) lk_X6_X6_howMany hd_X6_howMany rfl rfl rfl ⟨rfl, rfl⟩ (by decide) (by decide) (Nat.le_of_ble_eq_true rfl) dX6_digest_121 rfl (kk_i (fun r121 w hr121 hp121 => ?_))
                obtain ⟨now13, hnw13, hrl13, rfl⟩ := hp121
                rw [hrl13]
                refine tt_i2l hf dX6_digest_124 ?_
                refine tt_callV0 (As := [.long ((iI (ctE kd co cols many chg sM pgM brd 2)).toInt64)]) (rest := []) (q0 := 0) (ci := 6) hf (cm_mix ) lk_X6_X6_mix hd_X6_mix rfl rfl rfl ⟨rfl, rfl⟩ (by decide) (by decide) (Nat.le_of_ble_eq_true rfl) dX6_digest_125 rfl (kk_v (fun w hw => ?_))
                subst hw
                refine tt_iinc (lv' := [(1, .int (iI 3)), (0, .ref o)]) hf 0 dX6_digest_128 rfl (by decide) rfl ?_
                refine tt_goto (tgt := 112) hf dX6_digest_131 (by decide) ?_
                refine tt_iload_n hf 0 dX6_digest_112 rfl ?_
                refine tt_bipush hf dX6_digest_113 (by decide) ?_
                refine tt_icmp_ge (tgt := 134) hf dX6_digest_115 (by decide) (by omega) (by omega) (fun c => absurd c (by decide)) (fun _ => ?_)
                refine tt_aload_n hf 1 dX6_digest_118 rfl ?_
                refine tt_aload_n hf 1 dX6_digest_119 rfl ?_
                refine tt_iload_n hf 0 dX6_digest_120 rfl ?_
                refine tt_callV0 (As := [.int (iI 3)]) (rest := [.ref o]) (q0 := 0) (ci := 6) hf (cm_howMany hm hkd hnw13 hco hcl3 hch hsM hpg hbr (by omega)) lk_X6_X6_howMany hd_X6_howMany rfl rfl rfl ⟨rfl, rfl⟩ (by decide) (by decide) (Nat.le_of_ble_eq_true rfl) dX6_digest_121 rfl (kk_i (fun r121 w hr121 hp121 => ?_))
                obtain ⟨now14, hnw14, hrl14, rfl⟩ := hp121
                rw [hrl14]
                refine tt_i2l hf dX6_digest_124 ?_
                refine tt_callV0 (As := [.long ((iI (ctE kd co cols many chg sM pgM brd 3)).toInt64)]) (rest := []) (q0 := 0) (ci := 6) hf (cm_mix ) lk_X6_X6_mix hd_X6_mix rfl rfl rfl ⟨rfl, rfl⟩ (by decide) (by decide) (Nat.le_of_ble_eq_true rfl) dX6_digest_125 rfl (kk_v (fun w hw => ?_))
                subst hw
                refine tt_iinc (lv' := [(1, .int (iI 4)), (0, .ref o)]) hf 0 dX6_digest_128 rfl (by decide) rfl ?_
                refine tt_goto (tgt := 112) hf dX6_digest_131 (by decide) ?_
                refine tt_iload_n hf 0 dX6_digest_112 rfl ?_
                refine tt_bipush hf dX6_digest_113 (by decide) ?_
                refine tt_icmp_ge (tgt := 134) hf dX6_digest_115 (by decide) (by omega) (by omega) (fun c => absurd c (by decide)) (fun _ => ?_)
                refine tt_aload_n hf 1 dX6_digest_118 rfl ?_
                refine tt_aload_n hf 1 dX6_digest_119 rfl ?_
                refine tt_iload_n hf 0 dX6_digest_120 rfl ?_
                refine tt_callV0 (As := [.int (iI 4)]) (rest := [.ref o]) (q0 := 0) (ci := 6) hf (cm_howMany hm hkd hnw14 hco hcl3 hch hsM hpg hbr (by omega)) lk_X6_X6_howMany hd_X6_howMany rfl rfl rfl ⟨rfl, rfl⟩ (by decide) (by decide) (Nat.le_of_ble_eq_true rfl) dX6_digest_121 rfl (kk_i (fun r121 w hr121 hp121 => ?_))
                obtain ⟨now15, hnw15, hrl15, rfl⟩ := hp121
                rw [hrl15]
                refine tt_i2l hf dX6_digest_124 ?_
                refine tt_callV0 (As := [.long ((iI (ctE kd co cols many chg sM pgM brd 4)).toInt64)]) (rest := []) (q0 := 0) (ci := 6) hf (cm_mix ) lk_X6_X6_mix hd_X6_mix rfl rfl rfl ⟨rfl, rfl⟩ (by decide) (by decide) (Nat.le_of_ble_eq_true rfl) dX6_digest_125 rfl (kk_v (fun w hw => ?_))
                subst hw
                refine tt_iinc (lv' := [(1, .int (iI 5)), (0, .ref o)]) hf 0 dX6_digest_128 rfl (by decide) rfl ?_
                refine tt_goto (tgt := 112) hf dX6_digest_131 (by decide) ?_
                refine tt_iload_n hf 0 dX6_digest_112 rfl ?_
                refine tt_bipush hf dX6_digest_113 (by decide) ?_
                refine tt_icmp_ge (tgt := 134) hf dX6_digest_115 (by decide) (by omega) (by omega) (fun c => absurd c (by decide)) (fun _ => ?_)
                refine tt_aload_n hf 1 dX6_digest_118 rfl ?_
                refine tt_aload_n hf 1 dX6_digest_119 rfl ?_
                refine tt_iload_n hf 0 dX6_digest_120 rfl ?_
                refine tt_callV0 (As := [.int (iI 5)]) (rest := [.ref o]) (q0 := 0) (ci := 6) hf (cm_howMany hm hkd hnw15 hco hcl3 hch hsM hpg hbr (by omega)) lk_X6_X6_howMany hd_X6_howMany rfl rfl rfl ⟨rfl, rfl⟩ (by decide) (by decide) (Nat.le_of_ble_eq_true rfl) dX6_digest_121 rfl (kk_i (fun r121 w hr121 hp121 => ?_))
                obtain ⟨now16, hnw16, hrl16, rfl⟩ := hp121
                rw [hrl16]
                refine tt_i2l hf dX6_digest_124 ?_
                refine tt_callV0 (As := [.long ((iI (ctE kd co cols many chg sM pgM brd 5)).toInt64)]) (rest := []) (q0 := 0) (ci := 6) hf (cm_mix ) lk_X6_X6_mix hd_X6_mix rfl rfl rfl ⟨rfl, rfl⟩ (by decide) (by decide) (Nat.le_of_ble_eq_true rfl) dX6_digest_125 rfl (kk_v (fun w hw => ?_))
                subst hw
                refine tt_iinc (lv' := [(1, .int (iI 6)), (0, .ref o)]) hf 0 dX6_digest_128 rfl (by decide) rfl ?_
                refine tt_goto (tgt := 112) hf dX6_digest_131 (by decide) ?_
                refine tt_iload_n hf 0 dX6_digest_112 rfl ?_
                refine tt_bipush hf dX6_digest_113 (by decide) ?_
                refine tt_icmp_ge (tgt := 134) hf dX6_digest_115 (by decide) (by omega) (by omega) (fun c => absurd c (by decide)) (fun _ => ?_)
                refine tt_aload_n hf 1 dX6_digest_118 rfl ?_
                refine tt_aload_n hf 1 dX6_digest_119 rfl ?_
                refine tt_iload_n hf 0 dX6_digest_120 rfl ?_
                refine tt_callV0 (As := [.int (iI 6)]) (rest := [.ref o]) (q0 := 0) (ci := 6) hf (cm_howMany hm hkd hnw16 hco hcl3 hch hsM hpg hbr (by omega)) lk_X6_X6_howMany hd_X6_howMany rfl rfl rfl ⟨rfl, rfl⟩ (by decide) (by decide) (Nat.le_of_ble_eq_true rfl) dX6_digest_121 rfl (kk_i (fun r121 w hr121 hp121 => ?_))
                obtain ⟨now17, hnw17, hrl17, rfl⟩ := hp121
                rw [hrl17]
                refine tt_i2l hf dX6_digest_124 ?_
                refine tt_callV0 (As := [.long ((iI (ctE kd co cols many chg sM pgM brd 6)).toInt64)]) (rest := []) (q0 := 0) (ci := 6) hf (cm_mix ) lk_X6_X6_mix hd_X6_mix rfl rfl rfl ⟨rfl, rfl⟩ (by decide) (by decide) (Nat.le_of_ble_eq_true rfl) dX6_digest_125 rfl (kk_v (fun w hw => ?_))
                subst hw
                refine tt_iinc (lv' := [(1, .int (iI 7)), (0, .ref o)]) hf 0 dX6_digest_128 rfl (by decide) rfl ?_
                refine tt_goto (tgt := 112) hf dX6_digest_131 (by decide) ?_
                refine tt_iload_n hf 0 dX6_digest_112 rfl ?_
                refine tt_bipush hf dX6_digest_113 (by decide) ?_
                refine tt_icmp_ge (tgt := 134) hf dX6_digest_115 (by decide) (by omega) (by omega) (fun c => absurd c (by decide)) (fun _ => ?_)
                refine tt_aload_n hf 1 dX6_digest_118 rfl ?_
                refine tt_aload_n hf 1 dX6_digest_119 rfl ?_
                refine tt_iload_n hf 0 dX6_digest_120 rfl ?_
                refine tt_callV0 (As := [.int (iI 7)]) (rest := [.ref o]) (q0 := 0) (ci := 6) hf (cm_howMany hm hkd hnw17 hco hcl3 hch hsM hpg hbr (by omega)) lk_X6_X6_howMany hd_X6_howMany rfl rfl rfl ⟨rfl, rfl⟩ (by decide) (by decide) (Nat.le_of_ble_eq_true rfl) dX6_digest_121 rfl (kk_i (fun r121 w hr121 hp121 => ?_))
                obtain ⟨now18, hnw18, hrl18, rfl⟩ := hp121
                rw [hrl18]
                refine tt_i2l hf dX6_digest_124 ?_
                refine tt_callV0 (As := [.long ((iI (ctE kd co cols many chg sM pgM brd 7)).toInt64)]) (rest := []) (q0 := 0) (ci := 6) hf (cm_mix ) lk_X6_X6_mix hd_X6_mix rfl rfl rfl ⟨rfl, rfl⟩ (by decide) (by decide) (Nat.le_of_ble_eq_true rfl) dX6_digest_125 rfl (kk_v (fun w hw => ?_))
                subst hw
                refine tt_iinc (lv' := [(1, .int (iI 8)), (0, .ref o)]) hf 0 dX6_digest_128 rfl (by decide) rfl ?_
                refine tt_goto (tgt := 112) hf dX6_digest_131 (by decide) ?_
                refine tt_iload_n hf 0 dX6_digest_112 rfl ?_
                refine tt_bipush hf dX6_digest_113 (by decide) ?_
                refine tt_icmp_ge (tgt := 134) hf dX6_digest_115 (by decide) (by omega) (by omega) (fun c => absurd c (by decide)) (fun _ => ?_)
                refine tt_aload_n hf 1 dX6_digest_118 rfl ?_
                refine tt_aload_n hf 1 dX6_digest_119 rfl ?_
                refine tt_iload_n hf 0 dX6_digest_120 rfl ?_
                refine tt_callV0 (As := [.int (iI 8)]) (rest := [.ref o]) (q0 := 0) (ci := 6) hf (cm_howMany hm hkd hnw18 hco hcl3 hch hsM hpg hbr (by omega)) lk_X6_X6_howMany hd_X6_howMany rfl rfl rfl ⟨rfl, rfl⟩ (by decide) (by decide) (Nat.le_of_ble_eq_true rfl) dX6_digest_121 rfl (kk_i (fun r121 w hr121 hp121 => ?_))
                obtain ⟨now19, hnw19, hrl19, rfl⟩ := hp121
                rw [hrl19]
                refine tt_i2l hf dX6_digest_124 ?_
                refine tt_callV0 (As := [.long ((iI (ctE kd co cols many chg sM pgM brd 8)).toInt64)]) (rest := []) (q0 := 0) (ci := 6) hf (cm_mix ) lk_X6_X6_mix hd_X6_mix rfl rfl rfl ⟨rfl, rfl⟩ (by decide) (by decide) (Nat.le_of_ble_eq_true rfl) dX6_digest_125 rfl (kk_v (fun w hw => ?_))
                subst hw
                refine tt_iinc (lv' := [(1, .int (iI 9)), (0, .ref o)]) hf 0 dX6_digest_128 rfl (by decide) rfl ?_
                refine tt_goto (tgt := 112) hf dX6_digest_131 (by decide) ?_
                refine tt_iload_n hf 0 dX6_digest_112 rfl ?_
                refine tt_bipush hf dX6_digest_113 (by decide) ?_
                refine tt_icmp_ge (tgt := 134) hf dX6_digest_115 (by decide) (by omega) (by omega) (fun _ => ?_) (fun c => absurd c (by decide))
                refine tt_aload_n hf 1 dX6_digest_134 rfl ?_
                refine gm_hh hf dX6_digest_135 ?_
                have ek : k.toNat = pgM.toNat := by omega
                rw [ek] at hk2
                have hfin : hx (hx (hx (hx (hx (hx (hx (hx (hx h2 (ctE kd co cols many chg sM pgM brd 0)) (ctE kd co cols many chg sM pgM brd 1)) (ctE kd co cols many chg sM pgM brd 2)) (ctE kd co cols many chg sM pgM brd 3)) (ctE kd co cols many chg sM pgM brd 4)) (ctE kd co cols many chg sM pgM brd 5)) (ctE kd co cols many chg sM pgM brd 6)) (ctE kd co cols many chg sM pgM brd 7)) (ctE kd co cols many chg sM pgM brd 8) = dgE kd co cols many sN sW sC sM chg pgM brd page := by
                  unfold dgE
                  rw [if_pos (show 0 < many by omega), show many.toNat = (i - 1).toNat by omega, ← hdg, ← hk2]
                  rfl
                exact tt_lretl hf hrT dX6_digest_138 (Nat.le_refl _) (Nat.le_refl _) ⟨hx (hx (hx (hx (hx (hx (hx (hx (hx h2 (ctE kd co cols many chg sM pgM brd 0)) (ctE kd co cols many chg sM pgM brd 1)) (ctE kd co cols many chg sM pgM brd 2)) (ctE kd co cols many chg sM pgM brd 3)) (ctE kd co cols many chg sM pgM brd 4)) (ctE kd co cols many chg sM pgM brd 5)) (ctE kd co cols many chg sM pgM brd 6)) (ctE kd co cols many chg sM pgM brd 7)) (ctE kd co cols many chg sM pgM brd 8), now19, oft10, wtd10, ways10, svd10, trn10, cAt10, wAt10, hnw19, hfin, rfl⟩
              · have hpq := hpv k
                refine tt_aload_n hf 0 dX6_digest_93 rfl ?_
                refine tt_aload_n hf 0 dX6_digest_94 rfl ?_
                refine gm_page hf dX6_digest_95 ?_
                refine tt_iload_n hf 1 dX6_digest_98 rfl ?_
                refine lm_page hf (by omega) dX6_digest_99 ?_
                refine tt_i2l hf dX6_digest_100 ?_
                refine tt_callV0 (As := [.long ((iI (page k)).toInt64)]) (rest := []) (q0 := 0) (ci := 6) hf (cm_mix ) lk_X6_X6_mix hd_X6_mix rfl rfl rfl ⟨rfl, rfl⟩ (by decide) (by decide) (Nat.le_of_ble_eq_true rfl) dX6_digest_101 rfl (kk_v (fun w hw => ?_))
                subst hw
                refine tt_iinc (lv' := [(1, .int (iI (k + 1))), (0, .ref o)]) hf 1 dX6_digest_104 rfl (by decide) rfl ?_
                refine tt_goto (tgt := 85) hf dX6_digest_107 (by decide) ?_
                refine tt_sub [1, 0] rfl ?_
                exact ih (k + 1) (hx h2 (page k)) (by omega) (by rw [pgH_s (by omega), ← hk2]) (by omega)
          refine tt_sub [1, 0] rfl ?_
          exact lK _ 0 (bdH kd co cols many h1) (by omega) rfl (Nat.lt_succ_self _)
      · have hc := hcm (by omega)
        refine tt_iconst hf dX6_digest_17 ?_
        refine tt_istore_n (lv' := [(2, .int (iI 0)), (0, .ref o), (1, .int (iI i))]) hf dX6_digest_18 (by decide) rfl ?_
        refine tt_iload_n hf 0 dX6_digest_19 rfl ?_
        refine tt_bipush hf dX6_digest_20 (by decide) ?_
        refine tt_icmp_ge (tgt := 42) hf dX6_digest_22 (by decide) (by omega) (by omega) (fun c => absurd c (by decide)) (fun _ => ?_)
        refine tt_aload_n hf 1 dX6_digest_25 rfl ?_
        refine tt_aload_n hf 1 dX6_digest_26 rfl ?_
        refine tt_iload_n hf 2 dX6_digest_27 rfl ?_
        refine tt_iload_n hf 0 dX6_digest_28 rfl ?_
        refine tt_callV0 (As := [.int (iI i), .int (iI 0)]) (rest := [.ref o]) (q0 := 0) (ci := 6) hf (cm_numberNow hm hkd hnA hco hc hcc hsM hsN hsW hsC (by omega) (by omega)) lk_X6_X6_numberNow hd_X6_numberNow rfl rfl rfl ⟨rfl, rfl⟩ (by decide) (by decide) (Nat.le_of_ble_eq_true rfl) dX6_digest_29 rfl (kk_i (fun r29 w hr29 hp29 => ?_))
        obtain ⟨now20, oft20, wtd20, ways20, hnw20, hrl20, rfl⟩ := hp29
        rw [hrl20]
        refine tt_i2l hf dX6_digest_32 ?_
        refine tt_callV0 (As := [.long ((iI (nmE kd co cols many sN sW sC sM i 0)).toInt64)]) (rest := []) (q0 := 0) (ci := 6) hf (cm_mix ) lk_X6_X6_mix hd_X6_mix rfl rfl rfl ⟨rfl, rfl⟩ (by decide) (by decide) (Nat.le_of_ble_eq_true rfl) dX6_digest_33 rfl (kk_v (fun w hw => ?_))
        subst hw
        refine tt_iinc (lv' := [(2, .int (iI 1)), (0, .ref o), (1, .int (iI i))]) hf 0 dX6_digest_36 rfl (by decide) rfl ?_
        refine tt_goto (tgt := 19) hf dX6_digest_39 (by decide) ?_
        refine tt_iload_n hf 0 dX6_digest_19 rfl ?_
        refine tt_bipush hf dX6_digest_20 (by decide) ?_
        refine tt_icmp_ge (tgt := 42) hf dX6_digest_22 (by decide) (by omega) (by omega) (fun c => absurd c (by decide)) (fun _ => ?_)
        refine tt_aload_n hf 1 dX6_digest_25 rfl ?_
        refine tt_aload_n hf 1 dX6_digest_26 rfl ?_
        refine tt_iload_n hf 2 dX6_digest_27 rfl ?_
        refine tt_iload_n hf 0 dX6_digest_28 rfl ?_
        refine tt_callV0 (As := [.int (iI i), .int (iI 1)]) (rest := [.ref o]) (q0 := 0) (ci := 6) hf (cm_numberNow hm hkd hnw20 hco hc hcc hsM hsN hsW hsC (by omega) (by omega)) lk_X6_X6_numberNow hd_X6_numberNow rfl rfl rfl ⟨rfl, rfl⟩ (by decide) (by decide) (Nat.le_of_ble_eq_true rfl) dX6_digest_29 rfl (kk_i (fun r29 w hr29 hp29 => ?_))
        obtain ⟨now21, oft21, wtd21, ways21, hnw21, hrl21, rfl⟩ := hp29
        rw [hrl21]
        refine tt_i2l hf dX6_digest_32 ?_
        refine tt_callV0 (As := [.long ((iI (nmE kd co cols many sN sW sC sM i 1)).toInt64)]) (rest := []) (q0 := 0) (ci := 6) hf (cm_mix ) lk_X6_X6_mix hd_X6_mix rfl rfl rfl ⟨rfl, rfl⟩ (by decide) (by decide) (Nat.le_of_ble_eq_true rfl) dX6_digest_33 rfl (kk_v (fun w hw => ?_))
        subst hw
        refine tt_iinc (lv' := [(2, .int (iI 2)), (0, .ref o), (1, .int (iI i))]) hf 0 dX6_digest_36 rfl (by decide) rfl ?_
        refine tt_goto (tgt := 19) hf dX6_digest_39 (by decide) ?_
        refine tt_iload_n hf 0 dX6_digest_19 rfl ?_
        refine tt_bipush hf dX6_digest_20 (by decide) ?_
        refine tt_icmp_ge (tgt := 42) hf dX6_digest_22 (by decide) (by omega) (by omega) (fun c => absurd c (by decide)) (fun _ => ?_)
        refine tt_aload_n hf 1 dX6_digest_25 rfl ?_
        refine tt_aload_n hf 1 dX6_digest_26 rfl ?_
        refine tt_iload_n hf 2 dX6_digest_27 rfl ?_
        refine tt_iload_n hf 0 dX6_digest_28 rfl ?_
        refine tt_callV0 (As := [.int (iI i), .int (iI 2)]) (rest := [.ref o]) (q0 := 0) (ci := 6) hf (cm_numberNow hm hkd hnw21 hco hc hcc hsM hsN hsW hsC (by omega) (by omega)) lk_X6_X6_numberNow hd_X6_numberNow rfl rfl rfl ⟨rfl, rfl⟩ (by decide) (by decide) (Nat.le_of_ble_eq_true rfl) dX6_digest_29 rfl (kk_i (fun r29 w hr29 hp29 => ?_))
        obtain ⟨now22, oft22, wtd22, ways22, hnw22, hrl22, rfl⟩ := hp29
        rw [hrl22]
        refine tt_i2l hf dX6_digest_32 ?_
        refine tt_callV0 (As := [.long ((iI (nmE kd co cols many sN sW sC sM i 2)).toInt64)]) (rest := []) (q0 := 0) (ci := 6) hf (cm_mix ) lk_X6_X6_mix hd_X6_mix rfl rfl rfl ⟨rfl, rfl⟩ (by decide) (by decide) (Nat.le_of_ble_eq_true rfl) dX6_digest_33 rfl (kk_v (fun w hw => ?_))
        subst hw
        refine tt_iinc (lv' := [(2, .int (iI 3)), (0, .ref o), (1, .int (iI i))]) hf 0 dX6_digest_36 rfl (by decide) rfl ?_
        refine tt_goto (tgt := 19) hf dX6_digest_39 (by decide) ?_
        refine tt_iload_n hf 0 dX6_digest_19 rfl ?_
        refine tt_bipush hf dX6_digest_20 (by decide) ?_
        refine tt_icmp_ge (tgt := 42) hf dX6_digest_22 (by decide) (by omega) (by omega) (fun c => absurd c (by decide)) (fun _ => ?_)
        refine tt_aload_n hf 1 dX6_digest_25 rfl ?_
        refine tt_aload_n hf 1 dX6_digest_26 rfl ?_
        refine tt_iload_n hf 2 dX6_digest_27 rfl ?_
        refine tt_iload_n hf 0 dX6_digest_28 rfl ?_
        refine tt_callV0 (As := [.int (iI i), .int (iI 3)]) (rest := [.ref o]) (q0 := 0) (ci := 6) hf (cm_numberNow hm hkd hnw22 hco hc hcc hsM hsN hsW hsC (by omega) (by omega)) lk_X6_X6_numberNow hd_X6_numberNow rfl rfl rfl ⟨rfl, rfl⟩ (by decide) (by decide) (Nat.le_of_ble_eq_true rfl) dX6_digest_29 rfl (kk_i (fun r29 w hr29 hp29 => ?_))
        obtain ⟨now23, oft23, wtd23, ways23, hnw23, hrl23, rfl⟩ := hp29
        rw [hrl23]
        refine tt_i2l hf dX6_digest_32 ?_
        refine tt_callV0 (As := [.long ((iI (nmE kd co cols many sN sW sC sM i 3)).toInt64)]) (rest := []) (q0 := 0) (ci := 6) hf (cm_mix ) lk_X6_X6_mix hd_X6_mix rfl rfl rfl ⟨rfl, rfl⟩ (by decide) (by decide) (Nat.le_of_ble_eq_true rfl) dX6_digest_33 rfl (kk_v (fun w hw => ?_))
        subst hw
        refine tt_iinc (lv' := [(2, .int (iI 4)), (0, .ref o), (1, .int (iI i))]) hf 0 dX6_digest_36 rfl (by decide) rfl ?_
        refine tt_goto (tgt := 19) hf dX6_digest_39 (by decide) ?_
        refine tt_iload_n hf 0 dX6_digest_19 rfl ?_
        refine tt_bipush hf dX6_digest_20 (by decide) ?_
        refine tt_icmp_ge (tgt := 42) hf dX6_digest_22 (by decide) (by omega) (by omega) (fun c => absurd c (by decide)) (fun _ => ?_)
        refine tt_aload_n hf 1 dX6_digest_25 rfl ?_
        refine tt_aload_n hf 1 dX6_digest_26 rfl ?_
        refine tt_iload_n hf 2 dX6_digest_27 rfl ?_
        refine tt_iload_n hf 0 dX6_digest_28 rfl ?_
        refine tt_callV0 (As := [.int (iI i), .int (iI 4)]) (rest := [.ref o]) (q0 := 0) (ci := 6) hf (cm_numberNow hm hkd hnw23 hco hc hcc hsM hsN hsW hsC (by omega) (by omega)) lk_X6_X6_numberNow hd_X6_numberNow rfl rfl rfl ⟨rfl, rfl⟩ (by decide) (by decide) (Nat.le_of_ble_eq_true rfl) dX6_digest_29 rfl (kk_i (fun r29 w hr29 hp29 => ?_))
        obtain ⟨now24, oft24, wtd24, ways24, hnw24, hrl24, rfl⟩ := hp29
        rw [hrl24]
        refine tt_i2l hf dX6_digest_32 ?_
        refine tt_callV0 (As := [.long ((iI (nmE kd co cols many sN sW sC sM i 4)).toInt64)]) (rest := []) (q0 := 0) (ci := 6) hf (cm_mix ) lk_X6_X6_mix hd_X6_mix rfl rfl rfl ⟨rfl, rfl⟩ (by decide) (by decide) (Nat.le_of_ble_eq_true rfl) dX6_digest_33 rfl (kk_v (fun w hw => ?_))
        subst hw
        refine tt_iinc (lv' := [(2, .int (iI 5)), (0, .ref o), (1, .int (iI i))]) hf 0 dX6_digest_36 rfl (by decide) rfl ?_
        refine tt_goto (tgt := 19) hf dX6_digest_39 (by decide) ?_
        refine tt_iload_n hf 0 dX6_digest_19 rfl ?_
        refine tt_bipush hf dX6_digest_20 (by decide) ?_
        refine tt_icmp_ge (tgt := 42) hf dX6_digest_22 (by decide) (by omega) (by omega) (fun c => absurd c (by decide)) (fun _ => ?_)
        refine tt_aload_n hf 1 dX6_digest_25 rfl ?_
        refine tt_aload_n hf 1 dX6_digest_26 rfl ?_
        refine tt_iload_n hf 2 dX6_digest_27 rfl ?_
        refine tt_iload_n hf 0 dX6_digest_28 rfl ?_
        refine tt_callV0 (As := [.int (iI i), .int (iI 5)]) (rest := [.ref o]) (q0 := 0) (ci := 6) hf (cm_numberNow hm hkd hnw24 hco hc hcc hsM hsN hsW hsC (by omega) (by omega)) lk_X6_X6_numberNow hd_X6_numberNow rfl rfl rfl ⟨rfl, rfl⟩ (by decide) (by decide) (Nat.le_of_ble_eq_true rfl) dX6_digest_29 rfl (kk_i (fun r29 w hr29 hp29 => ?_))
        obtain ⟨now25, oft25, wtd25, ways25, hnw25, hrl25, rfl⟩ := hp29
        rw [hrl25]
        refine tt_i2l hf dX6_digest_32 ?_
        refine tt_callV0 (As := [.long ((iI (nmE kd co cols many sN sW sC sM i 5)).toInt64)]) (rest := []) (q0 := 0) (ci := 6) hf (cm_mix ) lk_X6_X6_mix hd_X6_mix rfl rfl rfl ⟨rfl, rfl⟩ (by decide) (by decide) (Nat.le_of_ble_eq_true rfl) dX6_digest_33 rfl (kk_v (fun w hw => ?_))
        subst hw
        refine tt_iinc (lv' := [(2, .int (iI 6)), (0, .ref o), (1, .int (iI i))]) hf 0 dX6_digest_36 rfl (by decide) rfl ?_
        refine tt_goto (tgt := 19) hf dX6_digest_39 (by decide) ?_
        refine tt_iload_n hf 0 dX6_digest_19 rfl ?_
        refine tt_bipush hf dX6_digest_20 (by decide) ?_
        refine tt_icmp_ge (tgt := 42) hf dX6_digest_22 (by decide) (by omega) (by omega) (fun _ => ?_) (fun c => absurd c (by decide))
        refine tt_aload_n hf 1 dX6_digest_42 rfl ?_
        refine tt_aload_n hf 1 dX6_digest_43 rfl ?_
        refine tt_iload_n hf 2 dX6_digest_44 rfl ?_
        refine tt_iconst hf dX6_digest_45 ?_
        refine tt_iconst hf dX6_digest_46 ?_
        refine tt_callV0 (As := [.int (iI i), .int (iI 0), .int (iI 0)]) (rest := [.ref o]) (q0 := 0) (ci := 6) hf (cm_oddsNow hm hkd hnw25 hco hc hcc (by omega) (by omega) (by omega)) lk_X6_X6_oddsNow hd_X6_oddsNow rfl rfl rfl ⟨rfl, rfl⟩ (by decide) (by decide) (Nat.le_of_ble_eq_true rfl) dX6_digest_47 rfl (kk_i (fun r47 w hr47 hp47 => ?_))
        obtain ⟨now26, oft26, wtd26, ways26, hnw26, hrl26, rfl⟩ := hp47
        rw [hrl26]
        refine tt_i2l hf dX6_digest_50 ?_
        refine tt_callV0 (As := [.long ((iI (odE (cnt (WL kd co cols many) i 0) ((WL kd co cols many).length : Int) 0)).toInt64)]) (rest := []) (q0 := 0) (ci := 6) hf (cm_mix ) lk_X6_X6_mix hd_X6_mix rfl rfl rfl ⟨rfl, rfl⟩ (by decide) (by decide) (Nat.le_of_ble_eq_true rfl) dX6_digest_51 rfl (kk_v (fun w hw => ?_))
        subst hw
        refine tt_aload_n hf 1 dX6_digest_54 rfl ?_
        refine tt_aload_n hf 1 dX6_digest_55 rfl ?_
        refine tt_iload_n hf 2 dX6_digest_56 rfl ?_
        refine tt_iconst hf dX6_digest_57 ?_
        refine tt_iconst hf dX6_digest_58 ?_
        refine tt_callV0 (As := [.int (iI i), .int (iI 0), .int (iI 1)]) (rest := [.ref o]) (q0 := 0) (ci := 6) hf (cm_oddsNow hm hkd hnw26 hco hc hcc (by omega) (by omega) (by omega)) lk_X6_X6_oddsNow hd_X6_oddsNow rfl rfl rfl ⟨rfl, rfl⟩ (by decide) (by decide) (Nat.le_of_ble_eq_true rfl) dX6_digest_59 rfl (kk_i (fun r59 w hr59 hp59 => ?_))
        obtain ⟨now27, oft27, wtd27, ways27, hnw27, hrl27, rfl⟩ := hp59
        rw [hrl27]
        refine tt_i2l hf dX6_digest_62 ?_
        refine tt_callV0 (As := [.long ((iI (odE (cnt (WL kd co cols many) i 0) ((WL kd co cols many).length : Int) 1)).toInt64)]) (rest := []) (q0 := 0) (ci := 6) hf (cm_mix ) lk_X6_X6_mix hd_X6_mix rfl rfl rfl ⟨rfl, rfl⟩ (by decide) (by decide) (Nat.le_of_ble_eq_true rfl) dX6_digest_63 rfl (kk_v (fun w hw => ?_))
        subst hw
        refine tt_iinc (lv' := [(1, .int (iI (i + 1))), (2, .int (iI 6)), (0, .ref o)]) hf 2 dX6_digest_66 rfl (by decide) rfl ?_
        refine tt_goto (tgt := 9) hf dX6_digest_69 (by decide) ?_
        refine tt_sub [2, 0] rfl ?_
        exact ih (i + 1) (hx (hx (hx (hx (hx (hx (hx (hx h1 (nmE kd co cols many sN sW sC sM i 0)) (nmE kd co cols many sN sW sC sM i 1)) (nmE kd co cols many sN sW sC sM i 2)) (nmE kd co cols many sN sW sC sM i 3)) (nmE kd co cols many sN sW sC sM i 4)) (nmE kd co cols many sN sW sC sM i 5)) (odE (cnt (WL kd co cols many) i 0) ((WL kd co cols many).length : Int) 0)) (odE (cnt (WL kd co cols many) i 0) ((WL kd co cols many).length : Int) 1)) now27 oft27 wtd27 ways27 (by omega) (by rw [Int.add_sub_cancel, dgN_s (n := i) (by omega), ← hdg]; rfl) hnw27 (by omega)
  refine tt_aload_n hf 0 dX6_digest_0 rfl ?_
  refine tt_ldc2 hf q1060 dX6_digest_1 ?_
  refine pm_hh hf dX6_digest_4 ?_
  refine tt_iconst hf dX6_digest_7 ?_
  refine tt_istore_n (lv' := [(1, .int (iI 1)), (0, .ref o)]) hf dX6_digest_8 (by decide) rfl ?_
  refine tt_sub [1, 0] rfl ?_
  exact lp _ 1 (1321 : Int64) now oft wtd ways (by omega) rfl hnow (Nat.lt_succ_self _)
