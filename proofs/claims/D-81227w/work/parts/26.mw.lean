theorem rng_u {r : Int → Int} {z v : Int} (h : ∀ i, -1 ≤ r i ∧ r i ≤ 2) (hv : -1 ≤ v ∧ v ≤ 2) : ∀ i, -1 ≤ uI r z v i ∧ uI r z v i ≤ 2 := by
  intro i
  by_cases e : i = z
  · subst e; rw [uI_s]; exact hv
  · rw [uI_n e]; exact h i
def wnsE (kd co : Int → Int) (cols many wh : Int) : Int := if wh = 1 then winE kd co cols many else if winE kd co cols many = -1 then 0 else 1
set_option maxHeartbeats 4000000 in
set_option maxRecDepth 100000 in
theorem cm_mendNow {l : Launch} {g : tG} {o : Nat} {ax : Nat → Nat} {brd many cols : Int} {kd co : Int → Int} {chg sM : Int} {sN sW sC : Int → Int} {pgM : Int} {page : Int → Int} {whl nwN : Int} {now oft wtd : Int → Int} {ways : Int} {svd trn cAt wAt : Int → Int} {seed : Int64} {isK kB kG kS : Int} {kK kO kN kW kC : Int → Int} {hh : Int64}  (hm : 0 ≤ many ∧ many ≤ 10) (hkd : ∀ i, 0 ≤ kd i ∧ kd i ≤ 4) (hnow : ∀ i, -1 ≤ now i ∧ now i ≤ 2) (hco : ∀ i, -1 ≤ co i ∧ co i ≤ 2) (hc : 2 ≤ cols ∧ cols ≤ 3) (hcc : ∀ i, 1 ≤ i → i ≤ many → co i ≤ cols - 1) : Ci l g yX6_mendNow (ws_ yX6_mendNow cX6_mendNow 5 (Option.some Jvm.ClassFile.FieldType.int)) (rmL 5) [.ref o] (mW g o ax brd many cols kd co chg sM sN sW sC pgM page whl nwN now oft wtd ways svd trn cAt wAt seed isK kB kG kS kK kO kN kW kC hh) (fun r w => ∃ now1 svd1 : Int → Int, (∀ i, -1 ≤ now1 i ∧ now1 i ≤ 2) ∧ r = mdE kd co cols many ∧ w = mW g o ax brd many cols kd co chg sM sN sW sC pgM page whl nwN now1 oft wtd ways svd1 trn cAt wAt seed isK kB kG kS kK kO kN kW kC hh) := by
  refine Ct.of (by decide) (Nat.le_of_ble_eq_true rfl) ?_
  intro Γ hl hg hf hrT
  subst hl hg
  have hf : Fx Γ RX6 cX6_mendNow 5 := hf
  show T Γ (rmL 5) 5 0 0 (Qe Γ (rmL 5) _) _ 0 [(0, .ref o)] []
  have lp : ∀ (N : Nat) (i : Int) (sv : Int → Int) (cx : Int → Int), (1 ≤ i ∧ i ≤ many + 1) → (sv = mixF i co svd) → (cx = mixF i (fun _ => -1) co) → (11 - i).toNat < N → T Γ (rmL 5) 5 0 0 (Qe Γ (rmL 5) (fun vv w => ∃ r : Int, vv = some (.int (iI r)) ∧ iR r ∧ (∃ now1 svd1 : Int → Int, (∀ i, -1 ≤ now1 i ∧ now1 i ≤ 2) ∧ r = mdE kd co cols many ∧ w = mW (xg Γ) o ax brd many cols kd co chg sM sN sW sC pgM page whl nwN now1 oft wtd ways svd1 trn cAt wAt seed isK kB kG kS kK kO kN kW kC hh))) (mW (xg Γ) o ax brd many cols kd cx chg sM sN sW sC pgM page whl nwN now oft wtd ways sv trn cAt wAt seed isK kB kG kS kK kO kN kW kC hh) 5 [(0, .ref o), (1, .int (iI 268435456)), (2, .int (iI i))] [] := by
    intro N
    induction N with
    | zero => intro i sv cx hi hsv hcx hN; exact absurd hN (Nat.not_lt_zero _)
    | succ N ih =>
      intro i sv cx hi hsv hcx hN
      refine tt_iload_n hf 2 dX6_mendNow_5 rfl ?_
      refine tt_aload_n hf 0 dX6_mendNow_6 rfl ?_
      refine gm_many hf dX6_mendNow_7 ?_
      refine tt_icmp_gt (tgt := 38) hf dX6_mendNow_10 (by decide) (by omega) (by omega) (fun c10 => ?_) (fun c10 => ?_)
      · have ei : i = many + 1 := by omega
        subst ei
        have hcx1 : ∀ i, 1 ≤ i → i ≤ many → cx i = -1 := fun i h1 h2 => by rw [hcx, mixF_in (by omega)]
        have hcr : ∀ i, -1 ≤ cx i ∧ cx i ≤ 2 := fun i => by rw [hcx]; by_cases q : 1 ≤ i ∧ i < many + 1; rw [mixF_in q]; exact ⟨Int.le_refl _, by decide⟩; rw [mixF_out q]; exact hco i
        have hcl : ∀ i, 1 ≤ i → i ≤ many → cx i ≤ cols - 1 := fun i h1 h2 => by rw [hcx1 i h1 h2]; omega
        have hsv1 : ∀ i, 1 ≤ i → i ≤ many → sv i = co i := fun i h1 h2 => by rw [hsv, mixF_in (by omega)]
        refine tt_aload_n hf 0 dX6_mendNow_38 rfl ?_
        refine tt_callV0 (As := []) (rest := []) (q0 := 0) (ci := 6) hf (cm_layNow hm) lk_X6_X6_layNow hd_X6_layNow rfl rfl rfl ⟨rfl, rfl⟩ (by decide) (by decide) (Nat.le_of_ble_eq_true rfl) dX6_mendNow_39 rfl (kk_v (fun w hw => ?_))
        subst hw
        refine tt_aload_n hf 0 dX6_mendNow_42 rfl ?_
        refine tt_iconst hf dX6_mendNow_43 ?_
        refine tt_aload_n hf 0 dX6_mendNow_44 rfl ?_
        refine gm_many hf dX6_mendNow_45 ?_
        refine tt_callV0 (As := [.int (iI 1), .int (iI many)]) (rest := []) (q0 := 0) (ci := 6) hf (cm_goOn hkd hcr hc (by omega) (by omega) hcl (lay_ok hc.1 hcr hcl hnow) (goS_startI (by omega) (by omega) (lay_in hm.2))) lk_X6_X6_goOn hd_X6_goOn rfl rfl rfl ⟨rfl, rfl⟩ (by decide) (by decide) (Nat.le_of_ble_eq_true rfl) dX6_mendNow_48 rfl (kk_i (fun r48 w hr48 hp48 => ?_))
        obtain ⟨nw1, hoknw1, hgonw1, rfl⟩ := hp48
        refine tt_istore_n (lv' := [(2, .int (iI r48)), (0, .ref o), (1, .int (iI 268435456))]) hf dX6_mendNow_51 (by decide) rfl ?_
        have lB : ∀ (N : Nat) (le : Int) (n : Int) (nw : Int → Int) (rem : List (Int → Int)), ((n = 0 ∧ rem = []) ∨ (n = many + 1 ∧ ∃ rest, rem = nw :: rest ∧ up kd cx cols many.toNat many.toNat nw = rest)) → (rOk cols nw) → (∀ r ∈ rem, r ∈ (cmp kd cx cols many.toNat 1 (lay many cx now))) → (mdF co many le rem = mdF co many 268435456 (cmp kd cx cols many.toNat 1 (lay many cx now))) → (0 ≤ le ∧ le ≤ 268435456) → rem.length < N → T Γ (rmL 5) 5 0 0 (Qe Γ (rmL 5) (fun vv w => ∃ r : Int, vv = some (.int (iI r)) ∧ iR r ∧ (∃ now1 svd1 : Int → Int, (∀ i, -1 ≤ now1 i ∧ now1 i ≤ 2) ∧ r = mdE kd co cols many ∧ w = mW (xg Γ) o ax brd many cols kd co chg sM sN sW sC pgM page whl nwN now1 oft wtd ways svd1 trn cAt wAt seed isK kB kG kS kK kO kN kW kC hh))) (mW (xg Γ) o ax brd many cols kd cx chg sM sN sW sC pgM page whl nwN nw oft wtd ways sv trn cAt wAt seed isK kB kG kS kK kO kN kW kC hh) 52 [(0, .ref o), (1, .int (iI le)), (2, .int (iI n))] [] := by
          intro N
          induction N with
          | zero => intro le n nw rem hn hok hin hmd hle hN; exact absurd hN (Nat.not_lt_zero _)
          | succ N ih =>
            intro le n nw rem hn hok hin hmd hle hN
            have ihB := ih
            refine tt_iload_n hf 2 dX6_mendNow_52 rfl ?_
            refine tt_if_le (tgt := 143) hf dX6_mendNow_53 (by decide) (by omega) (fun c53 => ?_) (fun c53 => ?_)
            · refine tt_iconst hf dX6_mendNow_143 ?_
              refine tt_istore_n (lv' := [(3, .int (iI 1)), (0, .ref o), (1, .int (iI le)), (2, .int (iI n))]) hf dX6_mendNow_144 (by decide) rfl ?_
              have hrem : rem = [] := by rcases hn with ⟨_, q⟩ | ⟨q, _⟩; exact q; exact absurd q (by omega)
              subst hrem
              have hmd : le = mdF co many 268435456 (WL kd (fun _ => -1) cols many) := by rw [md_of hm.1 hcx1] at hmd; exact hmd
              have lD : ∀ (N : Nat) (i2 : Int) (cy : Int → Int), (1 ≤ i2 ∧ i2 ≤ many + 1) → (cy = mixF i2 sv cx) → (11 - i2).toNat < N → T Γ (rmL 5) 5 0 0 (Qe Γ (rmL 5) (fun vv w => ∃ r : Int, vv = some (.int (iI r)) ∧ iR r ∧ (∃ now1 svd1 : Int → Int, (∀ i, -1 ≤ now1 i ∧ now1 i ≤ 2) ∧ r = mdE kd co cols many ∧ w = mW (xg Γ) o ax brd many cols kd co chg sM sN sW sC pgM page whl nwN now1 oft wtd ways svd1 trn cAt wAt seed isK kB kG kS kK kO kN kW kC hh))) (mW (xg Γ) o ax brd many cols kd cy chg sM sN sW sC pgM page whl nwN nw oft wtd ways sv trn cAt wAt seed isK kB kG kS kK kO kN kW kC hh) 145 [(0, .ref o), (1, .int (iI le)), (2, .int (iI n)), (3, .int (iI i2))] [] := by
                intro N
                induction N with
                | zero => intro i2 cy hi2 hcyy hN; exact absurd hN (Nat.not_lt_zero _)
                | succ N ih =>
                  intro i2 cy hi2 hcyy hN
                  refine tt_iload_n hf 3 dX6_mendNow_145 rfl ?_
                  refine tt_aload_n hf 0 dX6_mendNow_146 rfl ?_
                  refine gm_many hf dX6_mendNow_147 ?_
                  refine tt_icmp_gt (tgt := 171) hf dX6_mendNow_150 (by decide) (by omega) (by omega) (fun c150 => ?_) (fun c150 => ?_)
                  · refine tt_iload_n hf 1 dX6_mendNow_171 rfl ?_
                    refine tt_ldc hf (268435456) q917 (by decide) dX6_mendNow_172 ?_
                    refine tt_icmp_ne (tgt := 181) hf dX6_mendNow_174 (by decide) (by omega) (by omega) (fun c174 => ?_) (fun c174 => ?_)
                    · refine tt_iload_n hf 1 dX6_mendNow_181 rfl ?_
                      have hcy : cy = co := by funext n; rw [hcyy]; by_cases q : 1 ≤ n ∧ n ≤ many; rw [mixF_in (by omega), hsv1 n q.1 q.2]; rw [mixF_out (by omega), hcx, mixF_out (by omega)]
                      rw [hcy]
                      exact tt_ireti hf hrT dX6_mendNow_182 (Nat.le_refl _) (Nat.le_refl _) (by omega) ⟨nw, sv, hok.1, by unfold mdE; rw [← hmd, if_neg c174], rfl⟩
                    · refine tt_iconst hf dX6_mendNow_177 ?_
                      refine tt_goto (tgt := 182) hf dX6_mendNow_178 (by decide) ?_
                      have hcy : cy = co := by funext n; rw [hcyy]; by_cases q : 1 ≤ n ∧ n ≤ many; rw [mixF_in (by omega), hsv1 n q.1 q.2]; rw [mixF_out (by omega), hcx, mixF_out (by omega)]
                      rw [hcy]
                      exact tt_ireti hf hrT dX6_mendNow_182 (Nat.le_refl _) (Nat.le_refl _) (by omega) ⟨nw, sv, hok.1, by unfold mdE; rw [← hmd, if_pos c174], rfl⟩
                  · refine tt_aload_n hf 0 dX6_mendNow_153 rfl ?_
                    refine gm_co hf dX6_mendNow_154 ?_
                    refine tt_iload_n hf 3 dX6_mendNow_157 rfl ?_
                    refine tt_aload_n hf 0 dX6_mendNow_158 rfl ?_
                    refine gm_svd hf dX6_mendNow_159 ?_
                    refine tt_iload_n hf 3 dX6_mendNow_162 rfl ?_
                    refine lm_svd hf (by omega) dX6_mendNow_163 ?_
                    refine sm_co hf (by omega) dX6_mendNow_164 ?_
                    refine tt_iinc (lv' := [(3, .int (iI (i2 + 1))), (0, .ref o), (1, .int (iI le)), (2, .int (iI n))]) hf 3 dX6_mendNow_165 rfl (by decide) rfl ?_
                    refine tt_goto (tgt := 145) hf dX6_mendNow_168 (by decide) ?_
                    refine tt_sub [1, 2, 3, 0] rfl ?_
                    exact ih (i2 + 1) (uI cy i2 (sv i2)) (by omega) (by rw [hcyy]; exact mixF_s (by omega) rfl) (by omega)
              refine tt_sub [1, 2, 3, 0] rfl ?_
              exact lD _ 1 cx (by omega) mixF_1.symm (Nat.lt_succ_self _)
            · obtain ⟨rest, hrem, hup⟩ : ∃ rest, rem = nw :: rest ∧ up kd cx cols many.toNat many.toNat nw = rest := by rcases hn with ⟨q, _⟩ | ⟨_, q⟩; exact absurd q (by omega); exact q
              subst hrem
              have hmem := hin nw List.mem_cons_self
              simp only [List.length_cons] at hN
              have htb := tb_ok hc hcr many.toNat nw (by omega) (fun i h1 h2 => hcl i h1 (by omega)) hok
              refine tt_iconst hf dX6_mendNow_56 ?_
              refine tt_istore_n (lv' := [(3, .int (iI 0)), (0, .ref o), (1, .int (iI le)), (2, .int (iI n))]) hf dX6_mendNow_57 (by decide) rfl ?_
              refine tt_iconst hf dX6_mendNow_58 ?_
              refine tt_istore (lv' := [(4, .int (iI 1)), (3, .int (iI 0)), (0, .ref o), (1, .int (iI le)), (2, .int (iI n))]) hf dX6_mendNow_59 (by decide) rfl ?_
              have lC : ∀ (N : Nat) (ot : Int) (k : Int), (1 ≤ k ∧ k ≤ many + 1) → (ot = dfN co nw (k - 1).toNat) → (0 ≤ ot ∧ ot ≤ k) → (11 - k).toNat < N → T Γ (rmL 5) 5 0 0 (Qe Γ (rmL 5) (fun vv w => ∃ r : Int, vv = some (.int (iI r)) ∧ iR r ∧ (∃ now1 svd1 : Int → Int, (∀ i, -1 ≤ now1 i ∧ now1 i ≤ 2) ∧ r = mdE kd co cols many ∧ w = mW (xg Γ) o ax brd many cols kd co chg sM sN sW sC pgM page whl nwN now1 oft wtd ways svd1 trn cAt wAt seed isK kB kG kS kK kO kN kW kC hh))) (mW (xg Γ) o ax brd many cols kd cx chg sM sN sW sC pgM page whl nwN nw oft wtd ways sv trn cAt wAt seed isK kB kG kS kK kO kN kW kC hh) 61 [(0, .ref o), (1, .int (iI le)), (2, .int (iI n)), (3, .int (iI ot)), (4, .int (iI k))] [] := by
                intro N
                induction N with
                | zero => intro ot k hk hot hor hN; exact absurd hN (Nat.not_lt_zero _)
                | succ N ih =>
                  intro ot k hk hot hor hN
                  refine tt_iload hf 4 dX6_mendNow_61 rfl ?_
                  refine tt_aload_n hf 0 dX6_mendNow_63 rfl ?_
                  refine gm_many hf dX6_mendNow_64 ?_
                  refine tt_icmp_gt (tgt := 112) hf dX6_mendNow_67 (by decide) (by omega) (by omega) (fun c67 => ?_) (fun c67 => ?_)
                  · have hot : ot = dfN co nw many.toNat := by rw [hot, show k - 1 = many by omega]
                    refine tt_iload_n hf 3 dX6_mendNow_112 rfl ?_
                    refine tt_iload_n hf 1 dX6_mendNow_113 rfl ?_
                    refine tt_icmp_ge (tgt := 121) hf dX6_mendNow_114 (by decide) (by omega) (by omega) (fun c114 => ?_) (fun c114 => ?_)
                    · refine tt_iload_n hf 1 dX6_mendNow_121 rfl ?_
                      refine tt_istore_n (lv' := [(1, .int (iI le)), (0, .ref o), (2, .int (iI n)), (3, .int (iI ot)), (4, .int (iI k))]) hf dX6_mendNow_122 (by decide) rfl ?_
                      refine tt_aload_n hf 1 dX6_mendNow_123 rfl ?_
                      refine tt_aload_n hf 1 dX6_mendNow_124 rfl ?_
                      refine tt_aload_n hf 1 dX6_mendNow_125 rfl ?_
                      refine gm_many hf dX6_mendNow_126 ?_
                      refine tt_callV0 (As := [.int (iI many)]) (rest := [.ref o]) (q0 := 0) (ci := 6) hf (cm_turnBack hc hcr (by omega) hcl hok) lk_X6_X6_turnBack hd_X6_turnBack rfl rfl rfl ⟨rfl, rfl⟩ (by decide) (by decide) (Nat.le_of_ble_eq_true rfl) dX6_mendNow_129 rfl (kk_e (fun r129 => ?_))
                      refine tt_aload_n hf 1 dX6_mendNow_132 rfl ?_
                      refine gm_many hf dX6_mendNow_133 ?_
                      refine tt_callV0 (As := [.int (iI ((tb cols cx many.toNat nw).1)), .int (iI many)]) (rest := []) (q0 := 0) (ci := 6) hf (cm_goOn hkd hcr hc (by omega) ⟨htb.2.1, by omega⟩ hcl htb.1 (goS_nextI (by omega) hm.1 (fun i h1 h2 _ => WL_at hcr hcl hm.1 hmem i h1 h2))) lk_X6_X6_goOn hd_X6_goOn rfl rfl rfl ⟨rfl, rfl⟩ (by decide) (by decide) (Nat.le_of_ble_eq_true rfl) dX6_mendNow_136 rfl (kk_i (fun r136 w hr136 hp136 => ?_))
                      obtain ⟨nw2, hoknw2, hgonw2, rfl⟩ := hp136
                      refine tt_istore_n (lv' := [(2, .int (iI r136)), (1, .int (iI le)), (0, .ref o), (3, .int (iI ot)), (4, .int (iI k))]) hf dX6_mendNow_139 (by decide) rfl ?_
                      refine tt_goto (tgt := 52) hf dX6_mendNow_140 (by decide) ?_
                      refine tt_sub [2, 1, 0] rfl ?_
                      exact ihB le r136 nw2 rest (by rcases hgonw2 with ⟨q1, q2⟩ | ⟨q1, q2⟩; exact Or.inl ⟨q1, hup ▸ q2⟩; exact Or.inr ⟨q1, hup ▸ q2⟩) hoknw2 (fun r hr => hin r (List.mem_cons_of_mem _ hr)) (by rw [← hmd]; simp only [mdF]; rw [← hot, if_neg (by omega)]) (by omega) (by omega)
                    · refine tt_iload_n hf 3 dX6_mendNow_117 rfl ?_
                      refine tt_goto (tgt := 122) hf dX6_mendNow_118 (by decide) ?_
                      refine tt_istore_n (lv' := [(1, .int (iI ot)), (0, .ref o), (2, .int (iI n)), (3, .int (iI ot)), (4, .int (iI k))]) hf dX6_mendNow_122 (by decide) rfl ?_
                      refine tt_aload_n hf 1 dX6_mendNow_123 rfl ?_
                      refine tt_aload_n hf 1 dX6_mendNow_124 rfl ?_
                      refine tt_aload_n hf 1 dX6_mendNow_125 rfl ?_
                      refine gm_many hf dX6_mendNow_126 ?_
                      refine tt_callV0 (As := [.int (iI many)]) (rest := [.ref o]) (q0 := 0) (ci := 6) hf (cm_turnBack hc hcr (by omega) hcl hok) lk_X6_X6_turnBack hd_X6_turnBack rfl rfl rfl ⟨rfl, rfl⟩ (by decide) (by decide) (Nat.le_of_ble_eq_true rfl) dX6_mendNow_129 rfl (kk_e (fun r129 => ?_))
                      refine tt_aload_n hf 1 dX6_mendNow_132 rfl ?_
                      refine gm_many hf dX6_mendNow_133 ?_
                      refine tt_callV0 (As := [.int (iI ((tb cols cx many.toNat nw).1)), .int (iI many)]) (rest := []) (q0 := 0) (ci := 6) hf (cm_goOn hkd hcr hc (by omega) ⟨htb.2.1, by omega⟩ hcl htb.1 (goS_nextI (by omega) hm.1 (fun i h1 h2 _ => WL_at hcr hcl hm.1 hmem i h1 h2))) lk_X6_X6_goOn hd_X6_goOn rfl rfl rfl ⟨rfl, rfl⟩ (by decide) (by decide) (Nat.le_of_ble_eq_true rfl) dX6_mendNow_136 rfl (kk_i (fun r136 w hr136 hp136 => ?_))
                      obtain ⟨nw3, hoknw3, hgonw3, rfl⟩ := hp136
                      refine tt_istore_n (lv' := [(2, .int (iI r136)), (1, .int (iI ot)), (0, .ref o), (3, .int (iI ot)), (4, .int (iI k))]) hf dX6_mendNow_139 (by decide) rfl ?_
                      refine tt_goto (tgt := 52) hf dX6_mendNow_140 (by decide) ?_
                      refine tt_sub [2, 1, 0] rfl ?_
                      exact ihB ot r136 nw3 rest (by rcases hgonw3 with ⟨q1, q2⟩ | ⟨q1, q2⟩; exact Or.inl ⟨q1, hup ▸ q2⟩; exact Or.inr ⟨q1, hup ▸ q2⟩) hoknw3 (fun r hr => hin r (List.mem_cons_of_mem _ hr)) (by rw [← hmd]; simp only [mdF]; rw [← hot, if_pos (by omega)]) (by omega) (by omega)
                  · have hs := hsv1 k (by omega) (by omega)
                    have hq1 := hco k
                    have hq2 := hok.1 k
                    refine tt_iload_n hf 3 dX6_mendNow_70 rfl ?_
                    refine tt_aload_n hf 0 dX6_mendNow_71 rfl ?_
                    refine gm_svd hf dX6_mendNow_72 ?_
                    refine tt_iload hf 4 dX6_mendNow_75 rfl ?_
                    refine lm_svd hf (by omega) dX6_mendNow_77 ?_
                    refine tt_iconst hf dX6_mendNow_78 ?_
                    refine tt_icmp_eq (tgt := 103) hf dX6_mendNow_79 (by decide) (by omega) (by omega) (fun c79 => ?_) (fun c79 => ?_)
                    · refine tt_iconst hf dX6_mendNow_103 ?_
                      refine tt_iadd hf dX6_mendNow_104 ?_
                      refine tt_istore_n (lv' := [(3, .int (iI (ot + 0))), (0, .ref o), (1, .int (iI le)), (2, .int (iI n)), (4, .int (iI k))]) hf dX6_mendNow_105 (by decide) rfl ?_
                      refine tt_iinc (lv' := [(4, .int (iI (k + 1))), (3, .int (iI (ot + 0))), (0, .ref o), (1, .int (iI le)), (2, .int (iI n))]) hf 4 dX6_mendNow_106 rfl (by decide) rfl ?_
                      refine tt_goto (tgt := 61) hf dX6_mendNow_109 (by decide) ?_
                      refine tt_sub [2, 3, 4, 1, 0] rfl ?_
                      exact ih (ot + 0) (k + 1) (by omega) (by rw [Int.add_sub_cancel, dfN_s (by omega), if_neg (by rw [← hs]; intro q; exact q.1 c79), ← hot]) (by omega) (by omega)
                    · refine tt_aload_n hf 0 dX6_mendNow_82 rfl ?_
                      refine gm_svd hf dX6_mendNow_83 ?_
                      refine tt_iload hf 4 dX6_mendNow_86 rfl ?_
                      refine lm_svd hf (by omega) dX6_mendNow_88 ?_
                      refine tt_aload_n hf 0 dX6_mendNow_89 rfl ?_
                      refine gm_now hf dX6_mendNow_90 ?_
                      refine tt_iload hf 4 dX6_mendNow_93 rfl ?_
                      refine lm_now hf (by omega) dX6_mendNow_95 ?_
                      refine tt_icmp_eq (tgt := 103) hf dX6_mendNow_96 (by decide) (by omega) (by omega) (fun c96 => ?_) (fun c96 => ?_)
                      · refine tt_iconst hf dX6_mendNow_103 ?_
                        refine tt_iadd hf dX6_mendNow_104 ?_
                        refine tt_istore_n (lv' := [(3, .int (iI (ot + 0))), (0, .ref o), (1, .int (iI le)), (2, .int (iI n)), (4, .int (iI k))]) hf dX6_mendNow_105 (by decide) rfl ?_
                        refine tt_iinc (lv' := [(4, .int (iI (k + 1))), (3, .int (iI (ot + 0))), (0, .ref o), (1, .int (iI le)), (2, .int (iI n))]) hf 4 dX6_mendNow_106 rfl (by decide) rfl ?_
                        refine tt_goto (tgt := 61) hf dX6_mendNow_109 (by decide) ?_
                        refine tt_sub [2, 3, 4, 1, 0] rfl ?_
                        exact ih (ot + 0) (k + 1) (by omega) (by rw [Int.add_sub_cancel, dfN_s (by omega), if_neg (by rw [← hs]; intro q; exact q.2 c96), ← hot]) (by omega) (by omega)
                      · refine tt_iconst hf dX6_mendNow_99 ?_
                        refine tt_goto (tgt := 104) hf dX6_mendNow_100 (by decide) ?_
                        refine tt_iadd hf dX6_mendNow_104 ?_
                        refine tt_istore_n (lv' := [(3, .int (iI (ot + 1))), (0, .ref o), (1, .int (iI le)), (2, .int (iI n)), (4, .int (iI k))]) hf dX6_mendNow_105 (by decide) rfl ?_
                        refine tt_iinc (lv' := [(4, .int (iI (k + 1))), (3, .int (iI (ot + 1))), (0, .ref o), (1, .int (iI le)), (2, .int (iI n))]) hf 4 dX6_mendNow_106 rfl (by decide) rfl ?_
                        refine tt_goto (tgt := 61) hf dX6_mendNow_109 (by decide) ?_
                        refine tt_sub [2, 3, 4, 1, 0] rfl ?_
                        exact ih (ot + 1) (k + 1) (by omega) (by rw [Int.add_sub_cancel, dfN_s (by omega), if_pos (by rw [← hs]; exact ⟨c79, c96⟩), ← hot]) (by omega) (by omega)
              refine tt_sub [2, 3, 4, 1, 0] rfl ?_
              exact lC _ 0 1 (by omega) rfl (by omega) (Nat.lt_succ_self _)
        refine tt_sub [1, 2, 0] rfl ?_
        exact lB _ 268435456 r48 nw1 (cmp kd cx cols many.toNat 1 (lay many cx now)) (by rcases hgonw1 with ⟨q1, q2⟩ | ⟨q1, q2⟩; exact Or.inl ⟨q1, q2⟩; exact Or.inr ⟨q1, q2⟩) hoknw1 (fun r h => h) rfl (by omega) (Nat.lt_succ_self _)
      · refine tt_aload_n hf 0 dX6_mendNow_13 rfl ?_
        refine gm_svd hf dX6_mendNow_14 ?_
        refine tt_iload_n hf 2 dX6_mendNow_17 rfl ?_
        refine tt_aload_n hf 0 dX6_mendNow_18 rfl ?_
        refine gm_co hf dX6_mendNow_19 ?_
        refine tt_iload_n hf 2 dX6_mendNow_22 rfl ?_
        refine lm_co hf (by omega) dX6_mendNow_23 ?_
        refine sm_svd hf (by omega) dX6_mendNow_24 ?_
        refine tt_aload_n hf 0 dX6_mendNow_25 rfl ?_
        refine gm_co hf dX6_mendNow_26 ?_
        refine tt_iload_n hf 2 dX6_mendNow_29 rfl ?_
        refine tt_iconst hf dX6_mendNow_30 ?_
        refine sm_co hf (by omega) dX6_mendNow_31 ?_
        refine tt_iinc (lv' := [(2, .int (iI (i + 1))), (0, .ref o), (1, .int (iI 268435456))]) hf 2 dX6_mendNow_32 rfl (by decide) rfl ?_
        refine tt_goto (tgt := 5) hf dX6_mendNow_35 (by decide) ?_
        refine tt_sub [1, 2, 0] rfl ?_
        exact ih (i + 1) (uI sv i (cx i)) (uI cx i (-1)) (by omega) (by rw [hsv]; exact mixF_s (by omega) (by rw [hcx, mixF_out (by omega)])) (by rw [hcx]; exact mixF_s (by omega) rfl) (by omega)
  refine tt_ldc hf (268435456) q917 (by decide) dX6_mendNow_0 ?_
  refine tt_istore_n (lv' := [(1, .int (iI 268435456)), (0, .ref o)]) hf dX6_mendNow_2 (by decide) rfl ?_
  refine tt_iconst hf dX6_mendNow_3 ?_
  refine tt_istore_n (lv' := [(2, .int (iI 1)), (1, .int (iI 268435456)), (0, .ref o)]) hf dX6_mendNow_4 (by decide) rfl ?_
  refine tt_sub [2, 1, 0] rfl ?_
  exact lp _ 1 svd co (by omega) mixF_1.symm mixF_1.symm (Nat.lt_succ_self _)
set_option maxHeartbeats 4000000 in
set_option maxRecDepth 100000 in
theorem cm_mend {l : Launch} {g : tG} {o : Nat} {ax : Nat → Nat} {brd many cols : Int} {kd co : Int → Int} {chg sM : Int} {sN sW sC : Int → Int} {pgM : Int} {page : Int → Int} {whl nwN : Int} {now oft wtd : Int → Int} {ways : Int} {svd trn cAt wAt : Int → Int} {seed : Int64} {isK kB kG kS : Int} {kK kO kN kW kC : Int → Int} {hh : Int64}  (hm : 0 ≤ many ∧ many ≤ 10) (hkd : ∀ i, 0 ≤ kd i ∧ kd i ≤ 4) (hnow : ∀ i, -1 ≤ now i ∧ now i ≤ 2) (hco : ∀ i, -1 ≤ co i ∧ co i ≤ 2) (hcm : 0 < many → 2 ≤ cols ∧ cols ≤ 3) (hcc : ∀ i, 1 ≤ i → i ≤ many → co i ≤ cols - 1) : Ci l g yX6_mend (ws_ yX6_mend cX6_mend 1 (Option.some Jvm.ClassFile.FieldType.int)) (rmL 6) [.ref o] (mW g o ax brd many cols kd co chg sM sN sW sC pgM page whl nwN now oft wtd ways svd trn cAt wAt seed isK kB kG kS kK kO kN kW kC hh) (fun r w => ∃ now1 svd1 : Int → Int, (∀ i, -1 ≤ now1 i ∧ now1 i ≤ 2) ∧ r = (if many = 0 then -103 else mdE kd co cols many) ∧ w = mW g o ax brd many cols kd co chg sM sN sW sC pgM page whl nwN now1 oft wtd ways svd1 trn cAt wAt seed isK kB kG kS kK kO kN kW kC hh) := by
  refine Ct.of (by decide) (Nat.le_of_ble_eq_true rfl) ?_
  intro Γ hl hg hf hrT
  subst hl hg
  have hf : Fx Γ RX6 cX6_mend 1 := hf
  show T Γ (rmL 6) 1 0 0 (Qe Γ (rmL 6) _) _ 0 [(0, .ref o)] []
  refine tt_aload_n hf 0 dX6_mend_0 rfl ?_
  refine gm_many hf dX6_mend_1 ?_
  refine tt_if_ne (tgt := 12) hf dX6_mend_4 (by decide) (by omega) (fun c4 => ?_) (fun c4 => ?_)
  · refine tt_aload_n hf 0 dX6_mend_12 rfl ?_
    refine tt_callV0 (As := []) (rest := []) (q0 := 0) (ci := 6) hf (cm_mendNow hm hkd hnow hco (hcm (by omega)) hcc) lk_X6_X6_mendNow hd_X6_mendNow rfl rfl rfl ⟨rfl, rfl⟩ (by decide) (by decide) (Nat.le_of_ble_eq_true rfl) dX6_mend_13 rfl (kk_i (fun r13 w hr13 hp13 => ?_))
    obtain ⟨now1, svd1, hnw1, hrl1, rfl⟩ := hp13
    exact tt_ireti hf hrT dX6_mend_16 (Nat.le_refl _) (Nat.le_refl _) hr13 ⟨now1, svd1, hnw1, by rw [hrl1, if_neg c4], rfl⟩
  · refine tt_bipush hf dX6_mend_7 (by decide) ?_
    refine tt_goto (tgt := 16) hf dX6_mend_9 (by decide) ?_
    exact tt_ireti hf hrT dX6_mend_16 (Nat.le_refl _) (Nat.le_refl _) (by omega) ⟨now, svd, hnow, by rw [if_pos c4], rfl⟩
set_option maxHeartbeats 4000000 in
set_option maxRecDepth 100000 in
theorem cm_layTurns {l : Launch} {g : tG} {o : Nat} {ax : Nat → Nat} {brd many cols : Int} {kd co : Int → Int} {chg sM : Int} {sN sW sC : Int → Int} {pgM : Int} {page : Int → Int} {whl nwN : Int} {now oft wtd : Int → Int} {ways : Int} {svd trn cAt wAt : Int → Int} {seed : Int64} {isK kB kG kS : Int} {kK kO kN kW kC : Int → Int} {hh : Int64}  (hm : 0 ≤ many ∧ many ≤ 10) (hco : ∀ i, -1 ≤ co i ∧ co i ≤ 2) : Ci l g yX6_layTurns (ws_ yX6_layTurns cX6_layTurns 3 (Option.some Jvm.ClassFile.FieldType.int)) (rmL 1) [.ref o] (mW g o ax brd many cols kd co chg sM sN sW sC pgM page whl nwN now oft wtd ways svd trn cAt wAt seed isK kB kG kS kK kO kN kW kC hh) (fun r w => ∃ trn1 : Int → Int, trOk co many r trn1 ∧ r = brN co many.toNat ∧ w = mW g o ax brd many cols kd co chg sM sN sW sC pgM page whl nwN now oft wtd ways svd trn1 cAt wAt seed isK kB kG kS kK kO kN kW kC hh) := by
  refine Ct.of (by decide) (Nat.le_of_ble_eq_true rfl) ?_
  intro Γ hl hg hf hrT
  subst hl hg
  have hf : Fx Γ RX6 cX6_layTurns 3 := hf
  show T Γ (rmL 1) 3 0 0 (Qe Γ (rmL 1) _) _ 0 [(0, .ref o)] []
  have lp : ∀ (N : Nat) (b : Int) (i : Int) (tr : Int → Int), (1 ≤ i ∧ i ≤ many + 1) → (trOk co (i - 1) b tr) → (b = brN co (i - 1).toNat) → (11 - i).toNat < N → T Γ (rmL 1) 3 0 0 (Qe Γ (rmL 1) (fun vv w => ∃ r : Int, vv = some (.int (iI r)) ∧ iR r ∧ (∃ trn1 : Int → Int, trOk co many r trn1 ∧ r = brN co many.toNat ∧ w = mW (xg Γ) o ax brd many cols kd co chg sM sN sW sC pgM page whl nwN now oft wtd ways svd trn1 cAt wAt seed isK kB kG kS kK kO kN kW kC hh))) (mW (xg Γ) o ax brd many cols kd co chg sM sN sW sC pgM page whl nwN now oft wtd ways svd tr cAt wAt seed isK kB kG kS kK kO kN kW kC hh) 4 [(0, .ref o), (1, .int (iI b)), (2, .int (iI i))] [] := by
    intro N
    induction N with
    | zero => intro b i tr hi ht hb hN; exact absurd hN (Nat.not_lt_zero _)
    | succ N ih =>
      intro b i tr hi ht hb hN
      have q := hco i
      have hb1 := ht.1
      have hb2 := ht.2.1
      refine tt_iload_n hf 2 dX6_layTurns_4 rfl ?_
      refine tt_aload_n hf 0 dX6_layTurns_5 rfl ?_
      refine gm_many hf dX6_layTurns_6 ?_
      refine tt_icmp_gt (tgt := 38) hf dX6_layTurns_9 (by decide) (by omega) (by omega) (fun c9 => ?_) (fun c9 => ?_)
      · refine tt_iload_n hf 1 dX6_layTurns_38 rfl ?_
        exact tt_ireti hf hrT dX6_layTurns_39 (Nat.le_refl _) (Nat.le_refl _) (by omega) ⟨tr, by rw [show many = i - 1 by omega]; exact ht, by rw [show many = i - 1 by omega]; exact hb, rfl⟩
      · refine tt_aload_n hf 0 dX6_layTurns_12 rfl ?_
        refine gm_co hf dX6_layTurns_13 ?_
        refine tt_iload_n hf 2 dX6_layTurns_16 rfl ?_
        refine lm_co hf (by omega) dX6_layTurns_17 ?_
        refine tt_iconst hf dX6_layTurns_18 ?_
        refine tt_icmp_ne (tgt := 32) hf dX6_layTurns_19 (by decide) (by omega) (by omega) (fun c19 => ?_) (fun c19 => ?_)
        · refine tt_iinc (lv' := [(2, .int (iI (i + 1))), (0, .ref o), (1, .int (iI b))]) hf 2 dX6_layTurns_32 rfl (by decide) rfl ?_
          refine tt_goto (tgt := 4) hf dX6_layTurns_35 (by decide) ?_
          refine tt_sub [1, 2, 0] rfl ?_
          exact ih b (i + 1) tr (by omega) (by have := trOk_n ht (by rw [Int.sub_add_cancel]; exact c19); rw [Int.sub_add_cancel] at this; rw [Int.add_sub_cancel]; exact this) (by rw [Int.add_sub_cancel, brN_s (by omega), if_neg c19, ← hb]; omega) (by omega)
        · refine tt_aload_n hf 0 dX6_layTurns_22 rfl ?_
          refine gm_trn hf dX6_layTurns_23 ?_
          refine tt_iload_n hf 1 dX6_layTurns_26 rfl ?_
          refine tt_iload_n hf 2 dX6_layTurns_27 rfl ?_
          refine sm_trn hf (by omega) dX6_layTurns_28 ?_
          refine tt_iinc (lv' := [(1, .int (iI (b + 1))), (0, .ref o), (2, .int (iI i))]) hf 1 dX6_layTurns_29 rfl (by decide) rfl ?_
          refine tt_iinc (lv' := [(2, .int (iI (i + 1))), (1, .int (iI (b + 1))), (0, .ref o)]) hf 2 dX6_layTurns_32 rfl (by decide) rfl ?_
          refine tt_goto (tgt := 4) hf dX6_layTurns_35 (by decide) ?_
          refine tt_sub [2, 1, 0] rfl ?_
          exact ih (b + 1) (i + 1) (uI tr b i) (by omega) (by have := trOk_y (by omega) ht (by rw [Int.sub_add_cancel]; exact c19); rw [Int.sub_add_cancel] at this; rw [Int.add_sub_cancel]; exact this) (by rw [Int.add_sub_cancel, brN_s (by omega), if_pos c19, ← hb]) (by omega)
  refine tt_iconst hf dX6_layTurns_0 ?_
  refine tt_istore_n (lv' := [(1, .int (iI 0)), (0, .ref o)]) hf dX6_layTurns_1 (by decide) rfl ?_
  refine tt_iconst hf dX6_layTurns_2 ?_
  refine tt_istore_n (lv' := [(2, .int (iI 1)), (1, .int (iI 0)), (0, .ref o)]) hf dX6_layTurns_3 (by decide) rfl ?_
  refine tt_sub [2, 1, 0] rfl ?_
  exact lp _ 0 1 trn (by omega) trOk_0 rfl (Nat.lt_succ_self _)
set_option maxHeartbeats 4000000 in
set_option maxRecDepth 100000 in
theorem cm_winNow {l : Launch} {g : tG} {o : Nat} {ax : Nat → Nat} {brd many cols : Int} {kd co : Int → Int} {chg sM : Int} {sN sW sC : Int → Int} {pgM : Int} {page : Int → Int} {whl nwN : Int} {now oft wtd : Int → Int} {ways : Int} {svd trn cAt wAt : Int → Int} {seed : Int64} {isK kB kG kS : Int} {kK kO kN kW kC : Int → Int} {hh : Int64}  (hm : 0 ≤ many ∧ many ≤ 10) (hkd : ∀ i, 0 ≤ kd i ∧ kd i ≤ 4) (hnow : ∀ i, -1 ≤ now i ∧ now i ≤ 2) (hco : ∀ i, -1 ≤ co i ∧ co i ≤ 2) (hc : 2 ≤ cols ∧ cols ≤ 3) (hcc : ∀ i, 1 ≤ i → i ≤ many → co i ≤ cols - 1) : Ci l g yX6_winNow (ws_ yX6_winNow cX6_winNow 4 (Option.some Jvm.ClassFile.FieldType.int)) (rmL 5) [.ref o] (mW g o ax brd many cols kd co chg sM sN sW sC pgM page whl nwN now oft wtd ways svd trn cAt wAt seed isK kB kG kS kK kO kN kW kC hh) (fun r w => ∃ now1 trn1 cAt1 wAt1 : Int → Int, (∀ i, -1 ≤ now1 i ∧ now1 i ≤ 2) ∧ r = winE kd co cols many ∧ w = mW g o ax brd many cols kd co chg sM sN sW sC pgM page whl nwN now1 oft wtd ways svd trn1 cAt1 wAt1 seed isK kB kG kS kK kO kN kW kC hh) := by
  refine Ct.of (by decide) (Nat.le_of_ble_eq_true rfl) ?_
  intro Γ hl hg hf hrT
  subst hl hg
  have hf : Fx Γ RX6 cX6_winNow 4 := hf
  show T Γ (rmL 5) 4 0 0 (Qe Γ (rmL 5) _) _ 0 [(0, .ref o)] []
  have hln := lay_rng (many := many) hco hnow
  have hbz := bu_rng kd (lay many co now) many.toNat
  have hbl : bu kd (lay many co now) many.toNat = bu kd co many.toNat := bu_cg _ (fun i h1 h2 => lay_in hm.2 i h1 (by omega))
  refine tt_aload_n hf 0 dX6_winNow_0 rfl ?_
  refine tt_callV0 (As := []) (rest := []) (q0 := 0) (ci := 6) hf (cm_layNow hm) lk_X6_X6_layNow hd_X6_layNow rfl rfl rfl ⟨rfl, rfl⟩ (by decide) (by decide) (Nat.le_of_ble_eq_true rfl) dX6_winNow_1 rfl (kk_v (fun w hw => ?_))
  subst hw
  refine tt_aload_n hf 0 dX6_winNow_4 rfl ?_
  refine tt_callV0 (As := []) (rest := []) (q0 := 0) (ci := 6) hf (cm_layTurns hm hco) lk_X6_X6_layTurns hd_X6_layTurns rfl rfl rfl ⟨rfl, rfl⟩ (by decide) (by decide) (Nat.le_of_ble_eq_true rfl) dX6_winNow_5 rfl (kk_i (fun r5 w hr5 hp5 => ?_))
  obtain ⟨trn1, htr, hbr, rfl⟩ := hp5
  refine tt_istore_n (lv' := [(1, .int (iI r5)), (0, .ref o)]) hf dX6_winNow_8 (by decide) rfl ?_
  have hB0 := htr.1
  have hB1 := htr.2.1
  refine tt_iload_n hf 0 dX6_winNow_9 rfl ?_
  refine tt_if_eq (tgt := 24) hf dX6_winNow_10 (by decide) (by omega) (fun c10 => ?_) (fun c10 => ?_)
  · refine tt_iconst hf dX6_winNow_24 ?_
    have hz : winE kd co cols many = -1 := by
      unfold winE
      split
      · rfl
      · rw [wnX_g (by omega) hm.1 10 0 co (by omega) (by omega)]; rfl
    exact tt_ireti hf hrT dX6_winNow_25 (Nat.le_refl _) (Nat.le_refl _) (by omega) ⟨lay many co now, trn1, cAt, wAt, hln, hz.symm, rfl⟩
  · refine tt_aload_n hf 1 dX6_winNow_13 rfl ?_
    refine tt_aload_n hf 1 dX6_winNow_14 rfl ?_
    refine gm_many hf dX6_winNow_15 ?_
    refine tt_callV0 (As := [.int (iI many)]) (rest := []) (q0 := 0) (ci := 6) hf (cm_badUpTo hkd hln (by omega)) lk_X6_X6_badUpTo hd_X6_badUpTo rfl rfl rfl ⟨rfl, rfl⟩ (by decide) (by decide) (Nat.le_of_ble_eq_true rfl) dX6_winNow_18 rfl (kk_e (fun r18 => ?_))
    refine tt_if_le (tgt := 26) hf dX6_winNow_21 (by decide) (by omega) (fun c21 => ?_) (fun c21 => ?_)
    · refine tt_iconst hf dX6_winNow_26 ?_
      refine tt_istore_n (lv' := [(2, .int (iI 0)), (1, .int (iI r5)), (0, .ref o)]) hf dX6_winNow_27 (by decide) rfl ?_
      refine tt_aload_n hf 2 dX6_winNow_28 rfl ?_
      refine gm_cAt hf dX6_winNow_29 ?_
      refine tt_iconst hf dX6_winNow_32 ?_
      refine tt_iconst hf dX6_winNow_33 ?_
      refine sm_cAt hf (by omega) dX6_winNow_34 ?_
      refine tt_aload_n hf 2 dX6_winNow_35 rfl ?_
      refine gm_wAt hf dX6_winNow_36 ?_
      refine tt_iconst hf dX6_winNow_39 ?_
      refine tt_iconst hf dX6_winNow_40 ?_
      refine sm_wAt hf (by omega) dX6_winNow_41 ?_
      have hstep : winStep kd trn1 cols many r5 (fun (d : Int) (nw ca wa : Int → Int) => -1 ≤ d → d ≤ r5 → (∀ i, -1 ≤ nw i ∧ nw i ≤ 2) → (∀ j, 0 ≤ j → j ≤ d → (0 ≤ ca j ∧ ca j ≤ cols) ∧ -1 ≤ wa j ∧ wa j ≤ 2) → T Γ (rmL 5) 4 0 0 (Qe Γ (rmL 5) (fun vv w => ∃ r : Int, vv = some (.int (iI r)) ∧ iR r ∧ (∃ now1 trn1 cAt1 wAt1 : Int → Int, (∀ i, -1 ≤ now1 i ∧ now1 i ≤ 2) ∧ r = winE kd co cols many ∧ w = mW (xg Γ) o ax brd many cols kd co chg sM sN sW sC pgM page whl nwN now1 oft wtd ways svd trn1 cAt1 wAt1 seed isK kB kG kS kK kO kN kW kC hh))) (mW (xg Γ) o ax brd many cols kd co chg sM sN sW sC pgM page whl nwN nw oft wtd ways svd trn1 ca wa seed isK kB kG kS kK kO kN kW kC hh) 42 [(0, .ref o), (1, .int (iI r5)), (2, .int (iI d))] []) := by
        intro d nw ca wa h0 hdB hno hov h1 h2 hnr hjr
        have hdr := hjr d h0 (by omega)
        refine tt_iload_n hf 2 dX6_winNow_42 rfl ?_
        refine tt_if_lt (tgt := 195) hf dX6_winNow_43 (by decide) (by omega) (fun c43 => ?_) (fun c43 => ?_)
        · exact absurd c43 (by omega)
        · refine tt_iload_n hf 2 dX6_winNow_46 rfl ?_
          refine tt_iload_n hf 1 dX6_winNow_47 rfl ?_
          refine tt_icmp_eq (tgt := 74) hf dX6_winNow_48 (by decide) (by omega) (by omega) (fun c48 => ?_) (fun c48 => ?_)
          · refine tt_iconst hf dX6_winNow_74 ?_
            refine tt_goto (tgt := 79) hf dX6_winNow_75 (by decide) ?_
            refine tt_istore_n (lv' := [(3, .int (iI 1)), (0, .ref o), (1, .int (iI r5)), (2, .int (iI d))]) hf dX6_winNow_79 (by decide) rfl ?_
            refine tt_iload_n hf 0 dX6_winNow_80 rfl ?_
            refine tt_if_ne (tgt := 142) hf dX6_winNow_81 (by decide) (by omega) (fun _ => ?_) (fun c => absurd c (by decide))
            have hov := hov (Or.inl c48)
            refine tt_iload_n hf 3 dX6_winNow_142 rfl ?_
            refine tt_iload_n hf 2 dX6_winNow_143 rfl ?_
            refine tt_icmp_ge (tgt := 159) hf dX6_winNow_144 (by decide) (by omega) (by omega) (fun c144 => ?_) (fun c144 => ?_)
            · rw [if_neg (show ¬ d < r5 by omega)] at hov
              refine tt_iinc (lv' := [(2, .int (iI (d + (-1)))), (3, .int (iI 1)), (0, .ref o), (1, .int (iI r5))]) hf 3 dX6_winNow_159 rfl (by decide) rfl ?_
              rw [show d + (-1) = d - 1 from rfl]
              refine tt_iload_n hf 0 dX6_winNow_162 rfl ?_
              refine tt_if_lt (tgt := 192) hf dX6_winNow_163 (by decide) (by omega) (fun c163 => ?_) (fun c163 => ?_)
              · refine tt_goto (tgt := 42) hf dX6_winNow_192 (by decide) ?_
                refine tt_sub [2, 3, 0] rfl ?_
                rw [if_neg (by omega)] at hov
                exact hov (by omega) (by omega) hnr (fun j g1 g2 => by omega)
              · refine tt_aload_n hf 2 dX6_winNow_166 rfl ?_
                refine gm_wAt hf dX6_winNow_167 ?_
                refine tt_iload_n hf 0 dX6_winNow_170 rfl ?_
                refine tt_iconst hf dX6_winNow_171 ?_
                refine tt_iadd hf dX6_winNow_172 ?_
                refine lm_wAt hf (by omega) dX6_winNow_173 ?_
                refine tt_top (z' := wa d) (by rw [Int.sub_add_cancel]) ?_
                refine tt_iconst hf dX6_winNow_174 ?_
                refine tt_icmp_ne (tgt := 192) hf dX6_winNow_175 (by decide) (by omega) (by omega) (fun c175 => ?_) (fun c175 => ?_)
                · refine tt_goto (tgt := 42) hf dX6_winNow_192 (by decide) ?_
                  refine tt_sub [2, 3, 0] rfl ?_
                  rw [if_neg (fun q => c175 q.2)] at hov
                  exact hov (by omega) (by omega) hnr (fun j g1 g2 => hjr j g1 (by omega))
                · refine tt_aload_n hf 2 dX6_winNow_178 rfl ?_
                  refine gm_wAt hf dX6_winNow_179 ?_
                  refine tt_iload_n hf 0 dX6_winNow_182 rfl ?_
                  refine tt_aload_n hf 2 dX6_winNow_183 rfl ?_
                  refine gm_cAt hf dX6_winNow_184 ?_
                  refine tt_iload_n hf 0 dX6_winNow_187 rfl ?_
                  refine lm_cAt hf (by omega) dX6_winNow_188 ?_
                  refine tt_iconst hf dX6_winNow_189 ?_
                  refine tt_isub hf dX6_winNow_190 ?_
                  refine sm_wAt hf (by omega) dX6_winNow_191 ?_
                  refine tt_goto (tgt := 42) hf dX6_winNow_192 (by decide) ?_
                  refine tt_sub [2, 3, 0] rfl ?_
                  rw [if_pos ⟨by omega, c175⟩] at hov
                  have hp := hjr (d - 1) (by omega) (by omega)
                  exact hov (by omega) (by omega) hnr (fun j g1 g2 => by by_cases e : j = d - 1; subst e; rw [uI_s]; omega; rw [uI_n e]; exact hjr j g1 (by omega))
            · exact absurd c144 (by omega)
          · refine tt_aload_n hf 0 dX6_winNow_51 rfl ?_
            refine gm_cAt hf dX6_winNow_52 ?_
            refine tt_iload_n hf 2 dX6_winNow_55 rfl ?_
            refine lm_cAt hf (by omega) dX6_winNow_56 ?_
            refine tt_aload_n hf 0 dX6_winNow_57 rfl ?_
            refine gm_cols hf dX6_winNow_58 ?_
            refine tt_icmp_eq (tgt := 74) hf dX6_winNow_61 (by decide) (by omega) (by omega) (fun c61 => ?_) (fun c61 => ?_)
            · refine tt_iconst hf dX6_winNow_74 ?_
              refine tt_goto (tgt := 79) hf dX6_winNow_75 (by decide) ?_
              refine tt_istore_n (lv' := [(3, .int (iI 1)), (0, .ref o), (1, .int (iI r5)), (2, .int (iI d))]) hf dX6_winNow_79 (by decide) rfl ?_
              refine tt_iload_n hf 0 dX6_winNow_80 rfl ?_
              refine tt_if_ne (tgt := 142) hf dX6_winNow_81 (by decide) (by omega) (fun _ => ?_) (fun c => absurd c (by decide))
              have hov := hov (Or.inr (Or.inl c61))
              have htd := htr.2.2.1 d h0 (by omega)
              refine tt_iload_n hf 3 dX6_winNow_142 rfl ?_
              refine tt_iload_n hf 2 dX6_winNow_143 rfl ?_
              refine tt_icmp_ge (tgt := 159) hf dX6_winNow_144 (by decide) (by omega) (by omega) (fun c144 => ?_) (fun c144 => ?_)
              · exact absurd c144 (by omega)
              · refine tt_aload_n hf 1 dX6_winNow_147 rfl ?_
                refine gm_now hf dX6_winNow_148 ?_
                refine tt_aload_n hf 1 dX6_winNow_151 rfl ?_
                refine gm_trn hf dX6_winNow_152 ?_
                refine tt_iload_n hf 3 dX6_winNow_155 rfl ?_
                refine lm_trn hf (by omega) dX6_winNow_156 ?_
                refine tt_iconst hf dX6_winNow_157 ?_
                refine sm_now hf (by omega) dX6_winNow_158 ?_
                rw [if_pos (show d < r5 by omega)] at hov
                refine tt_iinc (lv' := [(2, .int (iI (d + (-1)))), (3, .int (iI 1)), (0, .ref o), (1, .int (iI r5))]) hf 3 dX6_winNow_159 rfl (by decide) rfl ?_
                rw [show d + (-1) = d - 1 from rfl]
                refine tt_iload_n hf 0 dX6_winNow_162 rfl ?_
                refine tt_if_lt (tgt := 192) hf dX6_winNow_163 (by decide) (by omega) (fun c163 => ?_) (fun c163 => ?_)
                · refine tt_goto (tgt := 42) hf dX6_winNow_192 (by decide) ?_
                  refine tt_sub [2, 3, 0] rfl ?_
                  rw [if_neg (by omega)] at hov
                  exact hov (by omega) (by omega) (rng_u hnr (by omega)) (fun j g1 g2 => by omega)
                · refine tt_aload_n hf 2 dX6_winNow_166 rfl ?_
                  refine gm_wAt hf dX6_winNow_167 ?_
                  refine tt_iload_n hf 0 dX6_winNow_170 rfl ?_
                  refine tt_iconst hf dX6_winNow_171 ?_
                  refine tt_iadd hf dX6_winNow_172 ?_
                  refine lm_wAt hf (by omega) dX6_winNow_173 ?_
                  refine tt_top (z' := wa d) (by rw [Int.sub_add_cancel]) ?_
                  refine tt_iconst hf dX6_winNow_174 ?_
                  refine tt_icmp_ne (tgt := 192) hf dX6_winNow_175 (by decide) (by omega) (by omega) (fun c175 => ?_) (fun c175 => ?_)
                  · refine tt_goto (tgt := 42) hf dX6_winNow_192 (by decide) ?_
                    refine tt_sub [2, 3, 0] rfl ?_
                    rw [if_neg (fun q => c175 q.2)] at hov
                    exact hov (by omega) (by omega) (rng_u hnr (by omega)) (fun j g1 g2 => hjr j g1 (by omega))
                  · refine tt_aload_n hf 2 dX6_winNow_178 rfl ?_
                    refine gm_wAt hf dX6_winNow_179 ?_
                    refine tt_iload_n hf 0 dX6_winNow_182 rfl ?_
                    refine tt_aload_n hf 2 dX6_winNow_183 rfl ?_
                    refine gm_cAt hf dX6_winNow_184 ?_
                    refine tt_iload_n hf 0 dX6_winNow_187 rfl ?_
                    refine lm_cAt hf (by omega) dX6_winNow_188 ?_
                    refine tt_iconst hf dX6_winNow_189 ?_
                    refine tt_isub hf dX6_winNow_190 ?_
                    refine sm_wAt hf (by omega) dX6_winNow_191 ?_
                    refine tt_goto (tgt := 42) hf dX6_winNow_192 (by decide) ?_
                    refine tt_sub [2, 3, 0] rfl ?_
                    rw [if_pos ⟨by omega, c175⟩] at hov
                    have hp := hjr (d - 1) (by omega) (by omega)
                    exact hov (by omega) (by omega) (rng_u hnr (by omega)) (fun j g1 g2 => by by_cases e : j = d - 1; subst e; rw [uI_s]; omega; rw [uI_n e]; exact hjr j g1 (by omega))
            · refine tt_aload_n hf 0 dX6_winNow_64 rfl ?_
              refine gm_wAt hf dX6_winNow_65 ?_
              refine tt_iload_n hf 2 dX6_winNow_68 rfl ?_
              refine lm_wAt hf (by omega) dX6_winNow_69 ?_
              refine tt_iconst hf dX6_winNow_70 ?_
              refine tt_icmp_eq (tgt := 78) hf dX6_winNow_71 (by decide) (by omega) (by omega) (fun c71 => ?_) (fun c71 => ?_)
              · refine tt_iconst hf dX6_winNow_78 ?_
                refine tt_istore_n (lv' := [(3, .int (iI 0)), (0, .ref o), (1, .int (iI r5)), (2, .int (iI d))]) hf dX6_winNow_79 (by decide) rfl ?_
                refine tt_iload_n hf 0 dX6_winNow_80 rfl ?_
                refine tt_if_ne (tgt := 142) hf dX6_winNow_81 (by decide) (by omega) (fun c => absurd c (by decide)) (fun _ => ?_)
                have htd := htr.2.2.1 d h0 (by omega)
                have hn2 : ∀ i, -1 ≤ uI nw (trn1 d) (ca d) i ∧ uI nw (trn1 d) (ca d) i ≤ 2 := rng_u hnr (by omega)
                have hno := hno (by rintro (q | q | q); exact c48 q; exact c61 q; exact q c71)
                refine tt_aload_n hf 1 dX6_winNow_84 rfl ?_
                refine gm_now hf dX6_winNow_85 ?_
                refine tt_aload_n hf 1 dX6_winNow_88 rfl ?_
                refine gm_trn hf dX6_winNow_89 ?_
                refine tt_iload_n hf 3 dX6_winNow_92 rfl ?_
                refine lm_trn hf (by omega) dX6_winNow_93 ?_
                refine tt_aload_n hf 1 dX6_winNow_94 rfl ?_
                refine gm_cAt hf dX6_winNow_95 ?_
                refine tt_iload_n hf 3 dX6_winNow_98 rfl ?_
                refine lm_cAt hf (by omega) dX6_winNow_99 ?_
                refine sm_now hf (by omega) dX6_winNow_100 ?_
                refine tt_aload_n hf 1 dX6_winNow_101 rfl ?_
                refine gm_cAt hf dX6_winNow_102 ?_
                refine tt_iload_n hf 3 dX6_winNow_105 rfl ?_
                refine tt_dup2 hf dX6_winNow_106 rfl rfl ?_
                refine lm_cAt hf (by omega) dX6_winNow_107 ?_
                refine tt_iconst hf dX6_winNow_108 ?_
                refine tt_iadd hf dX6_winNow_109 ?_
                refine sm_cAt hf (by omega) dX6_winNow_110 ?_
                refine tt_aload_n hf 1 dX6_winNow_111 rfl ?_
                refine tt_aload_n hf 1 dX6_winNow_112 rfl ?_
                refine gm_many hf dX6_winNow_113 ?_
                refine tt_callV0 (As := [.int (iI many)]) (rest := []) (q0 := 0) (ci := 6) hf (cm_badUpTo hkd hn2 (by omega)) lk_X6_X6_badUpTo hd_X6_badUpTo rfl rfl rfl ⟨rfl, rfl⟩ (by decide) (by decide) (Nat.le_of_ble_eq_true rfl) dX6_winNow_116 rfl (kk_e (fun r116 => ?_))
                refine tt_if_ne (tgt := 192) hf dX6_winNow_119 (by decide) (by omega) (fun c119 => ?_) (fun c119 => ?_)
                · refine tt_goto (tgt := 42) hf dX6_winNow_192 (by decide) ?_
                  refine tt_sub [1, 2, 3] rfl ?_
                  exact hno.1 c119 (by omega) (by omega) hn2 (fun j g1 g2 => by by_cases e : j = d; subst e; rw [uI_s]; omega; rw [uI_n e]; exact hjr j g1 g2)
                · refine tt_iinc (lv' := [(2, .int (iI (d + 1))), (3, .int (iI 0)), (0, .ref o), (1, .int (iI r5))]) hf 3 dX6_winNow_122 rfl (by decide) rfl ?_
                  refine tt_aload_n hf 2 dX6_winNow_125 rfl ?_
                  refine gm_cAt hf dX6_winNow_126 ?_
                  refine tt_iload_n hf 0 dX6_winNow_129 rfl ?_
                  refine tt_iconst hf dX6_winNow_130 ?_
                  refine sm_cAt hf (by omega) dX6_winNow_131 ?_
                  refine tt_aload_n hf 2 dX6_winNow_132 rfl ?_
                  refine gm_wAt hf dX6_winNow_133 ?_
                  refine tt_iload_n hf 0 dX6_winNow_136 rfl ?_
                  refine tt_iconst hf dX6_winNow_137 ?_
                  refine sm_wAt hf (by omega) dX6_winNow_138 ?_
                  refine tt_goto (tgt := 192) hf dX6_winNow_139 (by decide) ?_
                  refine tt_goto (tgt := 42) hf dX6_winNow_192 (by decide) ?_
                  refine tt_sub [2, 3, 0] rfl ?_
                  exact hno.2 c119 (by omega) (by omega) hn2 (fun j g1 g2 => by by_cases e : j = d + 1; subst e; rw [uI_s, uI_s]; omega; rw [uI_n e, uI_n e]; by_cases e2 : j = d; subst e2; rw [uI_s]; omega; rw [uI_n e2]; exact hjr j g1 (by omega))
              · refine tt_iconst hf dX6_winNow_74 ?_
                refine tt_goto (tgt := 79) hf dX6_winNow_75 (by decide) ?_
                refine tt_istore_n (lv' := [(3, .int (iI 1)), (0, .ref o), (1, .int (iI r5)), (2, .int (iI d))]) hf dX6_winNow_79 (by decide) rfl ?_
                refine tt_iload_n hf 0 dX6_winNow_80 rfl ?_
                refine tt_if_ne (tgt := 142) hf dX6_winNow_81 (by decide) (by omega) (fun _ => ?_) (fun c => absurd c (by decide))
                have hov := hov (Or.inr (Or.inr c71))
                have htd := htr.2.2.1 d h0 (by omega)
                refine tt_iload_n hf 3 dX6_winNow_142 rfl ?_
                refine tt_iload_n hf 2 dX6_winNow_143 rfl ?_
                refine tt_icmp_ge (tgt := 159) hf dX6_winNow_144 (by decide) (by omega) (by omega) (fun c144 => ?_) (fun c144 => ?_)
                · exact absurd c144 (by omega)
                · refine tt_aload_n hf 1 dX6_winNow_147 rfl ?_
                  refine gm_now hf dX6_winNow_148 ?_
                  refine tt_aload_n hf 1 dX6_winNow_151 rfl ?_
                  refine gm_trn hf dX6_winNow_152 ?_
                  refine tt_iload_n hf 3 dX6_winNow_155 rfl ?_
                  refine lm_trn hf (by omega) dX6_winNow_156 ?_
                  refine tt_iconst hf dX6_winNow_157 ?_
                  refine sm_now hf (by omega) dX6_winNow_158 ?_
                  rw [if_pos (show d < r5 by omega)] at hov
                  refine tt_iinc (lv' := [(2, .int (iI (d + (-1)))), (3, .int (iI 1)), (0, .ref o), (1, .int (iI r5))]) hf 3 dX6_winNow_159 rfl (by decide) rfl ?_
                  rw [show d + (-1) = d - 1 from rfl]
                  refine tt_iload_n hf 0 dX6_winNow_162 rfl ?_
                  refine tt_if_lt (tgt := 192) hf dX6_winNow_163 (by decide) (by omega) (fun c163 => ?_) (fun c163 => ?_)
                  · refine tt_goto (tgt := 42) hf dX6_winNow_192 (by decide) ?_
                    refine tt_sub [2, 3, 0] rfl ?_
                    rw [if_neg (by omega)] at hov
                    exact hov (by omega) (by omega) (rng_u hnr (by omega)) (fun j g1 g2 => by omega)
                  · refine tt_aload_n hf 2 dX6_winNow_166 rfl ?_
                    refine gm_wAt hf dX6_winNow_167 ?_
                    refine tt_iload_n hf 0 dX6_winNow_170 rfl ?_
                    refine tt_iconst hf dX6_winNow_171 ?_
                    refine tt_iadd hf dX6_winNow_172 ?_
                    refine lm_wAt hf (by omega) dX6_winNow_173 ?_
                    refine tt_top (z' := wa d) (by rw [Int.sub_add_cancel]) ?_
                    refine tt_iconst hf dX6_winNow_174 ?_
                    refine tt_icmp_ne (tgt := 192) hf dX6_winNow_175 (by decide) (by omega) (by omega) (fun c175 => ?_) (fun c175 => ?_)
                    · refine tt_goto (tgt := 42) hf dX6_winNow_192 (by decide) ?_
                      refine tt_sub [2, 3, 0] rfl ?_
                      rw [if_neg (fun q => c175 q.2)] at hov
                      exact hov (by omega) (by omega) (rng_u hnr (by omega)) (fun j g1 g2 => hjr j g1 (by omega))
                    · refine tt_aload_n hf 2 dX6_winNow_178 rfl ?_
                      refine gm_wAt hf dX6_winNow_179 ?_
                      refine tt_iload_n hf 0 dX6_winNow_182 rfl ?_
                      refine tt_aload_n hf 2 dX6_winNow_183 rfl ?_
                      refine gm_cAt hf dX6_winNow_184 ?_
                      refine tt_iload_n hf 0 dX6_winNow_187 rfl ?_
                      refine lm_cAt hf (by omega) dX6_winNow_188 ?_
                      refine tt_iconst hf dX6_winNow_189 ?_
                      refine tt_isub hf dX6_winNow_190 ?_
                      refine sm_wAt hf (by omega) dX6_winNow_191 ?_
                      refine tt_goto (tgt := 42) hf dX6_winNow_192 (by decide) ?_
                      refine tt_sub [2, 3, 0] rfl ?_
                      rw [if_pos ⟨by omega, c175⟩] at hov
                      have hp := hjr (d - 1) (by omega) (by omega)
                      exact hov (by omega) (by omega) (rng_u hnr (by omega)) (fun j g1 g2 => by by_cases e : j = d - 1; subst e; rw [uI_s]; omega; rw [uI_n e]; exact hjr j g1 (by omega))
      obtain ⟨g, hg⟩ : ∃ g : Nat, r5 = (g : Int) + 1 := ⟨(r5 - 1).toNat, by omega⟩
      have hres : fC (fun c => decide (bu kd (uI (lay many co now) (trn1 0) c) many.toNat = 0 ∧ wn kd cols many trn1 g (0 + 1) (uI (lay many co now) (trn1 0) c) = -1)) cols cols.toNat = winE kd co cols many := by
        have e1 : wn kd cols many trn1 (g + 1) 0 (lay many co now) = wnX kd cols many (g + 1) (lay many co now) := wn_eq (by omega) (fun j q1 q2 => by have := htr.2.2.1 j q1 q2; omega) htr.2.2.2.1 _ _ _ (by omega) (by omega) (fun i q1 q2 => by
          rw [lay_in hm.2 i q1 q2]
          constructor
          · intro q; exact htr.2.2.2.2 i q1 q2 q
          · rintro ⟨j, k1, k2, k3⟩; rw [k3]; exact (htr.2.2.1 j k1 k2).2.2)
        have e2 : wnX kd cols many (g + 1) (lay many co now) = wnX kd cols many 10 co := by
          rw [wnX_cg (by omega) hm.1 (g + 1) (lay many co now) co (fun i q1 q2 => lay_in hm.2 i q1 q2)]
          have hq := brN_rng co many.toNat
          exact wnX_g (by omega) hm.1 _ _ _ (by omega) (by omega)
        unfold winE
        rw [if_neg (by rw [← hbl]; omega), ← e2, ← e1]
        rfl
      refine tt_sub [2, 1, 0] rfl ?_
      have hbig := win_W (by omega) hstep htr.2.2.2.1 g cols.toNat 0 (lay many co now) (lay many co now) (uI cAt 0 0) (uI wAt 0 (-1)) (by omega) (by omega) (by omega) (fun j q1 q2 => by have := htr.2.2.1 j q1 q2; rw [lay_in hm.2 _ (by omega) (by omega)]; exact this.2.2) (fun i _ => rfl) (by rw [uI_s]; omega) (by rw [uI_s]) ?_
      · exact hbig (by omega) (by omega) hln (fun j g1 g2 => by rw [show j = 0 by omega, uI_s, uI_s]; omega)
      · intro nw ca wa k1 k2 k3 k4 h1 h2 hnr hjr
        rw [hres] at k3
        have hdr := hjr 0 (by omega) (by omega)
        have htd := htr.2.2.1 0 (by omega) (by omega)
        refine tt_iload_n hf 2 dX6_winNow_42 rfl ?_
        refine tt_if_lt (tgt := 195) hf dX6_winNow_43 (by decide) (by omega) (fun c => absurd c (by decide)) (fun _ => ?_)
        refine tt_iload_n hf 2 dX6_winNow_46 rfl ?_
        refine tt_iload_n hf 1 dX6_winNow_47 rfl ?_
        refine tt_icmp_eq (tgt := 74) hf dX6_winNow_48 (by decide) (by omega) (by omega) (fun c48 => ?_) (fun c48 => ?_)
        · exact absurd c48 (by omega)
        · refine tt_aload_n hf 0 dX6_winNow_51 rfl ?_
          refine gm_cAt hf dX6_winNow_52 ?_
          refine tt_iload_n hf 2 dX6_winNow_55 rfl ?_
          refine lm_cAt hf (by omega) dX6_winNow_56 ?_
          refine tt_aload_n hf 0 dX6_winNow_57 rfl ?_
          refine gm_cols hf dX6_winNow_58 ?_
          refine tt_icmp_eq (tgt := 74) hf dX6_winNow_61 (by decide) (by omega) (by omega) (fun c61 => ?_) (fun c61 => ?_)
          · refine tt_iconst hf dX6_winNow_74 ?_
            refine tt_goto (tgt := 79) hf dX6_winNow_75 (by decide) ?_
            refine tt_istore_n (lv' := [(3, .int (iI 1)), (0, .ref o), (1, .int (iI r5)), (2, .int (iI 0))]) hf dX6_winNow_79 (by decide) rfl ?_
            refine tt_iload_n hf 0 dX6_winNow_80 rfl ?_
            refine tt_if_ne (tgt := 142) hf dX6_winNow_81 (by decide) (by omega) (fun _ => ?_) (fun c => absurd c (by decide))
            refine tt_iload_n hf 3 dX6_winNow_142 rfl ?_
            refine tt_iload_n hf 2 dX6_winNow_143 rfl ?_
            refine tt_icmp_ge (tgt := 159) hf dX6_winNow_144 (by decide) (by omega) (by omega) (fun c144 => ?_) (fun c144 => ?_)
            · exact absurd c144 (by omega)
            · refine tt_aload_n hf 1 dX6_winNow_147 rfl ?_
              refine gm_now hf dX6_winNow_148 ?_
              refine tt_aload_n hf 1 dX6_winNow_151 rfl ?_
              refine gm_trn hf dX6_winNow_152 ?_
              refine tt_iload_n hf 3 dX6_winNow_155 rfl ?_
              refine lm_trn hf (by omega) dX6_winNow_156 ?_
              refine tt_iconst hf dX6_winNow_157 ?_
              refine sm_now hf (by omega) dX6_winNow_158 ?_
              refine tt_iinc (lv' := [(2, .int (iI (0 + (-1)))), (3, .int (iI 1)), (0, .ref o), (1, .int (iI r5))]) hf 3 dX6_winNow_159 rfl (by decide) rfl ?_
              rw [show (0 : Int) + (-1) = -1 from rfl]
              refine tt_iload_n hf 0 dX6_winNow_162 rfl ?_
              refine tt_if_lt (tgt := 192) hf dX6_winNow_163 (by decide) (by omega) (fun _ => ?_) (fun c => absurd c (by decide))
              refine tt_goto (tgt := 42) hf dX6_winNow_192 (by decide) ?_
              refine tt_iload_n hf 0 dX6_winNow_42 rfl ?_
              refine tt_if_lt (tgt := 195) hf dX6_winNow_43 (by decide) (by omega) (fun _ => ?_) (fun c => absurd c (by decide))
              refine tt_aload_n hf 2 dX6_winNow_195 rfl ?_
              refine gm_wAt hf dX6_winNow_196 ?_
              refine tt_iconst hf dX6_winNow_199 ?_
              refine lm_wAt hf (by omega) dX6_winNow_200 ?_
              exact tt_ireti hf hrT dX6_winNow_201 (Nat.le_refl _) (Nat.le_refl _) (by omega) ⟨uI nw (trn1 0) (-1), trn1, ca, wa, rng_u hnr (by omega), k3, rfl⟩
          · refine tt_aload_n hf 0 dX6_winNow_64 rfl ?_
            refine gm_wAt hf dX6_winNow_65 ?_
            refine tt_iload_n hf 2 dX6_winNow_68 rfl ?_
            refine lm_wAt hf (by omega) dX6_winNow_69 ?_
            refine tt_iconst hf dX6_winNow_70 ?_
            refine tt_icmp_eq (tgt := 78) hf dX6_winNow_71 (by decide) (by omega) (by omega) (fun c71 => ?_) (fun c71 => ?_)
            · exact absurd k4 (by rintro (q | q); exact c61 q; exact q c71)
            · refine tt_iconst hf dX6_winNow_74 ?_
              refine tt_goto (tgt := 79) hf dX6_winNow_75 (by decide) ?_
              refine tt_istore_n (lv' := [(3, .int (iI 1)), (0, .ref o), (1, .int (iI r5)), (2, .int (iI 0))]) hf dX6_winNow_79 (by decide) rfl ?_
              refine tt_iload_n hf 0 dX6_winNow_80 rfl ?_
              refine tt_if_ne (tgt := 142) hf dX6_winNow_81 (by decide) (by omega) (fun _ => ?_) (fun c => absurd c (by decide))
              refine tt_iload_n hf 3 dX6_winNow_142 rfl ?_
              refine tt_iload_n hf 2 dX6_winNow_143 rfl ?_
              refine tt_icmp_ge (tgt := 159) hf dX6_winNow_144 (by decide) (by omega) (by omega) (fun c144 => ?_) (fun c144 => ?_)
              · exact absurd c144 (by omega)
              · refine tt_aload_n hf 1 dX6_winNow_147 rfl ?_
                refine gm_now hf dX6_winNow_148 ?_
                refine tt_aload_n hf 1 dX6_winNow_151 rfl ?_
                refine gm_trn hf dX6_winNow_152 ?_
                refine tt_iload_n hf 3 dX6_winNow_155 rfl ?_
                refine lm_trn hf (by omega) dX6_winNow_156 ?_
                refine tt_iconst hf dX6_winNow_157 ?_
                refine sm_now hf (by omega) dX6_winNow_158 ?_
                refine tt_iinc (lv' := [(2, .int (iI (0 + (-1)))), (3, .int (iI 1)), (0, .ref o), (1, .int (iI r5))]) hf 3 dX6_winNow_159 rfl (by decide) rfl ?_
                rw [show (0 : Int) + (-1) = -1 from rfl]
                refine tt_iload_n hf 0 dX6_winNow_162 rfl ?_
                refine tt_if_lt (tgt := 192) hf dX6_winNow_163 (by decide) (by omega) (fun _ => ?_) (fun c => absurd c (by decide))
                refine tt_goto (tgt := 42) hf dX6_winNow_192 (by decide) ?_
                refine tt_iload_n hf 0 dX6_winNow_42 rfl ?_
                refine tt_if_lt (tgt := 195) hf dX6_winNow_43 (by decide) (by omega) (fun _ => ?_) (fun c => absurd c (by decide))
                refine tt_aload_n hf 2 dX6_winNow_195 rfl ?_
                refine gm_wAt hf dX6_winNow_196 ?_
                refine tt_iconst hf dX6_winNow_199 ?_
                refine lm_wAt hf (by omega) dX6_winNow_200 ?_
                exact tt_ireti hf hrT dX6_winNow_201 (Nat.le_refl _) (Nat.le_refl _) (by omega) ⟨uI nw (trn1 0) (-1), trn1, ca, wa, rng_u hnr (by omega), k3, rfl⟩
    · refine tt_iconst hf dX6_winNow_24 ?_
      exact tt_ireti hf hrT dX6_winNow_25 (Nat.le_refl _) (Nat.le_refl _) (by omega) ⟨lay many co now, trn1, cAt, wAt, hln, by unfold winE; rw [if_pos (by rw [← hbl]; omega)], rfl⟩
set_option maxHeartbeats 4000000 in
set_option maxRecDepth 100000 in
theorem cm_winsNow {l : Launch} {g : tG} {o : Nat} {ax : Nat → Nat} {brd many cols : Int} {kd co : Int → Int} {chg sM : Int} {sN sW sC : Int → Int} {pgM : Int} {page : Int → Int} {whl nwN : Int} {now oft wtd : Int → Int} {ways : Int} {svd trn cAt wAt : Int → Int} {seed : Int64} {isK kB kG kS : Int} {kK kO kN kW kC : Int → Int} {hh : Int64} {wh : Int} (hm : 0 ≤ many ∧ many ≤ 10) (hkd : ∀ i, 0 ≤ kd i ∧ kd i ≤ 4) (hnow : ∀ i, -1 ≤ now i ∧ now i ≤ 2) (hco : ∀ i, -1 ≤ co i ∧ co i ≤ 2) (hc : 2 ≤ cols ∧ cols ≤ 3) (hcc : ∀ i, 1 ≤ i → i ≤ many → co i ≤ cols - 1) (hwh : iR wh) : Ci l g yX6_winsNow (ws_ yX6_winsNow cX6_winsNow 3 (Option.some Jvm.ClassFile.FieldType.int)) (rmL 6) [.ref o, .int (iI wh)] (mW g o ax brd many cols kd co chg sM sN sW sC pgM page whl nwN now oft wtd ways svd trn cAt wAt seed isK kB kG kS kK kO kN kW kC hh) (fun r w => ∃ now1 trn1 cAt1 wAt1 : Int → Int, (∀ i, -1 ≤ now1 i ∧ now1 i ≤ 2) ∧ r = wnsE kd co cols many wh ∧ w = mW g o ax brd many cols kd co chg sM sN sW sC pgM page whl nwN now1 oft wtd ways svd trn1 cAt1 wAt1 seed isK kB kG kS kK kO kN kW kC hh) := by
  refine Ct.of (by decide) (Nat.le_of_ble_eq_true rfl) ?_
  intro Γ hl hg hf hrT
  subst hl hg
  have hf : Fx Γ RX6 cX6_winsNow 3 := hf
  show T Γ (rmL 6) 3 0 0 (Qe Γ (rmL 6) _) _ 0 [(0, .ref o), (1, .int (iI wh))] []
  refine tt_aload_n hf 0 dX6_winsNow_0 rfl ?_
  refine tt_callV0 (As := []) (rest := []) (q0 := 0) (ci := 6) hf (cm_winNow hm hkd hnow hco hc hcc) lk_X6_X6_winNow hd_X6_winNow rfl rfl rfl ⟨rfl, rfl⟩ (by decide) (by decide) (Nat.le_of_ble_eq_true rfl) dX6_winsNow_1 rfl (kk_i (fun r1 w hr1 hp1 => ?_))
  obtain ⟨now1, trn1, cAt1, wAt1, hnw1, hrl1, rfl⟩ := hp1
  refine tt_istore_n (lv' := [(2, .int (iI r1)), (0, .ref o), (1, .int (iI wh))]) hf dX6_winsNow_4 (by decide) rfl ?_
  refine tt_iload_n hf 2 dX6_winsNow_5 rfl ?_
  refine tt_iconst hf dX6_winsNow_6 ?_
  refine tt_icmp_ne (tgt := 14) hf dX6_winsNow_7 (by decide) (by omega) (by omega) (fun c7 => ?_) (fun c7 => ?_)
  · refine tt_iload_n hf 0 dX6_winsNow_14 rfl ?_
    refine tt_iconst hf dX6_winsNow_15 ?_
    refine tt_icmp_ne (tgt := 23) hf dX6_winsNow_16 (by decide) (by omega) (by omega) (fun c16 => ?_) (fun c16 => ?_)
    · refine tt_iconst hf dX6_winsNow_23 ?_
      exact tt_ireti hf hrT dX6_winsNow_24 (Nat.le_refl _) (Nat.le_refl _) (by omega) ⟨now1, trn1, cAt1, wAt1, hnw1, by unfold wnsE; rw [if_neg c7, if_neg (by rw [← hrl1]; exact c16)], rfl⟩
    · refine tt_iconst hf dX6_winsNow_19 ?_
      refine tt_goto (tgt := 24) hf dX6_winsNow_20 (by decide) ?_
      exact tt_ireti hf hrT dX6_winsNow_24 (Nat.le_refl _) (Nat.le_refl _) (by omega) ⟨now1, trn1, cAt1, wAt1, hnw1, by unfold wnsE; rw [if_neg c7, if_pos (by rw [← hrl1]; exact c16)], rfl⟩
  · refine tt_iload_n hf 0 dX6_winsNow_10 rfl ?_
    refine tt_goto (tgt := 24) hf dX6_winsNow_11 (by decide) ?_
    exact tt_ireti hf hrT dX6_winsNow_24 (Nat.le_refl _) (Nat.le_refl _) hr1 ⟨now1, trn1, cAt1, wAt1, hnw1, by unfold wnsE; rw [if_pos c7, hrl1], rfl⟩
set_option maxHeartbeats 4000000 in
set_option maxRecDepth 100000 in
theorem cm_wins {l : Launch} {g : tG} {o : Nat} {ax : Nat → Nat} {brd many cols : Int} {kd co : Int → Int} {chg sM : Int} {sN sW sC : Int → Int} {pgM : Int} {page : Int → Int} {whl nwN : Int} {now oft wtd : Int → Int} {ways : Int} {svd trn cAt wAt : Int → Int} {seed : Int64} {isK kB kG kS : Int} {kK kO kN kW kC : Int → Int} {hh : Int64} {wh : Int} (hm : 0 ≤ many ∧ many ≤ 10) (hkd : ∀ i, 0 ≤ kd i ∧ kd i ≤ 4) (hnow : ∀ i, -1 ≤ now i ∧ now i ≤ 2) (hco : ∀ i, -1 ≤ co i ∧ co i ≤ 2) (hcm : 0 < many → 2 ≤ cols ∧ cols ≤ 3) (hcc : ∀ i, 1 ≤ i → i ≤ many → co i ≤ cols - 1) (hwh : iR wh) : Ci l g yX6_wins (ws_ yX6_wins cX6_wins 2 (Option.some Jvm.ClassFile.FieldType.int)) (rmL 7) [.ref o, .int (iI wh)] (mW g o ax brd many cols kd co chg sM sN sW sC pgM page whl nwN now oft wtd ways svd trn cAt wAt seed isK kB kG kS kK kO kN kW kC hh) (fun r w => ∃ now1 trn1 cAt1 wAt1 : Int → Int, (∀ i, -1 ≤ now1 i ∧ now1 i ≤ 2) ∧ r = (if 0 ≤ wh ∧ wh ≤ 1 then (if many = 0 then -103 else wnsE kd co cols many wh) else -102) ∧ w = mW g o ax brd many cols kd co chg sM sN sW sC pgM page whl nwN now1 oft wtd ways svd trn1 cAt1 wAt1 seed isK kB kG kS kK kO kN kW kC hh) := by
  refine Ct.of (by decide) (Nat.le_of_ble_eq_true rfl) ?_
  intro Γ hl hg hf hrT
  subst hl hg
  have hf : Fx Γ RX6 cX6_wins 2 := hf
  show T Γ (rmL 7) 2 0 0 (Qe Γ (rmL 7) _) _ 0 [(0, .ref o), (1, .int (iI wh))] []
  refine tt_iload_n hf 1 dX6_wins_0 rfl ?_
  refine tt_iconst hf dX6_wins_1 ?_
  refine tt_iconst hf dX6_wins_2 ?_
  refine tt_callS0 (As := [.int (iI wh), .int (iI 0), .int (iI 1)]) (rest := []) hf (cm_within (by omega) (by omega) (by omega)) lk_X6_X6_within hd_X6_within rfl ⟨rfl, rfl⟩ (by decide) (by decide) (Nat.le_of_ble_eq_true rfl) dX6_wins_3 rfl (kk_e (fun r3 => ?_))
  refine tt_ifb_ne (tgt := 12) hf dX6_wins_6 (by decide) (fun c6 => ?_) (fun c6 => ?_)
  · refine tt_aload_n hf 0 dX6_wins_12 rfl ?_
    refine gm_many hf dX6_wins_13 ?_
    refine tt_if_ne (tgt := 24) hf dX6_wins_16 (by decide) (by omega) (fun c16 => ?_) (fun c16 => ?_)
    · refine tt_aload_n hf 0 dX6_wins_24 rfl ?_
      refine tt_iload_n hf 1 dX6_wins_25 rfl ?_
      refine tt_callV0 (As := [.int (iI wh)]) (rest := []) (q0 := 0) (ci := 6) hf (cm_winsNow hm hkd hnow hco (hcm (by omega)) hcc (by omega)) lk_X6_X6_winsNow hd_X6_winsNow rfl rfl rfl ⟨rfl, rfl⟩ (by decide) (by decide) (Nat.le_of_ble_eq_true rfl) dX6_wins_26 rfl (kk_i (fun r26 w hr26 hp26 => ?_))
      obtain ⟨now1, trn1, cAt1, wAt1, hnw1, hrl1, rfl⟩ := hp26
      exact tt_ireti hf hrT dX6_wins_29 (Nat.le_refl _) (Nat.le_refl _) hr26 ⟨now1, trn1, cAt1, wAt1, hnw1, by rw [hrl1, if_pos c6, if_neg c16], rfl⟩
    · refine tt_bipush hf dX6_wins_19 (by decide) ?_
      refine tt_goto (tgt := 29) hf dX6_wins_21 (by decide) ?_
      exact tt_ireti hf hrT dX6_wins_29 (Nat.le_refl _) (Nat.le_refl _) (by omega) ⟨now, trn, cAt, wAt, hnow, by rw [if_pos c6, if_pos c16], rfl⟩
  · refine tt_bipush hf dX6_wins_9 (by decide) ?_
    exact tt_ireti hf hrT dX6_wins_11 (Nat.le_refl _) (Nat.le_refl _) (by omega) ⟨now, trn, cAt, wAt, hnow, by rw [if_neg c6], rfl⟩
