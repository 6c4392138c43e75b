def wyE (kd co : Int → Int) (cols many wh : Int) : Int := if wh = 0 then (WL kd co cols many).length else if wh = 1 then (nxN (cnt (WL kd co cols many)) co cols many.toNat).1 else frN kd co cols many.toNat
def wayE (l : List (Int → Int)) (many wy nb : Int) : Int := if 1 ≤ nb ∧ nb ≤ many ∧ 0 ≤ wy then (match l[wy.toNat]? with | some x => x nb | none => -101) else -101
theorem wayE_out {l : List (Int → Int)} {many wy nb : Int} (h0 : 0 ≤ wy) (h : l.length ≤ wy) : wayE l many wy nb = -101 := by
  unfold wayE
  split
  · rw [List.getElem?_eq_none (by omega)]
  · rfl
theorem wayE_in {l : List (Int → Int)} {many wy nb : Int} {x : Int → Int} (h0 : 0 ≤ wy) (h : 1 ≤ nb ∧ nb ≤ many) (hx : l[wy.toNat]? = some x) : wayE l many wy nb = x nb := by
  unfold wayE
  rw [if_pos (by omega), hx]
/-- the bad ones in which the number v is: sums up to v, then sums beyond it -/
def boN (kd row : Int → Int) (v : Int) : Nat → Int
  | 0 => bd kd row v
  | s + 1 => if v < (s : Int) + 1 then boN kd row v s + (if isB kd row (if v < (s : Int) + 1 - v then v else (s : Int) + 1 - v) (if v < (s : Int) + 1 - v then (s : Int) + 1 - v else v) then 1 else 0) else bd kd row v
theorem boN_v {kd row : Int → Int} {v : Int} : boN kd row v v.toNat = bd kd row v := by
  cases h : v.toNat with
  | zero => rfl
  | succ j => simp only [boN]; rw [if_neg (by omega)]
theorem boN_s {kd row : Int → Int} {v i : Int} (h : v < i ∧ 1 ≤ i) : boN kd row v i.toNat = boN kd row v (i - 1).toNat + (if isB kd row (if v < i - v then v else i - v) (if v < i - v then i - v else v) then 1 else 0) := by
  obtain ⟨j, rfl⟩ : ∃ j : Nat, i = (j : Int) + 1 := ⟨(i - 1).toNat, by omega⟩
  rw [show ((j : Int) + 1).toNat = j + 1 by omega, show ((j : Int) + 1 - 1).toNat = j by omega]
  simp only [boN]
  rw [if_pos (by omega)]
set_option maxHeartbeats 4000000 in
set_option maxRecDepth 100000 in
theorem cm_nextNow {l : Launch} {g : tG} {o : Nat} {ax : Nat → Nat} {brd many cols : Int} {kd co : Int → Int} {chg sM : Int} {sN sW sC : Int → Int} {pgM : Int} {page : Int → Int} {whl nwN : Int} {now oft wtd : Int → Int} {ways : Int} {svd trn cAt wAt : Int → Int} {seed : Int64} {isK kB kG kS : Int} {kK kO kN kW kC : Int → Int} {hh : Int64}  (hm : 0 ≤ many ∧ many ≤ 10) (hkd : ∀ i, 0 ≤ kd i ∧ kd i ≤ 4) (hnow : ∀ i, -1 ≤ now i ∧ now i ≤ 2) (hco : ∀ i, -1 ≤ co i ∧ co i ≤ 2) (hc : 2 ≤ cols ∧ cols ≤ 3) (hcc : ∀ i, 1 ≤ i → i ≤ many → co i ≤ cols - 1) : Ci l g yX6_nextNow (ws_ yX6_nextNow cX6_nextNow 6 (Option.some Jvm.ClassFile.FieldType.int)) (rmL 6) [.ref o] (mW g o ax brd many cols kd co chg sM sN sW sC pgM page whl nwN now oft wtd ways svd trn cAt wAt seed isK kB kG kS kK kO kN kW kC hh) (fun r w => ∃ now1 oft1 wtd1 : Int → Int, rOk cols now1 ∧ r = (nxN (cnt (WL kd co cols many)) co cols many.toNat).1 ∧ w = mW g o ax brd many cols kd co chg sM sN sW sC pgM page whl nwN now1 oft1 wtd1 (((WL kd co cols many).length : Int)) svd trn cAt wAt seed isK kB kG kS kK kO kN kW kC hh) := by
  refine Ct.of (by decide) (Nat.le_of_ble_eq_true rfl) ?_
  intro Γ hl hg hf hrT
  subst hl hg
  have hf : Fx Γ RX6 cX6_nextNow 6 := hf
  show T Γ (rmL 6) 6 0 0 (Qe Γ (rmL 6) _) _ 0 [(0, .ref o)] []
  have hle := WL_le (kd := kd) (co := co) (many := many) hc.2 hm.2 (fun _ => 0)
  have hle : (WL kd co cols many).length ≤ 59049 := hle
  refine tt_aload_n hf 0 dX6_nextNow_0 rfl ?_
  refine tt_iconst hf dX6_nextNow_1 ?_
  refine tt_callV0 (As := [.int (iI (-1))]) (rest := []) (q0 := 0) (ci := 6) hf (cm_layWays hm hkd hnow hco hc hcc (by omega)) lk_X6_X6_layWays hd_X6_layWays rfl rfl rfl ⟨rfl, rfl⟩ (by decide) (by decide) (Nat.le_of_ble_eq_true rfl) dX6_nextNow_2 rfl (kk_i (fun r2 w hr2 hp2 => ?_))
  obtain ⟨now1, oft1, wtd1, hok1, hcn1, hwt1, hrl1, rfl⟩ := hp2
  refine tt_pop hf dX6_nextNow_5 rfl ?_
  refine tt_iconst hf dX6_nextNow_6 ?_
  refine tt_istore_n (lv' := [(1, .int (iI (-1))), (0, .ref o)]) hf dX6_nextNow_7 (by decide) rfl ?_
  refine tt_iconst hf dX6_nextNow_8 ?_
  refine tt_istore_n (lv' := [(2, .int (iI 0)), (1, .int (iI (-1))), (0, .ref o)]) hf dX6_nextNow_9 (by decide) rfl ?_
  refine tt_iconst hf dX6_nextNow_10 ?_
  refine tt_istore_n (lv' := [(3, .int (iI 1)), (2, .int (iI 0)), (1, .int (iI (-1))), (0, .ref o)]) hf dX6_nextNow_11 (by decide) rfl ?_
  have lp : ∀ (N : Nat) (b : Int) (mo : Int) (i : Int), (1 ≤ i ∧ i ≤ many + 1) → ((b, mo) = nxN (cnt (WL kd co cols many)) co cols (i - 1).toNat) → (0 ≤ mo ∧ mo ≤ 59049 ∧ -1 ≤ b ∧ b ≤ 200) → (11 - i).toNat < N → T Γ (rmL 6) 6 0 0 (Qe Γ (rmL 6) (fun vv w => ∃ r : Int, vv = some (.int (iI r)) ∧ iR r ∧ (∃ now1 oft1 wtd1 : Int → Int, rOk cols now1 ∧ r = (nxN (cnt (WL kd co cols many)) co cols many.toNat).1 ∧ w = mW (xg Γ) o ax brd many cols kd co chg sM sN sW sC pgM page whl nwN now1 oft1 wtd1 (((WL kd co cols many).length : Int)) svd trn cAt wAt seed isK kB kG kS kK kO kN kW kC hh))) (mW (xg Γ) o ax brd many cols kd co chg sM sN sW sC pgM page whl nwN now1 oft1 wtd1 (((WL kd co cols many).length : Int)) svd trn cAt wAt seed isK kB kG kS kK kO kN kW kC hh) 12 [(0, .ref o), (1, .int (iI b)), (2, .int (iI mo)), (3, .int (iI i))] [] := by
    intro N
    induction N with
    | zero => intro b mo i hi hs hrb hN; exact absurd hN (Nat.not_lt_zero _)
    | succ N ih =>
      intro b mo i hi hs hrb hN
      have ihO := ih
      refine tt_iload_n hf 3 dX6_nextNow_12 rfl ?_
      refine tt_aload_n hf 0 dX6_nextNow_13 rfl ?_
      refine gm_many hf dX6_nextNow_14 ?_
      refine tt_icmp_gt (tgt := 114) hf dX6_nextNow_17 (by decide) (by omega) (by omega) (fun c17 => ?_) (fun c17 => ?_)
      · refine tt_iload_n hf 1 dX6_nextNow_114 rfl ?_
        exact tt_ireti hf hrT dX6_nextNow_115 (Nat.le_refl _) (Nat.le_refl _) (by omega) ⟨now1, oft1, wtd1, hok1, by rw [show many.toNat = (i - 1).toNat by omega, ← hs], rfl⟩
      · refine tt_iconst hf dX6_nextNow_20 ?_
        refine tt_istore (lv' := [(4, .int (iI 0)), (0, .ref o), (1, .int (iI b)), (2, .int (iI mo)), (3, .int (iI i))]) hf dX6_nextNow_21 (by decide) rfl ?_
        have lq : ∀ (N : Nat) (b2 : Int) (m2 : Int) (c : Int), (0 ≤ c ∧ c ≤ cols) → ((b2, m2) = nxC (cnt (WL kd co cols many)) co i c.toNat (nxN (cnt (WL kd co cols many)) co cols (i - 1).toNat)) → (0 ≤ m2 ∧ m2 ≤ 59049 ∧ -1 ≤ b2 ∧ b2 ≤ 200) → (4 - c).toNat < N → T Γ (rmL 6) 6 0 0 (Qe Γ (rmL 6) (fun vv w => ∃ r : Int, vv = some (.int (iI r)) ∧ iR r ∧ (∃ now1 oft1 wtd1 : Int → Int, rOk cols now1 ∧ r = (nxN (cnt (WL kd co cols many)) co cols many.toNat).1 ∧ w = mW (xg Γ) o ax brd many cols kd co chg sM sN sW sC pgM page whl nwN now1 oft1 wtd1 (((WL kd co cols many).length : Int)) svd trn cAt wAt seed isK kB kG kS kK kO kN kW kC hh))) (mW (xg Γ) o ax brd many cols kd co chg sM sN sW sC pgM page whl nwN now1 oft1 wtd1 (((WL kd co cols many).length : Int)) svd trn cAt wAt seed isK kB kG kS kK kO kN kW kC hh) 23 [(0, .ref o), (1, .int (iI b2)), (2, .int (iI m2)), (3, .int (iI i)), (4, .int (iI c))] [] := by
          intro N
          induction N with
          | zero => intro b2 m2 c hj hs2 hr2 hN; exact absurd hN (Nat.not_lt_zero _)
          | succ N ih =>
            intro b2 m2 c hj hs2 hr2 hN
            refine tt_iload hf 4 dX6_nextNow_23 rfl ?_
            refine tt_aload_n hf 0 dX6_nextNow_25 rfl ?_
            refine gm_cols hf dX6_nextNow_26 ?_
            refine tt_icmp_ge (tgt := 108) hf dX6_nextNow_29 (by decide) (by omega) (by omega) (fun c29 => ?_) (fun c29 => ?_)
            · refine tt_iinc (lv' := [(3, .int (iI (i + 1))), (0, .ref o), (1, .int (iI b2)), (2, .int (iI m2)), (4, .int (iI c))]) hf 3 dX6_nextNow_108 rfl (by decide) rfl ?_
              refine tt_goto (tgt := 12) hf dX6_nextNow_111 (by decide) ?_
              refine tt_sub [1, 2, 3, 0] rfl ?_
              exact ihO b2 m2 (i + 1) (by omega) (by rw [hs2, Int.add_sub_cancel, nxN_s (n := i) (by omega), show c = cols by omega]) (by omega) (by omega)
            · have hcv := hcn1 i c (by omega) (by omega) (by omega) (by omega)
              have hcr := cnt_rng (WL kd co cols many) i c
              have hq := hco i
              refine tt_aload_n hf 0 dX6_nextNow_32 rfl ?_
              refine gm_co hf dX6_nextNow_33 ?_
              refine tt_iload_n hf 3 dX6_nextNow_36 rfl ?_
              refine lm_co hf (by omega) dX6_nextNow_37 ?_
              refine tt_iconst hf dX6_nextNow_38 ?_
              refine tt_icmp_ne (tgt := 61) hf dX6_nextNow_39 (by decide) (by omega) (by omega) (fun c39 => ?_) (fun c39 => ?_)
              · refine tt_iconst hf dX6_nextNow_61 ?_
                refine tt_istore (lv' := [(5, .int (iI 0)), (0, .ref o), (1, .int (iI b2)), (2, .int (iI m2)), (3, .int (iI i)), (4, .int (iI c))]) hf dX6_nextNow_62 (by decide) rfl ?_
                refine tt_iload hf 0 dX6_nextNow_64 rfl ?_
                refine tt_if_eq (tgt := 79) hf dX6_nextNow_66 (by decide) (by omega) (fun _ => ?_) (fun c => absurd c (by decide))
                refine tt_iload_n hf 2 dX6_nextNow_79 rfl ?_
                refine tt_istore_n (lv' := [(1, .int (iI b2)), (5, .int (iI 0)), (0, .ref o), (2, .int (iI m2)), (3, .int (iI i)), (4, .int (iI c))]) hf dX6_nextNow_80 (by decide) rfl ?_
                refine tt_iload hf 1 dX6_nextNow_81 rfl ?_
                refine tt_if_eq (tgt := 100) hf dX6_nextNow_83 (by decide) (by omega) (fun _ => ?_) (fun c => absurd c (by decide))
                refine tt_iload_n hf 3 dX6_nextNow_100 rfl ?_
                refine tt_istore_n (lv' := [(2, .int (iI m2)), (1, .int (iI b2)), (5, .int (iI 0)), (0, .ref o), (3, .int (iI i)), (4, .int (iI c))]) hf dX6_nextNow_101 (by decide) rfl ?_
                refine tt_iinc (lv' := [(4, .int (iI (c + 1))), (2, .int (iI m2)), (1, .int (iI b2)), (5, .int (iI 0)), (0, .ref o), (3, .int (iI i))]) hf 5 dX6_nextNow_102 rfl (by decide) rfl ?_
                refine tt_goto (tgt := 23) hf dX6_nextNow_105 (by decide) ?_
                refine tt_sub [4, 2, 1, 5, 0] rfl ?_
                exact ih b2 m2 (c + 1) (by omega) (by rw [nxC_s (by omega), ← hs2, if_neg (fun q => c39 q.1)]) (by omega) (by omega)
              · refine tt_aload_n hf 0 dX6_nextNow_42 rfl ?_
                refine gm_oft hf dX6_nextNow_43 ?_
                refine tt_iconst hf dX6_nextNow_46 ?_
                refine tt_iload_n hf 3 dX6_nextNow_47 rfl ?_
                refine tt_imul hf dX6_nextNow_48 ?_
                refine tt_iload hf 4 dX6_nextNow_49 rfl ?_
                refine tt_iadd hf dX6_nextNow_51 ?_
                refine lm_oft hf (by omega) dX6_nextNow_52 ?_
                refine tt_iload_n hf 2 dX6_nextNow_53 rfl ?_
                refine tt_icmp_le (tgt := 61) hf dX6_nextNow_54 (by decide) (by omega) (by omega) (fun c54 => ?_) (fun c54 => ?_)
                · refine tt_iconst hf dX6_nextNow_61 ?_
                  refine tt_istore (lv' := [(5, .int (iI 0)), (0, .ref o), (1, .int (iI b2)), (2, .int (iI m2)), (3, .int (iI i)), (4, .int (iI c))]) hf dX6_nextNow_62 (by decide) rfl ?_
                  refine tt_iload hf 0 dX6_nextNow_64 rfl ?_
                  refine tt_if_eq (tgt := 79) hf dX6_nextNow_66 (by decide) (by omega) (fun _ => ?_) (fun c => absurd c (by decide))
                  refine tt_iload_n hf 2 dX6_nextNow_79 rfl ?_
                  refine tt_istore_n (lv' := [(1, .int (iI b2)), (5, .int (iI 0)), (0, .ref o), (2, .int (iI m2)), (3, .int (iI i)), (4, .int (iI c))]) hf dX6_nextNow_80 (by decide) rfl ?_
                  refine tt_iload hf 1 dX6_nextNow_81 rfl ?_
                  refine tt_if_eq (tgt := 100) hf dX6_nextNow_83 (by decide) (by omega) (fun _ => ?_) (fun c => absurd c (by decide))
                  refine tt_iload_n hf 3 dX6_nextNow_100 rfl ?_
                  refine tt_istore_n (lv' := [(2, .int (iI m2)), (1, .int (iI b2)), (5, .int (iI 0)), (0, .ref o), (3, .int (iI i)), (4, .int (iI c))]) hf dX6_nextNow_101 (by decide) rfl ?_
                  refine tt_iinc (lv' := [(4, .int (iI (c + 1))), (2, .int (iI m2)), (1, .int (iI b2)), (5, .int (iI 0)), (0, .ref o), (3, .int (iI i))]) hf 5 dX6_nextNow_102 rfl (by decide) rfl ?_
                  refine tt_goto (tgt := 23) hf dX6_nextNow_105 (by decide) ?_
                  refine tt_sub [4, 2, 1, 5, 0] rfl ?_
                  exact ih b2 m2 (c + 1) (by omega) (by rw [nxC_s (by omega), ← hs2, if_neg (fun q => by have q2 : m2 < cnt (WL kd co cols many) i c := q.2; omega)]) (by omega) (by omega)
                · refine tt_iconst hf dX6_nextNow_57 ?_
                  refine tt_goto (tgt := 62) hf dX6_nextNow_58 (by decide) ?_
                  refine tt_istore (lv' := [(5, .int (iI 1)), (0, .ref o), (1, .int (iI b2)), (2, .int (iI m2)), (3, .int (iI i)), (4, .int (iI c))]) hf dX6_nextNow_62 (by decide) rfl ?_
                  refine tt_iload hf 0 dX6_nextNow_64 rfl ?_
                  refine tt_if_eq (tgt := 79) hf dX6_nextNow_66 (by decide) (by omega) (fun c => absurd c (by decide)) (fun _ => ?_)
                  refine tt_bipush hf dX6_nextNow_69 (by decide) ?_
                  refine tt_iload_n hf 4 dX6_nextNow_71 rfl ?_
                  refine tt_imul hf dX6_nextNow_72 ?_
                  refine tt_iload hf 5 dX6_nextNow_73 rfl ?_
                  refine tt_iadd hf dX6_nextNow_75 ?_
                  refine tt_goto (tgt := 80) hf dX6_nextNow_76 (by decide) ?_
                  refine tt_istore_n (lv' := [(1, .int (iI ((10 * i) + c))), (5, .int (iI 1)), (0, .ref o), (2, .int (iI m2)), (3, .int (iI i)), (4, .int (iI c))]) hf dX6_nextNow_80 (by decide) rfl ?_
                  refine tt_iload hf 1 dX6_nextNow_81 rfl ?_
                  refine tt_if_eq (tgt := 100) hf dX6_nextNow_83 (by decide) (by omega) (fun c => absurd c (by decide)) (fun _ => ?_)
                  refine tt_aload_n hf 2 dX6_nextNow_86 rfl ?_
                  refine gm_oft hf dX6_nextNow_87 ?_
                  refine tt_iconst hf dX6_nextNow_90 ?_
                  refine tt_iload_n hf 4 dX6_nextNow_91 rfl ?_
                  refine tt_imul hf dX6_nextNow_92 ?_
                  refine tt_iload hf 5 dX6_nextNow_93 rfl ?_
                  refine tt_iadd hf dX6_nextNow_95 ?_
                  refine lm_oft hf (by omega) dX6_nextNow_96 ?_
                  refine tt_goto (tgt := 101) hf dX6_nextNow_97 (by decide) ?_
                  refine tt_istore_n (lv' := [(2, .int (iI (oft1 ((3 * i) + c)))), (1, .int (iI ((10 * i) + c))), (5, .int (iI 1)), (0, .ref o), (3, .int (iI i)), (4, .int (iI c))]) hf dX6_nextNow_101 (by decide) rfl ?_
                  refine tt_iinc (lv' := [(4, .int (iI (c + 1))), (2, .int (iI (oft1 ((3 * i) + c)))), (1, .int (iI ((10 * i) + c))), (5, .int (iI 1)), (0, .ref o), (3, .int (iI i))]) hf 5 dX6_nextNow_102 rfl (by decide) rfl ?_
                  refine tt_goto (tgt := 23) hf dX6_nextNow_105 (by decide) ?_
                  refine tt_sub [4, 2, 1, 5, 0] rfl ?_
                  exact ih ((10 * i) + c) (oft1 ((3 * i) + c)) (c + 1) (by omega) (by rw [nxC_s (by omega), ← hs2, if_pos ⟨c39, by show m2 < cnt (WL kd co cols many) i c; omega⟩, hcv]) (by omega) (by omega)
        refine tt_sub [1, 2, 3, 4, 0] rfl ?_
        exact lq _ b mo 0 (by omega) hs (by omega) (Nat.lt_succ_self _)
  refine tt_sub [3, 2, 1, 0] rfl ?_
  exact lp _ (-1) 0 1 (by omega) rfl (by omega) (Nat.lt_succ_self _)
set_option maxHeartbeats 4000000 in
set_option maxRecDepth 100000 in
theorem cm_upNow {l : Launch} {g : tG} {o : Nat} {ax : Nat → Nat} {brd many cols : Int} {kd co : Int → Int} {chg sM : Int} {sN sW sC : Int → Int} {pgM : Int} {page : Int → Int} {whl nwN : Int} {now oft wtd : Int → Int} {ways : Int} {svd trn cAt wAt : Int → Int} {seed : Int64} {isK kB kG kS : Int} {kK kO kN kW kC : Int → Int} {hh : Int64}  (hm : 0 ≤ many ∧ many ≤ 10) (hkd : ∀ i, 0 ≤ kd i ∧ kd i ≤ 4) (hnow : ∀ i, -1 ≤ now i ∧ now i ≤ 2) (hco : ∀ i, -1 ≤ co i ∧ co i ≤ 2) (hc : 2 ≤ cols ∧ cols ≤ 3) (hcc : ∀ i, 1 ≤ i → i ≤ many → co i ≤ cols - 1) : Ci l g yX6_upNow (ws_ yX6_upNow cX6_upNow 3 (Option.some Jvm.ClassFile.FieldType.int)) (rmL 6) [.ref o] (mW g o ax brd many cols kd co chg sM sN sW sC pgM page whl nwN now oft wtd ways svd trn cAt wAt seed isK kB kG kS kK kO kN kW kC hh) (fun r w => ∃ now1 : Int → Int, (∀ i, -1 ≤ now1 i ∧ now1 i ≤ 2) ∧ r = frN kd co cols many.toNat ∧ w = mW g o ax brd many cols kd co chg sM sN sW sC pgM page whl nwN now1 oft wtd ways svd trn cAt wAt seed isK kB kG kS kK kO kN kW kC hh) := by
  refine Ct.of (by decide) (Nat.le_of_ble_eq_true rfl) ?_
  intro Γ hl hg hf hrT
  subst hl hg
  have hf : Fx Γ RX6 cX6_upNow 3 := hf
  show T Γ (rmL 6) 3 0 0 (Qe Γ (rmL 6) _) _ 0 [(0, .ref o)] []
  have lp : ∀ (N : Nat) (b : Int) (i : Int) (nw : Int → Int), (1 ≤ i ∧ i ≤ many + 1) → (b = frN kd co cols (i - 1).toNat) → (∀ i, -1 ≤ nw i ∧ nw i ≤ 2) → (11 - i).toNat < N → T Γ (rmL 6) 3 0 0 (Qe Γ (rmL 6) (fun vv w => ∃ r : Int, vv = some (.int (iI r)) ∧ iR r ∧ (∃ now1 : Int → Int, (∀ i, -1 ≤ now1 i ∧ now1 i ≤ 2) ∧ r = frN kd co cols many.toNat ∧ w = mW (xg Γ) o ax brd many cols kd co chg sM sN sW sC pgM page whl nwN now1 oft wtd ways svd trn cAt wAt seed isK kB kG kS kK kO kN kW kC hh))) (mW (xg Γ) o ax brd many cols kd co chg sM sN sW sC pgM page whl nwN nw oft wtd ways svd trn cAt wAt seed isK kB kG kS kK kO kN kW kC hh) 4 [(0, .ref o), (1, .int (iI b)), (2, .int (iI i))] [] := by
    intro N
    induction N with
    | zero => intro b i nw hi hb hnw hN; exact absurd hN (Nat.not_lt_zero _)
    | succ N ih =>
      intro b i nw hi hb hnw hN
      have hbr := frN_rng kd co cols (i - 1).toNat
      rw [← hb] at hbr
      refine tt_iload_n hf 2 dX6_upNow_4 rfl ?_
      refine tt_aload_n hf 0 dX6_upNow_5 rfl ?_
      refine gm_many hf dX6_upNow_6 ?_
      refine tt_icmp_gt (tgt := 37) hf dX6_upNow_9 (by decide) (by omega) (by omega) (fun c9 => ?_) (fun c9 => ?_)
      · refine tt_iload_n hf 1 dX6_upNow_37 rfl ?_
        exact tt_ireti hf hrT dX6_upNow_38 (Nat.le_refl _) (Nat.le_refl _) (by omega) ⟨nw, hnw, by rw [hb, show i - 1 = many by omega], rfl⟩
      · refine tt_aload_n hf 0 dX6_upNow_12 rfl ?_
        refine tt_callV0 (As := []) (rest := []) (q0 := 0) (ci := 6) hf (cm_layNow hm) lk_X6_X6_layNow hd_X6_layNow rfl rfl rfl ⟨rfl, rfl⟩ (by decide) (by decide) (Nat.le_of_ble_eq_true rfl) dX6_upNow_13 rfl (kk_v (fun w hw => ?_))
        subst hw
        refine tt_aload_n hf 0 dX6_upNow_16 rfl ?_
        refine tt_iconst hf dX6_upNow_17 ?_
        refine tt_iload_n hf 2 dX6_upNow_18 rfl ?_
        refine tt_callV0 (As := [.int (iI 1), .int (iI i)]) (rest := []) (q0 := 0) (ci := 6) hf (cm_goOn hkd hco hc (by omega) (by omega) (fun i h1 h2 => hcc i h1 (by omega)) (lay_ok hc.1 hco hcc hnw) (goS_startI (by omega) (by omega) (fun k h1 h2 => lay_in hm.2 k h1 (by omega)))) lk_X6_X6_goOn hd_X6_goOn rfl rfl rfl ⟨rfl, rfl⟩ (by decide) (by decide) (Nat.le_of_ble_eq_true rfl) dX6_upNow_19 rfl (kk_i (fun r19 w hr19 hp19 => ?_))
        obtain ⟨nw1, hoknw1, hgonw1, rfl⟩ := hp19
        refine tt_if_le (tgt := 29) hf dX6_upNow_22 (by decide) (by omega) (fun c22 => ?_) (fun c22 => ?_)
        · refine tt_iload_n hf 1 dX6_upNow_29 rfl ?_
          refine tt_istore_n (lv' := [(1, .int (iI b)), (0, .ref o), (2, .int (iI i))]) hf dX6_upNow_30 (by decide) rfl ?_
          refine tt_iinc (lv' := [(2, .int (iI (i + 1))), (1, .int (iI b)), (0, .ref o)]) hf 2 dX6_upNow_31 rfl (by decide) rfl ?_
          refine tt_goto (tgt := 4) hf dX6_upNow_34 (by decide) ?_
          refine tt_sub [2, 1, 0] rfl ?_
          exact ih b (i + 1) nw1 (by omega) (by rw [Int.add_sub_cancel, frN_s (by omega), if_neg, hb]; rcases hgonw1 with ⟨_, q⟩ | ⟨q, _⟩; exact fun h => h ((WL_nil (by omega) _).mp q); exact absurd q (by omega)) hoknw1.1 (by omega)
        · refine tt_iload_n hf 2 dX6_upNow_25 rfl ?_
          refine tt_goto (tgt := 30) hf dX6_upNow_26 (by decide) ?_
          refine tt_istore_n (lv' := [(1, .int (iI i)), (0, .ref o), (2, .int (iI i))]) hf dX6_upNow_30 (by decide) rfl ?_
          refine tt_iinc (lv' := [(2, .int (iI (i + 1))), (1, .int (iI i)), (0, .ref o)]) hf 2 dX6_upNow_31 rfl (by decide) rfl ?_
          refine tt_goto (tgt := 4) hf dX6_upNow_34 (by decide) ?_
          refine tt_sub [2, 1, 0] rfl ?_
          exact ih i (i + 1) nw1 (by omega) (by rw [Int.add_sub_cancel, frN_s (by omega), if_pos]; rcases hgonw1 with ⟨q, _⟩ | ⟨_, rest, q, _⟩; exact absurd q (by omega); intro h; rw [(WL_nil (by omega) _).mpr h] at q; cases q) hoknw1.1 (by omega)
  refine tt_iconst hf dX6_upNow_0 ?_
  refine tt_istore_n (lv' := [(1, .int (iI 0)), (0, .ref o)]) hf dX6_upNow_1 (by decide) rfl ?_
  refine tt_iconst hf dX6_upNow_2 ?_
  refine tt_istore_n (lv' := [(2, .int (iI 1)), (1, .int (iI 0)), (0, .ref o)]) hf dX6_upNow_3 (by decide) rfl ?_
  refine tt_sub [2, 1, 0] rfl ?_
  exact lp _ 0 1 now (by omega) rfl hnow (Nat.lt_succ_self _)
set_option maxHeartbeats 4000000 in
set_option maxRecDepth 100000 in
theorem cm_waysNow {l : Launch} {g : tG} {o : Nat} {ax : Nat → Nat} {brd many cols : Int} {kd co : Int → Int} {chg sM : Int} {sN sW sC : Int → Int} {pgM : Int} {page : Int → Int} {whl nwN : Int} {now oft wtd : Int → Int} {ways : Int} {svd trn cAt wAt : Int → Int} {seed : Int64} {isK kB kG kS : Int} {kK kO kN kW kC : Int → Int} {hh : Int64} {wh : Int} (hm : 0 ≤ many ∧ many ≤ 10) (hkd : ∀ i, 0 ≤ kd i ∧ kd i ≤ 4) (hnow : ∀ i, -1 ≤ now i ∧ now i ≤ 2) (hco : ∀ i, -1 ≤ co i ∧ co i ≤ 2) (hc : 2 ≤ cols ∧ cols ≤ 3) (hcc : ∀ i, 1 ≤ i → i ≤ many → co i ≤ cols - 1) (hwh : 0 ≤ wh ∧ wh ≤ 2) : Ci l g yX6_waysNow (ws_ yX6_waysNow cX6_waysNow 2 (Option.some Jvm.ClassFile.FieldType.int)) (rmL 7) [.ref o, .int (iI wh)] (mW g o ax brd many cols kd co chg sM sN sW sC pgM page whl nwN now oft wtd ways svd trn cAt wAt seed isK kB kG kS kK kO kN kW kC hh) (fun r w => ∃ (now1 oft1 wtd1 : Int → Int) (ways1 : Int), (∀ i, -1 ≤ now1 i ∧ now1 i ≤ 2) ∧ r = wyE kd co cols many wh ∧ w = mW g o ax brd many cols kd co chg sM sN sW sC pgM page whl nwN now1 oft1 wtd1 ways1 svd trn cAt wAt seed isK kB kG kS kK kO kN kW kC hh) := by
  refine Ct.of (by decide) (Nat.le_of_ble_eq_true rfl) ?_
  intro Γ hl hg hf hrT
  subst hl hg
  have hf : Fx Γ RX6 cX6_waysNow 2 := hf
  show T Γ (rmL 7) 2 0 0 (Qe Γ (rmL 7) _) _ 0 [(0, .ref o), (1, .int (iI wh))] []
  refine tt_iload_n hf 1 dX6_waysNow_0 rfl ?_
  refine tt_if_ne (tgt := 12) hf dX6_waysNow_1 (by decide) (by omega) (fun c1 => ?_) (fun c1 => ?_)
  · refine tt_iload_n hf 1 dX6_waysNow_12 rfl ?_
    refine tt_iconst hf dX6_waysNow_13 ?_
    refine tt_icmp_ne (tgt := 24) hf dX6_waysNow_14 (by decide) (by omega) (by omega) (fun c14 => ?_) (fun c14 => ?_)
    · refine tt_aload_n hf 0 dX6_waysNow_24 rfl ?_
      refine tt_callV0 (As := []) (rest := []) (q0 := 0) (ci := 6) hf (cm_upNow hm hkd hnow hco hc hcc) lk_X6_X6_upNow hd_X6_upNow rfl rfl rfl ⟨rfl, rfl⟩ (by decide) (by decide) (Nat.le_of_ble_eq_true rfl) dX6_waysNow_25 rfl (kk_i (fun r25 w hr25 hp25 => ?_))
      obtain ⟨now1, hnw1, hrl1, rfl⟩ := hp25
      exact tt_ireti hf hrT dX6_waysNow_28 (Nat.le_refl _) (Nat.le_refl _) hr25 ⟨now1, oft, wtd, ways, hnw1, by rw [hrl1]; unfold wyE; rw [if_neg c1, if_neg c14], rfl⟩
    · refine tt_aload_n hf 0 dX6_waysNow_17 rfl ?_
      refine tt_callV0 (As := []) (rest := []) (q0 := 0) (ci := 6) hf (cm_nextNow hm hkd hnow hco hc hcc) lk_X6_X6_nextNow hd_X6_nextNow rfl rfl rfl ⟨rfl, rfl⟩ (by decide) (by decide) (Nat.le_of_ble_eq_true rfl) dX6_waysNow_18 rfl (kk_i (fun r18 w hr18 hp18 => ?_))
      obtain ⟨now2, oft2, wtd2, hok2, hrl2, rfl⟩ := hp18
      refine tt_goto (tgt := 28) hf dX6_waysNow_21 (by decide) ?_
      exact tt_ireti hf hrT dX6_waysNow_28 (Nat.le_refl _) (Nat.le_refl _) hr18 ⟨now2, oft2, wtd2, _, hok2.1, by rw [hrl2]; unfold wyE; rw [if_neg c1, if_pos c14], rfl⟩
  · refine tt_aload_n hf 0 dX6_waysNow_4 rfl ?_
    refine tt_iconst hf dX6_waysNow_5 ?_
    refine tt_callV0 (As := [.int (iI (-1))]) (rest := []) (q0 := 0) (ci := 6) hf (cm_layWays hm hkd hnow hco hc hcc (by omega)) lk_X6_X6_layWays hd_X6_layWays rfl rfl rfl ⟨rfl, rfl⟩ (by decide) (by decide) (Nat.le_of_ble_eq_true rfl) dX6_waysNow_6 rfl (kk_i (fun r6 w hr6 hp6 => ?_))
    obtain ⟨now3, oft3, wtd3, hok3, hcn3, hwt3, hrl3, rfl⟩ := hp6
    refine tt_goto (tgt := 28) hf dX6_waysNow_9 (by decide) ?_
    exact tt_ireti hf hrT dX6_waysNow_28 (Nat.le_refl _) (Nat.le_refl _) hr6 ⟨now3, oft3, wtd3, _, hok3.1, by rw [hrl3]; unfold wyE; rw [if_pos c1], rfl⟩
set_option maxHeartbeats 4000000 in
set_option maxRecDepth 100000 in
theorem cm_ways {l : Launch} {g : tG} {o : Nat} {ax : Nat → Nat} {brd many cols : Int} {kd co : Int → Int} {chg sM : Int} {sN sW sC : Int → Int} {pgM : Int} {page : Int → Int} {whl nwN : Int} {now oft wtd : Int → Int} {ways : Int} {svd trn cAt wAt : Int → Int} {seed : Int64} {isK kB kG kS : Int} {kK kO kN kW kC : Int → Int} {hh : Int64} {wh : Int} (hm : 0 ≤ many ∧ many ≤ 10) (hkd : ∀ i, 0 ≤ kd i ∧ kd i ≤ 4) (hnow : ∀ i, -1 ≤ now i ∧ now i ≤ 2) (hco : ∀ i, -1 ≤ co i ∧ co i ≤ 2) (hcm : 0 < many → 2 ≤ cols ∧ cols ≤ 3) (hcc : ∀ i, 1 ≤ i → i ≤ many → co i ≤ cols - 1) (hwh : iR wh) : Ci l g yX6_ways (ws_ yX6_ways cX6_ways 2 (Option.some Jvm.ClassFile.FieldType.int)) (rmL 8) [.ref o, .int (iI wh)] (mW g o ax brd many cols kd co chg sM sN sW sC pgM page whl nwN now oft wtd ways svd trn cAt wAt seed isK kB kG kS kK kO kN kW kC hh) (fun r w => ∃ (now1 oft1 wtd1 : Int → Int) (ways1 : Int), (∀ i, -1 ≤ now1 i ∧ now1 i ≤ 2) ∧ r = (if 0 ≤ wh ∧ wh ≤ 2 then (if many = 0 then -103 else wyE kd co cols many wh) else -102) ∧ w = mW g o ax brd many cols kd co chg sM sN sW sC pgM page whl nwN now1 oft1 wtd1 ways1 svd trn cAt wAt seed isK kB kG kS kK kO kN kW kC hh) := by
  refine Ct.of (by decide) (Nat.le_of_ble_eq_true rfl) ?_
  intro Γ hl hg hf hrT
  subst hl hg
  have hf : Fx Γ RX6 cX6_ways 2 := hf
  show T Γ (rmL 8) 2 0 0 (Qe Γ (rmL 8) _) _ 0 [(0, .ref o), (1, .int (iI wh))] []
  refine tt_iload_n hf 1 dX6_ways_0 rfl ?_
  refine tt_iconst hf dX6_ways_1 ?_
  refine tt_iconst hf dX6_ways_2 ?_
  refine tt_callS0 (As := [.int (iI wh), .int (iI 0), .int (iI 2)]) (rest := []) hf (cm_within (by omega) (by omega) (by omega)) lk_X6_X6_within hd_X6_within rfl ⟨rfl, rfl⟩ (by decide) (by decide) (Nat.le_of_ble_eq_true rfl) dX6_ways_3 rfl (kk_e (fun r3 => ?_))
  refine tt_ifb_ne (tgt := 12) hf dX6_ways_6 (by decide) (fun c6 => ?_) (fun c6 => ?_)
  · refine tt_aload_n hf 0 dX6_ways_12 rfl ?_
    refine gm_many hf dX6_ways_13 ?_
    refine tt_if_ne (tgt := 24) hf dX6_ways_16 (by decide) (by omega) (fun c16 => ?_) (fun c16 => ?_)
    · refine tt_aload_n hf 0 dX6_ways_24 rfl ?_
      refine tt_iload_n hf 1 dX6_ways_25 rfl ?_
      refine tt_callV0 (As := [.int (iI wh)]) (rest := []) (q0 := 0) (ci := 6) hf (cm_waysNow hm hkd hnow hco (hcm (by omega)) hcc (by omega)) lk_X6_X6_waysNow hd_X6_waysNow rfl rfl rfl ⟨rfl, rfl⟩ (by decide) (by decide) (Nat.le_of_ble_eq_true rfl) dX6_ways_26 rfl (kk_i (fun r26 w hr26 hp26 => ?_))
      obtain ⟨now1, oft1, wtd1, ways1, hnw1, hrl1, rfl⟩ := hp26
      exact tt_ireti hf hrT dX6_ways_29 (Nat.le_refl _) (Nat.le_refl _) hr26 ⟨now1, oft1, wtd1, ways1, hnw1, by rw [hrl1, if_pos c6, if_neg c16], rfl⟩
    · refine tt_bipush hf dX6_ways_19 (by decide) ?_
      refine tt_goto (tgt := 29) hf dX6_ways_21 (by decide) ?_
      exact tt_ireti hf hrT dX6_ways_29 (Nat.le_refl _) (Nat.le_refl _) (by omega) ⟨now, oft, wtd, ways, hnow, by rw [if_pos c6, if_pos c16], rfl⟩
  · refine tt_bipush hf dX6_ways_9 (by decide) ?_
    exact tt_ireti hf hrT dX6_ways_11 (Nat.le_refl _) (Nat.le_refl _) (by omega) ⟨now, oft, wtd, ways, hnow, by rw [if_neg c6], rfl⟩
set_option maxHeartbeats 4000000 in
set_option maxRecDepth 100000 in
theorem cm_way {l : Launch} {g : tG} {o : Nat} {ax : Nat → Nat} {brd many cols : Int} {kd co : Int → Int} {chg sM : Int} {sN sW sC : Int → Int} {pgM : Int} {page : Int → Int} {whl nwN : Int} {now oft wtd : Int → Int} {ways : Int} {svd trn cAt wAt : Int → Int} {seed : Int64} {isK kB kG kS : Int} {kK kO kN kW kC : Int → Int} {hh : Int64} {wy nb : Int} (hm : 0 ≤ many ∧ many ≤ 10) (hkd : ∀ i, 0 ≤ kd i ∧ kd i ≤ 4) (hnow : ∀ i, -1 ≤ now i ∧ now i ≤ 2) (hco : ∀ i, -1 ≤ co i ∧ co i ≤ 2) (hcm : 0 < many → 2 ≤ cols ∧ cols ≤ 3) (hcc : ∀ i, 1 ≤ i → i ≤ many → co i ≤ cols - 1) (hwy : iR wy) (hnb : iR nb) : Ci l g yX6_way (ws_ yX6_way cX6_way 3 (Option.some Jvm.ClassFile.FieldType.int)) (rmL 6) [.ref o, .int (iI wy), .int (iI nb)] (mW g o ax brd many cols kd co chg sM sN sW sC pgM page whl nwN now oft wtd ways svd trn cAt wAt seed isK kB kG kS kK kO kN kW kC hh) (fun r w => ∃ (now1 oft1 wtd1 : Int → Int) (ways1 : Int), (∀ i, -1 ≤ now1 i ∧ now1 i ≤ 2) ∧ r = wayE (WL kd co cols many) many wy nb ∧ w = mW g o ax brd many cols kd co chg sM sN sW sC pgM page whl nwN now1 oft1 wtd1 ways1 svd trn cAt wAt seed isK kB kG kS kK kO kN kW kC hh) := by
  refine Ct.of (by decide) (Nat.le_of_ble_eq_true rfl) ?_
  intro Γ hl hg hf hrT
  subst hl hg
  have hf : Fx Γ RX6 cX6_way 3 := hf
  show T Γ (rmL 6) 3 0 0 (Qe Γ (rmL 6) _) _ 0 [(0, .ref o), (1, .int (iI wy)), (2, .int (iI nb))] []
  have hle : cols ≤ 3 → (WL kd co cols many).length ≤ 59049 := fun h => WL_le (kd := kd) (co := co) (many := many) h hm.2 (fun _ => 0)
  refine tt_aload_n hf 0 dX6_way_0 rfl ?_
  refine tt_iload_n hf 2 dX6_way_1 rfl ?_
  refine tt_callV0 (As := [.int (iI nb)]) (rest := []) (q0 := 0) (ci := 6) hf (cm_isNumber (by omega) hm) lk_X6_X6_isNumber hd_X6_isNumber rfl rfl rfl ⟨rfl, rfl⟩ (by decide) (by decide) (Nat.le_of_ble_eq_true rfl) dX6_way_2 rfl (kk_e (fun r2 => ?_))
  refine tt_ifb_eq (tgt := 21) hf dX6_way_5 (by decide) (fun c5 => ?_) (fun c5 => ?_)
  · refine tt_bipush hf dX6_way_21 (by decide) ?_
    exact tt_ireti hf hrT dX6_way_23 (Nat.le_refl _) (Nat.le_refl _) (by omega) ⟨now, oft, wtd, ways, hnow, by unfold wayE; rw [if_neg (by omega)], rfl⟩
  · refine tt_iload_n hf 1 dX6_way_8 rfl ?_
    refine tt_if_lt (tgt := 21) hf dX6_way_9 (by decide) (by omega) (fun c9 => ?_) (fun c9 => ?_)
    · refine tt_bipush hf dX6_way_21 (by decide) ?_
      exact tt_ireti hf hrT dX6_way_23 (Nat.le_refl _) (Nat.le_refl _) (by omega) ⟨now, oft, wtd, ways, hnow, by unfold wayE; rw [if_neg (by omega)], rfl⟩
    · have hc := hcm (by omega)
      have hle := hle hc.2
      refine tt_aload_n hf 0 dX6_way_12 rfl ?_
      refine tt_iload_n hf 1 dX6_way_13 rfl ?_
      refine tt_callV0 (As := [.int (iI wy)]) (rest := []) (q0 := 0) (ci := 6) hf (cm_layWays hm hkd hnow hco hc hcc (by omega)) lk_X6_X6_layWays hd_X6_layWays rfl rfl rfl ⟨rfl, rfl⟩ (by decide) (by decide) (Nat.le_of_ble_eq_true rfl) dX6_way_14 rfl (kk_i (fun r14 w hr14 hp14 => ?_))
      obtain ⟨now1, oft1, wtd1, hok1, hcn1, hwt1, hrl1, rfl⟩ := hp14
      refine tt_iload_n hf 1 dX6_way_17 rfl ?_
      refine tt_icmp_gt (tgt := 24) hf dX6_way_18 (by decide) (by omega) (by omega) (fun c18 => ?_) (fun c18 => ?_)
      · refine tt_aload_n hf 0 dX6_way_24 rfl ?_
        refine gm_wtd hf dX6_way_25 ?_
        refine tt_iload_n hf 2 dX6_way_28 rfl ?_
        refine lm_wtd hf (by omega) dX6_way_29 ?_
        obtain ⟨x, hx⟩ : ∃ x, (WL kd co cols many)[wy.toNat]? = some x := ⟨_, List.getElem?_eq_getElem (by omega)⟩
        have hv := hwt1 (by omega) x hx nb (by omega) (by omega)
        have hxr := WL_at hco hcc hm.1 (List.mem_of_getElem? hx) nb (by omega) (by omega)
        exact tt_ireti hf hrT dX6_way_30 (Nat.le_refl _) (Nat.le_refl _) (by rw [hv]; omega) ⟨now1, oft1, wtd1, _, hok1.1, by rw [hv, wayE_in (by omega) (by omega) hx], rfl⟩
      · refine tt_bipush hf dX6_way_21 (by decide) ?_
        exact tt_ireti hf hrT dX6_way_23 (Nat.le_refl _) (Nat.le_refl _) (by omega) ⟨now1, oft1, wtd1, _, hok1.1, by rw [wayE_out (by omega) (by omega)], rfl⟩
set_option maxHeartbeats 4000000 in
set_option maxRecDepth 100000 in
theorem cm_badOf {l : Launch} {g : tG} {o : Nat} {ax : Nat → Nat} {brd many cols : Int} {kd co : Int → Int} {chg sM : Int} {sN sW sC : Int → Int} {pgM : Int} {page : Int → Int} {whl nwN : Int} {now oft wtd : Int → Int} {ways : Int} {svd trn cAt wAt : Int → Int} {seed : Int64} {isK kB kG kS : Int} {kK kO kN kW kC : Int → Int} {hh : Int64} {v : Int} (hm : 0 ≤ many ∧ many ≤ 10) (hkd : ∀ i, 0 ≤ kd i ∧ kd i ≤ 4) (hnow : ∀ i, -1 ≤ now i ∧ now i ≤ 2) (hco : ∀ i, -1 ≤ co i ∧ co i ≤ 2) (hv : 1 ≤ v ∧ v ≤ many) : Ce l g yX6_badOf (ws_ yX6_badOf cX6_badOf 4 (Option.some Jvm.ClassFile.FieldType.int)) (rmL 4) [.ref o, .int (iI v)] (mW g o ax brd many cols kd co chg sM sN sW sC pgM page whl nwN now oft wtd ways svd trn cAt wAt seed isK kB kG kS kK kO kN kW kC hh) (boN kd (lay many co now) v many.toNat) (mW g o ax brd many cols kd co chg sM sN sW sC pgM page whl nwN (lay many co now) oft wtd ways svd trn cAt wAt seed isK kB kG kS kK kO kN kW kC hh) := by
  refine Ct.of (by decide) (Nat.le_of_ble_eq_true rfl) ?_
  intro Γ hl hg hf hrT
  subst hl hg
  have hf : Fx Γ RX6 cX6_badOf 4 := hf
  show T Γ (rmL 4) 4 0 0 (Qe Γ (rmL 4) _) _ 0 [(0, .ref o), (1, .int (iI v))] []
  have hln := lay_rng (many := many) hco hnow
  refine tt_aload_n hf 0 dX6_badOf_0 rfl ?_
  refine tt_callV0 (As := []) (rest := []) (q0 := 0) (ci := 6) hf (cm_layNow hm) lk_X6_X6_layNow hd_X6_layNow rfl rfl rfl ⟨rfl, rfl⟩ (by decide) (by decide) (Nat.le_of_ble_eq_true rfl) dX6_badOf_1 rfl (kk_v (fun w hw => ?_))
  subst hw
  refine tt_aload_n hf 0 dX6_badOf_4 rfl ?_
  refine tt_iload_n hf 1 dX6_badOf_5 rfl ?_
  refine tt_callV0 (As := [.int (iI v)]) (rest := []) (q0 := 0) (ci := 6) hf (cm_badWith hkd hln (by omega)) lk_X6_X6_badWith hd_X6_badWith rfl rfl rfl ⟨rfl, rfl⟩ (by decide) (by decide) (Nat.le_of_ble_eq_true rfl) dX6_badOf_6 rfl (kk_e (fun r6 => ?_))
  refine tt_istore_n (lv' := [(2, .int (iI (bd kd (lay many co now) v))), (0, .ref o), (1, .int (iI v))]) hf dX6_badOf_9 (by decide) rfl ?_
  refine tt_iload_n hf 2 dX6_badOf_10 rfl ?_
  refine tt_iconst hf dX6_badOf_11 ?_
  refine tt_iadd hf dX6_badOf_12 ?_
  refine tt_istore_n (lv' := [(3, .int (iI (v + 1))), (2, .int (iI (bd kd (lay many co now) v))), (0, .ref o), (1, .int (iI v))]) hf dX6_badOf_13 (by decide) rfl ?_
  have lp : ∀ (N : Nat) (b : Int) (i : Int), (v + 1 ≤ i ∧ i ≤ many + 1) → (b = boN kd (lay many co now) v (i - 1).toNat) → (0 ≤ b ∧ b ≤ v + i) → (11 - i).toNat < N → T Γ (rmL 4) 4 0 0 (Qe Γ (rmL 4) (fun vv w => ∃ r : Int, vv = some (.int (iI r)) ∧ iR r ∧ r = (boN kd (lay many co now) v many.toNat) ∧ w = mW (xg Γ) o ax brd many cols kd co chg sM sN sW sC pgM page whl nwN (lay many co now) oft wtd ways svd trn cAt wAt seed isK kB kG kS kK kO kN kW kC hh)) (mW (xg Γ) o ax brd many cols kd co chg sM sN sW sC pgM page whl nwN (lay many co now) oft wtd ways svd trn cAt wAt seed isK kB kG kS kK kO kN kW kC hh) 14 [(0, .ref o), (1, .int (iI v)), (2, .int (iI b)), (3, .int (iI i))] [] := by
    intro N
    induction N with
    | zero => intro b i hi hb hbr hN; exact absurd hN (Nat.not_lt_zero _)
    | succ N ih =>
      intro b i hi hb hbr hN
      refine tt_iload_n hf 3 dX6_badOf_14 rfl ?_
      refine tt_aload_n hf 0 dX6_badOf_15 rfl ?_
      refine gm_many hf dX6_badOf_16 ?_
      refine tt_icmp_gt (tgt := 71) hf dX6_badOf_19 (by decide) (by omega) (by omega) (fun c19 => ?_) (fun c19 => ?_)
      · refine tt_iload_n hf 2 dX6_badOf_71 rfl ?_
        exact tt_ireti hf hrT dX6_badOf_72 (Nat.le_refl _) (Nat.le_refl _) (by omega) ⟨(by rw [hb, show i - 1 = many by omega]), rfl⟩
      · refine tt_iload_n hf 2 dX6_badOf_22 rfl ?_
        refine tt_aload_n hf 0 dX6_badOf_23 rfl ?_
        refine tt_iload_n hf 1 dX6_badOf_24 rfl ?_
        refine tt_iload_n hf 3 dX6_badOf_25 rfl ?_
        refine tt_iload_n hf 1 dX6_badOf_26 rfl ?_
        refine tt_isub hf dX6_badOf_27 ?_
        refine tt_icmp_ge (tgt := 35) hf dX6_badOf_28 (by decide) (by omega) (by omega) (fun c28 => ?_) (fun c28 => ?_)
        · refine tt_iload_n hf 3 dX6_badOf_35 rfl ?_
          refine tt_iload_n hf 1 dX6_badOf_36 rfl ?_
          refine tt_isub hf dX6_badOf_37 ?_
          refine tt_iload_n hf 1 dX6_badOf_38 rfl ?_
          refine tt_iload_n hf 3 dX6_badOf_39 rfl ?_
          refine tt_iload_n hf 1 dX6_badOf_40 rfl ?_
          refine tt_isub hf dX6_badOf_41 ?_
          refine tt_icmp_ge (tgt := 51) hf dX6_badOf_42 (by decide) (by omega) (by omega) (fun c42 => ?_) (fun c42 => ?_)
          · refine tt_iload_n hf 1 dX6_badOf_51 rfl ?_
            refine tt_callV0 (As := [.int (iI (i - v)), .int (iI v)]) (rest := [.int (iI b)]) (q0 := 0) (ci := 6) hf (cm_isBad hkd hln (by omega) (by omega) (by omega)) lk_X6_X6_isBad hd_X6_isBad rfl rfl rfl ⟨rfl, rfl⟩ (by decide) (by decide) (Nat.le_of_ble_eq_true rfl) dX6_badOf_52 rfl (kk_e (fun r52 => ?_))
            refine tt_ifb_eq (tgt := 62) hf dX6_badOf_55 (by decide) (fun c55 => ?_) (fun c55 => ?_)
            · refine tt_iconst hf dX6_badOf_62 ?_
              refine tt_iadd hf dX6_badOf_63 ?_
              refine tt_istore_n (lv' := [(2, .int (iI (b + 0))), (0, .ref o), (1, .int (iI v)), (3, .int (iI i))]) hf dX6_badOf_64 (by decide) rfl ?_
              refine tt_iinc (lv' := [(3, .int (iI (i + 1))), (2, .int (iI (b + 0))), (0, .ref o), (1, .int (iI v))]) hf 3 dX6_badOf_65 rfl (by decide) rfl ?_
              refine tt_goto (tgt := 14) hf dX6_badOf_68 (by decide) ?_
              refine tt_sub [2, 3, 1, 0] rfl ?_
              exact ih (b + 0) (i + 1) (by omega) (by rw [Int.add_sub_cancel, boN_s (by omega), ← hb]; have hvv : ¬ (v < i - v) := (by omega); rw [if_neg hvv, if_neg hvv]; first | rw [if_pos c55] | rw [if_neg c55]) (by omega) (by omega)
            · refine tt_iconst hf dX6_badOf_58 ?_
              refine tt_goto (tgt := 63) hf dX6_badOf_59 (by decide) ?_
              refine tt_iadd hf dX6_badOf_63 ?_
              refine tt_istore_n (lv' := [(2, .int (iI (b + 1))), (0, .ref o), (1, .int (iI v)), (3, .int (iI i))]) hf dX6_badOf_64 (by decide) rfl ?_
              refine tt_iinc (lv' := [(3, .int (iI (i + 1))), (2, .int (iI (b + 1))), (0, .ref o), (1, .int (iI v))]) hf 3 dX6_badOf_65 rfl (by decide) rfl ?_
              refine tt_goto (tgt := 14) hf dX6_badOf_68 (by decide) ?_
              refine tt_sub [2, 3, 1, 0] rfl ?_
              exact ih (b + 1) (i + 1) (by omega) (by rw [Int.add_sub_cancel, boN_s (by omega), ← hb]; have hvv : ¬ (v < i - v) := (by omega); rw [if_neg hvv, if_neg hvv]; first | rw [if_pos c55] | rw [if_neg c55]) (by omega) (by omega)
          · exact absurd c42 (by omega)
        · refine tt_iload_n hf 1 dX6_badOf_31 rfl ?_
          refine tt_goto (tgt := 38) hf dX6_badOf_32 (by decide) ?_
          refine tt_iload_n hf 1 dX6_badOf_38 rfl ?_
          refine tt_iload_n hf 3 dX6_badOf_39 rfl ?_
          refine tt_iload_n hf 1 dX6_badOf_40 rfl ?_
          refine tt_isub hf dX6_badOf_41 ?_
          refine tt_icmp_ge (tgt := 51) hf dX6_badOf_42 (by decide) (by omega) (by omega) (fun c42 => ?_) (fun c42 => ?_)
          · exact absurd c42 (by omega)
          · refine tt_iload_n hf 3 dX6_badOf_45 rfl ?_
            refine tt_iload_n hf 1 dX6_badOf_46 rfl ?_
            refine tt_isub hf dX6_badOf_47 ?_
            refine tt_goto (tgt := 52) hf dX6_badOf_48 (by decide) ?_
            refine tt_callV0 (As := [.int (iI v), .int (iI (i - v))]) (rest := [.int (iI b)]) (q0 := 0) (ci := 6) hf (cm_isBad hkd hln (by omega) (by omega) (by omega)) lk_X6_X6_isBad hd_X6_isBad rfl rfl rfl ⟨rfl, rfl⟩ (by decide) (by decide) (Nat.le_of_ble_eq_true rfl) dX6_badOf_52 rfl (kk_e (fun r52 => ?_))
            refine tt_ifb_eq (tgt := 62) hf dX6_badOf_55 (by decide) (fun c55 => ?_) (fun c55 => ?_)
            · refine tt_iconst hf dX6_badOf_62 ?_
              refine tt_iadd hf dX6_badOf_63 ?_
              refine tt_istore_n (lv' := [(2, .int (iI (b + 0))), (0, .ref o), (1, .int (iI v)), (3, .int (iI i))]) hf dX6_badOf_64 (by decide) rfl ?_
              refine tt_iinc (lv' := [(3, .int (iI (i + 1))), (2, .int (iI (b + 0))), (0, .ref o), (1, .int (iI v))]) hf 3 dX6_badOf_65 rfl (by decide) rfl ?_
              refine tt_goto (tgt := 14) hf dX6_badOf_68 (by decide) ?_
              refine tt_sub [2, 3, 1, 0] rfl ?_
              exact ih (b + 0) (i + 1) (by omega) (by rw [Int.add_sub_cancel, boN_s (by omega), ← hb]; have hvv : (v < i - v) := (by omega); rw [if_pos hvv, if_pos hvv]; first | rw [if_pos c55] | rw [if_neg c55]) (by omega) (by omega)
            · refine tt_iconst hf dX6_badOf_58 ?_
              refine tt_goto (tgt := 63) hf dX6_badOf_59 (by decide) ?_
              refine tt_iadd hf dX6_badOf_63 ?_
              refine tt_istore_n (lv' := [(2, .int (iI (b + 1))), (0, .ref o), (1, .int (iI v)), (3, .int (iI i))]) hf dX6_badOf_64 (by decide) rfl ?_
              refine tt_iinc (lv' := [(3, .int (iI (i + 1))), (2, .int (iI (b + 1))), (0, .ref o), (1, .int (iI v))]) hf 3 dX6_badOf_65 rfl (by decide) rfl ?_
              refine tt_goto (tgt := 14) hf dX6_badOf_68 (by decide) ?_
              refine tt_sub [2, 3, 1, 0] rfl ?_
              exact ih (b + 1) (i + 1) (by omega) (by rw [Int.add_sub_cancel, boN_s (by omega), ← hb]; have hvv : (v < i - v) := (by omega); rw [if_pos hvv, if_pos hvv]; first | rw [if_pos c55] | rw [if_neg c55]) (by omega) (by omega)
  have hb0 := bd_rng (kd := kd) (row := (lay many co now)) (s := v) (by omega)
  refine tt_sub [2, 3, 1, 0] rfl ?_
  exact lp _ (bd kd (lay many co now) v) (v + 1) (by omega) (by rw [Int.add_sub_cancel, boN_v]) (by omega) (Nat.lt_succ_self _)
