set_option maxHeartbeats 4000000 in
set_option maxRecDepth 100000 in
theorem cx_paintingsBy {l : Launch} {g : tG} {o : Nat} {ax : Nat → Nat} {num kpt : Int → Option Nat} {many cols chg brd old : Int} {page : Int → Int} {pgM told enD : Int} {row : Int → Int} {ways far : Int} {hav : Int → Int} {wtd : Int} {fnd : Int → Int} {mdT wnT : Int} {sN sW sC : Int → Int} {sM drw : Int} {kN kW kC : Int → Int} {kS kG kB : Int} {hh : Int64} {L : List Nat} {mf : Nat → Nat × Int × Int × Int} {ti sd wh : Int} (hm : 0 ≤ many ∧ many ≤ 10) (hc : 2 ≤ cols ∧ cols ≤ 3) (hB : xB many num L mf) (hrow : ∀ i, -1 ≤ row i ∧ row i ≤ 2) (hti : 1 ≤ ti ∧ ti ≤ 40) (hsd : 0 ≤ sd ∧ sd ≤ 2147483647) (hwh : 0 ≤ wh ∧ wh ≤ 2) : Ci l g yX0_paintingsBy (ws_ yX0_paintingsBy cX0_paintingsBy 8 (Option.some Jvm.ClassFile.FieldType.int)) (rmL 8) [.ref o, .int (iI ti), .int (iI sd), .int (iI wh)] (xW g o ax num kpt many cols chg brd old page pgM told enD row ways far hav wtd fnd mdT wnT sN sW sC sM drw kN kW kC kS kG kB hh L mf) (fun r w => ∃ (row1 : Int → Int) (drw1 : Int), (∀ i, -1 ≤ row1 i ∧ row1 i ≤ 2) ∧ r = pnE (xkd num mf) (xco num mf) cols many ti sd wh ∧ w = xW g o ax num kpt many cols chg brd old page pgM told enD row1 ways far hav wtd fnd mdT wnT sN sW sC sM drw1 kN kW kC kS kG kB hh L mf) := by
  refine Ct.of (by decide) (Nat.le_of_ble_eq_true rfl) ?_
  intro Γ hl hg hf hrT
  subst hl hg
  have hf : Fx Γ RX0 cX0_paintingsBy 8 := hf
  show T Γ (rmL 8) 8 0 0 (Qe Γ (rmL 8) _) _ 0 [(0, .ref o), (1, .int (iI ti)), (2, .int (iI sd)), (3, .int (iI wh))] []
  refine tt_aload_n hf 0 dX0_paintingsBy_0 rfl ?_
  refine tt_iload_n hf 2 dX0_paintingsBy_1 rfl ?_
  refine px_drw hf dX0_paintingsBy_2 ?_
  refine tt_iconst hf dX0_paintingsBy_5 ?_
  refine tt_istore (lv' := [(4, .int (iI 0)), (0, .ref o), (1, .int (iI ti)), (2, .int (iI sd)), (3, .int (iI wh))]) hf dX0_paintingsBy_6 (by decide) rfl ?_
  refine tt_iconst hf dX0_paintingsBy_8 ?_
  refine tt_istore (lv' := [(5, .int (iI 0)), (4, .int (iI 0)), (0, .ref o), (1, .int (iI ti)), (2, .int (iI sd)), (3, .int (iI wh))]) hf dX0_paintingsBy_9 (by decide) rfl ?_
  refine tt_iconst hf dX0_paintingsBy_11 ?_
  refine tt_istore (lv' := [(6, .int (iI 0)), (5, .int (iI 0)), (4, .int (iI 0)), (0, .ref o), (1, .int (iI ti)), (2, .int (iI sd)), (3, .int (iI wh))]) hf dX0_paintingsBy_12 (by decide) rfl ?_
  have lp : ∀ (N : Nat) (we : Int) (al : Int) (k : Int) (nw : Int → Int) (z : Nat), (0 ≤ k ∧ k ≤ ti) → (pnN (xkd num mf) (xco num mf) cols many sd.toNat k.toNat = (z, we, al)) → (∀ i, -1 ≤ nw i ∧ nw i ≤ 2) → (z < 2147483648) → (0 ≤ we ∧ we ≤ k ∧ 0 ≤ al ∧ al ≤ 100 * k) → (41 - k).toNat < N → T Γ (rmL 8) 8 0 0 (Qe Γ (rmL 8) (fun vv w => ∃ r : Int, vv = some (.int (iI r)) ∧ iR r ∧ (∃ (row1 : Int → Int) (drw1 : Int), (∀ i, -1 ≤ row1 i ∧ row1 i ≤ 2) ∧ r = pnE (xkd num mf) (xco num mf) cols many ti sd wh ∧ w = xW (xg Γ) o ax num kpt many cols chg brd old page pgM told enD row1 ways far hav wtd fnd mdT wnT sN sW sC sM drw1 kN kW kC kS kG kB hh L mf))) (xW (xg Γ) o ax num kpt many cols chg brd old page pgM told enD nw ways far hav wtd fnd mdT wnT sN sW sC sM ((z : Int)) kN kW kC kS kG kB hh L mf) 14 [(0, .ref o), (1, .int (iI ti)), (2, .int (iI sd)), (3, .int (iI wh)), (4, .int (iI we)), (5, .int (iI al)), (6, .int (iI k))] [] := by
    intro N
    induction N with
    | zero => intro we al k nw z hk hst hnw hz hrg hN; exact absurd hN (Nat.not_lt_zero _)
    | succ N ih =>
      intro we al k nw z hk hst hnw hz hrg hN
      have ihO := ih
      refine tt_iload hf 6 dX0_paintingsBy_14 rfl ?_
      refine tt_iload_n hf 1 dX0_paintingsBy_16 rfl ?_
      refine tt_icmp_ge (tgt := 106) hf dX0_paintingsBy_17 (by decide) (by omega) (by omega) (fun c17 => ?_) (fun c17 => ?_)
      · refine tt_iload_n hf 3 dX0_paintingsBy_106 rfl ?_
        refine tt_if_ne (tgt := 115) hf dX0_paintingsBy_107 (by decide) (by omega) (fun c107 => ?_) (fun c107 => ?_)
        · refine tt_iload_n hf 3 dX0_paintingsBy_115 rfl ?_
          refine tt_iconst hf dX0_paintingsBy_116 ?_
          refine tt_icmp_ne (tgt := 125) hf dX0_paintingsBy_117 (by decide) (by omega) (by omega) (fun c117 => ?_) (fun c117 => ?_)
          · refine tt_aload_n hf 0 dX0_paintingsBy_125 rfl ?_
            refine gx_drw hf dX0_paintingsBy_126 ?_
            have ek : k.toNat = ti.toNat := by omega
            rw [ek] at hst
            exact tt_ireti hf hrT dX0_paintingsBy_129 (Nat.le_refl _) (Nat.le_refl _) (by omega) ⟨nw, (z : Int), hnw, by unfold pnE; rw [if_neg c107, if_neg c117, hst], rfl⟩
          · refine tt_iload hf 5 dX0_paintingsBy_120 rfl ?_
            refine tt_goto (tgt := 129) hf dX0_paintingsBy_122 (by decide) ?_
            have ek : k.toNat = ti.toNat := by omega
            rw [ek] at hst
            exact tt_ireti hf hrT dX0_paintingsBy_129 (Nat.le_refl _) (Nat.le_refl _) (by omega) ⟨nw, (z : Int), hnw, by unfold pnE; rw [if_neg c107, if_pos c117, hst], rfl⟩
        · refine tt_iload hf 4 dX0_paintingsBy_110 rfl ?_
          refine tt_goto (tgt := 129) hf dX0_paintingsBy_112 (by decide) ?_
          have ek : k.toNat = ti.toNat := by omega
          rw [ek] at hst
          exact tt_ireti hf hrT dX0_paintingsBy_129 (Nat.le_refl _) (Nat.le_refl _) (by omega) ⟨nw, (z : Int), hnw, by unfold pnE; rw [if_pos c107, hst], rfl⟩
      · refine tt_aload_n hf 0 dX0_paintingsBy_20 rfl ?_
        refine tt_callV0 (As := []) (rest := []) (q0 := 0) (ci := 0) hf (cx_layRow hm hB) lk_X0_X0_layRow hd_X0_layRow rfl rfl rfl ⟨rfl, rfl⟩ (by decide) (by decide) (Nat.le_of_ble_eq_true rfl) dX0_paintingsBy_21 rfl (kk_v (fun w hw => ?_))
        subst hw
        refine tt_iconst hf dX0_paintingsBy_24 ?_
        refine tt_istore (lv' := [(7, .int (iI 1)), (0, .ref o), (1, .int (iI ti)), (2, .int (iI sd)), (3, .int (iI wh)), (4, .int (iI we)), (5, .int (iI al)), (6, .int (iI k))]) hf dX0_paintingsBy_25 (by decide) rfl ?_
        have lq : ∀ (N : Nat) (i : Int) (n2 : Int → Int) (z2 : Nat), (1 ≤ i ∧ i ≤ many + 1) → (fl cols (i - 1).toNat (z, (mixF (many + 1) (xco num mf) nw)) = (z2, n2)) → (∀ i, -1 ≤ n2 i ∧ n2 i ≤ 2) → (z2 < 2147483648) → (11 - i).toNat < N → T Γ (rmL 8) 8 0 0 (Qe Γ (rmL 8) (fun vv w => ∃ r : Int, vv = some (.int (iI r)) ∧ iR r ∧ (∃ (row1 : Int → Int) (drw1 : Int), (∀ i, -1 ≤ row1 i ∧ row1 i ≤ 2) ∧ r = pnE (xkd num mf) (xco num mf) cols many ti sd wh ∧ w = xW (xg Γ) o ax num kpt many cols chg brd old page pgM told enD row1 ways far hav wtd fnd mdT wnT sN sW sC sM drw1 kN kW kC kS kG kB hh L mf))) (xW (xg Γ) o ax num kpt many cols chg brd old page pgM told enD n2 ways far hav wtd fnd mdT wnT sN sW sC sM ((z2 : Int)) kN kW kC kS kG kB hh L mf) 27 [(0, .ref o), (1, .int (iI ti)), (2, .int (iI sd)), (3, .int (iI wh)), (4, .int (iI we)), (5, .int (iI al)), (6, .int (iI k)), (7, .int (iI i))] [] := by
          intro N
          induction N with
          | zero => intro i n2 z2 hi hfl hn2 hz2 hN; exact absurd hN (Nat.not_lt_zero _)
          | succ N ih =>
            intro i n2 z2 hi hfl hn2 hz2 hN
            refine tt_iload hf 7 dX0_paintingsBy_27 rfl ?_
            refine tt_aload_n hf 0 dX0_paintingsBy_29 rfl ?_
            refine gx_many hf dX0_paintingsBy_30 ?_
            refine tt_icmp_gt (tgt := 68) hf dX0_paintingsBy_33 (by decide) (by omega) (by omega) (fun c33 => ?_) (fun c33 => ?_)
            · have hfl : fl cols many.toNat (z, (mixF (many + 1) (xco num mf) nw)) = (z2, n2) := by rw [← hfl, show i - 1 = many by omega]
              have hcg := fl_cg (cols := cols) (z := z) (r := (mixF (many + 1) (xco num mf) nw)) (r' := (xco num mf)) (many := many) (fun i h1 h2 => mixF_in (by omega)) many.toNat (by omega)
              rw [hfl] at hcg
              have hp1 : (pnS (xkd num mf) (xco num mf) cols many z).1 = z2 := hcg.1.symm
              have hp2 : (pnS (xkd num mf) (xco num mf) cols many z).2 = bu (xkd num mf) n2 many.toNat := (bu_cg _ (fun i h1 h2 => (hcg.2 i h1 (by omega)).symm))
              have hbr := bu_rng (xkd num mf) n2 many.toNat
              have hbq : (many.toNat : Int) * (many.toNat : Int) ≤ 10 * 10 := Int.mul_le_mul (by omega) (by omega) (by omega) (by omega)
              refine tt_aload_n hf 0 dX0_paintingsBy_68 rfl ?_
              refine tt_aload_n hf 0 dX0_paintingsBy_69 rfl ?_
              refine gx_many hf dX0_paintingsBy_70 ?_
              refine tt_callV0 (As := [.int (iI many)]) (rest := []) (q0 := 0) (ci := 0) hf (cx_badUpTo hm hB hn2 (by omega)) lk_X0_X0_badUpTo hd_X0_badUpTo rfl rfl rfl ⟨rfl, rfl⟩ (by decide) (by decide) (Nat.le_of_ble_eq_true rfl) dX0_paintingsBy_73 rfl (kk_e (fun r73 => ?_))
              refine tt_istore (lv' := [(7, .int (iI (bu (xkd num mf) n2 many.toNat))), (0, .ref o), (1, .int (iI ti)), (2, .int (iI sd)), (3, .int (iI wh)), (4, .int (iI we)), (5, .int (iI al)), (6, .int (iI k))]) hf dX0_paintingsBy_76 (by decide) rfl ?_
              refine tt_iload hf 5 dX0_paintingsBy_78 rfl ?_
              refine tt_iload hf 0 dX0_paintingsBy_80 rfl ?_
              refine tt_if_ne (tgt := 89) hf dX0_paintingsBy_82 (by decide) (by omega) (fun c82 => ?_) (fun c82 => ?_)
              · refine tt_iconst hf dX0_paintingsBy_89 ?_
                refine tt_iadd hf dX0_paintingsBy_90 ?_
                refine tt_istore (lv' := [(4, .int (iI (we + 0))), (7, .int (iI (bu (xkd num mf) n2 many.toNat))), (0, .ref o), (1, .int (iI ti)), (2, .int (iI sd)), (3, .int (iI wh)), (5, .int (iI al)), (6, .int (iI k))]) hf dX0_paintingsBy_91 (by decide) rfl ?_
                refine tt_iload hf 6 dX0_paintingsBy_93 rfl ?_
                refine tt_iload hf 1 dX0_paintingsBy_95 rfl ?_
                refine tt_iadd hf dX0_paintingsBy_97 ?_
                refine tt_istore (lv' := [(5, .int (iI (al + (bu (xkd num mf) n2 many.toNat)))), (4, .int (iI (we + 0))), (7, .int (iI (bu (xkd num mf) n2 many.toNat))), (0, .ref o), (1, .int (iI ti)), (2, .int (iI sd)), (3, .int (iI wh)), (6, .int (iI k))]) hf dX0_paintingsBy_98 (by decide) rfl ?_
                refine tt_iinc (lv' := [(6, .int (iI (k + 1))), (5, .int (iI (al + (bu (xkd num mf) n2 many.toNat)))), (4, .int (iI (we + 0))), (7, .int (iI (bu (xkd num mf) n2 many.toNat))), (0, .ref o), (1, .int (iI ti)), (2, .int (iI sd)), (3, .int (iI wh))]) hf 7 dX0_paintingsBy_100 rfl (by decide) rfl ?_
                refine tt_goto (tgt := 14) hf dX0_paintingsBy_103 (by decide) ?_
                refine tt_sub [4, 5, 6, 7, 2, 1, 0] rfl ?_
                exact ihO (we + 0) (al + (bu (xkd num mf) n2 many.toNat)) (k + 1) n2 z2 (by omega) (by rw [pnN_s (by omega), hst]; simp only []; rw [hp1, hp2, if_neg c82]) hn2 hz2 (by omega) (by omega)
              · refine tt_iconst hf dX0_paintingsBy_85 ?_
                refine tt_goto (tgt := 90) hf dX0_paintingsBy_86 (by decide) ?_
                refine tt_iadd hf dX0_paintingsBy_90 ?_
                refine tt_istore (lv' := [(4, .int (iI (we + 1))), (7, .int (iI (bu (xkd num mf) n2 many.toNat))), (0, .ref o), (1, .int (iI ti)), (2, .int (iI sd)), (3, .int (iI wh)), (5, .int (iI al)), (6, .int (iI k))]) hf dX0_paintingsBy_91 (by decide) rfl ?_
                refine tt_iload hf 6 dX0_paintingsBy_93 rfl ?_
                refine tt_iload hf 1 dX0_paintingsBy_95 rfl ?_
                refine tt_iadd hf dX0_paintingsBy_97 ?_
                refine tt_istore (lv' := [(5, .int (iI (al + (bu (xkd num mf) n2 many.toNat)))), (4, .int (iI (we + 1))), (7, .int (iI (bu (xkd num mf) n2 many.toNat))), (0, .ref o), (1, .int (iI ti)), (2, .int (iI sd)), (3, .int (iI wh)), (6, .int (iI k))]) hf dX0_paintingsBy_98 (by decide) rfl ?_
                refine tt_iinc (lv' := [(6, .int (iI (k + 1))), (5, .int (iI (al + (bu (xkd num mf) n2 many.toNat)))), (4, .int (iI (we + 1))), (7, .int (iI (bu (xkd num mf) n2 many.toNat))), (0, .ref o), (1, .int (iI ti)), (2, .int (iI sd)), (3, .int (iI wh))]) hf 7 dX0_paintingsBy_100 rfl (by decide) rfl ?_
                refine tt_goto (tgt := 14) hf dX0_paintingsBy_103 (by decide) ?_
                refine tt_sub [4, 5, 6, 7, 2, 1, 0] rfl ?_
                exact ihO (we + 1) (al + (bu (xkd num mf) n2 many.toNat)) (k + 1) n2 z2 (by omega) (by rw [pnN_s (by omega), hst]; simp only []; rw [hp1, hp2, if_pos c82]) hn2 hz2 (by omega) (by omega)
            · have hqn := hn2 i
              refine tt_aload_n hf 0 dX0_paintingsBy_36 rfl ?_
              refine gx_row hf dX0_paintingsBy_37 ?_
              refine tt_iload hf 7 dX0_paintingsBy_40 rfl ?_
              refine lx_row hf (by omega) dX0_paintingsBy_42 ?_
              refine tt_iconst hf dX0_paintingsBy_43 ?_
              refine tt_icmp_ne (tgt := 62) hf dX0_paintingsBy_44 (by decide) (by omega) (by omega) (fun c44 => ?_) (fun c44 => ?_)
              · refine tt_iinc (lv' := [(7, .int (iI (i + 1))), (0, .ref o), (1, .int (iI ti)), (2, .int (iI sd)), (3, .int (iI wh)), (4, .int (iI we)), (5, .int (iI al)), (6, .int (iI k))]) hf 7 dX0_paintingsBy_62 rfl (by decide) rfl ?_
                refine tt_goto (tgt := 27) hf dX0_paintingsBy_65 (by decide) ?_
                refine tt_sub [1, 2, 3, 4, 5, 6, 7, 0] rfl ?_
                exact ih (i + 1) n2 z2 (by omega) (by rw [Int.add_sub_cancel, fl_s (n := i) (by omega), hfl, if_neg c44]) hn2 hz2 (by omega)
              · refine tt_aload_n hf 0 dX0_paintingsBy_47 rfl ?_
                refine gx_row hf dX0_paintingsBy_48 ?_
                refine tt_iload hf 7 dX0_paintingsBy_51 rfl ?_
                refine tt_aload_n hf 0 dX0_paintingsBy_53 rfl ?_
                refine tt_aload_n hf 0 dX0_paintingsBy_54 rfl ?_
                refine gx_cols hf dX0_paintingsBy_55 ?_
                refine tt_callV0 (As := [.int (iI cols)]) (rest := [.int (iI i), .ref (ax 12)]) (q0 := 0) (ci := 0) hf (cx_draw (z := z2) hz2 (by omega)) lk_X0_X0_draw hd_X0_draw rfl rfl rfl ⟨rfl, rfl⟩ (by decide) (by decide) (Nat.le_of_ble_eq_true rfl) dX0_paintingsBy_58 rfl (kk_e (fun r58 => ?_))
                refine sx_row hf (by omega) dX0_paintingsBy_61 ?_
                refine tt_iinc (lv' := [(7, .int (iI (i + 1))), (0, .ref o), (1, .int (iI ti)), (2, .int (iI sd)), (3, .int (iI wh)), (4, .int (iI we)), (5, .int (iI al)), (6, .int (iI k))]) hf 7 dX0_paintingsBy_62 rfl (by decide) rfl ?_
                refine tt_goto (tgt := 27) hf dX0_paintingsBy_65 (by decide) ?_
                refine tt_sub [1, 2, 3, 4, 5, 6, 7, 0] rfl ?_
                exact ih (i + 1) (uI n2 i ((dzN z2 / 65536 % cols.toNat : Nat) : Int)) (dzN z2) (by omega) (by rw [Int.add_sub_cancel, fl_s (n := i) (by omega), hfl, if_pos c44]) (rng_u hn2 (by have := Nat.mod_lt (dzN z2 / 65536) (show cols.toNat > 0 by omega); omega)) (dzN_lt _) (by omega)
        refine tt_sub [1, 2, 3, 4, 5, 6, 7, 0] rfl ?_
        exact lq _ 1 (mixF (many + 1) (xco num mf) nw) z (by omega) rfl (mixX_rng (xco_rng hB) hnw) hz (Nat.lt_succ_self _)
  obtain ⟨z0, ez⟩ : ∃ z0 : Nat, sd = (z0 : Int) := ⟨sd.toNat, by omega⟩
  have ez2 : sd.toNat = z0 := by omega
  refine tt_sub [3, 4, 5, 6, 2, 1, 0] rfl ?_
  have lp2 := lp _ 0 0 0 row z0 (by omega) (by rw [ez2]; rfl) hrow (by omega) (by omega) (Nat.lt_succ_self _)
  rw [← ez] at lp2
  exact lp2
set_option maxHeartbeats 4000000 in
set_option maxRecDepth 100000 in
theorem cx_paintings {l : Launch} {g : tG} {o : Nat} {ax : Nat → Nat} {num kpt : Int → Option Nat} {many cols chg brd old : Int} {page : Int → Int} {pgM told enD : Int} {row : Int → Int} {ways far : Int} {hav : Int → Int} {wtd : Int} {fnd : Int → Int} {mdT wnT : Int} {sN sW sC : Int → Int} {sM drw : Int} {kN kW kC : Int → Int} {kS kG kB : Int} {hh : Int64} {L : List Nat} {mf : Nat → Nat × Int × Int × Int} {ti sd wh : Int} (hm : 0 ≤ many ∧ many ≤ 10) (hcl : 0 < many → 2 ≤ cols ∧ cols ≤ 3) (hB : xB many num L mf) (hrow : ∀ i, -1 ≤ row i ∧ row i ≤ 2) (hti : iR ti) (hsd : iR sd) (hwh : iR wh) : Ci l g yX0_paintings (ws_ yX0_paintings cX0_paintings 4 (Option.some Jvm.ClassFile.FieldType.int)) (rmL 9) [.ref o, .int (iI ti), .int (iI sd), .int (iI wh)] (xW g o ax num kpt many cols chg brd old page pgM told enD row ways far hav wtd fnd mdT wnT sN sW sC sM drw kN kW kC kS kG kB hh L mf) (fun r w => ∃ (row1 : Int → Int) (drw1 : Int), (∀ i, -1 ≤ row1 i ∧ row1 i ≤ 2) ∧ r = (if (1 ≤ ti ∧ ti ≤ 40) ∧ 0 ≤ sd ∧ 0 ≤ wh ∧ wh ≤ 2 then (if many = 0 then -103 else pnE (xkd num mf) (xco num mf) cols many ti sd wh) else -102) ∧ w = xW g o ax num kpt many cols chg brd old page pgM told enD row1 ways far hav wtd fnd mdT wnT sN sW sC sM drw1 kN kW kC kS kG kB hh L mf) := by
  refine Ct.of (by decide) (Nat.le_of_ble_eq_true rfl) ?_
  intro Γ hl hg hf hrT
  subst hl hg
  have hf : Fx Γ RX0 cX0_paintings 4 := hf
  show T Γ (rmL 9) 4 0 0 (Qe Γ (rmL 9) _) _ 0 [(0, .ref o), (1, .int (iI ti)), (2, .int (iI sd)), (3, .int (iI wh))] []
  refine tt_iload_n hf 1 dX0_paintings_0 rfl ?_
  refine tt_i2l hf dX0_paintings_1 ?_
  refine tt_topl (x' := lI ti) (lI_of (by omega)) ?_
  refine tt_lconst hf dX0_paintings_2 ?_
  refine tt_topl (x' := lI 1) (by decide) ?_
  refine tt_ldc2 hf q657 dX0_paintings_3 ?_
  refine tt_topl (x' := lI 40) (by decide) ?_
  refine tt_callS0 (As := [.long (lI ti), .long (lI 1), .long (lI 40)]) (rest := []) hf (cx_isIn (v := ti) (lo := 1) (hi := 40) (by omega) (by omega) (by omega)) lk_X0_X0_isIn hd_X0_isIn rfl ⟨rfl, rfl⟩ (by decide) (by decide) (Nat.le_of_ble_eq_true rfl) dX0_paintings_6 rfl (kk_e (fun r6 => ?_))
  refine tt_ifb_eq (tgt := 28) hf dX0_paintings_9 (by decide) (fun c9 => ?_) (fun c9 => ?_)
  · refine tt_bipush hf dX0_paintings_28 (by decide) ?_
    exact tt_ireti hf hrT dX0_paintings_30 (Nat.le_refl _) (Nat.le_refl _) (by omega) ⟨row, drw, hrow, by rw [if_neg (fun q => c9 q.1)], rfl⟩
  · refine tt_iload_n hf 2 dX0_paintings_12 rfl ?_
    refine tt_if_lt (tgt := 28) hf dX0_paintings_13 (by decide) (by omega) (fun c13 => ?_) (fun c13 => ?_)
    · refine tt_bipush hf dX0_paintings_28 (by decide) ?_
      exact tt_ireti hf hrT dX0_paintings_30 (Nat.le_refl _) (Nat.le_refl _) (by omega) ⟨row, drw, hrow, by rw [if_neg (fun q => absurd q.2.1 (by omega))], rfl⟩
    · refine tt_iload_n hf 3 dX0_paintings_16 rfl ?_
      refine tt_i2l hf dX0_paintings_17 ?_
      refine tt_topl (x' := lI wh) (lI_of (by omega)) ?_
      refine tt_lconst hf dX0_paintings_18 ?_
      refine tt_topl (x' := lI 0) (by decide) ?_
      refine tt_ldc2 hf q304 dX0_paintings_19 ?_
      refine tt_topl (x' := lI 2) (by decide) ?_
      refine tt_callS0 (As := [.long (lI wh), .long (lI 0), .long (lI 2)]) (rest := []) hf (cx_isIn (v := wh) (lo := 0) (hi := 2) (by omega) (by omega) (by omega)) lk_X0_X0_isIn hd_X0_isIn rfl ⟨rfl, rfl⟩ (by decide) (by decide) (Nat.le_of_ble_eq_true rfl) dX0_paintings_22 rfl (kk_e (fun r22 => ?_))
      refine tt_ifb_ne (tgt := 31) hf dX0_paintings_25 (by decide) (fun c25 => ?_) (fun c25 => ?_)
      · refine tt_aload_n hf 0 dX0_paintings_31 rfl ?_
        refine gx_many hf dX0_paintings_32 ?_
        refine tt_if_le (tgt := 48) hf dX0_paintings_35 (by decide) (by omega) (fun c35 => ?_) (fun c35 => ?_)
        · refine tt_bipush hf dX0_paintings_48 (by decide) ?_
          exact tt_ireti hf hrT dX0_paintings_50 (Nat.le_refl _) (Nat.le_refl _) (by omega) ⟨row, drw, hrow, by rw [if_pos ⟨c9, by omega, c25⟩, if_pos (by omega)], rfl⟩
        · have hc := hcl (by omega)
          refine tt_aload_n hf 0 dX0_paintings_38 rfl ?_
          refine tt_iload_n hf 1 dX0_paintings_39 rfl ?_
          refine tt_iload_n hf 2 dX0_paintings_40 rfl ?_
          refine tt_iload_n hf 3 dX0_paintings_41 rfl ?_
          refine tt_callV0 (As := [.int (iI ti), .int (iI sd), .int (iI wh)]) (rest := []) (q0 := 0) (ci := 0) hf (cx_paintingsBy hm hc hB hrow (by omega) (by omega) (by omega)) lk_X0_X0_paintingsBy hd_X0_paintingsBy rfl rfl rfl ⟨rfl, rfl⟩ (by decide) (by decide) (Nat.le_of_ble_eq_true rfl) dX0_paintings_42 rfl (kk_i (fun r42 w hr42 hp42 => ?_))
          obtain ⟨row42, drw42, q42, e42, rfl⟩ := hp42
          refine tt_goto (tgt := 50) hf dX0_paintings_45 (by decide) ?_
          exact tt_ireti hf hrT dX0_paintings_50 (Nat.le_refl _) (Nat.le_refl _) hr42 ⟨row42, drw42, q42, by rw [e42, if_pos ⟨c9, by omega, c25⟩, if_neg (by omega)], rfl⟩
      · refine tt_bipush hf dX0_paintings_28 (by decide) ?_
        exact tt_ireti hf hrT dX0_paintings_30 (Nat.le_refl _) (Nat.le_refl _) (by omega) ⟨row, drw, hrow, by rw [if_neg (fun q => c25 q.2.2)], rfl⟩
set_option maxHeartbeats 4000000 in
set_option maxRecDepth 100000 in
theorem cx_note {l : Launch} {g : tG} {o : Nat} {ax : Nat → Nat} {num kpt : Int → Option Nat} {many cols chg brd old : Int} {page : Int → Int} {pgM told enD : Int} {row : Int → Int} {ways far : Int} {hav : Int → Int} {wtd : Int} {fnd : Int → Int} {mdT wnT : Int} {sN sW sC : Int → Int} {sM drw : Int} {kN kW kC : Int → Int} {kS kG kB : Int} {hh : Int64} {L : List Nat} {mf : Nat → Nat × Int × Int × Int} {v : Int64}  : Cv l g yX0_note (ws_ yX0_note cX0_note 3 (Option.none : Option Jvm.ClassFile.FieldType)) (rmL 1) [.ref o, .long v] (xW g o ax num kpt many cols chg brd old page pgM told enD row ways far hav wtd fnd mdT wnT sN sW sC sM drw kN kW kC kS kG kB hh L mf) (fun w => w = xW g o ax num kpt many cols chg brd old page pgM told enD row ways far hav wtd fnd mdT wnT sN sW sC sM drw kN kW kC kS kG kB (31 * hh + v) L mf) := by
  refine Ct.of (by decide) (Nat.le_of_ble_eq_true rfl) ?_
  intro Γ hl hg hf hrT
  subst hl hg
  have hf : Fx Γ RX0 cX0_note 3 := hf
  show T Γ (rmL 1) 3 0 0 (Qe Γ (rmL 1) _) _ 0 [(0, .ref o), (1, .long v)] []
  refine tt_aload_n hf 0 dX0_note_0 rfl ?_
  refine tt_ldc2 hf q706 dX0_note_1 ?_
  refine tt_aload_n hf 0 dX0_note_4 rfl ?_
  refine gx_hh hf dX0_note_5 ?_
  refine tt_lmul hf dX0_note_8 ?_
  refine tt_lload_n hf 1 dX0_note_9 rfl ?_
  refine tt_ladd hf dX0_note_10 ?_
  refine px_hh hf dX0_note_11 ?_
  exact tt_vretv hf hrT dX0_note_14 (Nat.le_refl _) (Nat.le_refl _) rfl
set_option maxHeartbeats 4000000 in
set_option maxRecDepth 100000 in
theorem cx_noteNumber {l : Launch} {g : tG} {o : Nat} {ax : Nat → Nat} {num kpt : Int → Option Nat} {many cols chg brd old : Int} {page : Int → Int} {pgM told enD : Int} {row : Int → Int} {ways far : Int} {hav : Int → Int} {wtd : Int} {fnd : Int → Int} {mdT wnT : Int} {sN sW sC : Int → Int} {sM drw : Int} {kN kW kC : Int → Int} {kS kG kB : Int} {hh : Int64} {L : List Nat} {mf : Nat → Nat × Int × Int × Int} {v : Int} {a : Nat} (hm : 0 ≤ many ∧ many ≤ 10) (hc : 2 ≤ cols ∧ cols ≤ 3) (hB : xB many num L mf) (hcc : ∀ i, 1 ≤ i → i ≤ many → (xco num mf) i ≤ cols - 1) (hrow : ∀ i, -1 ≤ row i ∧ row i ≤ 2) (ho : old = 0 ∨ old = 1) (hC : xC (xkd num mf) (xco num mf) cols many old ways far hav mdT wnT) (hsM : 0 ≤ sM ∧ sM ≤ 6) (hsN : ∀ i, 0 ≤ sN i ∧ sN i ≤ 10) (hsW : ∀ i, 0 ≤ sW i ∧ sW i ≤ 2) (hsC : ∀ i, 0 ≤ sC i ∧ sC i ≤ 1) (hv : 1 ≤ v ∧ v ≤ many) (ha : num v = some a) : Cv l g yX0_noteNumber (ws_ yX0_noteNumber cX0_noteNumber 3 (Option.none : Option Jvm.ClassFile.FieldType)) (rmL 37) [.ref o, .ref a] (xW g o ax num kpt many cols chg brd old page pgM told enD row ways far hav wtd fnd mdT wnT sN sW sC sM drw kN kW kC kS kG kB hh L mf) (fun w => ∃ (old1 : Int) (row1 : Int → Int) (ways1 far1 : Int) (hav1 : Int → Int) (wtd1 : Int) (fnd1 : Int → Int) (mdT1 wnT1 : Int), (∀ i, -1 ≤ row1 i ∧ row1 i ≤ 2) ∧ (old1 = 0 ∨ old1 = 1) ∧ xC (xkd num mf) (xco num mf) cols many old1 ways1 far1 hav1 mdT1 wnT1 ∧ w = xW g o ax num kpt many cols chg brd old1 page pgM told enD row1 ways1 far1 hav1 wtd1 fnd1 mdT1 wnT1 sN sW sC sM drw kN kW kC kS kG kB (dgS (nmE (xkd num mf) (xco num mf) cols many sN sW sC sM) (fun n u => odE (cnt (WL (xkd num mf) (xco num mf) cols many) n 0) ((WL (xkd num mf) (xco num mf) cols many).length : Int) u) hh v) L mf) := by
  refine Ct.of (by decide) (Nat.le_of_ble_eq_true rfl) ?_
  intro Γ hl hg hf hrT
  subst hl hg
  have hf : Fx Γ RX0 cX0_noteNumber 3 := hf
  show T Γ (rmL 37) 3 0 0 (Qe Γ (rmL 37) _) _ 0 [(0, .ref o), (1, .ref a)] []
  obtain ⟨ma, ka, na, ca⟩ := hB.1 v a ha
  refine tt_iconst hf dX0_noteNumber_0 ?_
  refine tt_istore_n (lv' := [(2, .int (iI 0)), (0, .ref o), (1, .ref a)]) hf dX0_noteNumber_1 (by decide) rfl ?_
  refine tt_iload_n hf 0 dX0_noteNumber_2 rfl ?_
  refine tt_bipush hf dX0_noteNumber_3 (by decide) ?_
  refine tt_icmp_ge (tgt := 25) hf dX0_noteNumber_5 (by decide) (by omega) (by omega) (fun c => absurd c (by decide)) (fun _ => ?_)
  refine tt_aload_n hf 1 dX0_noteNumber_8 rfl ?_
  refine tt_aload_n hf 1 dX0_noteNumber_9 rfl ?_
  refine tt_aload_n hf 2 dX0_noteNumber_10 rfl ?_
  refine tt_iload_n hf 0 dX0_noteNumber_11 rfl ?_
  refine tt_callV0 (As := [.ref a, .int (iI 0)]) (rest := [.ref o]) (q0 := 0) (ci := 0) hf (cx_tellNumber hm hc hB hcc hrow ho hC hsM hsN hsW hsC hv ha (by omega)) lk_X0_X0_tellNumber hd_X0_tellNumber rfl rfl rfl ⟨rfl, rfl⟩ (by decide) (by decide) (Nat.le_of_ble_eq_true rfl) dX0_noteNumber_12 rfl (kk_i (fun r12 w hr12 hp12 => ?_))
  obtain ⟨old12, row12, ways12, far12, hav12, wtd12, fnd12, mdT12, wnT12, q12, o12, C12, e12, rfl⟩ := hp12
  subst e12
  refine tt_top (z' := (nmE (xkd num mf) (xco num mf) cols many sN sW sC sM) v 0) (if_pos (by omega)) ?_
  refine tt_i2l hf dX0_noteNumber_15 ?_
  refine tt_callV0 (As := [.long ((iI ((nmE (xkd num mf) (xco num mf) cols many sN sW sC sM) v 0)).toInt64)]) (rest := []) (q0 := 0) (ci := 0) hf (cx_note ) lk_X0_X0_note hd_X0_note rfl rfl rfl ⟨rfl, rfl⟩ (by decide) (by decide) (Nat.le_of_ble_eq_true rfl) dX0_noteNumber_16 rfl (kk_v (fun w hw => ?_))
  subst hw
  refine tt_iinc (lv' := [(2, .int (iI 1)), (0, .ref o), (1, .ref a)]) hf 0 dX0_noteNumber_19 rfl (by decide) rfl ?_
  refine tt_goto (tgt := 2) hf dX0_noteNumber_22 (by decide) ?_
  refine tt_iload_n hf 0 dX0_noteNumber_2 rfl ?_
  refine tt_bipush hf dX0_noteNumber_3 (by decide) ?_
  refine tt_icmp_ge (tgt := 25) hf dX0_noteNumber_5 (by decide) (by omega) (by omega) (fun c => absurd c (by decide)) (fun _ => ?_)
  refine tt_aload_n hf 1 dX0_noteNumber_8 rfl ?_
  refine tt_aload_n hf 1 dX0_noteNumber_9 rfl ?_
  refine tt_aload_n hf 2 dX0_noteNumber_10 rfl ?_
  refine tt_iload_n hf 0 dX0_noteNumber_11 rfl ?_
  refine tt_callV0 (As := [.ref a, .int (iI 1)]) (rest := [.ref o]) (q0 := 0) (ci := 0) hf (cx_tellNumber hm hc hB hcc q12 o12 C12 hsM hsN hsW hsC hv ha (by omega)) lk_X0_X0_tellNumber hd_X0_tellNumber rfl rfl rfl ⟨rfl, rfl⟩ (by decide) (by decide) (Nat.le_of_ble_eq_true rfl) dX0_noteNumber_12 rfl (kk_i (fun r12 w hr12 hp12 => ?_))
  obtain ⟨old12, row12, ways12, far12, hav12, wtd12, fnd12, mdT12, wnT12, q12, o12, C12, e12, rfl⟩ := hp12
  subst e12
  refine tt_top (z' := (nmE (xkd num mf) (xco num mf) cols many sN sW sC sM) v 1) (if_pos (by omega)) ?_
  refine tt_i2l hf dX0_noteNumber_15 ?_
  refine tt_callV0 (As := [.long ((iI ((nmE (xkd num mf) (xco num mf) cols many sN sW sC sM) v 1)).toInt64)]) (rest := []) (q0 := 0) (ci := 0) hf (cx_note ) lk_X0_X0_note hd_X0_note rfl rfl rfl ⟨rfl, rfl⟩ (by decide) (by decide) (Nat.le_of_ble_eq_true rfl) dX0_noteNumber_16 rfl (kk_v (fun w hw => ?_))
  subst hw
  refine tt_iinc (lv' := [(2, .int (iI 2)), (0, .ref o), (1, .ref a)]) hf 0 dX0_noteNumber_19 rfl (by decide) rfl ?_
  refine tt_goto (tgt := 2) hf dX0_noteNumber_22 (by decide) ?_
  refine tt_iload_n hf 0 dX0_noteNumber_2 rfl ?_
  refine tt_bipush hf dX0_noteNumber_3 (by decide) ?_
  refine tt_icmp_ge (tgt := 25) hf dX0_noteNumber_5 (by decide) (by omega) (by omega) (fun c => absurd c (by decide)) (fun _ => ?_)
  refine tt_aload_n hf 1 dX0_noteNumber_8 rfl ?_
  refine tt_aload_n hf 1 dX0_noteNumber_9 rfl ?_
  refine tt_aload_n hf 2 dX0_noteNumber_10 rfl ?_
  refine tt_iload_n hf 0 dX0_noteNumber_11 rfl ?_
  refine tt_callV0 (As := [.ref a, .int (iI 2)]) (rest := [.ref o]) (q0 := 0) (ci := 0) hf (cx_tellNumber hm hc hB hcc q12 o12 C12 hsM hsN hsW hsC hv ha (by omega)) lk_X0_X0_tellNumber hd_X0_tellNumber rfl rfl rfl ⟨rfl, rfl⟩ (by decide) (by decide) (Nat.le_of_ble_eq_true rfl) dX0_noteNumber_12 rfl (kk_i (fun r12 w hr12 hp12 => ?_))
  obtain ⟨old12, row12, ways12, far12, hav12, wtd12, fnd12, mdT12, wnT12, q12, o12, C12, e12, rfl⟩ := hp12
  subst e12
  refine tt_top (z' := (nmE (xkd num mf) (xco num mf) cols many sN sW sC sM) v 2) (if_pos (by omega)) ?_
  refine tt_i2l hf dX0_noteNumber_15 ?_
  refine tt_callV0 (As := [.long ((iI ((nmE (xkd num mf) (xco num mf) cols many sN sW sC sM) v 2)).toInt64)]) (rest := []) (q0 := 0) (ci := 0) hf (cx_note ) lk_X0_X0_note hd_X0_note rfl rfl rfl ⟨rfl, rfl⟩ (by decide) (by decide) (Nat.le_of_ble_eq_true rfl) dX0_noteNumber_16 rfl (kk_v (fun w hw => ?_))
  subst hw
  refine tt_iinc (lv' := [(2, .int (iI 3)), (0, .ref o), (1, .ref a)]) hf 0 dX0_noteNumber_19 rfl (by decide) rfl ?_
  refine tt_goto (tgt := 2) hf dX0_noteNumber_22 (by decide) ?_
  refine tt_iload_n hf 0 dX0_noteNumber_2 rfl ?_
  refine tt_bipush hf dX0_noteNumber_3 (by decide) ?_
  refine tt_icmp_ge (tgt := 25) hf dX0_noteNumber_5 (by decide) (by omega) (by omega) (fun c => absurd c (by decide)) (fun _ => ?_)
  refine tt_aload_n hf 1 dX0_noteNumber_8 rfl ?_
  refine tt_aload_n hf 1 dX0_noteNumber_9 rfl ?_
  refine tt_aload_n hf 2 dX0_noteNumber_10 rfl ?_
  refine tt_iload_n hf 0 dX0_noteNumber_11 rfl ?_
  refine tt_callV0 (As := [.ref a, .int (iI 3)]) (rest := [.ref o]) (q0 := 0) (ci := 0) hf (cx_tellNumber hm hc hB hcc q12 o12 C12 hsM hsN hsW hsC hv ha (by omega)) lk_X0_X0_tellNumber hd_X0_tellNumber rfl rfl rfl ⟨rfl, rfl⟩ (by decide) (by decide) (Nat.le_of_ble_eq_true rfl) dX0_noteNumber_12 rfl (kk_i (fun r12 w hr12 hp12 => ?_))
  obtain ⟨old12, row12, ways12, far12, hav12, wtd12, fnd12, mdT12, wnT12, q12, o12, C12, e12, rfl⟩ := hp12
  subst e12
  refine tt_top (z' := (nmE (xkd num mf) (xco num mf) cols many sN sW sC sM) v 3) (if_pos (by omega)) ?_
  refine tt_i2l hf dX0_noteNumber_15 ?_
  refine tt_callV0 (As := [.long ((iI ((nmE (xkd num mf) (xco num mf) cols many sN sW sC sM) v 3)).toInt64)]) (rest := []) (q0 := 0) (ci := 0) hf (cx_note ) lk_X0_X0_note hd_X0_note rfl rfl rfl ⟨rfl, rfl⟩ (by decide) (by decide) (Nat.le_of_ble_eq_true rfl) dX0_noteNumber_16 rfl (kk_v (fun w hw => ?_))
  subst hw
  refine tt_iinc (lv' := [(2, .int (iI 4)), (0, .ref o), (1, .ref a)]) hf 0 dX0_noteNumber_19 rfl (by decide) rfl ?_
  refine tt_goto (tgt := 2) hf dX0_noteNumber_22 (by decide) ?_
  refine tt_iload_n hf 0 dX0_noteNumber_2 rfl ?_
  refine tt_bipush hf dX0_noteNumber_3 (by decide) ?_
  refine tt_icmp_ge (tgt := 25) hf dX0_noteNumber_5 (by decide) (by omega) (by omega) (fun c => absurd c (by decide)) (fun _ => ?_)
  refine tt_aload_n hf 1 dX0_noteNumber_8 rfl ?_
  refine tt_aload_n hf 1 dX0_noteNumber_9 rfl ?_
  refine tt_aload_n hf 2 dX0_noteNumber_10 rfl ?_
  refine tt_iload_n hf 0 dX0_noteNumber_11 rfl ?_
  refine tt_callV0 (As := [.ref a, .int (iI 4)]) (rest := [.ref o]) (q0 := 0) (ci := 0) hf (cx_tellNumber hm hc hB hcc q12 o12 C12 hsM hsN hsW hsC hv ha (by omega)) lk_X0_X0_tellNumber hd_X0_tellNumber rfl rfl rfl ⟨rfl, rfl⟩ (by decide) (by decide) (Nat.le_of_ble_eq_true rfl) dX0_noteNumber_12 rfl (kk_i (fun r12 w hr12 hp12 => ?_))
  obtain ⟨old12, row12, ways12, far12, hav12, wtd12, fnd12, mdT12, wnT12, q12, o12, C12, e12, rfl⟩ := hp12
  subst e12
  refine tt_top (z' := (nmE (xkd num mf) (xco num mf) cols many sN sW sC sM) v 4) (if_pos (by omega)) ?_
  refine tt_i2l hf dX0_noteNumber_15 ?_
  refine tt_callV0 (As := [.long ((iI ((nmE (xkd num mf) (xco num mf) cols many sN sW sC sM) v 4)).toInt64)]) (rest := []) (q0 := 0) (ci := 0) hf (cx_note ) lk_X0_X0_note hd_X0_note rfl rfl rfl ⟨rfl, rfl⟩ (by decide) (by decide) (Nat.le_of_ble_eq_true rfl) dX0_noteNumber_16 rfl (kk_v (fun w hw => ?_))
  subst hw
  refine tt_iinc (lv' := [(2, .int (iI 5)), (0, .ref o), (1, .ref a)]) hf 0 dX0_noteNumber_19 rfl (by decide) rfl ?_
  refine tt_goto (tgt := 2) hf dX0_noteNumber_22 (by decide) ?_
  refine tt_iload_n hf 0 dX0_noteNumber_2 rfl ?_
  refine tt_bipush hf dX0_noteNumber_3 (by decide) ?_
  refine tt_icmp_ge (tgt := 25) hf dX0_noteNumber_5 (by decide) (by omega) (by omega) (fun c => absurd c (by decide)) (fun _ => ?_)
  refine tt_aload_n hf 1 dX0_noteNumber_8 rfl ?_
  refine tt_aload_n hf 1 dX0_noteNumber_9 rfl ?_
  refine tt_aload_n hf 2 dX0_noteNumber_10 rfl ?_
  refine tt_iload_n hf 0 dX0_noteNumber_11 rfl ?_
  refine tt_callV0 (As := [.ref a, .int (iI 5)]) (rest := [.ref o]) (q0 := 0) (ci := 0) hf (cx_tellNumber hm hc hB hcc q12 o12 C12 hsM hsN hsW hsC hv ha (by omega)) lk_X0_X0_tellNumber hd_X0_tellNumber rfl rfl rfl ⟨rfl, rfl⟩ (by decide) (by decide) (Nat.le_of_ble_eq_true rfl) dX0_noteNumber_12 rfl (kk_i (fun r12 w hr12 hp12 => ?_))
  obtain ⟨old12, row12, ways12, far12, hav12, wtd12, fnd12, mdT12, wnT12, q12, o12, C12, e12, rfl⟩ := hp12
  subst e12
  refine tt_top (z' := (nmE (xkd num mf) (xco num mf) cols many sN sW sC sM) v 5) (if_pos (by omega)) ?_
  refine tt_i2l hf dX0_noteNumber_15 ?_
  refine tt_callV0 (As := [.long ((iI ((nmE (xkd num mf) (xco num mf) cols many sN sW sC sM) v 5)).toInt64)]) (rest := []) (q0 := 0) (ci := 0) hf (cx_note ) lk_X0_X0_note hd_X0_note rfl rfl rfl ⟨rfl, rfl⟩ (by decide) (by decide) (Nat.le_of_ble_eq_true rfl) dX0_noteNumber_16 rfl (kk_v (fun w hw => ?_))
  subst hw
  refine tt_iinc (lv' := [(2, .int (iI 6)), (0, .ref o), (1, .ref a)]) hf 0 dX0_noteNumber_19 rfl (by decide) rfl ?_
  refine tt_goto (tgt := 2) hf dX0_noteNumber_22 (by decide) ?_
  refine tt_iload_n hf 0 dX0_noteNumber_2 rfl ?_
  refine tt_bipush hf dX0_noteNumber_3 (by decide) ?_
  refine tt_icmp_ge (tgt := 25) hf dX0_noteNumber_5 (by decide) (by omega) (by omega) (fun _ => ?_) (fun c => absurd c (by decide))
  refine tt_aload_n hf 1 dX0_noteNumber_25 rfl ?_
  refine tt_aload_n hf 1 dX0_noteNumber_26 rfl ?_
  refine tt_aload_n hf 2 dX0_noteNumber_27 rfl ?_
  refine gm_name hf ma ka dX0_noteNumber_28 ?_
  refine tt_top (z' := v) na ?_
  refine tt_iconst hf dX0_noteNumber_31 ?_
  refine tt_iconst hf dX0_noteNumber_32 ?_
  refine tt_callV0 (As := [.int (iI v), .int (iI 0), .int (iI 0)]) (rest := [.ref o]) (q0 := 0) (ci := 0) hf (cx_tellOdds hm hc hB hcc q12 o12 C12 (by omega) (by omega) (by omega)) lk_X0_X0_tellOdds hd_X0_tellOdds rfl rfl rfl ⟨rfl, rfl⟩ (by decide) (by decide) (Nat.le_of_ble_eq_true rfl) dX0_noteNumber_33 rfl (kk_i (fun r33 w hr33 hp33 => ?_))
  obtain ⟨row33, hav33, wtd33, fnd33, q33, o33, e33, rfl⟩ := hp33
  subst e33
  refine tt_i2l hf dX0_noteNumber_36 ?_
  refine tt_callV0 (As := [.long ((iI (odE (cnt (WL (xkd num mf) (xco num mf) cols many) v 0) ((WL (xkd num mf) (xco num mf) cols many).length : Int) 0)).toInt64)]) (rest := []) (q0 := 0) (ci := 0) hf (cx_note ) lk_X0_X0_note hd_X0_note rfl rfl rfl ⟨rfl, rfl⟩ (by decide) (by decide) (Nat.le_of_ble_eq_true rfl) dX0_noteNumber_37 rfl (kk_v (fun w hw => ?_))
  subst hw
  refine tt_aload_n hf 1 dX0_noteNumber_40 rfl ?_
  refine tt_aload_n hf 1 dX0_noteNumber_41 rfl ?_
  refine tt_aload_n hf 2 dX0_noteNumber_42 rfl ?_
  refine gm_name hf ma ka dX0_noteNumber_43 ?_
  refine tt_top (z' := v) na ?_
  refine tt_iconst hf dX0_noteNumber_46 ?_
  refine tt_iconst hf dX0_noteNumber_47 ?_
  refine tt_callV0 (As := [.int (iI v), .int (iI 0), .int (iI 1)]) (rest := [.ref o]) (q0 := 0) (ci := 0) hf (cx_tellOdds hm hc hB hcc q33 (Or.inl rfl) (fun _ => ⟨rfl, rfl, o33, rfl, rfl⟩) (by omega) (by omega) (by omega)) lk_X0_X0_tellOdds hd_X0_tellOdds rfl rfl rfl ⟨rfl, rfl⟩ (by decide) (by decide) (Nat.le_of_ble_eq_true rfl) dX0_noteNumber_48 rfl (kk_i (fun r48 w hr48 hp48 => ?_))
  obtain ⟨row48, hav48, wtd48, fnd48, q48, o48, e48, rfl⟩ := hp48
  subst e48
  refine tt_i2l hf dX0_noteNumber_51 ?_
  refine tt_callV0 (As := [.long ((iI (odE (cnt (WL (xkd num mf) (xco num mf) cols many) v 0) ((WL (xkd num mf) (xco num mf) cols many).length : Int) 1)).toInt64)]) (rest := []) (q0 := 0) (ci := 0) hf (cx_note ) lk_X0_X0_note hd_X0_note rfl rfl rfl ⟨rfl, rfl⟩ (by decide) (by decide) (Nat.le_of_ble_eq_true rfl) dX0_noteNumber_52 rfl (kk_v (fun w hw => ?_))
  subst hw
  exact tt_vretv hf hrT dX0_noteNumber_55 (Nat.le_refl _) (Nat.le_refl _) ⟨0, row48, _, _, hav48, wtd48, fnd48, _, _, q48, Or.inl rfl, fun _ => ⟨rfl, rfl, o48, rfl, rfl⟩, rfl⟩
set_option maxHeartbeats 4000000 in
set_option maxRecDepth 100000 in
theorem cx_noteBoard {l : Launch} {g : tG} {o : Nat} {ax : Nat → Nat} {num kpt : Int → Option Nat} {many cols chg brd old : Int} {page : Int → Int} {pgM told enD : Int} {row : Int → Int} {ways far : Int} {hav : Int → Int} {wtd : Int} {fnd : Int → Int} {mdT wnT : Int} {sN sW sC : Int → Int} {sM drw : Int} {kN kW kC : Int → Int} {kS kG kB : Int} {hh : Int64} {L : List Nat} {mf : Nat → Nat × Int × Int × Int}  (hm : 0 ≤ many ∧ many ≤ 10) (hc : 2 ≤ cols ∧ cols ≤ 3) (hB : xB many num L mf) (hcc : ∀ i, 1 ≤ i → i ≤ many → (xco num mf) i ≤ cols - 1) (hrow : ∀ i, -1 ≤ row i ∧ row i ≤ 2) (ho : old = 0 ∨ old = 1) (hC : xC (xkd num mf) (xco num mf) cols many old ways far hav mdT wnT) : Cv l g yX0_noteBoard (ws_ yX0_noteBoard cX0_noteBoard 1 (Option.none : Option Jvm.ClassFile.FieldType)) (rmL 34) [.ref o] (xW g o ax num kpt many cols chg brd old page pgM told enD row ways far hav wtd fnd mdT wnT sN sW sC sM drw kN kW kC kS kG kB hh L mf) (fun w => ∃ (old1 : Int) (row1 : Int → Int) (ways1 far1 : Int) (hav1 : Int → Int) (wtd1 : Int) (fnd1 : Int → Int) (mdT1 wnT1 : Int), (∀ i, -1 ≤ row1 i ∧ row1 i ≤ 2) ∧ (old1 = 0 ∨ old1 = 1) ∧ xC (xkd num mf) (xco num mf) cols many old1 ways1 far1 hav1 mdT1 wnT1 ∧ w = xW g o ax num kpt many cols chg brd old1 page pgM told enD row1 ways1 far1 hav1 wtd1 fnd1 mdT1 wnT1 sN sW sC sM drw kN kW kC kS kG kB (bdH (xkd num mf) (xco num mf) cols many hh) L mf) := by
  refine Ct.of (by decide) (Nat.le_of_ble_eq_true rfl) ?_
  intro Γ hl hg hf hrT
  subst hl hg
  have hf : Fx Γ RX0 cX0_noteBoard 1 := hf
  show T Γ (rmL 34) 1 0 0 (Qe Γ (rmL 34) _) _ 0 [(0, .ref o)] []
  refine tt_aload_n hf 0 dX0_noteBoard_0 rfl ?_
  refine tt_aload_n hf 0 dX0_noteBoard_1 rfl ?_
  refine tt_iconst hf dX0_noteBoard_2 ?_
  refine tt_callV0 (As := [.int (iI 0)]) (rest := [.ref o]) (q0 := 0) (ci := 0) hf (cx_tellWays hm hc hB hcc hrow ho hC (by omega)) lk_X0_X0_tellWays hd_X0_tellWays rfl rfl rfl ⟨rfl, rfl⟩ (by decide) (by decide) (Nat.le_of_ble_eq_true rfl) dX0_noteBoard_3 rfl (kk_i (fun r3 w hr3 hp3 => ?_))
  obtain ⟨row3, hav3, wtd3, fnd3, q3, o3, e3, rfl⟩ := hp3
  subst e3
  refine tt_i2l hf dX0_noteBoard_6 ?_
  refine tt_callV0 (As := [.long ((iI (wyE (xkd num mf) (xco num mf) cols many 0)).toInt64)]) (rest := []) (q0 := 0) (ci := 0) hf (cx_note ) lk_X0_X0_note hd_X0_note rfl rfl rfl ⟨rfl, rfl⟩ (by decide) (by decide) (Nat.le_of_ble_eq_true rfl) dX0_noteBoard_7 rfl (kk_v (fun w hw => ?_))
  subst hw
  refine tt_aload_n hf 0 dX0_noteBoard_10 rfl ?_
  refine tt_aload_n hf 0 dX0_noteBoard_11 rfl ?_
  refine tt_iconst hf dX0_noteBoard_12 ?_
  refine tt_callV0 (As := [.int (iI 1)]) (rest := [.ref o]) (q0 := 0) (ci := 0) hf (cx_tellWays hm hc hB hcc q3 (Or.inl rfl) (fun _ => ⟨rfl, rfl, o3, rfl, rfl⟩) (by omega)) lk_X0_X0_tellWays hd_X0_tellWays rfl rfl rfl ⟨rfl, rfl⟩ (by decide) (by decide) (Nat.le_of_ble_eq_true rfl) dX0_noteBoard_13 rfl (kk_i (fun r13 w hr13 hp13 => ?_))
  obtain ⟨row13, hav13, wtd13, fnd13, q13, o13, e13, rfl⟩ := hp13
  subst e13
  refine tt_i2l hf dX0_noteBoard_16 ?_
  refine tt_callV0 (As := [.long ((iI (wyE (xkd num mf) (xco num mf) cols many 1)).toInt64)]) (rest := []) (q0 := 0) (ci := 0) hf (cx_note ) lk_X0_X0_note hd_X0_note rfl rfl rfl ⟨rfl, rfl⟩ (by decide) (by decide) (Nat.le_of_ble_eq_true rfl) dX0_noteBoard_17 rfl (kk_v (fun w hw => ?_))
  subst hw
  refine tt_aload_n hf 0 dX0_noteBoard_20 rfl ?_
  refine tt_aload_n hf 0 dX0_noteBoard_21 rfl ?_
  refine tt_iconst hf dX0_noteBoard_22 ?_
  refine tt_callV0 (As := [.int (iI 2)]) (rest := [.ref o]) (q0 := 0) (ci := 0) hf (cx_tellWays hm hc hB hcc q13 (Or.inl rfl) (fun _ => ⟨rfl, rfl, o13, rfl, rfl⟩) (by omega)) lk_X0_X0_tellWays hd_X0_tellWays rfl rfl rfl ⟨rfl, rfl⟩ (by decide) (by decide) (Nat.le_of_ble_eq_true rfl) dX0_noteBoard_23 rfl (kk_i (fun r23 w hr23 hp23 => ?_))
  obtain ⟨row23, hav23, wtd23, fnd23, q23, o23, e23, rfl⟩ := hp23
  subst e23
  refine tt_i2l hf dX0_noteBoard_26 ?_
  refine tt_callV0 (As := [.long ((iI (wyE (xkd num mf) (xco num mf) cols many 2)).toInt64)]) (rest := []) (q0 := 0) (ci := 0) hf (cx_note ) lk_X0_X0_note hd_X0_note rfl rfl rfl ⟨rfl, rfl⟩ (by decide) (by decide) (Nat.le_of_ble_eq_true rfl) dX0_noteBoard_27 rfl (kk_v (fun w hw => ?_))
  subst hw
  refine tt_aload_n hf 0 dX0_noteBoard_30 rfl ?_
  refine tt_aload_n hf 0 dX0_noteBoard_31 rfl ?_
  refine gx_mdT hf dX0_noteBoard_32 ?_
  refine tt_i2l hf dX0_noteBoard_35 ?_
  refine tt_callV0 (As := [.long ((iI (mdE (xkd num mf) (xco num mf) cols many)).toInt64)]) (rest := []) (q0 := 0) (ci := 0) hf (cx_note ) lk_X0_X0_note hd_X0_note rfl rfl rfl ⟨rfl, rfl⟩ (by decide) (by decide) (Nat.le_of_ble_eq_true rfl) dX0_noteBoard_36 rfl (kk_v (fun w hw => ?_))
  subst hw
  refine tt_aload_n hf 0 dX0_noteBoard_39 rfl ?_
  refine tt_aload_n hf 0 dX0_noteBoard_40 rfl ?_
  refine tt_iconst hf dX0_noteBoard_41 ?_
  refine tt_callV0 (As := [.int (iI 0)]) (rest := [.ref o]) (q0 := 0) (ci := 0) hf (cx_tellWins hm hc hB hcc q23 (Or.inl rfl) (fun _ => ⟨rfl, rfl, o23, rfl, rfl⟩) (by omega)) lk_X0_X0_tellWins hd_X0_tellWins rfl rfl rfl ⟨rfl, rfl⟩ (by decide) (by decide) (Nat.le_of_ble_eq_true rfl) dX0_noteBoard_42 rfl (kk_i (fun r42 w hr42 hp42 => ?_))
  obtain ⟨row42, hav42, wtd42, fnd42, q42, o42, e42, rfl⟩ := hp42
  subst e42
  refine tt_i2l hf dX0_noteBoard_45 ?_
  refine tt_callV0 (As := [.long ((iI (wnsE (xkd num mf) (xco num mf) cols many 0)).toInt64)]) (rest := []) (q0 := 0) (ci := 0) hf (cx_note ) lk_X0_X0_note hd_X0_note rfl rfl rfl ⟨rfl, rfl⟩ (by decide) (by decide) (Nat.le_of_ble_eq_true rfl) dX0_noteBoard_46 rfl (kk_v (fun w hw => ?_))
  subst hw
  refine tt_aload_n hf 0 dX0_noteBoard_49 rfl ?_
  refine tt_aload_n hf 0 dX0_noteBoard_50 rfl ?_
  refine tt_iconst hf dX0_noteBoard_51 ?_
  refine tt_callV0 (As := [.int (iI 1)]) (rest := [.ref o]) (q0 := 0) (ci := 0) hf (cx_tellWins hm hc hB hcc q42 (Or.inl rfl) (fun _ => ⟨rfl, rfl, o42, rfl, rfl⟩) (by omega)) lk_X0_X0_tellWins hd_X0_tellWins rfl rfl rfl ⟨rfl, rfl⟩ (by decide) (by decide) (Nat.le_of_ble_eq_true rfl) dX0_noteBoard_52 rfl (kk_i (fun r52 w hr52 hp52 => ?_))
  obtain ⟨row52, hav52, wtd52, fnd52, q52, o52, e52, rfl⟩ := hp52
  subst e52
  refine tt_i2l hf dX0_noteBoard_55 ?_
  refine tt_callV0 (As := [.long ((iI (wnsE (xkd num mf) (xco num mf) cols many 1)).toInt64)]) (rest := []) (q0 := 0) (ci := 0) hf (cx_note ) lk_X0_X0_note hd_X0_note rfl rfl rfl ⟨rfl, rfl⟩ (by decide) (by decide) (Nat.le_of_ble_eq_true rfl) dX0_noteBoard_56 rfl (kk_v (fun w hw => ?_))
  subst hw
  exact tt_vretv hf hrT dX0_noteBoard_59 (Nat.le_refl _) (Nat.le_refl _) ⟨0, row52, _, _, hav52, wtd52, fnd52, _, _, q52, Or.inl rfl, fun _ => ⟨rfl, rfl, o52, rfl, rfl⟩, rfl⟩
set_option maxHeartbeats 4000000 in
set_option maxRecDepth 100000 in
theorem cx_digest {l : Launch} {g : tG} {o : Nat} {ax : Nat → Nat} {num kpt : Int → Option Nat} {many cols chg brd old : Int} {page : Int → Int} {pgM told enD : Int} {row : Int → Int} {ways far : Int} {hav : Int → Int} {wtd : Int} {fnd : Int → Int} {mdT wnT : Int} {sN sW sC : Int → Int} {sM drw : Int} {kN kW kC : Int → Int} {kS kG kB : Int} {hh : Int64} {L : List Nat} {mf : Nat → Nat × Int × Int × Int}  (hm : 0 ≤ many ∧ many ≤ 10) (hcl : 0 < many → 2 ≤ cols ∧ cols ≤ 3) (hB : xB many num L mf) (hcc : ∀ i, 1 ≤ i → i ≤ many → (xco num mf) i ≤ cols - 1) (hrow : ∀ i, -1 ≤ row i ∧ row i ≤ 2) (ho : old = 0 ∨ old = 1) (hC : xC (xkd num mf) (xco num mf) cols many old ways far hav mdT wnT) (hcl3 : 0 ≤ cols ∧ cols ≤ 3) (hsM : 0 ≤ sM ∧ sM ≤ 6) (hsN : ∀ i, 0 ≤ sN i ∧ sN i ≤ 10) (hsW : ∀ i, 0 ≤ sW i ∧ sW i ≤ 2) (hsC : ∀ i, 0 ≤ sC i ∧ sC i ≤ 1) (hch : 0 ≤ chg ∧ chg ≤ 999) (hpg : 0 ≤ pgM ∧ pgM ≤ 26) (hpv : ∀ i, 0 ≤ page i ∧ page i ≤ 126) (hbr : 0 ≤ brd ∧ brd ≤ 1000000) : Cl l g yX0_digest (ws_ yX0_digest cX0_digest 2 (Option.some Jvm.ClassFile.FieldType.long)) (rmL 38) [.ref o] (xW g o ax num kpt many cols chg brd old page pgM told enD row ways far hav wtd fnd mdT wnT sN sW sC sM drw kN kW kC kS kG kB hh L mf) (fun r w => ∃ (hh1 : Int64) (old1 : Int) (row1 : Int → Int) (ways1 far1 : Int) (hav1 : Int → Int) (wtd1 : Int) (fnd1 : Int → Int) (mdT1 wnT1 : Int), (∀ i, -1 ≤ row1 i ∧ row1 i ≤ 2) ∧ (old1 = 0 ∨ old1 = 1) ∧ xC (xkd num mf) (xco num mf) cols many old1 ways1 far1 hav1 mdT1 wnT1 ∧ r = dgE (xkd num mf) (xco num mf) cols many sN sW sC sM chg pgM brd page ∧ w = xW g o ax num kpt many cols chg brd old1 page pgM told enD row1 ways1 far1 hav1 wtd1 fnd1 mdT1 wnT1 sN sW sC sM drw kN kW kC kS kG kB hh1 L mf) := by
  refine Ct.of (by decide) (Nat.le_of_ble_eq_true rfl) ?_
  intro Γ hl hg hf hrT
  subst hl hg
  have hf : Fx Γ RX0 cX0_digest 2 := hf
  show T Γ (rmL 38) 2 0 0 (Qe Γ (rmL 38) _) _ 0 [(0, .ref o)] []
  refine tt_aload_n hf 0 dX0_digest_0 rfl ?_
  refine tt_ldc2 hf q697 dX0_digest_1 ?_
  refine px_hh hf dX0_digest_4 ?_
  refine tt_iconst hf dX0_digest_7 ?_
  refine tt_istore_n (lv' := [(1, .int (iI 1)), (0, .ref o)]) hf dX0_digest_8 (by decide) rfl ?_
  have lp : ∀ (N : Nat) (i : Int) (pold : Int) (prow : Int → Int) (pways : Int) (pfar : Int) (phav : Int → Int) (pwtd : Int) (pfnd : Int → Int) (pmdT : Int) (pwnT : Int) (h : Int64), (1 ≤ i ∧ i ≤ many + 1) → (∀ i, -1 ≤ prow i ∧ prow i ≤ 2) → (pold = 0 ∨ pold = 1) → (xC (xkd num mf) (xco num mf) cols many pold pways pfar phav pmdT pwnT) → (h = dgN (nmE (xkd num mf) (xco num mf) cols many sN sW sC sM) (fun n u => odE (cnt (WL (xkd num mf) (xco num mf) cols many) n 0) ((WL (xkd num mf) (xco num mf) cols many).length : Int) u) (i - 1).toNat) → (11 - i).toNat < N → T Γ (rmL 38) 2 0 0 (Qe Γ (rmL 38) (fun vv w => ∃ r : Int64, vv = some (.long r) ∧ (∃ (hh1 : Int64) (old1 : Int) (row1 : Int → Int) (ways1 far1 : Int) (hav1 : Int → Int) (wtd1 : Int) (fnd1 : Int → Int) (mdT1 wnT1 : Int), (∀ i, -1 ≤ row1 i ∧ row1 i ≤ 2) ∧ (old1 = 0 ∨ old1 = 1) ∧ xC (xkd num mf) (xco num mf) cols many old1 ways1 far1 hav1 mdT1 wnT1 ∧ r = dgE (xkd num mf) (xco num mf) cols many sN sW sC sM chg pgM brd page ∧ w = xW (xg Γ) o ax num kpt many cols chg brd old1 page pgM told enD row1 ways1 far1 hav1 wtd1 fnd1 mdT1 wnT1 sN sW sC sM drw kN kW kC kS kG kB hh1 L mf))) (xW (xg Γ) o ax num kpt many cols chg brd pold page pgM told enD prow pways pfar phav pwtd pfnd pmdT pwnT sN sW sC sM drw kN kW kC kS kG kB h L mf) 9 [(0, .ref o), (1, .int (iI i))] [] := by
    intro N
    induction N with
    | zero => intro i pold prow pways pfar phav pwtd pfnd pmdT pwnT h hi pq po pC hh0 hN; exact absurd hN (Nat.not_lt_zero _)
    | succ N ih =>
      intro i pold prow pways pfar phav pwtd pfnd pmdT pwnT h hi pq po pC hh0 hN
      refine tt_iload_n hf 1 dX0_digest_9 rfl ?_
      refine tt_aload_n hf 0 dX0_digest_10 rfl ?_
      refine gx_many hf dX0_digest_11 ?_
      refine tt_icmp_gt (tgt := 33) hf dX0_digest_14 (by decide) (by omega) (by omega) (fun c14 => ?_) (fun c14 => ?_)
      · have hh9 : h = dgN (nmE (xkd num mf) (xco num mf) cols many sN sW sC sM) (fun n u => odE (cnt (WL (xkd num mf) (xco num mf) cols many) n 0) ((WL (xkd num mf) (xco num mf) cols many).length : Int) u) many.toNat := by rw [hh0, show i - 1 = many by omega]
        subst hh9
        refine tt_aload_n hf 0 dX0_digest_33 rfl ?_
        refine gx_many hf dX0_digest_34 ?_
        refine tt_if_le (tgt := 44) hf dX0_digest_37 (by decide) (by omega) (fun c37 => ?_) (fun c37 => ?_)
        · refine tt_iconst hf dX0_digest_44 ?_
          refine tt_istore_n (lv' := [(1, .int (iI 0)), (0, .ref o)]) hf dX0_digest_45 (by decide) rfl ?_
          have lq : ∀ (N : Nat) (k : Int) (h2 : Int64), (0 ≤ k ∧ k ≤ pgM) → (h2 = pgH page (dgN (nmE (xkd num mf) (xco num mf) cols many sN sW sC sM) (fun n u => odE (cnt (WL (xkd num mf) (xco num mf) cols many) n 0) ((WL (xkd num mf) (xco num mf) cols many).length : Int) u) many.toNat) k.toNat) → (27 - k).toNat < N → T Γ (rmL 38) 2 0 0 (Qe Γ (rmL 38) (fun vv w => ∃ r : Int64, vv = some (.long r) ∧ (∃ (hh1 : Int64) (old1 : Int) (row1 : Int → Int) (ways1 far1 : Int) (hav1 : Int → Int) (wtd1 : Int) (fnd1 : Int → Int) (mdT1 wnT1 : Int), (∀ i, -1 ≤ row1 i ∧ row1 i ≤ 2) ∧ (old1 = 0 ∨ old1 = 1) ∧ xC (xkd num mf) (xco num mf) cols many old1 ways1 far1 hav1 mdT1 wnT1 ∧ r = dgE (xkd num mf) (xco num mf) cols many sN sW sC sM chg pgM brd page ∧ w = xW (xg Γ) o ax num kpt many cols chg brd old1 page pgM told enD row1 ways1 far1 hav1 wtd1 fnd1 mdT1 wnT1 sN sW sC sM drw kN kW kC kS kG kB hh1 L mf))) (xW (xg Γ) o ax num kpt many cols chg brd pold page pgM told enD prow pways pfar phav pwtd pfnd pmdT pwnT sN sW sC sM drw kN kW kC kS kG kB h2 L mf) 46 [(0, .ref o), (1, .int (iI k))] [] := by
            intro N
            induction N with
            | zero => intro k h2 hk hp hN; exact absurd hN (Nat.not_lt_zero _)
            | succ N ih =>
              intro k h2 hk hp hN
              have hpk := hpv k
              refine tt_iload_n hf 1 dX0_digest_46 rfl ?_
              refine tt_aload_n hf 0 dX0_digest_47 rfl ?_
              refine gx_pgM hf dX0_digest_48 ?_
              refine tt_icmp_ge (tgt := 71) hf dX0_digest_51 (by decide) (by omega) (by omega) (fun c51 => ?_) (fun c51 => ?_)
              · have hh8 : h2 = pgH page (dgN (nmE (xkd num mf) (xco num mf) cols many sN sW sC sM) (fun n u => odE (cnt (WL (xkd num mf) (xco num mf) cols many) n 0) ((WL (xkd num mf) (xco num mf) cols many).length : Int) u) many.toNat) pgM.toNat := by rw [hp, show k = pgM by omega]
                subst hh8
                refine tt_iconst hf dX0_digest_71 ?_
                refine tt_istore_n (lv' := [(1, .int (iI 0)), (0, .ref o)]) hf dX0_digest_72 (by decide) rfl ?_
                refine tt_iload_n hf 0 dX0_digest_73 rfl ?_
                refine tt_bipush hf dX0_digest_74 (by decide) ?_
                refine tt_icmp_ge (tgt := 95) hf dX0_digest_76 (by decide) (by omega) (by omega) (fun c => absurd c (by decide)) (fun _ => ?_)
                refine tt_aload_n hf 1 dX0_digest_79 rfl ?_
                refine tt_aload_n hf 1 dX0_digest_80 rfl ?_
                refine tt_iload_n hf 0 dX0_digest_81 rfl ?_
                refine tt_callV0 (As := [.int (iI 0)]) (rest := [.ref o]) (q0 := 0) (ci := 0) hf (cx_count hm hB pq hcl3 hch hsM hpg hbr (by omega)) lk_X0_X0_count hd_X0_count rfl rfl rfl ⟨rfl, rfl⟩ (by decide) (by decide) (Nat.le_of_ble_eq_true rfl) dX0_digest_82 rfl (kk_i (fun r82 w hr82 hp82 => ?_))
                obtain ⟨row82, q82, e82, rfl⟩ := hp82
                refine tt_top (z' := ctE (xkd num mf) (xco num mf) cols many chg sM pgM brd 0) e82 ?_
                refine tt_i2l hf dX0_digest_85 ?_
                refine tt_callV0 (As := [.long ((iI (ctE (xkd num mf) (xco num mf) cols many chg sM pgM brd 0)).toInt64)]) (rest := []) (q0 := 0) (ci := 0) hf (cx_note ) lk_X0_X0_note hd_X0_note rfl rfl rfl ⟨rfl, rfl⟩ (by decide) (by decide) (Nat.le_of_ble_eq_true rfl) dX0_digest_86 rfl (kk_v (fun w hw => ?_))
                subst hw
                refine tt_iinc (lv' := [(1, .int (iI 1)), (0, .ref o)]) hf 0 dX0_digest_89 rfl (by decide) rfl ?_
                refine tt_goto (tgt := 73) hf dX0_digest_92 (by decide) ?_
                refine tt_iload_n hf 0 dX0_digest_73 rfl ?_
                refine tt_bipush hf dX0_digest_74 (by decide) ?_
                refine tt_icmp_ge (tgt := 95) hf dX0_digest_76 (by decide) (by omega) (by omega) (fun c => absurd c (by decide)) (fun _ => ?_)
                refine tt_aload_n hf 1 dX0_digest_79 rfl ?_
                refine tt_aload_n hf 1 dX0_digest_80 rfl ?_
                refine tt_iload_n hf 0 dX0_digest_81 rfl ?_
                refine tt_callV0 (As := [.int (iI 1)]) (rest := [.ref o]) (q0 := 0) (ci := 0) hf (cx_count hm hB q82 hcl3 hch hsM hpg hbr (by omega)) lk_X0_X0_count hd_X0_count rfl rfl rfl ⟨rfl, rfl⟩ (by decide) (by decide) (Nat.le_of_ble_eq_true rfl) dX0_digest_82 rfl (kk_i (fun r82 w hr82 hp82 => ?_))
                obtain ⟨row82, q82, e82, rfl⟩ := hp82
                refine tt_top (z' := ctE (xkd num mf) (xco num mf) cols many chg sM pgM brd 1) e82 ?_
                refine tt_i2l hf dX0_digest_85 ?_
                refine tt_callV0 (As := [.long ((iI (ctE (xkd num mf) (xco num mf) cols many chg sM pgM brd 1)).toInt64)]) (rest := []) (q0 := 0) (ci := 0) hf (cx_note ) lk_X0_X0_note hd_X0_note rfl rfl rfl ⟨rfl, rfl⟩ (by decide) (by decide) (Nat.le_of_ble_eq_true rfl) dX0_digest_86 rfl (kk_v (fun w hw => ?_))
                subst hw
                refine tt_iinc (lv' := [(1, .int (iI 2)), (0, .ref o)]) hf 0 dX0_digest_89 rfl (by decide) rfl ?_
                refine tt_goto (tgt := 73) hf dX0_digest_92 (by decide) ?_
                refine tt_iload_n hf 0 dX0_digest_73 rfl ?_
                refine tt_bipush hf dX0_digest_74 (by decide) ?_
                refine tt_icmp_ge (tgt := 95) hf dX0_digest_76 (by decide) (by omega) (by omega) (fun c => absurd c (by decide)) (fun _ => ?_)
                refine tt_aload_n hf 1 dX0_digest_79 rfl ?_
                refine tt_aload_n hf 1 dX0_digest_80 rfl ?_
                refine tt_iload_n hf 0 dX0_digest_81 rfl ?_
                refine tt_callV0 (As := [.int (iI 2)]) (rest := [.ref o]) (q0 := 0) (ci := 0) hf (cx_count hm hB q82 hcl3 hch hsM hpg hbr (by omega)) lk_X0_X0_count hd_X0_count rfl rfl rfl ⟨rfl, rfl⟩ (by decide) (by decide) (Nat.le_of_ble_eq_true rfl) dX0_digest_82 rfl (kk_i (fun r82 w hr82 hp82 => ?_))
                obtain ⟨row82, q82, e82, rfl⟩ := hp82
                refine tt_top (z' := ctE (xkd num mf) (xco num mf) cols many chg sM pgM brd 2) e82 ?_
                refine tt_i2l hf dX0_digest_85 ?_
                refine tt_callV0 (As := [.long ((iI (ctE (xkd num mf) (xco num mf) cols many chg sM pgM brd 2)).toInt64)]) (rest := []) (q0 := 0) (ci := 0) hf (cx_note ) lk_X0_X0_note hd_X0_note rfl rfl rfl ⟨rfl, rfl⟩ (by decide) (by decide) (Nat.le_of_ble_eq_true rfl) dX0_digest_86 rfl (kk_v (fun w hw => ?_))
                subst hw
                refine tt_iinc (lv' := [(1, .int (iI 3)), (0, .ref o)]) hf 0 dX0_digest_89 rfl (by decide) rfl ?_
                refine tt_goto (tgt := 73) hf dX0_digest_92 (by decide) ?_
                refine tt_iload_n hf 0 dX0_digest_73 rfl ?_
                refine tt_bipush hf dX0_digest_74 (by decide) ?_
                refine tt_icmp_ge (tgt := 95) hf dX0_digest_76 (by decide) (by omega) (by omega) (fun c => absurd c (by decide)) (fun _ => ?_)
                refine tt_aload_n hf 1 dX0_digest_79 rfl ?_
                refine tt_aload_n hf 1 dX0_digest_80 rfl ?_
                refine tt_iload_n hf 0 dX0_digest_81 rfl ?_
                refine tt_callV0 (As := [.int (iI 3)]) (rest := [.ref o]) (q0 := 0) (ci := 0) hf (cx_count hm hB q82 hcl3 hch hsM hpg hbr (by omega)) lk_X0_X0_count hd_X0_count rfl rfl rfl ⟨rfl, rfl⟩ (by decide) (by decide) (Nat.le_of_ble_eq_true rfl) dX0_digest_82 rfl (kk_i (fun r82 w hr82 hp82 => ?_))
                obtain ⟨row82, q82, e82, rfl⟩ := hp82
                refine tt_top (z' := ctE (xkd num mf) (xco num mf) cols many chg sM pgM brd 3) e82 ?_
                refine tt_i2l hf dX0_digest_85 ?_
                refine tt_callV0 (As := [.long ((iI (ctE (xkd num mf) (xco num mf) cols many chg sM pgM brd 3)).toInt64)]) (rest := []) (q0 := 0) (ci := 0) hf (cx_note ) lk_X0_X0_note hd_X0_note rfl rfl rfl ⟨rfl, rfl⟩ (by decide) (by decide) (Nat.le_of_ble_eq_true rfl) dX0_digest_86 rfl (kk_v (fun w hw => ?_))
                subst hw
                refine tt_iinc (lv' := [(1, .int (iI 4)), (0, .ref o)]) hf 0 dX0_digest_89 rfl (by decide) rfl ?_
                refine tt_goto (tgt := 73) hf dX0_digest_92 (by decide) ?_
                refine tt_iload_n hf 0 dX0_digest_73 rfl ?_
                refine tt_bipush hf dX0_digest_74 (by decide) ?_
                refine tt_icmp_ge (tgt := 95) hf dX0_digest_76 (by decide) (by omega) (by omega) (fun c => absurd c (by decide)) (fun _ => ?_)
                refine tt_aload_n hf 1 dX0_digest_79 rfl ?_
                refine tt_aload_n hf 1 dX0_digest_80 rfl ?_
                refine tt_iload_n hf 0 dX0_digest_81 rfl ?_
                refine tt_callV0 (As := [.int (iI 4)]) (rest := [.ref o]) (q0 := 0) (ci := 0) hf (cx_count hm hB q82 hcl3 hch hsM hpg hbr (by omega)) lk_X0_X0_count hd_X0_count rfl rfl rfl ⟨rfl, rfl⟩ (by decide) (by decide) (Nat.le_of_ble_eq_true rfl) dX0_digest_82 rfl (kk_i (fun r82 w hr82 hp82 => ?_))
                obtain ⟨row82, q82, e82, rfl⟩ := hp82
                refine tt_top (z' := ctE (xkd num mf) (xco num mf) cols many chg sM pgM brd 4) e82 ?_
                refine tt_i2l hf dX0_digest_85 ?_
                refine tt_callV0 (As := [.long ((iI (ctE (xkd num mf) (xco num mf) cols many chg sM pgM brd 4)).toInt64)]) (rest := []) (q0 := 0) (ci := 0) hf (cx_note ) lk_X0_X0_note hd_X0_note rfl rfl rfl ⟨rfl, rfl⟩ (by decide) (by decide) (Nat.le_of_ble_eq_true rfl) dX0_digest_86 rfl (kk_v (fun w hw => ?_))
                subst hw
                refine tt_iinc (lv' := [(1, .int (iI 5)), (0, .ref o)]) hf 0 dX0_digest_89 rfl (by decide) rfl ?_
                refine tt_goto (tgt := 73) hf dX0_digest_92 (by decide) ?_
                refine tt_iload_n hf 0 dX0_digest_73 rfl ?_
                refine tt_bipush hf dX0_digest_74 (by decide) ?_
                refine tt_icmp_ge (tgt := 95) hf dX0_digest_76 (by decide) (by omega) (by omega) (fun c => absurd c (by decide)) (fun _ => ?_)
                refine tt_aload_n hf 1 dX0_digest_79 rfl ?_
                refine tt_aload_n hf 1 dX0_digest_80 rfl ?_
                refine tt_iload_n hf 0 dX0_digest_81 rfl ?_
                refine tt_callV0 (As := [.int (iI 5)]) (rest := [.ref o]) (q0 := 0) (ci := 0) hf (cx_count hm hB q82 hcl3 hch hsM hpg hbr (by omega)) lk_X0_X0_count hd_X0_count rfl rfl rfl ⟨rfl, rfl⟩ (by decide) (by decide) (Nat.le_of_ble_eq_true rfl) dX0_digest_82 rfl (kk_i (fun r82 w hr82 hp82 => ?_))
                obtain ⟨row82, q82, e82, rfl⟩ := hp82
                refine tt_top (z' := ctE (xkd num mf) (xco num mf) cols many chg sM pgM brd 5) e82 ?_
                refine tt_i2l hf dX0_digest_85 ?_
                refine tt_callV0 (As := [.long ((iI (ctE (xkd num mf) (xco num mf) cols many chg sM pgM brd 5)).toInt64)]) (rest := []) (q0 := 0) (ci := 0) hf (cx_note ) lk_X0_X0_note hd_X0_note rfl rfl rfl ⟨rfl, rfl⟩ (by decide) (by decide) (Nat.le_of_ble_eq_true rfl) dX0_digest_86 rfl (kk_v (fun w hw => ?_))
                subst hw
                refine tt_iinc (lv' := [(1, .int (iI 6)), (0, .ref o)]) hf 0 dX0_digest_89 rfl (by decide) rfl ?_
                refine tt_goto (tgt := 73) hf dX0_digest_92 (by decide) ?_
                refine tt_iload_n hf 0 dX0_digest_73 rfl ?_
                refine tt_bipush hf dX0_digest_74 (by decide) ?_
                refine tt_icmp_ge (tgt := 95) hf dX0_digest_76 (by decide) (by omega) (by omega) (fun c => absurd c (by decide)) (fun _ => ?_)
                refine tt_aload_n hf 1 dX0_digest_79 rfl ?_
                refine tt_aload_n hf 1 dX0_digest_80 rfl ?_
                refine tt_iload_n hf 0 dX0_digest_81 rfl ?_
                refine tt_callV0 (As := [.int (iI 6)]) (rest := [.ref o]) (q0 := 0) (ci := 0) hf (cx_count hm hB q82 hcl3 hch hsM hpg hbr (by omega)) lk_X0_X0_count hd_X0_count rfl rfl rfl ⟨rfl, rfl⟩ (by decide) (by decide) (Nat.le_of_ble_eq_true rfl) dX0_digest_82 rfl (kk_i (fun r82 w hr82 hp82 => ?_))
                obtain ⟨row82, q82, e82, rfl⟩ := hp82
                refine tt_top (z' := ctE (xkd num mf) (xco num mf) cols many chg sM pgM brd 6) e82 ?_
                refine tt_i2l hf dX0_digest_85 ?_
                refine tt_callV0 (As := [.long ((iI (ctE (xkd num mf) (xco num mf) cols many chg sM pgM brd 6)).toInt64)]) (rest := []) (q0 := 0) (ci := 0) hf (cx_note ) lk_X0_X0_note hd_X0_note rfl rfl rfl ⟨rfl, rfl⟩ (by decide) (by decide) (Nat.le_of_ble_eq_true rfl) dX0_digest_86 rfl (kk_v (fun w hw => ?_))
                subst hw
                refine tt_iinc (lv' := [(1, .int (iI 7)), (0, .ref o)]) hf 0 dX0_digest_89 rfl (by decide) rfl ?_
                refine tt_goto (tgt := 73) hf dX0_digest_92 (by decide) ?_
                refine tt_iload_n hf 0 dX0_digest_73 rfl ?_
                refine tt_bipush hf dX0_digest_74 (by decide) ?_
                refine tt_icmp_ge (tgt := 95) hf dX0_digest_76 (by decide) (by omega) (by omega) (fun c => absurd c (by decide)) (fun _ => ?_)
                refine tt_aload_n hf 1 dX0_digest_79 rfl ?_
                refine tt_aload_n hf 1 dX0_digest_80 rfl ?_
                refine tt_iload_n hf 0 dX0_digest_81 rfl ?_
                refine tt_callV0 (As := [.int (iI 7)]) (rest := [.ref o]) (q0 := 0) (ci := 0) hf (cx_count hm hB q82 hcl3 hch hsM hpg hbr (by omega)) lk_X0_X0_count hd_X0_count rfl rfl rfl ⟨rfl, rfl⟩ (by decide) (by decide) (Nat.le_of_ble_eq_true rfl) dX0_digest_82 rfl (kk_i (fun r82 w hr82 hp82 => ?_))
                obtain ⟨row82, q82, e82, rfl⟩ := hp82
                refine tt_top (z' := ctE (xkd num mf) (xco num mf) cols many chg sM pgM brd 7) e82 ?_
                refine tt_i2l hf dX0_digest_85 ?_
                refine tt_callV0 (As := [.long ((iI (ctE (xkd num mf) (xco num mf) cols many chg sM pgM brd 7)).toInt64)]) (rest := []) (q0 := 0) (ci := 0) hf (cx_note ) lk_X0_X0_note hd_X0_note rfl rfl rfl ⟨rfl, rfl⟩ (by decide) (by decide) (Nat.le_of_ble_eq_true rfl) dX0_digest_86 rfl (kk_v (fun w hw => ?_))
                subst hw
                refine tt_iinc (lv' := [(1, .int (iI 8)), (0, .ref o)]) hf 0 dX0_digest_89 rfl (by decide) rfl ?_
                refine tt_goto (tgt := 73) hf dX0_digest_92 (by decide) ?_
                refine tt_iload_n hf 0 dX0_digest_73 rfl ?_
                refine tt_bipush hf dX0_digest_74 (by decide) ?_
                refine tt_icmp_ge (tgt := 95) hf dX0_digest_76 (by decide) (by omega) (by omega) (fun c => absurd c (by decide)) (fun _ => ?_)
                refine tt_aload_n hf 1 dX0_digest_79 rfl ?_
                refine tt_aload_n hf 1 dX0_digest_80 rfl ?_
                refine tt_iload_n hf 0 dX0_digest_81 rfl ?_
                refine tt_callV0 (As := [.int (iI 8)]) (rest := [.ref o]) (q0 := 0) (ci := 0) hf (cx_count hm hB q82 hcl3 hch hsM hpg hbr (by omega)) lk_X0_X0_count hd_X0_count rfl rfl rfl ⟨rfl, rfl⟩ (by decide) (by decide) (Nat.le_of_ble_eq_true rfl) dX0_digest_82 rfl (kk_i (fun r82 w hr82 hp82 => ?_))
                obtain ⟨row82, q82, e82, rfl⟩ := hp82
                refine tt_top (z' := ctE (xkd num mf) (xco num mf) cols many chg sM pgM brd 8) e82 ?_
                refine tt_i2l hf dX0_digest_85 ?_
                refine tt_callV0 (As := [.long ((iI (ctE (xkd num mf) (xco num mf) cols many chg sM pgM brd 8)).toInt64)]) (rest := []) (q0 := 0) (ci := 0) hf (cx_note ) lk_X0_X0_note hd_X0_note rfl rfl rfl ⟨rfl, rfl⟩ (by decide) (by decide) (Nat.le_of_ble_eq_true rfl) dX0_digest_86 rfl (kk_v (fun w hw => ?_))
                subst hw
                refine tt_iinc (lv' := [(1, .int (iI 9)), (0, .ref o)]) hf 0 dX0_digest_89 rfl (by decide) rfl ?_
                refine tt_goto (tgt := 73) hf dX0_digest_92 (by decide) ?_
                refine tt_iload_n hf 0 dX0_digest_73 rfl ?_
                refine tt_bipush hf dX0_digest_74 (by decide) ?_
                refine tt_icmp_ge (tgt := 95) hf dX0_digest_76 (by decide) (by omega) (by omega) (fun _ => ?_) (fun c => absurd c (by decide))
                refine tt_aload_n hf 1 dX0_digest_95 rfl ?_
                refine gx_hh hf dX0_digest_96 ?_
                exact tt_lretl hf hrT dX0_digest_99 (Nat.le_refl _) (Nat.le_refl _) ⟨_, pold, row82, pways, pfar, phav, pwtd, pfnd, pmdT, pwnT, q82, po, pC, by unfold dgE; rw [if_neg (by omega)]; rfl, rfl⟩
              · refine tt_aload_n hf 0 dX0_digest_54 rfl ?_
                refine tt_aload_n hf 0 dX0_digest_55 rfl ?_
                refine gx_page hf dX0_digest_56 ?_
                refine tt_iload_n hf 1 dX0_digest_59 rfl ?_
                refine lx_page hf (by omega) dX0_digest_60 ?_
                refine tt_i2l hf dX0_digest_61 ?_
                refine tt_callV0 (As := [.long ((iI (page k)).toInt64)]) (rest := []) (q0 := 0) (ci := 0) hf (cx_note ) lk_X0_X0_note hd_X0_note rfl rfl rfl ⟨rfl, rfl⟩ (by decide) (by decide) (Nat.le_of_ble_eq_true rfl) dX0_digest_62 rfl (kk_v (fun w hw => ?_))
                subst hw
                refine tt_iinc (lv' := [(1, .int (iI (k + 1))), (0, .ref o)]) hf 1 dX0_digest_65 rfl (by decide) rfl ?_
                refine tt_goto (tgt := 46) hf dX0_digest_68 (by decide) ?_
                refine tt_sub [1, 0] rfl ?_
                exact ih (k + 1) (hx h2 (page k)) (by omega) (by rw [pgH_s (by omega), hp]) (by omega)
          refine tt_sub [1, 0] rfl ?_
          exact lq _ 0 (dgN (nmE (xkd num mf) (xco num mf) cols many sN sW sC sM) (fun n u => odE (cnt (WL (xkd num mf) (xco num mf) cols many) n 0) ((WL (xkd num mf) (xco num mf) cols many).length : Int) u) many.toNat) (by omega) rfl (Nat.lt_succ_self _)
        · have hc := hcl (by omega)
          refine tt_aload_n hf 0 dX0_digest_40 rfl ?_
          refine tt_callV0 (As := []) (rest := []) (q0 := 0) (ci := 0) hf (cx_noteBoard hm hc hB hcc pq po pC) lk_X0_X0_noteBoard hd_X0_noteBoard rfl rfl rfl ⟨rfl, rfl⟩ (by decide) (by decide) (Nat.le_of_ble_eq_true rfl) dX0_digest_41 rfl (kk_v (fun w hp41 => ?_))
          obtain ⟨old41, row41, ways41, far41, hav41, wtd41, fnd41, mdT41, wnT41, q41, o41, C41, rfl⟩ := hp41
          refine tt_iconst hf dX0_digest_44 ?_
          refine tt_istore_n (lv' := [(1, .int (iI 0)), (0, .ref o)]) hf dX0_digest_45 (by decide) rfl ?_
          have lq : ∀ (N : Nat) (k : Int) (h2 : Int64), (0 ≤ k ∧ k ≤ pgM) → (h2 = pgH page (bdH (xkd num mf) (xco num mf) cols many (dgN (nmE (xkd num mf) (xco num mf) cols many sN sW sC sM) (fun n u => odE (cnt (WL (xkd num mf) (xco num mf) cols many) n 0) ((WL (xkd num mf) (xco num mf) cols many).length : Int) u) many.toNat)) k.toNat) → (27 - k).toNat < N → T Γ (rmL 38) 2 0 0 (Qe Γ (rmL 38) (fun vv w => ∃ r : Int64, vv = some (.long r) ∧ (∃ (hh1 : Int64) (old1 : Int) (row1 : Int → Int) (ways1 far1 : Int) (hav1 : Int → Int) (wtd1 : Int) (fnd1 : Int → Int) (mdT1 wnT1 : Int), (∀ i, -1 ≤ row1 i ∧ row1 i ≤ 2) ∧ (old1 = 0 ∨ old1 = 1) ∧ xC (xkd num mf) (xco num mf) cols many old1 ways1 far1 hav1 mdT1 wnT1 ∧ r = dgE (xkd num mf) (xco num mf) cols many sN sW sC sM chg pgM brd page ∧ w = xW (xg Γ) o ax num kpt many cols chg brd old1 page pgM told enD row1 ways1 far1 hav1 wtd1 fnd1 mdT1 wnT1 sN sW sC sM drw kN kW kC kS kG kB hh1 L mf))) (xW (xg Γ) o ax num kpt many cols chg brd old41 page pgM told enD row41 ways41 far41 hav41 wtd41 fnd41 mdT41 wnT41 sN sW sC sM drw kN kW kC kS kG kB h2 L mf) 46 [(0, .ref o), (1, .int (iI k))] [] := by
            intro N
            induction N with
            | zero => intro k h2 hk hp hN; exact absurd hN (Nat.not_lt_zero _)
            | succ N ih =>
              intro k h2 hk hp hN
              have hpk := hpv k
              refine tt_iload_n hf 1 dX0_digest_46 rfl ?_
              refine tt_aload_n hf 0 dX0_digest_47 rfl ?_
              refine gx_pgM hf dX0_digest_48 ?_
              refine tt_icmp_ge (tgt := 71) hf dX0_digest_51 (by decide) (by omega) (by omega) (fun c51 => ?_) (fun c51 => ?_)
              · have hh8 : h2 = pgH page (bdH (xkd num mf) (xco num mf) cols many (dgN (nmE (xkd num mf) (xco num mf) cols many sN sW sC sM) (fun n u => odE (cnt (WL (xkd num mf) (xco num mf) cols many) n 0) ((WL (xkd num mf) (xco num mf) cols many).length : Int) u) many.toNat)) pgM.toNat := by rw [hp, show k = pgM by omega]
                subst hh8
                refine tt_iconst hf dX0_digest_71 ?_
                refine tt_istore_n (lv' := [(1, .int (iI 0)), (0, .ref o)]) hf dX0_digest_72 (by decide) rfl ?_
                refine tt_iload_n hf 0 dX0_digest_73 rfl ?_
                refine tt_bipush hf dX0_digest_74 (by decide) ?_
                refine tt_icmp_ge (tgt := 95) hf dX0_digest_76 (by decide) (by omega) (by omega) (fun c => absurd c (by decide)) (fun _ => ?_)
                refine tt_aload_n hf 1 dX0_digest_79 rfl ?_
                refine tt_aload_n hf 1 dX0_digest_80 rfl ?_
                refine tt_iload_n hf 0 dX0_digest_81 rfl ?_
                refine tt_callV0 (As := [.int (iI 0)]) (rest := [.ref o]) (q0 := 0) (ci := 0) hf (cx_count hm hB q41 hcl3 hch hsM hpg hbr (by omega)) lk_X0_X0_count hd_X0_count rfl rfl rfl ⟨rfl, rfl⟩ (by decide) (by decide) (Nat.le_of_ble_eq_true rfl) dX0_digest_82 rfl (kk_i (fun r82 w hr82 hp82 => ?_))
                obtain ⟨row82, q82, e82, rfl⟩ := hp82
                refine tt_top (z' := ctE (xkd num mf) (xco num mf) cols many chg sM pgM brd 0) e82 ?_
                refine tt_i2l hf dX0_digest_85 ?_
                refine tt_callV0 (As := [.long ((iI (ctE (xkd num mf) (xco num mf) cols many chg sM pgM brd 0)).toInt64)]) (rest := []) (q0 := 0) (ci := 0) hf (cx_note ) lk_X0_X0_note hd_X0_note rfl rfl rfl ⟨rfl, rfl⟩ (by decide) (by decide) (Nat.le_of_ble_eq_true rfl) dX0_digest_86 rfl (kk_v (fun w hw => ?_))
                subst hw
                refine tt_iinc (lv' := [(1, .int (iI 1)), (0, .ref o)]) hf 0 dX0_digest_89 rfl (by decide) rfl ?_
                refine tt_goto (tgt := 73) hf dX0_digest_92 (by decide) ?_
                refine tt_iload_n hf 0 dX0_digest_73 rfl ?_
                refine tt_bipush hf dX0_digest_74 (by decide) ?_
                refine tt_icmp_ge (tgt := 95) hf dX0_digest_76 (by decide) (by omega) (by omega) (fun c => absurd c (by decide)) (fun _ => ?_)
                refine tt_aload_n hf 1 dX0_digest_79 rfl ?_
                refine tt_aload_n hf 1 dX0_digest_80 rfl ?_
                refine tt_iload_n hf 0 dX0_digest_81 rfl ?_
                refine tt_callV0 (As := [.int (iI 1)]) (rest := [.ref o]) (q0 := 0) (ci := 0) hf (cx_count hm hB q82 hcl3 hch hsM hpg hbr (by omega)) lk_X0_X0_count hd_X0_count rfl rfl rfl ⟨rfl, rfl⟩ (by decide) (by decide) (Nat.le_of_ble_eq_true rfl) dX0_digest_82 rfl (kk_i (fun r82 w hr82 hp82 => ?_))
                obtain ⟨row82, q82, e82, rfl⟩ := hp82
                refine tt_top (z' := ctE (xkd num mf) (xco num mf) cols many chg sM pgM brd 1) e82 ?_
                refine tt_i2l hf dX0_digest_85 ?_
                refine tt_callV0 (As := [.long ((iI (ctE (xkd num mf) (xco num mf) cols many chg sM pgM brd 1)).toInt64)]) (rest := []) (q0 := 0) (ci := 0) hf (cx_note ) lk_X0_X0_note hd_X0_note rfl rfl rfl ⟨rfl, rfl⟩ (by decide) (by decide) (Nat.le_of_ble_eq_true rfl) dX0_digest_86 rfl (kk_v (fun w hw => ?_))
                subst hw
                refine tt_iinc (lv' := [(1, .int (iI 2)), (0, .ref o)]) hf 0 dX0_digest_89 rfl (by decide) rfl ?_
                refine tt_goto (tgt := 73) hf dX0_digest_92 (by decide) ?_
                refine tt_iload_n hf 0 dX0_digest_73 rfl ?_
                refine tt_bipush hf dX0_digest_74 (by decide) ?_
                refine tt_icmp_ge (tgt := 95) hf dX0_digest_76 (by decide) (by omega) (by omega) (fun c => absurd c (by decide)) (fun _ => ?_)
                refine tt_aload_n hf 1 dX0_digest_79 rfl ?_
                refine tt_aload_n hf 1 dX0_digest_80 rfl ?_
                refine tt_iload_n hf 0 dX0_digest_81 rfl ?_
                refine tt_callV0 (As := [.int (iI 2)]) (rest := [.ref o]) (q0 := 0) (ci := 0) hf (cx_count hm hB q82 hcl3 hch hsM hpg hbr (by omega)) lk_X0_X0_count hd_X0_count rfl rfl rfl ⟨rfl, rfl⟩ (by decide) (by decide) (Nat.le_of_ble_eq_true rfl) dX0_digest_82 rfl (kk_i (fun r82 w hr82 hp82 => ?_))
                obtain ⟨row82, q82, e82, rfl⟩ := hp82
                refine tt_top (z' := ctE (xkd num mf) (xco num mf) cols many chg sM pgM brd 2) e82 ?_
                refine tt_i2l hf dX0_digest_85 ?_
                refine tt_callV0 (As := [.long ((iI (ctE (xkd num mf) (xco num mf) cols many chg sM pgM brd 2)).toInt64)]) (rest := []) (q0 := 0) (ci := 0) hf (cx_note ) lk_X0_X0_note hd_X0_note rfl rfl rfl ⟨rfl, rfl⟩ (by decide) (by decide) (Nat.le_of_ble_eq_true rfl) dX0_digest_86 rfl (kk_v (fun w hw => ?_))
                subst hw
                refine tt_iinc (lv' := [(1, .int (iI 3)), (0, .ref o)]) hf 0 dX0_digest_89 rfl (by decide) rfl ?_
                refine tt_goto (tgt := 73) hf dX0_digest_92 (by decide) ?_
                refine tt_iload_n hf 0 dX0_digest_73 rfl ?_
                refine tt_bipush hf dX0_digest_74 (by decide) ?_
                refine tt_icmp_ge (tgt := 95) hf dX0_digest_76 (by decide) (by omega) (by omega) (fun c => absurd c (by decide)) (fun _ => ?_)
                refine tt_aload_n hf 1 dX0_digest_79 rfl ?_
                refine tt_aload_n hf 1 dX0_digest_80 rfl ?_
                refine tt_iload_n hf 0 dX0_digest_81 rfl ?_
                refine tt_callV0 (As := [.int (iI 3)]) (rest := [.ref o]) (q0 := 0) (ci := 0) hf (cx_count hm hB q82 hcl3 hch hsM hpg hbr (by omega)) lk_X0_X0_count hd_X0_count rfl rfl rfl ⟨rfl, rfl⟩ (by decide) (by decide) (Nat.le_of_ble_eq_true rfl) dX0_digest_82 rfl (kk_i (fun r82 w hr82 hp82 => ?_))
                obtain ⟨row82, q82, e82, rfl⟩ := hp82
                refine tt_top (z' := ctE (xkd num mf) (xco num mf) cols many chg sM pgM brd 3) e82 ?_
                refine tt_i2l hf dX0_digest_85 ?_
                refine tt_callV0 (As := [.long ((iI (ctE (xkd num mf) (xco num mf) cols many chg sM pgM brd 3)).toInt64)]) (rest := []) (q0 := 0) (ci := 0) hf (cx_note ) lk_X0_X0_note hd_X0_note rfl rfl rfl ⟨rfl, rfl⟩ (by decide) (by decide) (Nat.le_of_ble_eq_true rfl) dX0_digest_86 rfl (kk_v (fun w hw => ?_))
                subst hw
                refine tt_iinc (lv' := [(1, .int (iI 4)), (0, .ref o)]) hf 0 dX0_digest_89 rfl (by decide) rfl ?_
                refine tt_goto (tgt := 73) hf dX0_digest_92 (by decide) ?_
                refine tt_iload_n hf 0 dX0_digest_73 rfl ?_
                refine tt_bipush hf dX0_digest_74 (by decide) ?_
                refine tt_icmp_ge (tgt := 95) hf dX0_digest_76 (by decide) (by omega) (by omega) (fun c => absurd c (by decide)) (fun _ => ?_)
                refine tt_aload_n hf 1 dX0_digest_79 rfl ?_
                refine tt_aload_n hf 1 dX0_digest_80 rfl ?_
                refine tt_iload_n hf 0 dX0_digest_81 rfl ?_
                refine tt_callV0 (As := [.int (iI 4)]) (rest := [.ref o]) (q0 := 0) (ci := 0) hf (cx_count hm hB q82 hcl3 hch hsM hpg hbr (by omega)) lk_X0_X0_count hd_X0_count rfl rfl rfl ⟨rfl, rfl⟩ (by decide) (by decide) (Nat.le_of_ble_eq_true rfl) dX0_digest_82 rfl (kk_i (fun r82 w hr82 hp82 => ?_))
                obtain ⟨row82, q82, e82, rfl⟩ := hp82
                refine tt_top (z' := ctE (xkd num mf) (xco num mf) cols many chg sM pgM brd 4) e82 ?_
                refine tt_i2l hf dX0_digest_85 ?_
                refine tt_callV0 (As := [.long ((iI (ctE (xkd num mf) (xco num mf) cols many chg sM pgM brd 4)).toInt64)]) (rest := []) (q0 := 0) (ci := 0) hf (cx_note ) lk_X0_X0_note hd_X0_note rfl rfl rfl ⟨rfl, rfl⟩ (by decide) (by decide) (Nat.le_of_ble_eq_true rfl) dX0_digest_86 rfl (kk_v (fun w hw => ?_))
                subst hw
                refine tt_iinc (lv' := [(1, .int (iI 5)), (0, .ref o)]) hf 0 dX0_digest_89 rfl (by decide) rfl ?_
                refine tt_goto (tgt := 73) hf dX0_digest_92 (by decide) ?_
                refine tt_iload_n hf 0 dX0_digest_73 rfl ?_
                refine tt_bipush hf dX0_digest_74 (by decide) ?_
                refine tt_icmp_ge (tgt := 95) hf dX0_digest_76 (by decide) (by omega) (by omega) (fun c => absurd c (by decide)) (fun _ => ?_)
                refine tt_aload_n hf 1 dX0_digest_79 rfl ?_
                refine tt_aload_n hf 1 dX0_digest_80 rfl ?_
                refine tt_iload_n hf 0 dX0_digest_81 rfl ?_
                refine tt_callV0 (As := [.int (iI 5)]) (rest := [.ref o]) (q0 := 0) (ci := 0) hf (cx_count hm hB q82 hcl3 hch hsM hpg hbr (by omega)) lk_X0_X0_count hd_X0_count rfl rfl rfl ⟨rfl, rfl⟩ (by decide) (by decide) (Nat.le_of_ble_eq_true rfl) dX0_digest_82 rfl (kk_i (fun r82 w hr82 hp82 => ?_))
                obtain ⟨row82, q82, e82, rfl⟩ := hp82
                refine tt_top (z' := ctE (xkd num mf) (xco num mf) cols many chg sM pgM brd 5) e82 ?_
                refine tt_i2l hf dX0_digest_85 ?_
                refine tt_callV0 (As := [.long ((iI (ctE (xkd num mf) (xco num mf) cols many chg sM pgM brd 5)).toInt64)]) (rest := []) (q0 := 0) (ci := 0) hf (cx_note ) lk_X0_X0_note hd_X0_note rfl rfl rfl ⟨rfl, rfl⟩ (by decide) (by decide) (Nat.le_of_ble_eq_true rfl) dX0_digest_86 rfl (kk_v (fun w hw => ?_))
                subst hw
                refine tt_iinc (lv' := [(1, .int (iI 6)), (0, .ref o)]) hf 0 dX0_digest_89 rfl (by decide) rfl ?_
                refine tt_goto (tgt := 73) hf dX0_digest_92 (by decide) ?_
                refine tt_iload_n hf 0 dX0_digest_73 rfl ?_
                refine tt_bipush hf dX0_digest_74 (by decide) ?_
                refine tt_icmp_ge (tgt := 95) hf dX0_digest_76 (by decide) (by omega) (by omega) (fun c => absurd c (by decide)) (fun _ => ?_)
                refine tt_aload_n hf 1 dX0_digest_79 rfl ?_
                refine tt_aload_n hf 1 dX0_digest_80 rfl ?_
                refine tt_iload_n hf 0 dX0_digest_81 rfl ?_
                refine tt_callV0 (As := [.int (iI 6)]) (rest := [.ref o]) (q0 := 0) (ci := 0) hf (cx_count hm hB q82 hcl3 hch hsM hpg hbr (by omega)) lk_X0_X0_count hd_X0_count rfl rfl rfl ⟨rfl, rfl⟩ (by decide) (by decide) (Nat.le_of_ble_eq_true rfl) dX0_digest_82 rfl (kk_i (fun r82 w hr82 hp82 => ?_))
                obtain ⟨row82, q82, e82, rfl⟩ := hp82
                refine tt_top (z' := ctE (xkd num mf) (xco num mf) cols many chg sM pgM brd 6) e82 ?_
                refine tt_i2l hf dX0_digest_85 ?_
                refine tt_callV0 (As := [.long ((iI (ctE (xkd num mf) (xco num mf) cols many chg sM pgM brd 6)).toInt64)]) (rest := []) (q0 := 0) (ci := 0) hf (cx_note ) lk_X0_X0_note hd_X0_note rfl rfl rfl ⟨rfl, rfl⟩ (by decide) (by decide) (Nat.le_of_ble_eq_true rfl) dX0_digest_86 rfl (kk_v (fun w hw => ?_))
                subst hw
                refine tt_iinc (lv' := [(1, .int (iI 7)), (0, .ref o)]) hf 0 dX0_digest_89 rfl (by decide) rfl ?_
                refine tt_goto (tgt := 73) hf dX0_digest_92 (by decide) ?_
                refine tt_iload_n hf 0 dX0_digest_73 rfl ?_
                refine tt_bipush hf dX0_digest_74 (by decide) ?_
                refine tt_icmp_ge (tgt := 95) hf dX0_digest_76 (by decide) (by omega) (by omega) (fun c => absurd c (by decide)) (fun _ => ?_)
                refine tt_aload_n hf 1 dX0_digest_79 rfl ?_
                refine tt_aload_n hf 1 dX0_digest_80 rfl ?_
                refine tt_iload_n hf 0 dX0_digest_81 rfl ?_
                refine tt_callV0 (As := [.int (iI 7)]) (rest := [.ref o]) (q0 := 0) (ci := 0) hf (cx_count hm hB q82 hcl3 hch hsM hpg hbr (by omega)) lk_X0_X0_count hd_X0_count rfl rfl rfl ⟨rfl, rfl⟩ (by decide) (by decide) (Nat.le_of_ble_eq_true rfl) dX0_digest_82 rfl (kk_i (fun r82 w hr82 hp82 => ?_))
                obtain ⟨row82, q82, e82, rfl⟩ := hp82
                refine tt_top (z' := ctE (xkd num mf) (xco num mf) cols many chg sM pgM brd 7) e82 ?_
                refine tt_i2l hf dX0_digest_85 ?_
                refine tt_callV0 (As := [.long ((iI (ctE (xkd num mf) (xco num mf) cols many chg sM pgM brd 7)).toInt64)]) (rest := []) (q0 := 0) (ci := 0) hf (cx_note ) lk_X0_X0_note hd_X0_note rfl rfl rfl ⟨rfl, rfl⟩ (by decide) (by decide) (Nat.le_of_ble_eq_true rfl) dX0_digest_86 rfl (kk_v (fun w hw => ?_))
                subst hw
                refine tt_iinc (lv' := [(1, .int (iI 8)), (0, .ref o)]) hf 0 dX0_digest_89 rfl (by decide) rfl ?_
                refine tt_goto (tgt := 73) hf dX0_digest_92 (by decide) ?_
                refine tt_iload_n hf 0 dX0_digest_73 rfl ?_
                refine tt_bipush hf dX0_digest_74 (by decide) ?_
                refine tt_icmp_ge (tgt := 95) hf dX0_digest_76 (by decide) (by omega) (by omega) (fun c => absurd c (by decide)) (fun _ => ?_)
                refine tt_aload_n hf 1 dX0_digest_79 rfl ?_
                refine tt_aload_n hf 1 dX0_digest_80 rfl ?_
                refine tt_iload_n hf 0 dX0_digest_81 rfl ?_
                refine tt_callV0 (As := [.int (iI 8)]) (rest := [.ref o]) (q0 := 0) (ci := 0) hf (cx_count hm hB q82 hcl3 hch hsM hpg hbr (by omega)) lk_X0_X0_count hd_X0_count rfl rfl rfl ⟨rfl, rfl⟩ (by decide) (by decide) (Nat.le_of_ble_eq_true rfl) dX0_digest_82 rfl (kk_i (fun r82 w hr82 hp82 => ?_))
                obtain ⟨row82, q82, e82, rfl⟩ := hp82
                refine tt_top (z' := ctE (xkd num mf) (xco num mf) cols many chg sM pgM brd 8) e82 ?_
                refine tt_i2l hf dX0_digest_85 ?_
                refine tt_callV0 (As := [.long ((iI (ctE (xkd num mf) (xco num mf) cols many chg sM pgM brd 8)).toInt64)]) (rest := []) (q0 := 0) (ci := 0) hf (cx_note ) lk_X0_X0_note hd_X0_note rfl rfl rfl ⟨rfl, rfl⟩ (by decide) (by decide) (Nat.le_of_ble_eq_true rfl) dX0_digest_86 rfl (kk_v (fun w hw => ?_))
                subst hw
                refine tt_iinc (lv' := [(1, .int (iI 9)), (0, .ref o)]) hf 0 dX0_digest_89 rfl (by decide) rfl ?_
                refine tt_goto (tgt := 73) hf dX0_digest_92 (by decide) ?_
                refine tt_iload_n hf 0 dX0_digest_73 rfl ?_
                refine tt_bipush hf dX0_digest_74 (by decide) ?_
                refine tt_icmp_ge (tgt := 95) hf dX0_digest_76 (by decide) (by omega) (by omega) (fun _ => ?_) (fun c => absurd c (by decide))
                refine tt_aload_n hf 1 dX0_digest_95 rfl ?_
                refine gx_hh hf dX0_digest_96 ?_
                exact tt_lretl hf hrT dX0_digest_99 (Nat.le_refl _) (Nat.le_refl _) ⟨_, old41, row82, ways41, far41, hav41, wtd41, fnd41, mdT41, wnT41, q82, o41, C41, by unfold dgE; rw [if_pos (by omega)]; rfl, rfl⟩
              · refine tt_aload_n hf 0 dX0_digest_54 rfl ?_
                refine tt_aload_n hf 0 dX0_digest_55 rfl ?_
                refine gx_page hf dX0_digest_56 ?_
                refine tt_iload_n hf 1 dX0_digest_59 rfl ?_
                refine lx_page hf (by omega) dX0_digest_60 ?_
                refine tt_i2l hf dX0_digest_61 ?_
                refine tt_callV0 (As := [.long ((iI (page k)).toInt64)]) (rest := []) (q0 := 0) (ci := 0) hf (cx_note ) lk_X0_X0_note hd_X0_note rfl rfl rfl ⟨rfl, rfl⟩ (by decide) (by decide) (Nat.le_of_ble_eq_true rfl) dX0_digest_62 rfl (kk_v (fun w hw => ?_))
                subst hw
                refine tt_iinc (lv' := [(1, .int (iI (k + 1))), (0, .ref o)]) hf 1 dX0_digest_65 rfl (by decide) rfl ?_
                refine tt_goto (tgt := 46) hf dX0_digest_68 (by decide) ?_
                refine tt_sub [1, 0] rfl ?_
                exact ih (k + 1) (hx h2 (page k)) (by omega) (by rw [pgH_s (by omega), hp]) (by omega)
          refine tt_sub [1, 0] rfl ?_
          exact lq _ 0 (bdH (xkd num mf) (xco num mf) cols many (dgN (nmE (xkd num mf) (xco num mf) cols many sN sW sC sM) (fun n u => odE (cnt (WL (xkd num mf) (xco num mf) cols many) n 0) ((WL (xkd num mf) (xco num mf) cols many).length : Int) u) many.toNat)) (by omega) rfl (Nat.lt_succ_self _)
      · have hc := hcl (by omega)
        obtain ⟨a0, ha0, ma0, ka0, na0, ca0⟩ := hB.at (n := i) (by omega) (by omega)
        refine tt_aload_n hf 0 dX0_digest_17 rfl ?_
        refine tt_aload_n hf 0 dX0_digest_18 rfl ?_
        refine gx_num hf dX0_digest_19 ?_
        refine tt_iload_n hf 1 dX0_digest_22 rfl ?_
        refine lx_num hf (by omega) ha0 dX0_digest_23 ?_
        refine tt_callV0 (As := [.ref a0]) (rest := []) (q0 := 0) (ci := 0) hf (cx_noteNumber hm hc hB hcc pq po pC hsM hsN hsW hsC (v := i) (by omega) ha0) lk_X0_X0_noteNumber hd_X0_noteNumber rfl rfl rfl ⟨rfl, rfl⟩ (by decide) (by decide) (Nat.le_of_ble_eq_true rfl) dX0_digest_24 rfl (kk_v (fun w hp24 => ?_))
        obtain ⟨old24, row24, ways24, far24, hav24, wtd24, fnd24, mdT24, wnT24, q24, o24, C24, rfl⟩ := hp24
        refine tt_iinc (lv' := [(1, .int (iI (i + 1))), (0, .ref o)]) hf 1 dX0_digest_27 rfl (by decide) rfl ?_
        refine tt_goto (tgt := 9) hf dX0_digest_30 (by decide) ?_
        refine tt_sub [1, 0] rfl ?_
        exact ih (i + 1) old24 row24 ways24 far24 hav24 wtd24 fnd24 mdT24 wnT24 (dgS (nmE (xkd num mf) (xco num mf) cols many sN sW sC sM) (fun n u => odE (cnt (WL (xkd num mf) (xco num mf) cols many) n 0) ((WL (xkd num mf) (xco num mf) cols many).length : Int) u) h i) (by omega) q24 o24 C24 (by rw [Int.add_sub_cancel, dgN_s (by omega), hh0]) (by omega)
  refine tt_sub [1, 0] rfl ?_
  exact lp _ 1 old row ways far hav wtd fnd mdT wnT (1321 : Int64) (by omega) hrow ho hC rfl (Nat.lt_succ_self _)
