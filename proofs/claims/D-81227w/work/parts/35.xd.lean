/-- what is kept of the last reckoning is right unless it is old -/
def xC (kd co : Int → Int) (cols many old ways far : Int) (hav : Int → Int) (mdT wnT : Int) : Prop := old = 0 → ways = ((WL kd co cols many).length : Int) ∧ far = frN kd co cols many.toNat ∧ cntOk kd co cols many hav ∧ mdT = mdE kd co cols many ∧ wnT = winE kd co cols many
theorem WL_len59 {kd co : Int → Int} {cols many : Int} (hc : cols ≤ 3) (hm : many ≤ 10) : ((WL kd co cols many).length : Int) ≤ 59049 := by
  have := WL_le (kd := kd) (co := co) hc hm (fun _ => 0)
  unfold WL; omega
set_option maxHeartbeats 4000000 in
set_option maxRecDepth 100000 in
theorem cx_freshen {l : Launch} {g : tG} {o : Nat} {ax : Nat → Nat} {num kpt : Int → Option Nat} {many cols chg brd old : Int} {page : Int → Int} {pgM told enD : Int} {row : Int → Int} {ways far : Int} {hav : Int → Int} {wtd : Int} {fnd : Int → Int} {mdT wnT : Int} {sN sW sC : Int → Int} {sM drw : Int} {kN kW kC : Int → Int} {kS kG kB : Int} {hh : Int64} {L : List Nat} {mf : Nat → Nat × Int × Int × Int}  (hm : 0 ≤ many ∧ many ≤ 10) (hc : 2 ≤ cols ∧ cols ≤ 3) (hB : xB many num L mf) (hcc : ∀ i, 1 ≤ i → i ≤ many → (xco num mf) i ≤ cols - 1) (hrow : ∀ i, -1 ≤ row i ∧ row i ≤ 2) (ho : old = 0 ∨ old = 1) (hC : xC (xkd num mf) (xco num mf) cols many old ways far hav mdT wnT) : Cv l g yX0_freshen (ws_ yX0_freshen cX0_freshen 2 (Option.none : Option Jvm.ClassFile.FieldType)) (rmL 31) [.ref o] (xW g o ax num kpt many cols chg brd old page pgM told enD row ways far hav wtd fnd mdT wnT sN sW sC sM drw kN kW kC kS kG kB hh L mf) (fun w => ∃ (row1 hav1 : Int → Int) (wtd1 : Int) (fnd1 : Int → Int), (∀ i, -1 ≤ row1 i ∧ row1 i ≤ 2) ∧ cntOk (xkd num mf) (xco num mf) cols many hav1 ∧ w = xW g o ax num kpt many cols chg brd 0 page pgM told enD row1 (((WL (xkd num mf) (xco num mf) cols many).length : Int)) (frN (xkd num mf) (xco num mf) cols many.toNat) hav1 wtd1 fnd1 (mdE (xkd num mf) (xco num mf) cols many) (winE (xkd num mf) (xco num mf) cols many) sN sW sC sM drw kN kW kC kS kG kB hh L mf) := by
  refine Ct.of (by decide) (Nat.le_of_ble_eq_true rfl) ?_
  intro Γ hl hg hf hrT
  subst hl hg
  have hf : Fx Γ RX0 cX0_freshen 2 := hf
  show T Γ (rmL 31) 2 0 0 (Qe Γ (rmL 31) _) _ 0 [(0, .ref o)] []
  refine tt_aload_n hf 0 dX0_freshen_0 rfl ?_
  refine gx_old hf dX0_freshen_1 ?_
  refine tt_if_eq (tgt := 61) hf dX0_freshen_4 (by decide) (by omega) (fun c4 => ?_) (fun c4 => ?_)
  · obtain ⟨e1, e2, e3, e4, e5⟩ := hC c4
    exact tt_vretv hf hrT dX0_freshen_61 (Nat.le_refl _) (Nat.le_refl _) ⟨row, hav, wtd, fnd, hrow, e3, by rw [← e1, ← e2, ← e4, ← e5, c4]⟩
  · refine tt_aload_n hf 0 dX0_freshen_7 rfl ?_
    refine tt_iconst hf dX0_freshen_8 ?_
    refine tt_callV0 (As := [.int (iI (-1))]) (rest := []) (q0 := 0) (ci := 0) hf (cx_layWays hm hc hB hcc hrow (by omega)) lk_X0_X0_layWays hd_X0_layWays rfl rfl rfl ⟨rfl, rfl⟩ (rmL_ok (by omega) (by decide)) ⟨Nat.zero_le _, Nat.zero_le _⟩ (Nat.le_of_ble_eq_true rfl) dX0_freshen_9 rfl (kk_v (fun w hp9 => ?_))
    obtain ⟨row9, hav9, fnd9, q9, o9, t9, rfl⟩ := hp9
    refine tt_aload_n hf 0 dX0_freshen_12 rfl ?_
    refine tt_iconst hf dX0_freshen_13 ?_
    refine tt_aload_n hf 0 dX0_freshen_14 rfl ?_
    refine gx_many hf dX0_freshen_15 ?_
    refine tt_callV0 (As := [.int (iI 1), .int (iI many)]) (rest := []) (q0 := 0) (ci := 0) hf (cx_leastFrom hm hc hB many.toNat 1 many row9 (by omega) (by omega) (by omega) (by omega) q9) lk_X0_X0_leastFrom hd_X0_leastFrom rfl rfl rfl ⟨rfl, rfl⟩ (rmL_ok (by omega) (by decide)) ⟨Nat.zero_le _, Nat.zero_le _⟩ (Nat.le_of_ble_eq_true rfl) dX0_freshen_18 rfl (kk_i (fun r18 w hr18 hp18 => ?_))
    obtain ⟨row18, _, p18, l18, rfl⟩ := hp18
    have t18 := lsP_top hm l18
    refine tt_istore_n (lv' := [(1, .int (iI r18)), (0, .ref o)]) hf dX0_freshen_21 (by decide) rfl ?_
    refine tt_aload_n hf 1 dX0_freshen_22 rfl ?_
    refine tt_iload_n hf 0 dX0_freshen_23 rfl ?_
    refine tt_ldc hf (99999) q380 (by decide) dX0_freshen_24 ?_
    refine tt_icmp_lt (tgt := 33) hf dX0_freshen_26 (by decide) (by omega) (by omega) (fun c26 => ?_) (fun c26 => ?_)
    · refine tt_iload_n hf 0 dX0_freshen_33 rfl ?_
      refine px_mdT hf dX0_freshen_34 ?_
      refine tt_aload_n hf 1 dX0_freshen_37 rfl ?_
      refine tt_aload_n hf 1 dX0_freshen_38 rfl ?_
      refine tt_callV0 (As := []) (rest := [.ref o]) (q0 := 0) (ci := 0) hf (cx_badNow hm hB p18) lk_X0_X0_badNow hd_X0_badNow rfl rfl rfl ⟨rfl, rfl⟩ (rmL_ok (by omega) (by decide)) ⟨Nat.zero_le _, Nat.zero_le _⟩ (Nat.le_of_ble_eq_true rfl) dX0_freshen_39 rfl (kk_e (fun r39 => ?_))
      have hbu := bu_rng (xkd num mf) (xco num mf) many.toNat
      have hbq : ((many.toNat : Int) * (many.toNat : Int)) ≤ 10 * 10 := Int.mul_le_mul (by omega) (by omega) (by omega) (by omega)
      refine tt_if_ne (tgt := 52) hf dX0_freshen_42 (by decide) (by omega) (fun c42 => ?_) (fun c42 => ?_)
      · refine tt_iconst hf dX0_freshen_52 ?_
        refine px_wnT hf dX0_freshen_53 ?_
        refine tt_aload_n hf 1 dX0_freshen_56 rfl ?_
        refine tt_iconst hf dX0_freshen_57 ?_
        refine px_old hf dX0_freshen_58 (by omega) ?_
        have em : r18 = mdE (xkd num mf) (xco num mf) cols many := t18.1 (by omega)
        have ew : (-1) = winE (xkd num mf) (xco num mf) cols many := by unfold winE; rw [if_pos c42]
        exact tt_vretv hf hrT dX0_freshen_61 (Nat.le_refl _) (Nat.le_refl _) ⟨_, hav9, _, fnd9, (mixX_rng (xco_rng hB) p18), o9, by rw [← em, ← ew]⟩
      · refine tt_aload_n hf 1 dX0_freshen_45 rfl ?_
        refine tt_callV0 (As := []) (rest := [.ref o]) (q0 := 0) (ci := 0) hf (cx_winning hm hc hB 10 (mixF (many + 1) (xco num mf) row18) (by have := brN_rng (mixF (many + 1) (xco num mf) row18) many.toNat; omega) (mixX_rng (xco_rng hB) p18)) lk_X0_X0_winning hd_X0_winning rfl rfl rfl ⟨rfl, rfl⟩ (rmL_ok (by omega) (by decide)) ⟨Nat.zero_le _, Nat.zero_le _⟩ (Nat.le_of_ble_eq_true rfl) dX0_freshen_46 rfl (kk_e (fun r46 => ?_))
        refine tt_goto (tgt := 53) hf dX0_freshen_49 (by decide) ?_
        refine px_wnT hf dX0_freshen_53 ?_
        refine tt_aload_n hf 1 dX0_freshen_56 rfl ?_
        refine tt_iconst hf dX0_freshen_57 ?_
        refine px_old hf dX0_freshen_58 (by omega) ?_
        have em : r18 = mdE (xkd num mf) (xco num mf) cols many := t18.1 (by omega)
        have ew : wnX (xkd num mf) cols many 10 (mixF (many + 1) (xco num mf) row18) = winE (xkd num mf) (xco num mf) cols many := by unfold winE; rw [if_neg (fun q => q c42)]; exact wnX_cg (by omega) (by omega) 10 _ _ (fun i h1 h2 => by unfold mixF; rw [if_pos (by omega)])
        exact tt_vretv hf hrT dX0_freshen_61 (Nat.le_refl _) (Nat.le_refl _) ⟨_, hav9, _, fnd9, (mixX_rng (xco_rng hB) p18), o9, by rw [← em, ← ew]⟩
    · refine tt_iconst hf dX0_freshen_29 ?_
      refine tt_goto (tgt := 34) hf dX0_freshen_30 (by decide) ?_
      refine px_mdT hf dX0_freshen_34 ?_
      refine tt_aload_n hf 1 dX0_freshen_37 rfl ?_
      refine tt_aload_n hf 1 dX0_freshen_38 rfl ?_
      refine tt_callV0 (As := []) (rest := [.ref o]) (q0 := 0) (ci := 0) hf (cx_badNow hm hB p18) lk_X0_X0_badNow hd_X0_badNow rfl rfl rfl ⟨rfl, rfl⟩ (rmL_ok (by omega) (by decide)) ⟨Nat.zero_le _, Nat.zero_le _⟩ (Nat.le_of_ble_eq_true rfl) dX0_freshen_39 rfl (kk_e (fun r39 => ?_))
      have hbu := bu_rng (xkd num mf) (xco num mf) many.toNat
      have hbq : ((many.toNat : Int) * (many.toNat : Int)) ≤ 10 * 10 := Int.mul_le_mul (by omega) (by omega) (by omega) (by omega)
      refine tt_if_ne (tgt := 52) hf dX0_freshen_42 (by decide) (by omega) (fun c42 => ?_) (fun c42 => ?_)
      · refine tt_iconst hf dX0_freshen_52 ?_
        refine px_wnT hf dX0_freshen_53 ?_
        refine tt_aload_n hf 1 dX0_freshen_56 rfl ?_
        refine tt_iconst hf dX0_freshen_57 ?_
        refine px_old hf dX0_freshen_58 (by omega) ?_
        have em : (-1) = mdE (xkd num mf) (xco num mf) cols many := t18.2 (by omega)
        have ew : (-1) = winE (xkd num mf) (xco num mf) cols many := by unfold winE; rw [if_pos c42]
        exact tt_vretv hf hrT dX0_freshen_61 (Nat.le_refl _) (Nat.le_refl _) ⟨_, hav9, _, fnd9, (mixX_rng (xco_rng hB) p18), o9, by rw [← em, ← ew]⟩
      · refine tt_aload_n hf 1 dX0_freshen_45 rfl ?_
        refine tt_callV0 (As := []) (rest := [.ref o]) (q0 := 0) (ci := 0) hf (cx_winning hm hc hB 10 (mixF (many + 1) (xco num mf) row18) (by have := brN_rng (mixF (many + 1) (xco num mf) row18) many.toNat; omega) (mixX_rng (xco_rng hB) p18)) lk_X0_X0_winning hd_X0_winning rfl rfl rfl ⟨rfl, rfl⟩ (rmL_ok (by omega) (by decide)) ⟨Nat.zero_le _, Nat.zero_le _⟩ (Nat.le_of_ble_eq_true rfl) dX0_freshen_46 rfl (kk_e (fun r46 => ?_))
        refine tt_goto (tgt := 53) hf dX0_freshen_49 (by decide) ?_
        refine px_wnT hf dX0_freshen_53 ?_
        refine tt_aload_n hf 1 dX0_freshen_56 rfl ?_
        refine tt_iconst hf dX0_freshen_57 ?_
        refine px_old hf dX0_freshen_58 (by omega) ?_
        have em : (-1) = mdE (xkd num mf) (xco num mf) cols many := t18.2 (by omega)
        have ew : wnX (xkd num mf) cols many 10 (mixF (many + 1) (xco num mf) row18) = winE (xkd num mf) (xco num mf) cols many := by unfold winE; rw [if_neg (fun q => q c42)]; exact wnX_cg (by omega) (by omega) 10 _ _ (fun i h1 h2 => by unfold mixF; rw [if_pos (by omega)])
        exact tt_vretv hf hrT dX0_freshen_61 (Nat.le_refl _) (Nat.le_refl _) ⟨_, hav9, _, fnd9, (mixX_rng (xco_rng hB) p18), o9, by rw [← em, ← ew]⟩
theorem nxC_no {cv : Int → Int → Int} {co : Int → Int} {n : Int} {s : Int × Int} (h : ¬ co n = -1) : ∀ k : Nat, nxC cv co n k s = s
  | 0 => rfl
  | k + 1 => by simp only [nxC]; rw [if_neg (fun q => h q.1), nxC_no h k]
theorem nx_n {cv : Int → Int → Int} {co : Int → Int} {n c x y : Int} {s : Int × Int} (hc : 0 ≤ c) (h : (x, y) = nxC cv co n c.toNat s) (q : cv n c ≤ y) : (x, if cv n c ≤ y then y else cv n c) = nxC cv co n (c + 1).toNat s := by
  rw [nxC_s hc, ← h, if_pos q, if_neg (fun p => by have := p.2; dsimp only at this; omega)]
theorem nx_y {cv : Int → Int → Int} {co : Int → Int} {n c x y : Int} {s : Int × Int} (hc : 0 ≤ c) (h : (x, y) = nxC cv co n c.toNat s) (h0 : co n = -1) (q : ¬ cv n c ≤ y) : (10 * n + c, if cv n c ≤ y then y else cv n c) = nxC cv co n (c + 1).toNat s := by
  rw [nxC_s hc, ← h, if_neg q, if_pos ⟨h0, by dsimp only; omega⟩]
set_option maxHeartbeats 4000000 in
set_option maxRecDepth 100000 in
theorem cx_nextOf {l : Launch} {g : tG} {o : Nat} {ax : Nat → Nat} {num kpt : Int → Option Nat} {many cols chg brd old : Int} {page : Int → Int} {pgM told enD : Int} {row : Int → Int} {ways far : Int} {hav : Int → Int} {wtd : Int} {fnd : Int → Int} {mdT wnT : Int} {sN sW sC : Int → Int} {sM drw : Int} {kN kW kC : Int → Int} {kS kG kB : Int} {hh : Int64} {L : List Nat} {mf : Nat → Nat × Int × Int × Int}  (hm : 0 ≤ many ∧ many ≤ 10) (hc : 2 ≤ cols ∧ cols ≤ 3) (hB : xB many num L mf) (hO : cntOk (xkd num mf) (xco num mf) cols many hav) : Ce l g yX0_nextOf (ws_ yX0_nextOf cX0_nextOf 6 (Option.some Jvm.ClassFile.FieldType.int)) (rmL 2) [.ref o] (xW g o ax num kpt many cols chg brd old page pgM told enD row ways far hav wtd fnd mdT wnT sN sW sC sM drw kN kW kC kS kG kB hh L mf) ((nxN (cnt (WL (xkd num mf) (xco num mf) cols many)) (xco num mf) cols many.toNat).1) (xW g o ax num kpt many cols chg brd old page pgM told enD row ways far hav wtd fnd mdT wnT sN sW sC sM drw kN kW kC kS kG kB hh L mf) := by
  refine Ct.of (by decide) (Nat.le_of_ble_eq_true rfl) ?_
  intro Γ hl hg hf hrT
  subst hl hg
  have hf : Fx Γ RX0 cX0_nextOf 6 := hf
  show T Γ (rmL 2) 6 0 0 (Qe Γ (rmL 2) _) _ 0 [(0, .ref o)] []
  have hlen := WL_len59 (kd := (xkd num mf)) (co := (xco num mf)) (cols := cols) (many := many) (by omega) (by omega)
  have lp : ∀ (N : Nat) (x : Int) (y : Int) (n : Int), (1 ≤ n ∧ n ≤ many + 1) → (0 ≤ y ∧ y ≤ 59049) → (-1 ≤ x ∧ x ≤ 200) → ((x, y) = nxN (cnt (WL (xkd num mf) (xco num mf) cols many)) (xco num mf) cols (n - 1).toNat) → (11 - n).toNat < N → T Γ (rmL 2) 6 0 0 (Qe Γ (rmL 2) (fun vv w => ∃ r : Int, vv = some (.int (iI r)) ∧ iR r ∧ r = ((nxN (cnt (WL (xkd num mf) (xco num mf) cols many)) (xco num mf) cols many.toNat).1) ∧ w = xW (xg Γ) o ax num kpt many cols chg brd old page pgM told enD row ways far hav wtd fnd mdT wnT sN sW sC sM drw kN kW kC kS kG kB hh L mf)) (xW (xg Γ) o ax num kpt many cols chg brd old page pgM told enD row ways far hav wtd fnd mdT wnT sN sW sC sM drw kN kW kC kS kG kB hh L mf) 6 [(0, .ref o), (1, .int (iI x)), (2, .int (iI y)), (3, .int (iI n))] [] := by
    intro N
    induction N with
    | zero => intro x y n hn hy hx hxy hN; exact absurd hN (Nat.not_lt_zero _)
    | succ N ih =>
      intro x y n hn hy hx hxy hN
      refine tt_iload_n hf 3 dX0_nextOf_6 rfl ?_
      refine tt_aload_n hf 0 dX0_nextOf_7 rfl ?_
      refine gx_many hf dX0_nextOf_8 ?_
      refine tt_icmp_gt (tgt := 89) hf dX0_nextOf_11 (by decide) (by omega) (by omega) (fun c11 => ?_) (fun c11 => ?_)
      · refine tt_iload_n hf 1 dX0_nextOf_89 rfl ?_
        exact tt_ireti hf hrT dX0_nextOf_90 (Nat.le_refl _) (Nat.le_refl _) (by omega) ⟨(by have e : n - 1 = many := (by omega); rw [e] at hxy; rw [← hxy]), rfl⟩
      · refine tt_iconst hf dX0_nextOf_14 ?_
        refine tt_istore (lv' := [(4, .int (iI 0)), (0, .ref o), (1, .int (iI x)), (2, .int (iI y)), (3, .int (iI n))]) hf dX0_nextOf_15 (by decide) rfl ?_
        obtain ⟨a0, ha0, ma0, ka0, na0, ca0⟩ := hB.at (n := n) (by omega) (by omega)
        have x0 := xco_at (mf := mf) ha0
        have ih6 := ih
        have lp17 : ∀ (N : Nat) (x : Int) (y : Int) (c : Int), (0 ≤ c ∧ c ≤ cols) → (0 ≤ y ∧ y ≤ 59049) → (-1 ≤ x ∧ x ≤ 200) → ((x, y) = nxC (cnt (WL (xkd num mf) (xco num mf) cols many)) (xco num mf) n c.toNat (nxN (cnt (WL (xkd num mf) (xco num mf) cols many)) (xco num mf) cols (n - 1).toNat)) → (cols - c).toNat < N → T Γ (rmL 2) 6 0 0 (Qe Γ (rmL 2) (fun vv w => ∃ r : Int, vv = some (.int (iI r)) ∧ iR r ∧ r = ((nxN (cnt (WL (xkd num mf) (xco num mf) cols many)) (xco num mf) cols many.toNat).1) ∧ w = xW (xg Γ) o ax num kpt many cols chg brd old page pgM told enD row ways far hav wtd fnd mdT wnT sN sW sC sM drw kN kW kC kS kG kB hh L mf)) (xW (xg Γ) o ax num kpt many cols chg brd old page pgM told enD row ways far hav wtd fnd mdT wnT sN sW sC sM drw kN kW kC kS kG kB hh L mf) 17 [(0, .ref o), (1, .int (iI x)), (2, .int (iI y)), (3, .int (iI n)), (4, .int (iI c))] [] := by
          intro N
          induction N with
          | zero => intro x y c hc0 hy hx hxy hN; exact absurd hN (Nat.not_lt_zero _)
          | succ N ih =>
            intro x y c hc0 hy hx hxy hN
            refine tt_iload hf 4 dX0_nextOf_17 rfl ?_
            refine tt_aload_n hf 0 dX0_nextOf_19 rfl ?_
            refine gx_cols hf dX0_nextOf_20 ?_
            refine tt_icmp_ge (tgt := 83) hf dX0_nextOf_23 (by decide) (by omega) (by omega) (fun c23 => ?_) (fun c23 => ?_)
            · refine tt_iinc (lv' := [(3, .int (iI (n + 1))), (0, .ref o), (1, .int (iI x)), (2, .int (iI y)), (4, .int (iI c))]) hf 3 dX0_nextOf_83 rfl (by decide) rfl ?_
              refine tt_goto (tgt := 6) hf dX0_nextOf_86 (by decide) ?_
              refine tt_sub [1, 2, 3, 0] rfl ?_
              exact ih6 x y (n + 1) (by omega) hy hx (by rw [Int.add_sub_cancel, nxN_s (by omega), hxy, show c = cols by omega]) (by omega)
            · refine tt_aload_n hf 0 dX0_nextOf_26 rfl ?_
              refine gx_num hf dX0_nextOf_27 ?_
              refine tt_iload_n hf 3 dX0_nextOf_30 rfl ?_
              refine lx_num hf (by omega) ha0 dX0_nextOf_31 ?_
              refine gm_colour hf ma0 ka0 dX0_nextOf_32 ?_
              refine tt_iconst hf dX0_nextOf_35 ?_
              refine tt_icmp_ne (tgt := 83) hf dX0_nextOf_36 (by decide) (by omega) (by omega) (fun c36 => ?_) (fun c36 => ?_)
              · refine tt_iinc (lv' := [(3, .int (iI (n + 1))), (0, .ref o), (1, .int (iI x)), (2, .int (iI y)), (4, .int (iI c))]) hf 3 dX0_nextOf_83 rfl (by decide) rfl ?_
                refine tt_goto (tgt := 6) hf dX0_nextOf_86 (by decide) ?_
                refine tt_sub [1, 2, 3, 0] rfl ?_
                exact ih6 x y (n + 1) (by omega) hy hx (by rw [Int.add_sub_cancel, nxN_s (by omega), hxy, nxC_no (by rw [x0]; exact c36), nxC_no (by rw [x0]; exact c36)]) (by omega)
              · refine tt_aload_n hf 0 dX0_nextOf_39 rfl ?_
                refine gx_hav hf dX0_nextOf_40 ?_
                refine tt_iload_n hf 3 dX0_nextOf_43 rfl ?_
                refine tt_iconst hf dX0_nextOf_44 ?_
                refine tt_imul hf dX0_nextOf_45 ?_
                refine tt_iload hf 4 dX0_nextOf_46 rfl ?_
                refine tt_iadd hf dX0_nextOf_48 ?_
                refine tt_top (z' := 3 * n + c) (by omega) ?_
                refine lx_hav hf (by omega) dX0_nextOf_49 ?_
                have hcv := cnt_rng (WL (xkd num mf) (xco num mf) cols many) n c
                refine tt_top (z' := cnt (WL (xkd num mf) (xco num mf) cols many) n c) (hO n c (by omega) (by omega) (by omega) (by omega)) ?_
                refine tt_istore (lv' := [(5, .int (iI (cnt (WL (xkd num mf) (xco num mf) cols many) n c))), (0, .ref o), (1, .int (iI x)), (2, .int (iI y)), (3, .int (iI n)), (4, .int (iI c))]) hf dX0_nextOf_50 (by decide) rfl ?_
                refine tt_iload hf 0 dX0_nextOf_52 rfl ?_
                refine tt_iload_n hf 3 dX0_nextOf_54 rfl ?_
                refine tt_icmp_le (tgt := 68) hf dX0_nextOf_55 (by decide) (by omega) (by omega) (fun c55 => ?_) (fun c55 => ?_)
                · refine tt_iload_n hf 2 dX0_nextOf_68 rfl ?_
                  refine tt_istore_n (lv' := [(1, .int (iI x)), (5, .int (iI (cnt (WL (xkd num mf) (xco num mf) cols many) n c))), (0, .ref o), (2, .int (iI y)), (3, .int (iI n)), (4, .int (iI c))]) hf dX0_nextOf_69 (by decide) rfl ?_
                  refine tt_iload_n hf 3 dX0_nextOf_70 rfl ?_
                  refine tt_iload hf 1 dX0_nextOf_71 rfl ?_
                  refine tt_callS0 (As := [.int (iI y), .int (iI (cnt (WL (xkd num mf) (xco num mf) cols many) n c))]) (rest := []) hf (cj_max (by omega) (by omega)) lk_X0_J0_max hd_J0_max rfl ⟨rfl, rfl⟩ (by decide) (by decide) (Nat.le_of_ble_eq_true rfl) dX0_nextOf_73 rfl (kk_e (fun r73 => ?_))
                  refine tt_istore_n (lv' := [(2, .int (iI (if (cnt (WL (xkd num mf) (xco num mf) cols many) n c) ≤ y then y else (cnt (WL (xkd num mf) (xco num mf) cols many) n c)))), (1, .int (iI x)), (5, .int (iI (cnt (WL (xkd num mf) (xco num mf) cols many) n c))), (0, .ref o), (3, .int (iI n)), (4, .int (iI c))]) hf dX0_nextOf_76 (by decide) rfl ?_
                  refine tt_iinc (lv' := [(4, .int (iI (c + 1))), (2, .int (iI (if (cnt (WL (xkd num mf) (xco num mf) cols many) n c) ≤ y then y else (cnt (WL (xkd num mf) (xco num mf) cols many) n c)))), (1, .int (iI x)), (5, .int (iI (cnt (WL (xkd num mf) (xco num mf) cols many) n c))), (0, .ref o), (3, .int (iI n))]) hf 5 dX0_nextOf_77 rfl (by decide) rfl ?_
                  refine tt_goto (tgt := 17) hf dX0_nextOf_80 (by decide) ?_
                  refine tt_sub [4, 2, 1, 5, 0] rfl ?_
                  exact ih x (if (cnt (WL (xkd num mf) (xco num mf) cols many) n c) ≤ y then y else (cnt (WL (xkd num mf) (xco num mf) cols many) n c)) (c + 1) (by omega) (by split <;> omega) (by omega) (nx_n (by omega) hxy (by omega)) (by omega)
                · refine tt_bipush hf dX0_nextOf_58 (by decide) ?_
                  refine tt_iload_n hf 4 dX0_nextOf_60 rfl ?_
                  refine tt_imul hf dX0_nextOf_61 ?_
                  refine tt_iload hf 5 dX0_nextOf_62 rfl ?_
                  refine tt_iadd hf dX0_nextOf_64 ?_
                  refine tt_goto (tgt := 69) hf dX0_nextOf_65 (by decide) ?_
                  refine tt_istore_n (lv' := [(1, .int (iI ((10 * n) + c))), (5, .int (iI (cnt (WL (xkd num mf) (xco num mf) cols many) n c))), (0, .ref o), (2, .int (iI y)), (3, .int (iI n)), (4, .int (iI c))]) hf dX0_nextOf_69 (by decide) rfl ?_
                  refine tt_iload_n hf 3 dX0_nextOf_70 rfl ?_
                  refine tt_iload hf 1 dX0_nextOf_71 rfl ?_
                  refine tt_callS0 (As := [.int (iI y), .int (iI (cnt (WL (xkd num mf) (xco num mf) cols many) n c))]) (rest := []) hf (cj_max (by omega) (by omega)) lk_X0_J0_max hd_J0_max rfl ⟨rfl, rfl⟩ (by decide) (by decide) (Nat.le_of_ble_eq_true rfl) dX0_nextOf_73 rfl (kk_e (fun r73 => ?_))
                  refine tt_istore_n (lv' := [(2, .int (iI (if (cnt (WL (xkd num mf) (xco num mf) cols many) n c) ≤ y then y else (cnt (WL (xkd num mf) (xco num mf) cols many) n c)))), (1, .int (iI ((10 * n) + c))), (5, .int (iI (cnt (WL (xkd num mf) (xco num mf) cols many) n c))), (0, .ref o), (3, .int (iI n)), (4, .int (iI c))]) hf dX0_nextOf_76 (by decide) rfl ?_
                  refine tt_iinc (lv' := [(4, .int (iI (c + 1))), (2, .int (iI (if (cnt (WL (xkd num mf) (xco num mf) cols many) n c) ≤ y then y else (cnt (WL (xkd num mf) (xco num mf) cols many) n c)))), (1, .int (iI ((10 * n) + c))), (5, .int (iI (cnt (WL (xkd num mf) (xco num mf) cols many) n c))), (0, .ref o), (3, .int (iI n))]) hf 5 dX0_nextOf_77 rfl (by decide) rfl ?_
                  refine tt_goto (tgt := 17) hf dX0_nextOf_80 (by decide) ?_
                  refine tt_sub [4, 2, 1, 5, 0] rfl ?_
                  exact ih ((10 * n) + c) (if (cnt (WL (xkd num mf) (xco num mf) cols many) n c) ≤ y then y else (cnt (WL (xkd num mf) (xco num mf) cols many) n c)) (c + 1) (by omega) (by split <;> omega) (by omega) (nx_y (by omega) hxy (by rw [x0]; exact c36) (by omega)) (by omega)
        refine tt_sub [1, 2, 3, 4, 0] rfl ?_
        exact lp17 _ x y 0 (by omega) hy hx hxy (Nat.lt_succ_self _)
  refine tt_iconst hf dX0_nextOf_0 ?_
  refine tt_istore_n (lv' := [(1, .int (iI (-1))), (0, .ref o)]) hf dX0_nextOf_1 (by decide) rfl ?_
  refine tt_iconst hf dX0_nextOf_2 ?_
  refine tt_istore_n (lv' := [(2, .int (iI 0)), (1, .int (iI (-1))), (0, .ref o)]) hf dX0_nextOf_3 (by decide) rfl ?_
  refine tt_iconst hf dX0_nextOf_4 ?_
  refine tt_istore_n (lv' := [(3, .int (iI 1)), (2, .int (iI 0)), (1, .int (iI (-1))), (0, .ref o)]) hf dX0_nextOf_5 (by decide) rfl ?_
  refine tt_sub [3, 2, 1, 0] rfl ?_
  exact lp _ (-1) 0 1 (by omega) (by omega) (by omega) rfl (Nat.lt_succ_self _)
set_option maxHeartbeats 4000000 in
set_option maxRecDepth 100000 in
theorem cx_tellWays {l : Launch} {g : tG} {o : Nat} {ax : Nat → Nat} {num kpt : Int → Option Nat} {many cols chg brd old : Int} {page : Int → Int} {pgM told enD : Int} {row : Int → Int} {ways far : Int} {hav : Int → Int} {wtd : Int} {fnd : Int → Int} {mdT wnT : Int} {sN sW sC : Int → Int} {sM drw : Int} {kN kW kC : Int → Int} {kS kG kB : Int} {hh : Int64} {L : List Nat} {mf : Nat → Nat × Int × Int × Int} {wh : Int} (hm : 0 ≤ many ∧ many ≤ 10) (hc : 2 ≤ cols ∧ cols ≤ 3) (hB : xB many num L mf) (hcc : ∀ i, 1 ≤ i → i ≤ many → (xco num mf) i ≤ cols - 1) (hrow : ∀ i, -1 ≤ row i ∧ row i ≤ 2) (ho : old = 0 ∨ old = 1) (hC : xC (xkd num mf) (xco num mf) cols many old ways far hav mdT wnT) (hwh : 0 ≤ wh ∧ wh ≤ 2) : Ci l g yX0_tellWays (ws_ yX0_tellWays cX0_tellWays 2 (Option.some Jvm.ClassFile.FieldType.int)) (rmL 32) [.ref o, .int (iI wh)] (xW g o ax num kpt many cols chg brd old page pgM told enD row ways far hav wtd fnd mdT wnT sN sW sC sM drw kN kW kC kS kG kB hh L mf) (fun r w => ∃ (row1 hav1 : Int → Int) (wtd1 : Int) (fnd1 : Int → Int), (∀ i, -1 ≤ row1 i ∧ row1 i ≤ 2) ∧ cntOk (xkd num mf) (xco num mf) cols many hav1 ∧ r = wyE (xkd num mf) (xco num mf) cols many wh ∧ w = xW g o ax num kpt many cols chg brd 0 page pgM told enD row1 (((WL (xkd num mf) (xco num mf) cols many).length : Int)) (frN (xkd num mf) (xco num mf) cols many.toNat) hav1 wtd1 fnd1 (mdE (xkd num mf) (xco num mf) cols many) (winE (xkd num mf) (xco num mf) cols many) sN sW sC sM drw kN kW kC kS kG kB hh L mf) := by
  refine Ct.of (by decide) (Nat.le_of_ble_eq_true rfl) ?_
  intro Γ hl hg hf hrT
  subst hl hg
  have hf : Fx Γ RX0 cX0_tellWays 2 := hf
  show T Γ (rmL 32) 2 0 0 (Qe Γ (rmL 32) _) _ 0 [(0, .ref o), (1, .int (iI wh))] []
  have hlen := WL_len59 (kd := (xkd num mf)) (co := (xco num mf)) (cols := cols) (many := many) (by omega) (by omega)
  have hfrn := frN_rng (xkd num mf) (xco num mf) cols many.toNat
  refine tt_aload_n hf 0 dX0_tellWays_0 rfl ?_
  refine tt_callV0 (As := []) (rest := []) (q0 := 0) (ci := 0) hf (cx_freshen hm hc hB hcc hrow ho hC) lk_X0_X0_freshen hd_X0_freshen rfl rfl rfl ⟨rfl, rfl⟩ (by decide) (by decide) (Nat.le_of_ble_eq_true rfl) dX0_tellWays_1 rfl (kk_v (fun w hp1 => ?_))
  obtain ⟨row1, hav1, wtd1, fnd1, q1, o1, rfl⟩ := hp1
  refine tt_iload_n hf 1 dX0_tellWays_4 rfl ?_
  refine tt_if_ne (tgt := 15) hf dX0_tellWays_5 (by decide) (by omega) (fun c5 => ?_) (fun c5 => ?_)
  · refine tt_iload_n hf 1 dX0_tellWays_15 rfl ?_
    refine tt_iconst hf dX0_tellWays_16 ?_
    refine tt_icmp_ne (tgt := 27) hf dX0_tellWays_17 (by decide) (by omega) (by omega) (fun c17 => ?_) (fun c17 => ?_)
    · refine tt_aload_n hf 0 dX0_tellWays_27 rfl ?_
      refine gx_far hf dX0_tellWays_28 ?_
      exact tt_ireti hf hrT dX0_tellWays_31 (Nat.le_refl _) (Nat.le_refl _) (by omega) ⟨row1, hav1, wtd1, fnd1, q1, o1, by unfold wyE; rw [if_neg c5, if_neg c17], rfl⟩
    · refine tt_aload_n hf 0 dX0_tellWays_20 rfl ?_
      refine tt_callV0 (As := []) (rest := []) (q0 := 0) (ci := 0) hf (cx_nextOf hm hc hB o1) lk_X0_X0_nextOf hd_X0_nextOf rfl rfl rfl ⟨rfl, rfl⟩ (by decide) (by decide) (Nat.le_of_ble_eq_true rfl) dX0_tellWays_21 rfl (kk_e (fun r21 => ?_))
      refine tt_goto (tgt := 31) hf dX0_tellWays_24 (by decide) ?_
      exact tt_ireti hf hrT dX0_tellWays_31 (Nat.le_refl _) (Nat.le_refl _) r21 ⟨row1, hav1, wtd1, fnd1, q1, o1, by unfold wyE; rw [if_neg c5, if_pos c17], rfl⟩
  · refine tt_aload_n hf 0 dX0_tellWays_8 rfl ?_
    refine gx_ways hf dX0_tellWays_9 ?_
    refine tt_goto (tgt := 31) hf dX0_tellWays_12 (by decide) ?_
    exact tt_ireti hf hrT dX0_tellWays_31 (Nat.le_refl _) (Nat.le_refl _) (by omega) ⟨row1, hav1, wtd1, fnd1, q1, o1, by unfold wyE; rw [if_pos c5], rfl⟩
set_option maxHeartbeats 4000000 in
set_option maxRecDepth 100000 in
theorem cx_ways {l : Launch} {g : tG} {o : Nat} {ax : Nat → Nat} {num kpt : Int → Option Nat} {many cols chg brd old : Int} {page : Int → Int} {pgM told enD : Int} {row : Int → Int} {ways far : Int} {hav : Int → Int} {wtd : Int} {fnd : Int → Int} {mdT wnT : Int} {sN sW sC : Int → Int} {sM drw : Int} {kN kW kC : Int → Int} {kS kG kB : Int} {hh : Int64} {L : List Nat} {mf : Nat → Nat × Int × Int × Int} {wh : Int} (hm : 0 ≤ many ∧ many ≤ 10) (hcl : 0 < many → 2 ≤ cols ∧ cols ≤ 3) (hB : xB many num L mf) (hcc : ∀ i, 1 ≤ i → i ≤ many → (xco num mf) i ≤ cols - 1) (hrow : ∀ i, -1 ≤ row i ∧ row i ≤ 2) (ho : old = 0 ∨ old = 1) (hC : xC (xkd num mf) (xco num mf) cols many old ways far hav mdT wnT) (hwh : iR wh) : Ci l g yX0_ways (ws_ yX0_ways cX0_ways 2 (Option.some Jvm.ClassFile.FieldType.int)) (rmL 33) [.ref o, .int (iI wh)] (xW g o ax num kpt many cols chg brd old page pgM told enD row ways far hav wtd fnd mdT wnT sN sW sC sM drw kN kW kC kS kG kB hh L mf) (fun r w => ∃ (old1 : Int) (row1 : Int → Int) (ways1 far1 : Int) (hav1 : Int → Int) (wtd1 : Int) (fnd1 : Int → Int) (mdT1 wnT1 : Int), (∀ i, -1 ≤ row1 i ∧ row1 i ≤ 2) ∧ (old1 = 0 ∨ old1 = 1) ∧ xC (xkd num mf) (xco num mf) cols many old1 ways1 far1 hav1 mdT1 wnT1 ∧ r = (if 0 ≤ wh ∧ wh ≤ 2 then (if many = 0 then -103 else wyE (xkd num mf) (xco num mf) cols many wh) else -102) ∧ w = xW g o ax num kpt many cols chg brd old1 page pgM told enD row1 ways1 far1 hav1 wtd1 fnd1 mdT1 wnT1 sN sW sC sM drw kN kW kC kS kG kB hh L mf) := by
  refine Ct.of (by decide) (Nat.le_of_ble_eq_true rfl) ?_
  intro Γ hl hg hf hrT
  subst hl hg
  have hf : Fx Γ RX0 cX0_ways 2 := hf
  show T Γ (rmL 33) 2 0 0 (Qe Γ (rmL 33) _) _ 0 [(0, .ref o), (1, .int (iI wh))] []
  refine tt_iload_n hf 1 dX0_ways_0 rfl ?_
  refine tt_i2l hf dX0_ways_1 ?_
  refine tt_topl (x' := lI wh) (lI_of (by omega)) ?_
  refine tt_lconst hf dX0_ways_2 ?_
  refine tt_topl (x' := lI 0) (by decide) ?_
  refine tt_ldc2 hf q304 dX0_ways_3 ?_
  refine tt_topl (x' := lI 2) (by decide) ?_
  refine tt_callS0 (As := [.long (lI wh), .long (lI 0), .long (lI 2)]) (rest := []) hf (cx_isIn (v := wh) (lo := 0) (hi := 2) (by omega) (by omega) (by omega)) lk_X0_X0_isIn hd_X0_isIn rfl ⟨rfl, rfl⟩ (by decide) (by decide) (Nat.le_of_ble_eq_true rfl) dX0_ways_6 rfl (kk_e (fun r6 => ?_))
  refine tt_ifb_ne (tgt := 15) hf dX0_ways_9 (by decide) (fun c9 => ?_) (fun c9 => ?_)
  · refine tt_aload_n hf 0 dX0_ways_15 rfl ?_
    refine gx_many hf dX0_ways_16 ?_
    refine tt_if_le (tgt := 30) hf dX0_ways_19 (by decide) (by omega) (fun c19 => ?_) (fun c19 => ?_)
    · refine tt_bipush hf dX0_ways_30 (by decide) ?_
      exact tt_ireti hf hrT dX0_ways_32 (Nat.le_refl _) (Nat.le_refl _) (by omega) ⟨old, row, ways, far, hav, wtd, fnd, mdT, wnT, hrow, ho, hC, by rw [if_pos c9, if_pos (by omega)], rfl⟩
    · have hc := hcl (by omega)
      refine tt_aload_n hf 0 dX0_ways_22 rfl ?_
      refine tt_iload_n hf 1 dX0_ways_23 rfl ?_
      refine tt_callV0 (As := [.int (iI wh)]) (rest := []) (q0 := 0) (ci := 0) hf (cx_tellWays hm hc hB hcc hrow ho hC (by omega)) lk_X0_X0_tellWays hd_X0_tellWays rfl rfl rfl ⟨rfl, rfl⟩ (by decide) (by decide) (Nat.le_of_ble_eq_true rfl) dX0_ways_24 rfl (kk_i (fun r24 w hr24 hp24 => ?_))
      obtain ⟨row24, hav24, wtd24, fnd24, q24, o24, e24, rfl⟩ := hp24
      refine tt_goto (tgt := 32) hf dX0_ways_27 (by decide) ?_
      exact tt_ireti hf hrT dX0_ways_32 (Nat.le_refl _) (Nat.le_refl _) hr24 ⟨0, row24, _, _, hav24, wtd24, fnd24, _, _, q24, Or.inl rfl, fun _ => ⟨rfl, rfl, o24, rfl, rfl⟩, by rw [if_pos c9, if_neg (by omega)]; exact e24, rfl⟩
  · refine tt_bipush hf dX0_ways_12 (by decide) ?_
    exact tt_ireti hf hrT dX0_ways_14 (Nat.le_refl _) (Nat.le_refl _) (by omega) ⟨old, row, ways, far, hav, wtd, fnd, mdT, wnT, hrow, ho, hC, by rw [if_neg c9], rfl⟩
theorem mdE_rng {kd co : Int → Int} {cols many : Int} (hm : 0 ≤ many ∧ many ≤ 10) : -1 ≤ mdE kd co cols many ∧ mdE kd co cols many ≤ 10 := by
  unfold mdE
  obtain ⟨m1, m2, m3⟩ := mdF_is (co := co) (many := many) (WL kd (fun _ => -1) cols many) 268435456
  split
  · omega
  · rcases m3 with q | ⟨x, x1, x2⟩
    · omega
    · have := dfN_rng co x many.toNat
      omega
theorem wnX_rng {kd : Int → Int} {cols many : Int} (hc : 0 ≤ cols ∧ cols ≤ 3) : ∀ (g : Nat) (row : Int → Int), -1 ≤ wnX kd cols many g row ∧ wnX kd cols many g row ≤ 2
  | 0, _ => by simp [wnX]
  | g + 1, row => by
    simp only [wnX]
    split
    · have := fC_rng (cols := cols) (P := fun c => decide (bu kd (uI row (fb row many.toNat 1) c) many.toNat = 0 ∧ wnX kd cols many g (uI row (fb row many.toNat 1) c) = -1)) cols.toNat (by omega)
      omega
    · omega
theorem winE_rng {kd co : Int → Int} {cols many : Int} (hc : 0 ≤ cols ∧ cols ≤ 3) : -1 ≤ winE kd co cols many ∧ winE kd co cols many ≤ 2 := by
  unfold winE
  split
  · omega
  · exact wnX_rng hc 10 co
set_option maxHeartbeats 4000000 in
set_option maxRecDepth 100000 in
theorem cx_tellMend {l : Launch} {g : tG} {o : Nat} {ax : Nat → Nat} {num kpt : Int → Option Nat} {many cols chg brd old : Int} {page : Int → Int} {pgM told enD : Int} {row : Int → Int} {ways far : Int} {hav : Int → Int} {wtd : Int} {fnd : Int → Int} {mdT wnT : Int} {sN sW sC : Int → Int} {sM drw : Int} {kN kW kC : Int → Int} {kS kG kB : Int} {hh : Int64} {L : List Nat} {mf : Nat → Nat × Int × Int × Int}  (hm : 0 ≤ many ∧ many ≤ 10) (hc : 2 ≤ cols ∧ cols ≤ 3) (hB : xB many num L mf) (hcc : ∀ i, 1 ≤ i → i ≤ many → (xco num mf) i ≤ cols - 1) (hrow : ∀ i, -1 ≤ row i ∧ row i ≤ 2) (ho : old = 0 ∨ old = 1) (hC : xC (xkd num mf) (xco num mf) cols many old ways far hav mdT wnT) : Ci l g yX0_tellMend (ws_ yX0_tellMend cX0_tellMend 1 (Option.some Jvm.ClassFile.FieldType.int)) (rmL 32) [.ref o] (xW g o ax num kpt many cols chg brd old page pgM told enD row ways far hav wtd fnd mdT wnT sN sW sC sM drw kN kW kC kS kG kB hh L mf) (fun r w => ∃ (row1 hav1 : Int → Int) (wtd1 : Int) (fnd1 : Int → Int), (∀ i, -1 ≤ row1 i ∧ row1 i ≤ 2) ∧ cntOk (xkd num mf) (xco num mf) cols many hav1 ∧ r = mdE (xkd num mf) (xco num mf) cols many ∧ w = xW g o ax num kpt many cols chg brd 0 page pgM told enD row1 (((WL (xkd num mf) (xco num mf) cols many).length : Int)) (frN (xkd num mf) (xco num mf) cols many.toNat) hav1 wtd1 fnd1 (mdE (xkd num mf) (xco num mf) cols many) (winE (xkd num mf) (xco num mf) cols many) sN sW sC sM drw kN kW kC kS kG kB hh L mf) := by
  refine Ct.of (by decide) (Nat.le_of_ble_eq_true rfl) ?_
  intro Γ hl hg hf hrT
  subst hl hg
  have hf : Fx Γ RX0 cX0_tellMend 1 := hf
  show T Γ (rmL 32) 1 0 0 (Qe Γ (rmL 32) _) _ 0 [(0, .ref o)] []
  have hmr := mdE_rng (kd := (xkd num mf)) (co := (xco num mf)) (cols := cols) hm
  refine tt_aload_n hf 0 dX0_tellMend_0 rfl ?_
  refine tt_callV0 (As := []) (rest := []) (q0 := 0) (ci := 0) hf (cx_freshen hm hc hB hcc hrow ho hC) lk_X0_X0_freshen hd_X0_freshen rfl rfl rfl ⟨rfl, rfl⟩ (by decide) (by decide) (Nat.le_of_ble_eq_true rfl) dX0_tellMend_1 rfl (kk_v (fun w hp1 => ?_))
  obtain ⟨row1, hav1, wtd1, fnd1, q1, o1, rfl⟩ := hp1
  refine tt_aload_n hf 0 dX0_tellMend_4 rfl ?_
  refine gx_mdT hf dX0_tellMend_5 ?_
  exact tt_ireti hf hrT dX0_tellMend_8 (Nat.le_refl _) (Nat.le_refl _) (by omega) ⟨row1, hav1, wtd1, fnd1, q1, o1, rfl, rfl⟩
set_option maxHeartbeats 4000000 in
set_option maxRecDepth 100000 in
theorem cx_mend {l : Launch} {g : tG} {o : Nat} {ax : Nat → Nat} {num kpt : Int → Option Nat} {many cols chg brd old : Int} {page : Int → Int} {pgM told enD : Int} {row : Int → Int} {ways far : Int} {hav : Int → Int} {wtd : Int} {fnd : Int → Int} {mdT wnT : Int} {sN sW sC : Int → Int} {sM drw : Int} {kN kW kC : Int → Int} {kS kG kB : Int} {hh : Int64} {L : List Nat} {mf : Nat → Nat × Int × Int × Int}  (hm : 0 ≤ many ∧ many ≤ 10) (hcl : 0 < many → 2 ≤ cols ∧ cols ≤ 3) (hB : xB many num L mf) (hcc : ∀ i, 1 ≤ i → i ≤ many → (xco num mf) i ≤ cols - 1) (hrow : ∀ i, -1 ≤ row i ∧ row i ≤ 2) (ho : old = 0 ∨ old = 1) (hC : xC (xkd num mf) (xco num mf) cols many old ways far hav mdT wnT) : Ci l g yX0_mend (ws_ yX0_mend cX0_mend 1 (Option.some Jvm.ClassFile.FieldType.int)) (rmL 33) [.ref o] (xW g o ax num kpt many cols chg brd old page pgM told enD row ways far hav wtd fnd mdT wnT sN sW sC sM drw kN kW kC kS kG kB hh L mf) (fun r w => ∃ (old1 : Int) (row1 : Int → Int) (ways1 far1 : Int) (hav1 : Int → Int) (wtd1 : Int) (fnd1 : Int → Int) (mdT1 wnT1 : Int), (∀ i, -1 ≤ row1 i ∧ row1 i ≤ 2) ∧ (old1 = 0 ∨ old1 = 1) ∧ xC (xkd num mf) (xco num mf) cols many old1 ways1 far1 hav1 mdT1 wnT1 ∧ r = (if many = 0 then -103 else mdE (xkd num mf) (xco num mf) cols many) ∧ w = xW g o ax num kpt many cols chg brd old1 page pgM told enD row1 ways1 far1 hav1 wtd1 fnd1 mdT1 wnT1 sN sW sC sM drw kN kW kC kS kG kB hh L mf) := by
  refine Ct.of (by decide) (Nat.le_of_ble_eq_true rfl) ?_
  intro Γ hl hg hf hrT
  subst hl hg
  have hf : Fx Γ RX0 cX0_mend 1 := hf
  show T Γ (rmL 33) 1 0 0 (Qe Γ (rmL 33) _) _ 0 [(0, .ref o)] []
  refine tt_aload_n hf 0 dX0_mend_0 rfl ?_
  refine gx_many hf dX0_mend_1 ?_
  refine tt_if_le (tgt := 14) hf dX0_mend_4 (by decide) (by omega) (fun c4 => ?_) (fun c4 => ?_)
  · refine tt_bipush hf dX0_mend_14 (by decide) ?_
    exact tt_ireti hf hrT dX0_mend_16 (Nat.le_refl _) (Nat.le_refl _) (by omega) ⟨old, row, ways, far, hav, wtd, fnd, mdT, wnT, hrow, ho, hC, by rw [if_pos (by omega)], rfl⟩
  · have hc := hcl (by omega)
    refine tt_aload_n hf 0 dX0_mend_7 rfl ?_
    refine tt_callV0 (As := []) (rest := []) (q0 := 0) (ci := 0) hf (cx_tellMend hm hc hB hcc hrow ho hC) lk_X0_X0_tellMend hd_X0_tellMend rfl rfl rfl ⟨rfl, rfl⟩ (by decide) (by decide) (Nat.le_of_ble_eq_true rfl) dX0_mend_8 rfl (kk_i (fun r8 w hr8 hp8 => ?_))
    obtain ⟨row8, hav8, wtd8, fnd8, q8, o8, e8, rfl⟩ := hp8
    refine tt_goto (tgt := 16) hf dX0_mend_11 (by decide) ?_
    exact tt_ireti hf hrT dX0_mend_16 (Nat.le_refl _) (Nat.le_refl _) hr8 ⟨0, row8, _, _, hav8, wtd8, fnd8, _, _, q8, Or.inl rfl, fun _ => ⟨rfl, rfl, o8, rfl, rfl⟩, by rw [if_neg (by omega)]; exact e8, rfl⟩
set_option maxHeartbeats 4000000 in
set_option maxRecDepth 100000 in
theorem cx_tellWins {l : Launch} {g : tG} {o : Nat} {ax : Nat → Nat} {num kpt : Int → Option Nat} {many cols chg brd old : Int} {page : Int → Int} {pgM told enD : Int} {row : Int → Int} {ways far : Int} {hav : Int → Int} {wtd : Int} {fnd : Int → Int} {mdT wnT : Int} {sN sW sC : Int → Int} {sM drw : Int} {kN kW kC : Int → Int} {kS kG kB : Int} {hh : Int64} {L : List Nat} {mf : Nat → Nat × Int × Int × Int} {wh : Int} (hm : 0 ≤ many ∧ many ≤ 10) (hc : 2 ≤ cols ∧ cols ≤ 3) (hB : xB many num L mf) (hcc : ∀ i, 1 ≤ i → i ≤ many → (xco num mf) i ≤ cols - 1) (hrow : ∀ i, -1 ≤ row i ∧ row i ≤ 2) (ho : old = 0 ∨ old = 1) (hC : xC (xkd num mf) (xco num mf) cols many old ways far hav mdT wnT) (hwh : iR wh) : Ci l g yX0_tellWins (ws_ yX0_tellWins cX0_tellWins 2 (Option.some Jvm.ClassFile.FieldType.int)) (rmL 32) [.ref o, .int (iI wh)] (xW g o ax num kpt many cols chg brd old page pgM told enD row ways far hav wtd fnd mdT wnT sN sW sC sM drw kN kW kC kS kG kB hh L mf) (fun r w => ∃ (row1 hav1 : Int → Int) (wtd1 : Int) (fnd1 : Int → Int), (∀ i, -1 ≤ row1 i ∧ row1 i ≤ 2) ∧ cntOk (xkd num mf) (xco num mf) cols many hav1 ∧ r = wnsE (xkd num mf) (xco num mf) cols many wh ∧ w = xW g o ax num kpt many cols chg brd 0 page pgM told enD row1 (((WL (xkd num mf) (xco num mf) cols many).length : Int)) (frN (xkd num mf) (xco num mf) cols many.toNat) hav1 wtd1 fnd1 (mdE (xkd num mf) (xco num mf) cols many) (winE (xkd num mf) (xco num mf) cols many) sN sW sC sM drw kN kW kC kS kG kB hh L mf) := by
  refine Ct.of (by decide) (Nat.le_of_ble_eq_true rfl) ?_
  intro Γ hl hg hf hrT
  subst hl hg
  have hf : Fx Γ RX0 cX0_tellWins 2 := hf
  show T Γ (rmL 32) 2 0 0 (Qe Γ (rmL 32) _) _ 0 [(0, .ref o), (1, .int (iI wh))] []
  have hwr := winE_rng (kd := (xkd num mf)) (co := (xco num mf)) (cols := cols) (many := many) (by omega)
  refine tt_aload_n hf 0 dX0_tellWins_0 rfl ?_
  refine tt_callV0 (As := []) (rest := []) (q0 := 0) (ci := 0) hf (cx_freshen hm hc hB hcc hrow ho hC) lk_X0_X0_freshen hd_X0_freshen rfl rfl rfl ⟨rfl, rfl⟩ (by decide) (by decide) (Nat.le_of_ble_eq_true rfl) dX0_tellWins_1 rfl (kk_v (fun w hp1 => ?_))
  obtain ⟨row1, hav1, wtd1, fnd1, q1, o1, rfl⟩ := hp1
  refine tt_iload_n hf 1 dX0_tellWins_4 rfl ?_
  refine tt_iconst hf dX0_tellWins_5 ?_
  refine tt_icmp_ne (tgt := 16) hf dX0_tellWins_6 (by decide) (by omega) (by omega) (fun c6 => ?_) (fun c6 => ?_)
  · refine tt_aload_n hf 0 dX0_tellWins_16 rfl ?_
    refine gx_wnT hf dX0_tellWins_17 ?_
    refine tt_iconst hf dX0_tellWins_20 ?_
    refine tt_icmp_ne (tgt := 28) hf dX0_tellWins_21 (by decide) (by omega) (by omega) (fun c21 => ?_) (fun c21 => ?_)
    · refine tt_iconst hf dX0_tellWins_28 ?_
      exact tt_ireti hf hrT dX0_tellWins_29 (Nat.le_refl _) (Nat.le_refl _) (by omega) ⟨row1, hav1, wtd1, fnd1, q1, o1, by unfold wnsE; rw [if_neg c6, if_neg c21], rfl⟩
    · refine tt_iconst hf dX0_tellWins_24 ?_
      refine tt_goto (tgt := 29) hf dX0_tellWins_25 (by decide) ?_
      exact tt_ireti hf hrT dX0_tellWins_29 (Nat.le_refl _) (Nat.le_refl _) (by omega) ⟨row1, hav1, wtd1, fnd1, q1, o1, by unfold wnsE; rw [if_neg c6, if_pos c21], rfl⟩
  · refine tt_aload_n hf 0 dX0_tellWins_9 rfl ?_
    refine gx_wnT hf dX0_tellWins_10 ?_
    refine tt_goto (tgt := 29) hf dX0_tellWins_13 (by decide) ?_
    exact tt_ireti hf hrT dX0_tellWins_29 (Nat.le_refl _) (Nat.le_refl _) (by omega) ⟨row1, hav1, wtd1, fnd1, q1, o1, by unfold wnsE; rw [if_pos c6], rfl⟩
set_option maxHeartbeats 4000000 in
set_option maxRecDepth 100000 in
theorem cx_wins {l : Launch} {g : tG} {o : Nat} {ax : Nat → Nat} {num kpt : Int → Option Nat} {many cols chg brd old : Int} {page : Int → Int} {pgM told enD : Int} {row : Int → Int} {ways far : Int} {hav : Int → Int} {wtd : Int} {fnd : Int → Int} {mdT wnT : Int} {sN sW sC : Int → Int} {sM drw : Int} {kN kW kC : Int → Int} {kS kG kB : Int} {hh : Int64} {L : List Nat} {mf : Nat → Nat × Int × Int × Int} {wh : Int} (hm : 0 ≤ many ∧ many ≤ 10) (hcl : 0 < many → 2 ≤ cols ∧ cols ≤ 3) (hB : xB many num L mf) (hcc : ∀ i, 1 ≤ i → i ≤ many → (xco num mf) i ≤ cols - 1) (hrow : ∀ i, -1 ≤ row i ∧ row i ≤ 2) (ho : old = 0 ∨ old = 1) (hC : xC (xkd num mf) (xco num mf) cols many old ways far hav mdT wnT) (hwh : iR wh) : Ci l g yX0_wins (ws_ yX0_wins cX0_wins 2 (Option.some Jvm.ClassFile.FieldType.int)) (rmL 33) [.ref o, .int (iI wh)] (xW g o ax num kpt many cols chg brd old page pgM told enD row ways far hav wtd fnd mdT wnT sN sW sC sM drw kN kW kC kS kG kB hh L mf) (fun r w => ∃ (old1 : Int) (row1 : Int → Int) (ways1 far1 : Int) (hav1 : Int → Int) (wtd1 : Int) (fnd1 : Int → Int) (mdT1 wnT1 : Int), (∀ i, -1 ≤ row1 i ∧ row1 i ≤ 2) ∧ (old1 = 0 ∨ old1 = 1) ∧ xC (xkd num mf) (xco num mf) cols many old1 ways1 far1 hav1 mdT1 wnT1 ∧ r = (if 0 ≤ wh ∧ wh ≤ 1 then (if many = 0 then -103 else wnsE (xkd num mf) (xco num mf) cols many wh) else -102) ∧ w = xW g o ax num kpt many cols chg brd old1 page pgM told enD row1 ways1 far1 hav1 wtd1 fnd1 mdT1 wnT1 sN sW sC sM drw kN kW kC kS kG kB hh L mf) := by
  refine Ct.of (by decide) (Nat.le_of_ble_eq_true rfl) ?_
  intro Γ hl hg hf hrT
  subst hl hg
  have hf : Fx Γ RX0 cX0_wins 2 := hf
  show T Γ (rmL 33) 2 0 0 (Qe Γ (rmL 33) _) _ 0 [(0, .ref o), (1, .int (iI wh))] []
  refine tt_iload_n hf 1 dX0_wins_0 rfl ?_
  refine tt_i2l hf dX0_wins_1 ?_
  refine tt_topl (x' := lI wh) (lI_of (by omega)) ?_
  refine tt_lconst hf dX0_wins_2 ?_
  refine tt_topl (x' := lI 0) (by decide) ?_
  refine tt_lconst hf dX0_wins_3 ?_
  refine tt_topl (x' := lI 1) (by decide) ?_
  refine tt_callS0 (As := [.long (lI wh), .long (lI 0), .long (lI 1)]) (rest := []) hf (cx_isIn (v := wh) (lo := 0) (hi := 1) (by omega) (by omega) (by omega)) lk_X0_X0_isIn hd_X0_isIn rfl ⟨rfl, rfl⟩ (by decide) (by decide) (Nat.le_of_ble_eq_true rfl) dX0_wins_4 rfl (kk_e (fun r4 => ?_))
  refine tt_ifb_ne (tgt := 13) hf dX0_wins_7 (by decide) (fun c7 => ?_) (fun c7 => ?_)
  · refine tt_aload_n hf 0 dX0_wins_13 rfl ?_
    refine gx_many hf dX0_wins_14 ?_
    refine tt_if_le (tgt := 28) hf dX0_wins_17 (by decide) (by omega) (fun c17 => ?_) (fun c17 => ?_)
    · refine tt_bipush hf dX0_wins_28 (by decide) ?_
      exact tt_ireti hf hrT dX0_wins_30 (Nat.le_refl _) (Nat.le_refl _) (by omega) ⟨old, row, ways, far, hav, wtd, fnd, mdT, wnT, hrow, ho, hC, by rw [if_pos c7, if_pos (by omega)], rfl⟩
    · have hc := hcl (by omega)
      refine tt_aload_n hf 0 dX0_wins_20 rfl ?_
      refine tt_iload_n hf 1 dX0_wins_21 rfl ?_
      refine tt_callV0 (As := [.int (iI wh)]) (rest := []) (q0 := 0) (ci := 0) hf (cx_tellWins hm hc hB hcc hrow ho hC (by omega)) lk_X0_X0_tellWins hd_X0_tellWins rfl rfl rfl ⟨rfl, rfl⟩ (by decide) (by decide) (Nat.le_of_ble_eq_true rfl) dX0_wins_22 rfl (kk_i (fun r22 w hr22 hp22 => ?_))
      obtain ⟨row22, hav22, wtd22, fnd22, q22, o22, e22, rfl⟩ := hp22
      refine tt_goto (tgt := 30) hf dX0_wins_25 (by decide) ?_
      exact tt_ireti hf hrT dX0_wins_30 (Nat.le_refl _) (Nat.le_refl _) hr22 ⟨0, row22, _, _, hav22, wtd22, fnd22, _, _, q22, Or.inl rfl, fun _ => ⟨rfl, rfl, o22, rfl, rfl⟩, by rw [if_pos c7, if_neg (by omega)]; exact e22, rfl⟩
  · refine tt_bipush hf dX0_wins_10 (by decide) ?_
    exact tt_ireti hf hrT dX0_wins_12 (Nat.le_refl _) (Nat.le_refl _) (by omega) ⟨old, row, ways, far, hav, wtd, fnd, mdT, wnT, hrow, ho, hC, by rw [if_neg c7], rfl⟩
