section XB
variable {Γ : tX} {R : Room} {nL k n : Nat} {Q : State → Prop} {pc : Nat} {lv : List (Nat × Value)} {st : List Value} {cc : ByteArray}
variable {o : Nat} {ax : Nat → Nat} {num kpt : Int → Option Nat} {many cols chg brd old : Int} {page : Int → Int} {pgM told enD : Int} {row : Int → Int} {ways far : Int} {hav : Int → Int} {wtd : Int} {fnd : Int → Int} {mdT wnT : Int} {sN sW sC : Int → Int} {sM drw : Int} {kN kW kC : Int → Int} {kS kG kB : Int} {hh : Int64} {L : List Nat} {mf : Nat → Nat × Int × Int × Int}
theorem gm1_name (hf : Fx Γ RX1 cc nL) {a : Nat} (ha : a ∈ L) (hk : (mf a).1 < 5) (d : decode cc pc = .ok (.getfield 7, 3)) (kk : T Γ R nL k n Q (xW (xg Γ) o ax num kpt many cols chg brd old page pgM told enD row ways far hav wtd fnd mdT wnT sN sW sC sM drw kN kW kC kS kG kB hh L mf) (pc + 3) lv (.int (iI (mf a).2.1) :: st)) : T Γ R nL k n Q (xW (xg Γ) o ax num kpt many cols chg brd old page pgM told enD row ways far hav wtd fnd mdT wnT sN sW sC sM drw kN kW kC kS kG kB hh L mf) pc lv (.ref a :: st) := by
  obtain ⟨j, hj⟩ := (xm_j ha : ∃ j : Nat, (xW (xg Γ) o ax num kpt many cols chg brd old page pgM told enD row ways far hav wtd fnd mdT wnT sN sW sC sM drw kN kW kC kS kG kB hh L mf)[j]? = some (a, mE (mf a)))
  exact tt_getm hf j hj hk 0 (by decide) q102 rfl d kk
theorem pm1_name (hf : Fx Γ RX1 cc nL) {a : Nat} (ha : a ∈ L) (hk : (mf a).1 < 5) (d : decode cc pc = .ok (.putfield 7, 3)) {v : Int} (kk : T Γ R nL k n Q (xW (xg Γ) o ax num kpt many cols chg brd old page pgM told enD row ways far hav wtd fnd mdT wnT sN sW sC sM drw kN kW kC kS kG kB hh L (va_up mf a ((mf a).1, v, (mf a).2.2))) (pc + 3) lv st) : T Γ R nL k n Q (xW (xg Γ) o ax num kpt many cols chg brd old page pgM told enD row ways far hav wtd fnd mdT wnT sN sW sC sM drw kN kW kC kS kG kB hh L mf) pc lv (.int (iI v) :: .ref a :: st) := by
  obtain ⟨j, hj⟩ := (xm_j ha : ∃ j : Nat, (xW (xg Γ) o ax num kpt many cols chg brd old page pgM told enD row ways far hav wtd fnd mdT wnT sN sW sC sM drw kN kW kC kS kG kB hh L mf)[j]? = some (a, mE (mf a)))
  exact tt_putm hf j hj hk 0 (by decide) q102 d (fun hD => xm_set hD ha hj) kk
theorem gm1_colour (hf : Fx Γ RX1 cc nL) {a : Nat} (ha : a ∈ L) (hk : (mf a).1 < 5) (d : decode cc pc = .ok (.getfield 13, 3)) (kk : T Γ R nL k n Q (xW (xg Γ) o ax num kpt many cols chg brd old page pgM told enD row ways far hav wtd fnd mdT wnT sN sW sC sM drw kN kW kC kS kG kB hh L mf) (pc + 3) lv (.int (iI (mf a).2.2.1) :: st)) : T Γ R nL k n Q (xW (xg Γ) o ax num kpt many cols chg brd old page pgM told enD row ways far hav wtd fnd mdT wnT sN sW sC sM drw kN kW kC kS kG kB hh L mf) pc lv (.ref a :: st) := by
  obtain ⟨j, hj⟩ := (xm_j ha : ∃ j : Nat, (xW (xg Γ) o ax num kpt many cols chg brd old page pgM told enD row ways far hav wtd fnd mdT wnT sN sW sC sM drw kN kW kC kS kG kB hh L mf)[j]? = some (a, mE (mf a)))
  exact tt_getm hf j hj hk 1 (by decide) q112 rfl d kk
theorem pm1_colour (hf : Fx Γ RX1 cc nL) {a : Nat} (ha : a ∈ L) (hk : (mf a).1 < 5) (d : decode cc pc = .ok (.putfield 13, 3)) {v : Int} (kk : T Γ R nL k n Q (xW (xg Γ) o ax num kpt many cols chg brd old page pgM told enD row ways far hav wtd fnd mdT wnT sN sW sC sM drw kN kW kC kS kG kB hh L (va_up mf a ((mf a).1, (mf a).2.1, v, (mf a).2.2.2))) (pc + 3) lv st) : T Γ R nL k n Q (xW (xg Γ) o ax num kpt many cols chg brd old page pgM told enD row ways far hav wtd fnd mdT wnT sN sW sC sM drw kN kW kC kS kG kB hh L mf) pc lv (.int (iI v) :: .ref a :: st) := by
  obtain ⟨j, hj⟩ := (xm_j ha : ∃ j : Nat, (xW (xg Γ) o ax num kpt many cols chg brd old page pgM told enD row ways far hav wtd fnd mdT wnT sN sW sC sM drw kN kW kC kS kG kB hh L mf)[j]? = some (a, mE (mf a)))
  exact tt_putm hf j hj hk 1 (by decide) q112 d (fun hD => xm_set hD ha hj) kk
end XB
theorem be_two {mf : Mf} {a b : Nat} (hne : b ≠ a) : va_up (va_up mf a ((mf a).1, (mf b).2.1, (mf a).2.2)) a ((va_up mf a ((mf a).1, (mf b).2.1, (mf a).2.2) a).1, (va_up mf a ((mf a).1, (mf b).2.1, (mf a).2.2) a).2.1, (va_up mf a ((mf a).1, (mf b).2.1, (mf a).2.2) b).2.2.1, (va_up mf a ((mf a).1, (mf b).2.1, (mf a).2.2) a).2.2.2) = va_up mf a ((mf a).1, (mf b).2.1, (mf b).2.2.1, (mf a).2.2.2) := by
  funext x
  by_cases q : x = a
  · subst q; rw [va_up_self, va_up_self, va_up_self, va_up_ne _ _ hne]
  · rw [va_up_ne _ _ q, va_up_ne _ _ q, va_up_ne _ _ q]
set_option maxHeartbeats 4000000 in
set_option maxRecDepth 100000 in
theorem cx1_be {l : Launch} {g : tG} {o : Nat} {ax : Nat → Nat} {num kpt : Int → Option Nat} {many cols chg brd old : Int} {page : Int → Int} {pgM told enD : Int} {row : Int → Int} {ways far : Int} {hav : Int → Int} {wtd : Int} {fnd : Int → Int} {mdT wnT : Int} {sN sW sC : Int → Int} {sM drw : Int} {kN kW kC : Int → Int} {kS kG kB : Int} {hh : Int64} {L : List Nat} {mf : Nat → Nat × Int × Int × Int} {a b : Nat} (ha : a ∈ L) (hb : b ∈ L) (hne : b ≠ a) (hka : (mf a).1 < 5) (hkb : (mf b).1 < 5) : Cv l g yX1_be (ws_ yX1_be cX1_be 2 (Option.none : Option Jvm.ClassFile.FieldType)) (rmL 1) [.ref a, .ref b] (xW g o ax num kpt many cols chg brd old page pgM told enD row ways far hav wtd fnd mdT wnT sN sW sC sM drw kN kW kC kS kG kB hh L mf) (fun w => w = xW g o ax num kpt many cols chg brd old page pgM told enD row ways far hav wtd fnd mdT wnT sN sW sC sM drw kN kW kC kS kG kB hh L (va_up mf a ((mf a).1, (mf b).2.1, (mf b).2.2.1, (mf a).2.2.2))) := by
  refine Ct.of (by decide) (Nat.le_of_ble_eq_true rfl) ?_
  intro Γ hl hg hf hrT
  subst hl hg
  have hf : Fx Γ RX1 cX1_be 2 := hf
  show T Γ (rmL 1) 2 0 0 (Qe Γ (rmL 1) _) _ 0 [(0, .ref a), (1, .ref b)] []
  refine tt_aload_n hf 0 dX1_be_0 rfl ?_
  refine tt_aload_n hf 1 dX1_be_1 rfl ?_
  refine gm1_name hf hb (by first | exact hkb | (rw [va_up_ne _ _ hne]; exact hkb)) dX1_be_2 ?_
  refine pm1_name hf ha (by first | exact hka | (rw [va_up_self]; exact hka)) dX1_be_5 ?_
  refine tt_aload_n hf 0 dX1_be_8 rfl ?_
  refine tt_aload_n hf 1 dX1_be_9 rfl ?_
  refine gm1_colour hf hb (by first | exact hkb | (rw [va_up_ne _ _ hne]; exact hkb)) dX1_be_10 ?_
  refine pm1_colour hf ha (by first | exact hka | (rw [va_up_self]; exact hka)) dX1_be_13 ?_
  exact tt_vretv hf hrT dX1_be_16 (Nat.le_refl _) (Nat.le_refl _) (by rw [be_two hne])
theorem xm_be {Γ : tX} {R : Room} {nL k n : Nat} {Q : State → Prop} {pc : Nat} {lv : List (Nat × Value)} {st : List Value} {cc : ByteArray} {o : Nat} {ax : Nat → Nat} {num kpt : Int → Option Nat} {many cols chg brd old : Int} {page : Int → Int} {pgM told enD : Int} {row : Int → Int} {ways far : Int} {hav : Int → Int} {wtd : Int} {fnd : Int → Int} {mdT wnT : Int} {sN sW sC : Int → Int} {sM drw : Int} {kN kW kC : Int → Int} {kS kG kB : Int} {hh : Int64} {L : List Nat} {mf : Nat → Nat × Int × Int × Int} (hf : Fx Γ RX0 cc nL) {a b : Nat} (ha : a ∈ L) (hb : b ∈ L) (hne : b ≠ a) (hka : (mf a).1 < 5) (hkb : (mf b).1 < 5) (hR : 2 ≤ R.frames ∧ 80 ≤ R.locals) (hroom : k ≤ R.cells ∧ n ≤ R.slots) (hcat : (st.map fun v => v.category).sum ≤ 8) (d : decode cc pc = .ok (.invokevirtual 269, 3)) (kk : T Γ R nL k n Q (xW (xg Γ) o ax num kpt many cols chg brd old page pgM told enD row ways far hav wtd fnd mdT wnT sN sW sC sM drw kN kW kC kS kG kB hh L (va_up mf a ((mf a).1, (mf b).2.1, (mf b).2.2.1, (mf a).2.2.2))) (pc + 3) lv st) : T Γ R nL k n Q (xW (xg Γ) o ax num kpt many cols chg brd old page pgM told enD row ways far hav wtd fnd mdT wnT sN sW sC sM drw kN kW kC kS kG kB hh L mf) pc lv (.ref b :: .ref a :: st) := by
  obtain ⟨j, hj⟩ := (xm_j ha : ∃ j : Nat, (xW (xg Γ) o ax num kpt many cols chg brd old page pgM told enD row ways far hav wtd fnd mdT wnT sN sW sC sM drw kN kW kC kS kG kB hh L mf)[j]? = some (a, mE (mf a)))
  rcases (show (mf a).1 = 0 ∨ (mf a).1 = 1 ∨ (mf a).1 = 2 ∨ (mf a).1 = 3 ∨ (mf a).1 = 4 by omega) with e | e | e | e | e
  · have hj2 : (xW (xg Γ) o ax num kpt many cols chg brd old page pgM told enD row ways far hav wtd fnd mdT wnT sN sW sC sM drw kN kW kC kS kG kB hh L mf)[j]? = some (a, .inr (1, [.int (iI (mf a).2.1), .int (iI (mf a).2.2.1), .int (iI (mf a).2.2.2)])) := by rw [hj]; unfold mE; rw [e]
    exact tt_callO (n0 := 1) (As := [.ref b]) (rest := st) (q0 := j) (ci := 1) (owner := "SumColours$Member") (x := yX1_be) hf (cx1_be ha hb hne hka hkb) (lw_O q636 q639 q637 q638 q637 q73 q644) q644 (by decide +kernel) rfl hj2 rfl ⟨rfl, rfl⟩ ⟨Nat.le_trans (Nat.le_of_ble_eq_true rfl) hR.1, Nat.le_trans (Nat.le_of_ble_eq_true rfl) hR.2⟩ hroom hcat d rfl (kk_v (fun w hw => by subst hw; exact kk))
  · have hj2 : (xW (xg Γ) o ax num kpt many cols chg brd old page pgM told enD row ways far hav wtd fnd mdT wnT sN sW sC sM drw kN kW kC kS kG kB hh L mf)[j]? = some (a, .inr (2, [.int (iI (mf a).2.1), .int (iI (mf a).2.2.1), .int (iI (mf a).2.2.2)])) := by rw [hj]; unfold mE; rw [e]
    exact tt_callO (n0 := 1) (As := [.ref b]) (rest := st) (q0 := j) (ci := 2) (owner := "SumColours$Member") (x := yX1_be) hf (cx1_be ha hb hne hka hkb) (lw_O q636 q639 q637 q642 q637 q73 q644) q644 (by decide +kernel) rfl hj2 rfl ⟨rfl, rfl⟩ ⟨Nat.le_trans (Nat.le_of_ble_eq_true rfl) hR.1, Nat.le_trans (Nat.le_of_ble_eq_true rfl) hR.2⟩ hroom hcat d rfl (kk_v (fun w hw => by subst hw; exact kk))
  · have hj2 : (xW (xg Γ) o ax num kpt many cols chg brd old page pgM told enD row ways far hav wtd fnd mdT wnT sN sW sC sM drw kN kW kC kS kG kB hh L mf)[j]? = some (a, .inr (3, [.int (iI (mf a).2.1), .int (iI (mf a).2.2.1), .int (iI (mf a).2.2.2)])) := by rw [hj]; unfold mE; rw [e]
    exact tt_callO (n0 := 1) (As := [.ref b]) (rest := st) (q0 := j) (ci := 3) (owner := "SumColours$Member") (x := yX1_be) hf (cx1_be ha hb hne hka hkb) (lw_O q636 q639 q637 q640 q637 q73 q644) q644 (by decide +kernel) rfl hj2 rfl ⟨rfl, rfl⟩ ⟨Nat.le_trans (Nat.le_of_ble_eq_true rfl) hR.1, Nat.le_trans (Nat.le_of_ble_eq_true rfl) hR.2⟩ hroom hcat d rfl (kk_v (fun w hw => by subst hw; exact kk))
  · have hj2 : (xW (xg Γ) o ax num kpt many cols chg brd old page pgM told enD row ways far hav wtd fnd mdT wnT sN sW sC sM drw kN kW kC kS kG kB hh L mf)[j]? = some (a, .inr (4, [.int (iI (mf a).2.1), .int (iI (mf a).2.2.1), .int (iI (mf a).2.2.2)])) := by rw [hj]; unfold mE; rw [e]
    exact tt_callO (n0 := 1) (As := [.ref b]) (rest := st) (q0 := j) (ci := 4) (owner := "SumColours$Member") (x := yX1_be) hf (cx1_be ha hb hne hka hkb) (lw_O q636 q639 q637 q643 q637 q73 q644) q644 (by decide +kernel) rfl hj2 rfl ⟨rfl, rfl⟩ ⟨Nat.le_trans (Nat.le_of_ble_eq_true rfl) hR.1, Nat.le_trans (Nat.le_of_ble_eq_true rfl) hR.2⟩ hroom hcat d rfl (kk_v (fun w hw => by subst hw; exact kk))
  · have hj2 : (xW (xg Γ) o ax num kpt many cols chg brd old page pgM told enD row ways far hav wtd fnd mdT wnT sN sW sC sM drw kN kW kC kS kG kB hh L mf)[j]? = some (a, .inr (5, [.int (iI (mf a).2.1), .int (iI (mf a).2.2.1), .int (iI (mf a).2.2.2)])) := by rw [hj]; unfold mE; rw [e]
    exact tt_callO (n0 := 1) (As := [.ref b]) (rest := st) (q0 := j) (ci := 5) (owner := "SumColours$Member") (x := yX1_be) hf (cx1_be ha hb hne hka hkb) (lw_O q636 q639 q637 q641 q637 q73 q644) q644 (by decide +kernel) rfl hj2 rfl ⟨rfl, rfl⟩ ⟨Nat.le_trans (Nat.le_of_ble_eq_true rfl) hR.1, Nat.le_trans (Nat.le_of_ble_eq_true rfl) hR.2⟩ hroom hcat d rfl (kk_v (fun w hw => by subst hw; exact kk))
def rmE : Room := { frames := 6, cells := 1, slots := 3, locals := 240 }
/-- the number v is a new member of kind kq -/
def beM (mf : Mf) (q a kq : Nat) : Mf := va_up mf q (kq, (mf a).2.1, (mf a).2.2.1, 0)
theorem beM_of {mf : Mf} {q a kq : Nat} (hne : a ≠ q) : va_up (va_up mf q (kq, 0, 0, 0)) q ((va_up mf q (kq, 0, 0, 0) q).1, (va_up mf q (kq, 0, 0, 0) a).2.1, (va_up mf q (kq, 0, 0, 0) a).2.2.1, (va_up mf q (kq, 0, 0, 0) q).2.2.2) = beM mf q a kq := by
  funext x
  unfold beM
  by_cases e : x = q
  · subst e; rw [va_up_self, va_up_self, va_up_self, va_up_ne _ _ hne]
  · rw [va_up_ne _ _ e, va_up_ne _ _ e, va_up_ne _ _ e]
theorem be_old {mf : Mf} {q a kq b : Nat} (h : b ≠ q) : beM mf q a kq b = mf b := va_up_ne _ _ h
theorem be_new {mf : Mf} {q a kq : Nat} : beM mf q a kq q = (kq, (mf a).2.1, (mf a).2.2.1, 0) := va_up_self _ _ _
theorem be_xB {many v : Int} {num : Int → Option Nat} {L : List Nat} {mf : Mf} {q a kq : Nat} (h : xB many num L mf) (hq : q ∉ L) (ha : num v = some a) (hk : kq < 5) : xB many (uI num v (some q)) (L ++ [q]) (beM mf q a kq) := by
  have ea := h.1 v a ha
  refine ⟨fun n b hb => ?_, fun n n1 n2 => ?_⟩
  · by_cases e : n = v
    · subst e
      rw [uI_s] at hb
      cases hb
      rw [be_new]
      exact ⟨List.mem_append_right _ (List.mem_singleton_self q), hk, ea.2.2.1, ea.2.2.2⟩
    · rw [uI_n e] at hb
      have eb := h.1 n b hb
      rw [be_old (b := b) (q := q) (fun x => hq (x ▸ eb.1))]
      exact ⟨List.mem_append_left _ eb.1, eb.2⟩
  · by_cases e : n = v
    · subst e; exact ⟨q, uI_s⟩
    · obtain ⟨b, hb⟩ := h.2 n n1 n2
      exact ⟨b, by rw [uI_n e]; exact hb⟩
theorem be_kd {many v : Int} {num : Int → Option Nat} {L : List Nat} {mf : Mf} {q a kq : Nat} {z : Int} (h : xB many num L mf) (hq : q ∉ L) (hz : z = (kq : Int)) : xkd (uI num v (some q)) (beM mf q a kq) = uI (xkd num mf) v z := by
  funext n
  by_cases e : n = v
  · subst e
    rw [uI_s, xkd_at uI_s, be_new, hz]
  · rw [uI_n e]
    unfold xkd
    rw [uI_n e]
    cases e2 : num n with
    | none => rfl
    | some b => simp only; rw [be_old (b := b) (q := q) (fun x => hq (x ▸ (h.1 n b e2).1))]
theorem be_co {many v : Int} {num : Int → Option Nat} {L : List Nat} {mf : Mf} {q a kq : Nat} (h : xB many num L mf) (hq : q ∉ L) (ha : num v = some a) : xco (uI num v (some q)) (beM mf q a kq) = xco num mf := by
  funext n
  by_cases e : n = v
  · subst e
    rw [xco_at uI_s, be_new, xco_at ha]
  · unfold xco
    rw [uI_n e]
    cases e2 : num n with
    | none => rfl
    | some b => simp only; rw [be_old (b := b) (q := q) (fun x => hq (x ▸ (h.1 n b e2).1))]
set_option maxHeartbeats 4000000 in
set_option maxRecDepth 100000 in
theorem cx_be {l : Launch} {g : tG} {o : Nat} {ax : Nat → Nat} {num kpt : Int → Option Nat} {many cols chg brd old : Int} {page : Int → Int} {pgM told enD : Int} {row : Int → Int} {ways far : Int} {hav : Int → Int} {wtd : Int} {fnd : Int → Int} {mdT wnT : Int} {sN sW sC : Int → Int} {sM drw : Int} {kN kW kC : Int → Int} {kS kG kB : Int} {hh : Int64} {L : List Nat} {mf : Nat → Nat × Int × Int × Int} {v k : Int} (hm : 0 ≤ many ∧ many ≤ 10) (hB : xB many num L mf) (hv : iR v) (hk : iR k) : Ci l g yX0_be (ws_ yX0_be cX0_be 5 (Option.some Jvm.ClassFile.FieldType.int)) rmE [.ref o, .int (iI v), .int (iI k)] (xW g o ax num kpt many cols chg brd old page pgM told enD row ways far hav wtd fnd mdT wnT sN sW sC sM drw kN kW kC kS kG kB hh L mf) (fun r w => ∃ (num1 : Int → Option Nat) (L1 : List Nat) (mf1 : Mf), r = (if (1 ≤ v ∧ v ≤ many) ∧ 0 ≤ k ∧ k ≤ 4 then (xkd num mf) v else if ¬ (1 ≤ v ∧ v ≤ many) then -101 else -102) ∧ xB many num1 L1 mf1 ∧ xkd num1 mf1 = (if (1 ≤ v ∧ v ≤ many) ∧ 0 ≤ k ∧ k ≤ 4 then uI (xkd num mf) v k else (xkd num mf)) ∧ xco num1 mf1 = (xco num mf) ∧ (∀ b ∈ L, b ∈ L1 ∧ mf1 b = mf b) ∧ w = xW g o ax num1 kpt many cols chg brd (if (1 ≤ v ∧ v ≤ many) ∧ 0 ≤ k ∧ k ≤ 4 then 1 else old) page pgM told enD row ways far hav wtd fnd mdT wnT sN sW sC sM drw kN kW kC kS kG kB hh L1 mf1) := by
  refine Ct.of (by decide) (Nat.le_of_ble_eq_true rfl) ?_
  intro Γ hl hg hf hrT
  subst hl hg
  have hf : Fx Γ RX0 cX0_be 5 := hf
  show T Γ rmE 5 0 0 (Qe Γ rmE _) _ 0 [(0, .ref o), (1, .int (iI v)), (2, .int (iI k))] []
  refine tt_aload_n hf 0 dX0_be_0 rfl ?_
  refine tt_iload_n hf 1 dX0_be_1 rfl ?_
  refine tt_callV0 (As := [.int (iI v)]) (rest := []) (q0 := 0) (ci := 0) hf (cx_isNumber (by omega) hm) lk_X0_X0_isNumber hd_X0_isNumber rfl rfl rfl ⟨rfl, rfl⟩ (by decide) (by decide) (Nat.le_of_ble_eq_true rfl) dX0_be_2 rfl (kk_e (fun r2 => ?_))
  refine tt_ifb_ne (tgt := 11) hf dX0_be_5 (by decide) (fun c5 => ?_) (fun c5 => ?_)
  · refine tt_iload_n hf 2 dX0_be_11 rfl ?_
    refine tt_i2l hf dX0_be_12 ?_
    refine tt_topl (x' := lI k) (lI_of (by omega)) ?_
    refine tt_lconst hf dX0_be_13 ?_
    refine tt_topl (x' := lI 0) (by decide) ?_
    refine tt_ldc2 hf q620 dX0_be_14 ?_
    refine tt_topl (x' := lI 4) (by decide) ?_
    refine tt_callS0 (As := [.long (lI k), .long (lI 0), .long (lI 4)]) (rest := []) hf (cx_isIn (v := k) (lo := 0) (hi := 4) (by omega) (by omega) (by omega)) lk_X0_X0_isIn hd_X0_isIn rfl ⟨rfl, rfl⟩ (by decide) (by decide) (Nat.le_of_ble_eq_true rfl) dX0_be_17 rfl (kk_e (fun r17 => ?_))
    refine tt_ifb_ne (tgt := 26) hf dX0_be_20 (by decide) (fun c20 => ?_) (fun c20 => ?_)
    · obtain ⟨a0, ha0, ma0, ka0, na0, ca0⟩ := hB.at (n := v) (by omega) (by omega)
      have x0 := xkd_at (mf := mf) ha0
      refine tt_aload_n hf 0 dX0_be_26 rfl ?_
      refine gx_num hf dX0_be_27 ?_
      refine tt_iload_n hf 1 dX0_be_30 rfl ?_
      refine lx_num hf (by omega) ha0 dX0_be_31 ?_
      refine xm_kind hf ma0 ka0 (by decide) (by decide) (Nat.le_of_ble_eq_true rfl) dX0_be_32 ?_
      refine tt_istore_n (lv' := [(3, .int (iI ((mf a0).1 : Int))), (0, .ref o), (1, .int (iI v)), (2, .int (iI k))]) hf dX0_be_35 (by decide) rfl ?_
      refine tt_iload_n hf 3 dX0_be_36 rfl ?_
      refine tt_callS (n0 := 1) (As := [.int (iI k)]) (rest := []) hf (cx_made (kq := k.toNat) (by omega) (by omega)) lk_X0_X0_made hd_X0_made rfl (by decide) (by decide) (Nat.le_of_ble_eq_true rfl) dX0_be_37 rfl (fun v w hp37 => ?_)
      obtain ⟨q37, rfl, rfl⟩ := hp37
      refine tt_pool (fun hq37 => ?_)
      refine tt_astore (lv' := [(4, .ref q37), (3, .int (iI ((mf a0).1 : Int))), (0, .ref o), (1, .int (iI v)), (2, .int (iI k))]) hf dX0_be_40 (by decide) rfl ?_
      refine tt_aload hf 0 dX0_be_42 rfl ?_
      refine tt_aload_n hf 2 dX0_be_44 rfl ?_
      refine gx_num hf dX0_be_45 ?_
      refine tt_iload_n hf 3 dX0_be_48 rfl ?_
      refine lx_num hf (by omega) ha0 dX0_be_49 ?_
      have ne0 : a0 ≠ q37 := fun x => hq37 (x ▸ ma0)
      refine xm_be hf (List.mem_append_right _ (List.mem_singleton_self q37)) (List.mem_append_left _ ma0) ne0 (by rw [va_up_self]; show k.toNat < 5; omega) (by rw [va_up_ne _ _ ne0]; exact ka0) (by decide) (by decide) (Nat.le_of_ble_eq_true rfl) dX0_be_50 ?_
      rw [beM_of ne0]
      refine tt_aload_n hf 2 dX0_be_53 rfl ?_
      refine gx_num hf dX0_be_54 ?_
      refine tt_iload_n hf 3 dX0_be_57 rfl ?_
      refine tt_aload hf 0 dX0_be_58 rfl ?_
      refine sx_num hf (by omega) (List.mem_append_right _ (List.mem_singleton_self q37)) (by rw [be_new]; show k.toNat < 5; omega) dX0_be_60 ?_
      refine tt_aload_n hf 2 dX0_be_61 rfl ?_
      refine tt_iconst hf dX0_be_62 ?_
      refine px_old hf dX0_be_63 (by omega) ?_
      refine tt_iload_n hf 1 dX0_be_66 rfl ?_
      exact tt_ireti hf hrT dX0_be_67 (Nat.le_refl _) (Nat.le_refl _) (by omega) ⟨uI num v (some q37), L ++ [q37], beM mf q37 a0 k.toNat, by rw [if_pos ⟨c5, c20⟩]; exact x0.symm, be_xB hB hq37 ha0 (by omega), by rw [if_pos ⟨c5, c20⟩]; exact be_kd (kq := k.toNat) hB hq37 (by omega), be_co hB hq37 ha0, fun b hb => ⟨List.mem_append_left _ hb, be_old (fun x => hq37 (x ▸ hb))⟩, by rw [if_pos ⟨c5, c20⟩]⟩
    · refine tt_bipush hf dX0_be_23 (by decide) ?_
      exact tt_ireti hf hrT dX0_be_25 (Nat.zero_le _) (Nat.zero_le _) (by omega) ⟨num, L, mf, by rw [if_neg (fun q => c20 q.2), if_neg (fun q => q c5)], hB, by rw [if_neg (fun q => c20 q.2)], rfl, fun b hb => ⟨hb, rfl⟩, by rw [if_neg (fun q => c20 q.2)]⟩
  · refine tt_bipush hf dX0_be_8 (by decide) ?_
    exact tt_ireti hf hrT dX0_be_10 (Nat.zero_le _) (Nat.zero_le _) (by omega) ⟨num, L, mf, by rw [if_neg (fun q => c5 q.1), if_pos c5], hB, by rw [if_neg (fun q => c5 q.1)], rfl, fun b hb => ⟨hb, rfl⟩, by rw [if_neg (fun q => c5 q.1)]⟩
