theorem uI_updO {f : Int → Option Nat} {z : Int} {v : Nat} (h0 : 0 ≤ z) (h1 : z ≤ 2147483647) : va_up (fun j : Nat => f j) (iI z).toNatClampNeg (some v) = fun j : Nat => uI f z (some v) j := by
  rw [iI_clamp (by constructor <;> omega)]
  funext j
  by_cases hj : j = z.toNat
  · subst hj
    have e : ((z.toNat : Nat) : Int) = z := by omega
    rw [va_up_self, e, uI_s]
  · have e : ¬ (j : Int) = z := by omega
    rw [va_up_ne _ _ hj, uI_n e]
theorem tt_aast {Γ : tX} {R : Room} {nL k n : Nat} {Q : State → Prop} {ws : va_W} {pc : Nat} {lv : List (Nat × Value)} {st : List Value} {own : String} {cc : ByteArray} (hf : Fx Γ own cc nL) {a N b qk : Nat} {f : Int → Option Nat} {z : Int} {m : Nat × Int × Int × Int} (q0 : Nat) (he : ws[q0]? = some (a, aQ (xg Γ) N f)) (hv : ws[qk]? = some (b, mE m)) (hk : m.1 < 5) (hN : N ≤ 2147483647) (hz : 0 ≤ z ∧ z < N) (d : decode cc pc = .ok (.aastore, 1)) {ws' : va_W} (hw : ws.set q0 (a, aQ (xg Γ) N (uI f z (some b))) = ws') (kk : T Γ R nL k n Q ws' (pc + 1) lv st) : T Γ R nL k n Q ws pc lv (.ref b :: .int (iI z) :: .ref a :: st) := by
  obtain ⟨k0, m1⟩ := m
  have hu := uI_updO (f := f) (v := b) hz.1 (show z ≤ 2147483647 by omega)
  have key : ∀ (H : Heap) (locs : List Loc) (ls : Array Slot), lv_has ls nL lv → ∀ (H1 : Heap) (locs1 : List Loc), va_P (xg Γ).1 tCl (ws.set q0 (a, .inl ((xg Γ).2.2.2.2, N, .inr (.inr (.inr (.inr (va_up (fun j : Nat => f j) (iI z).toNatClampNeg (some b)))))))) H1 → va_D (xA Γ) (ws.set q0 (a, .inl ((xg Γ).2.2.2.2, N, .inr (.inr (.inr (.inr (va_up (fun j : Nat => f j) (iI z).toNatClampNeg (some b)))))))) → va_S (xA Γ) (xs Γ).heap H1 locs1 → W (xp Γ) (xl Γ) (xe Γ) R (xs Γ) (xm Γ) (xa Γ) (xb Γ) (xh Γ) (xc Γ) H1 locs1 k n Q (F0 (xm Γ) (pc + 1) ls st) := by
    intro H locs ls hl H1 locs1 hP1 hD1 hS1
    rw [hu] at hP1 hD1
    exact kk H1 locs1 ls (hw ▸ hP1) (hw ▸ hD1) hS1 hl
  intro H locs ls hP hD hS hl
  have kk2 := key H locs ls hl
  rcases (show k0 = 0 ∨ k0 = 1 ∨ k0 = 2 ∨ k0 = 3 ∨ k0 = 4 by have : k0 < 5 := hk; omega) with e | e | e | e | e <;> subst e
  · exact va_astq hf.x hf.b hf.K hP hD hS q0 3 qk 1 he (r := (RX1, TX1, 3)) rfl hv rfl (iI_in hz.1 hz.2 hN) d kk2
  · exact va_astqO hf.x hf.b hf.K hP hD hS q0 3 qk 2 he (E := "SumColours$Member") rfl (hf.N.2.1 ("SumColours$Loose", "SumColours$Member") (by decide +kernel)) (r := (RX2, TX2, 3)) hv rfl (iI_in hz.1 hz.2 hN) d kk2
  · exact va_astqO hf.x hf.b hf.K hP hD hS q0 3 qk 3 he (E := "SumColours$Member") rfl (hf.N.2.1 ("SumColours$Free", "SumColours$Member") (by decide +kernel)) (r := (RX3, TX3, 3)) hv rfl (iI_in hz.1 hz.2 hN) d kk2
  · exact va_astqO hf.x hf.b hf.K hP hD hS q0 3 qk 4 he (E := "SumColours$Member") rfl (hf.N.2.1 ("SumColours$Shy", "SumColours$Member") (by decide +kernel)) (r := (RX4, TX4, 3)) hv rfl (iI_in hz.1 hz.2 hN) d kk2
  · exact va_astqO hf.x hf.b hf.K hP hD hS q0 3 qk 5 he (E := "SumColours$Member") rfl (hf.N.2.1 ("SumColours$Lone", "SumColours$Member") (by decide +kernel)) (r := (RX5, TX5, 3)) hv rfl (iI_in hz.1 hz.2 hN) d kk2
theorem cpy6 {f g : Int → Int} : va_cpy (fun j : Nat => iI (f j)) (fun j : Nat => iI (g j)) (iI 0).toNatClampNeg (iI 0).toNatClampNeg (iI 6).toNatClampNeg = fun j : Nat => iI (cpF 6 f g j) := by
  funext j
  rw [show (iI 0).toNatClampNeg = 0 by decide, show (iI 6).toNatClampNeg = 6 by decide]
  unfold va_cpy cpF
  by_cases q : j < 6
  · rw [if_pos (by omega), if_pos (by omega)]
    congr 2
    omega
  · rw [if_neg (by omega), if_neg (by omega)]
theorem tt_cpyi {Γ : tX} {R : Room} {nL k n : Nat} {Q : State → Prop} {ws : va_W} {pc : Nat} {lv : List (Nat × Value)} {own : String} {cc : ByteArray} (hf : Fx Γ own cc nL) {a a0 index : Nat} {f g : Int → Int} (q0 q1 : Nat) (h0 : ws[q0]? = some (a0, aI (xg Γ) 6 f)) (h1 : ws[q1]? = some (a, aI (xg Γ) 6 g)) (hlink : Cond.methodLink own index ⟨"java/lang/System", "arraycopy", "(Ljava/lang/Object;ILjava/lang/Object;II)V"⟩ ∈ lw_all) (hR : 1 ≤ R.frames ∧ 60 ≤ R.locals) (d : decode cc pc = .ok (.invokestatic index, 3)) {ws' : va_W} (hw : ws.set q1 (a, aI (xg Γ) 6 (cpF 6 f g)) = ws') (kk : T Γ R nL k n Q ws' (pc + 3) lv []) : T Γ R nL k n Q ws pc lv [.int (iI 6), .int (iI 0), .ref a, .int (iI 0), .ref a0] := by
  intro H locs ls hP hD hS hl
  refine va_copyi hf.x hf.b (hf.ml.trans hl.1.symm) hf.own (hf.ts _ hlink) (hf.ts _ q676) (hf.ts _ q675) (hf.ts _ q86) hf.K hP hD hS q0 q1 0 0 h0 h1 rfl rfl rfl (by decide) (by decide) (by decide) (by decide) (by decide) (fun _ _ => rfl) hR.1 (Nat.le_trans (by decide +kernel) hR.2) d ?_
  intro H1 locs1 hP1 hD1 hS1
  rw [cpy6] at hP1 hD1
  exact kk H1 locs1 ls (hw ▸ hP1) (hw ▸ hD1) hS1 hl
theorem tt_cpyz {Γ : tX} {R : Room} {nL k n : Nat} {Q : State → Prop} {ws : va_W} {pc : Nat} {lv : List (Nat × Value)} {own : String} {cc : ByteArray} (hf : Fx Γ own cc nL) {a a0 index : Nat} {f g : Int → Int} (hfr : ∀ i, 0 ≤ f i ∧ f i ≤ 1) (q0 q1 : Nat) (h0 : ws[q0]? = some (a0, aZ (xg Γ) 6 f)) (h1 : ws[q1]? = some (a, aZ (xg Γ) 6 g)) (hlink : Cond.methodLink own index ⟨"java/lang/System", "arraycopy", "(Ljava/lang/Object;ILjava/lang/Object;II)V"⟩ ∈ lw_all) (hR : 1 ≤ R.frames ∧ 60 ≤ R.locals) (d : decode cc pc = .ok (.invokestatic index, 3)) {ws' : va_W} (hw : ws.set q1 (a, aZ (xg Γ) 6 (cpF 6 f g)) = ws') (kk : T Γ R nL k n Q ws' (pc + 3) lv []) : T Γ R nL k n Q ws pc lv [.int (iI 6), .int (iI 0), .ref a, .int (iI 0), .ref a0] := by
  intro H locs ls hP hD hS hl
  refine va_copyi hf.x hf.b (hf.ml.trans hl.1.symm) hf.own (hf.ts _ hlink) (hf.ts _ q676) (hf.ts _ q675) (hf.ts _ q86) hf.K hP hD hS q0 q1 2 2 h0 h1 rfl rfl rfl (by decide) (by decide) (by decide) (by decide) (by decide) (fun i _ => by
    have q := hfr (((iI 0).toNatClampNeg + i : Nat) : Int)
    rcases (show f (((iI 0).toNatClampNeg + i : Nat) : Int) = 0 ∨ f (((iI 0).toNatClampNeg + i : Nat) : Int) = 1 by omega) with e | e
    · show fits .boolean (.int (iI (f (((iI 0).toNatClampNeg + i : Nat) : Int)))) = true; rw [e]; rfl
    · show fits .boolean (.int (iI (f (((iI 0).toNatClampNeg + i : Nat) : Int)))) = true; rw [e]; rfl) hR.1 (Nat.le_trans (by decide +kernel) hR.2) d ?_
  intro H1 locs1 hP1 hD1 hS1
  rw [cpy6] at hP1 hD1
  exact kk H1 locs1 ls (hw ▸ hP1) (hw ▸ hD1) hS1 hl
theorem sx_num {Γ : tX} {R : Room} {nL k n : Nat} {Q : State → Prop} {pc : Nat} {lv : List (Nat × Value)} {st : List Value} {cc : ByteArray} {o : Nat} {ax : Nat → Nat} {num kpt : Int → Option Nat} {many cols chg brd old : Int} {page : Int → Int} {pgM told enD : Int} {row : Int → Int} {ways far : Int} {hav : Int → Int} {wtd : Int} {fnd : Int → Int} {mdT wnT : Int} {sN sW sC : Int → Int} {sM drw : Int} {kN kW kC : Int → Int} {kS kG kB : Int} {hh : Int64} {L : List Nat} {mf : Nat → Nat × Int × Int × Int} (hf : Fx Γ RX0 cc nL) {z : Int} {a : Nat} (hz : 0 ≤ z ∧ z < 11) (ha : a ∈ L) (hk : (mf a).1 < 5) (d : decode cc pc = .ok (.aastore, 1)) (kk : T Γ R nL k n Q (xW (xg Γ) o ax (uI num z (some a)) kpt many cols chg brd old page pgM told enD row ways far hav wtd fnd mdT wnT sN sW sC sM drw kN kW kC kS kG kB hh L mf) (pc + 1) lv st) : T Γ R nL k n Q (xW (xg Γ) o ax num kpt many cols chg brd old page pgM told enD row ways far hav wtd fnd mdT wnT sN sW sC sM drw kN kW kC kS kG kB hh L mf) pc lv (.ref a :: .int (iI z) :: .ref (ax 1) :: st) := by
  obtain ⟨j, hj⟩ := (xm_j ha : ∃ j : Nat, (xW (xg Γ) o ax num kpt many cols chg brd old page pgM told enD row ways far hav wtd fnd mdT wnT sN sW sC sM drw kN kW kC kS kG kB hh L mf)[j]? = some (a, mE (mf a)))
  exact tt_aast (ws' := xW (xg Γ) o ax (uI num z (some a)) kpt many cols chg brd old page pgM told enD row ways far hav wtd fnd mdT wnT sN sW sC sM drw kN kW kC kS kG kB hh L mf) (N := 11) hf 2 rfl hj hk (by decide) hz d (by rfl) kk
theorem sx_kpt {Γ : tX} {R : Room} {nL k n : Nat} {Q : State → Prop} {pc : Nat} {lv : List (Nat × Value)} {st : List Value} {cc : ByteArray} {o : Nat} {ax : Nat → Nat} {num kpt : Int → Option Nat} {many cols chg brd old : Int} {page : Int → Int} {pgM told enD : Int} {row : Int → Int} {ways far : Int} {hav : Int → Int} {wtd : Int} {fnd : Int → Int} {mdT wnT : Int} {sN sW sC : Int → Int} {sM drw : Int} {kN kW kC : Int → Int} {kS kG kB : Int} {hh : Int64} {L : List Nat} {mf : Nat → Nat × Int × Int × Int} (hf : Fx Γ RX0 cc nL) {z : Int} {a : Nat} (hz : 0 ≤ z ∧ z < 11) (ha : a ∈ L) (hk : (mf a).1 < 5) (d : decode cc pc = .ok (.aastore, 1)) (kk : T Γ R nL k n Q (xW (xg Γ) o ax num (uI kpt z (some a)) many cols chg brd old page pgM told enD row ways far hav wtd fnd mdT wnT sN sW sC sM drw kN kW kC kS kG kB hh L mf) (pc + 1) lv st) : T Γ R nL k n Q (xW (xg Γ) o ax num kpt many cols chg brd old page pgM told enD row ways far hav wtd fnd mdT wnT sN sW sC sM drw kN kW kC kS kG kB hh L mf) pc lv (.ref a :: .int (iI z) :: .ref (ax 2) :: st) := by
  obtain ⟨j, hj⟩ := (xm_j ha : ∃ j : Nat, (xW (xg Γ) o ax num kpt many cols chg brd old page pgM told enD row ways far hav wtd fnd mdT wnT sN sW sC sM drw kN kW kC kS kG kB hh L mf)[j]? = some (a, mE (mf a)))
  exact tt_aast (ws' := xW (xg Γ) o ax num (uI kpt z (some a)) many cols chg brd old page pgM told enD row ways far hav wtd fnd mdT wnT sN sW sC sM drw kN kW kC kS kG kB hh L mf) (N := 11) hf 3 rfl hj hk (by decide) hz d (by rfl) kk
theorem cpx_sN {Γ : tX} {R : Room} {nL k n : Nat} {Q : State → Prop} {pc : Nat} {lv : List (Nat × Value)} {cc : ByteArray} {o : Nat} {ax : Nat → Nat} {num kpt : Int → Option Nat} {many cols chg brd old : Int} {page : Int → Int} {pgM told enD : Int} {row : Int → Int} {ways far : Int} {hav : Int → Int} {wtd : Int} {fnd : Int → Int} {mdT wnT : Int} {sN sW sC : Int → Int} {sM drw : Int} {kN kW kC : Int → Int} {kS kG kB : Int} {hh : Int64} {L : List Nat} {mf : Nat → Nat × Int × Int × Int} (hf : Fx Γ RX0 cc nL) (hR : 1 ≤ R.frames ∧ 60 ≤ R.locals) (d : decode cc pc = .ok (.invokestatic 305, 3)) (kk : T Γ R nL k n Q (xW (xg Γ) o ax num kpt many cols chg brd old page pgM told enD row ways far hav wtd fnd mdT wnT sN sW sC sM drw (cpF 6 sN kN) kW kC kS kG kB hh L mf) (pc + 3) lv []) : T Γ R nL k n Q (xW (xg Γ) o ax num kpt many cols chg brd old page pgM told enD row ways far hav wtd fnd mdT wnT sN sW sC sM drw kN kW kC kS kG kB hh L mf) pc lv [.int (iI 6), .int (iI 0), .ref (ax 25), .int (iI 0), .ref (ax 20)] := tt_cpyi (ws' := xW (xg Γ) o ax num kpt many cols chg brd old page pgM told enD row ways far hav wtd fnd mdT wnT sN sW sC sM drw (cpF 6 sN kN) kW kC kS kG kB hh L mf) hf 8 11 rfl rfl q674 hR d (by rfl) kk
theorem cpx_kN {Γ : tX} {R : Room} {nL k n : Nat} {Q : State → Prop} {pc : Nat} {lv : List (Nat × Value)} {cc : ByteArray} {o : Nat} {ax : Nat → Nat} {num kpt : Int → Option Nat} {many cols chg brd old : Int} {page : Int → Int} {pgM told enD : Int} {row : Int → Int} {ways far : Int} {hav : Int → Int} {wtd : Int} {fnd : Int → Int} {mdT wnT : Int} {sN sW sC : Int → Int} {sM drw : Int} {kN kW kC : Int → Int} {kS kG kB : Int} {hh : Int64} {L : List Nat} {mf : Nat → Nat × Int × Int × Int} (hf : Fx Γ RX0 cc nL) (hR : 1 ≤ R.frames ∧ 60 ≤ R.locals) (d : decode cc pc = .ok (.invokestatic 305, 3)) (kk : T Γ R nL k n Q (xW (xg Γ) o ax num kpt many cols chg brd old page pgM told enD row ways far hav wtd fnd mdT wnT (cpF 6 kN sN) sW sC sM drw kN kW kC kS kG kB hh L mf) (pc + 3) lv []) : T Γ R nL k n Q (xW (xg Γ) o ax num kpt many cols chg brd old page pgM told enD row ways far hav wtd fnd mdT wnT sN sW sC sM drw kN kW kC kS kG kB hh L mf) pc lv [.int (iI 6), .int (iI 0), .ref (ax 20), .int (iI 0), .ref (ax 25)] := tt_cpyi (ws' := xW (xg Γ) o ax num kpt many cols chg brd old page pgM told enD row ways far hav wtd fnd mdT wnT (cpF 6 kN sN) sW sC sM drw kN kW kC kS kG kB hh L mf) hf 11 8 rfl rfl q674 hR d (by rfl) kk
theorem cpx_sW {Γ : tX} {R : Room} {nL k n : Nat} {Q : State → Prop} {pc : Nat} {lv : List (Nat × Value)} {cc : ByteArray} {o : Nat} {ax : Nat → Nat} {num kpt : Int → Option Nat} {many cols chg brd old : Int} {page : Int → Int} {pgM told enD : Int} {row : Int → Int} {ways far : Int} {hav : Int → Int} {wtd : Int} {fnd : Int → Int} {mdT wnT : Int} {sN sW sC : Int → Int} {sM drw : Int} {kN kW kC : Int → Int} {kS kG kB : Int} {hh : Int64} {L : List Nat} {mf : Nat → Nat × Int × Int × Int} (hf : Fx Γ RX0 cc nL) (hR : 1 ≤ R.frames ∧ 60 ≤ R.locals) (d : decode cc pc = .ok (.invokestatic 305, 3)) (kk : T Γ R nL k n Q (xW (xg Γ) o ax num kpt many cols chg brd old page pgM told enD row ways far hav wtd fnd mdT wnT sN sW sC sM drw kN (cpF 6 sW kW) kC kS kG kB hh L mf) (pc + 3) lv []) : T Γ R nL k n Q (xW (xg Γ) o ax num kpt many cols chg brd old page pgM told enD row ways far hav wtd fnd mdT wnT sN sW sC sM drw kN kW kC kS kG kB hh L mf) pc lv [.int (iI 6), .int (iI 0), .ref (ax 26), .int (iI 0), .ref (ax 21)] := tt_cpyi (ws' := xW (xg Γ) o ax num kpt many cols chg brd old page pgM told enD row ways far hav wtd fnd mdT wnT sN sW sC sM drw kN (cpF 6 sW kW) kC kS kG kB hh L mf) hf 9 12 rfl rfl q674 hR d (by rfl) kk
theorem cpx_kW {Γ : tX} {R : Room} {nL k n : Nat} {Q : State → Prop} {pc : Nat} {lv : List (Nat × Value)} {cc : ByteArray} {o : Nat} {ax : Nat → Nat} {num kpt : Int → Option Nat} {many cols chg brd old : Int} {page : Int → Int} {pgM told enD : Int} {row : Int → Int} {ways far : Int} {hav : Int → Int} {wtd : Int} {fnd : Int → Int} {mdT wnT : Int} {sN sW sC : Int → Int} {sM drw : Int} {kN kW kC : Int → Int} {kS kG kB : Int} {hh : Int64} {L : List Nat} {mf : Nat → Nat × Int × Int × Int} (hf : Fx Γ RX0 cc nL) (hR : 1 ≤ R.frames ∧ 60 ≤ R.locals) (d : decode cc pc = .ok (.invokestatic 305, 3)) (kk : T Γ R nL k n Q (xW (xg Γ) o ax num kpt many cols chg brd old page pgM told enD row ways far hav wtd fnd mdT wnT sN (cpF 6 kW sW) sC sM drw kN kW kC kS kG kB hh L mf) (pc + 3) lv []) : T Γ R nL k n Q (xW (xg Γ) o ax num kpt many cols chg brd old page pgM told enD row ways far hav wtd fnd mdT wnT sN sW sC sM drw kN kW kC kS kG kB hh L mf) pc lv [.int (iI 6), .int (iI 0), .ref (ax 21), .int (iI 0), .ref (ax 26)] := tt_cpyi (ws' := xW (xg Γ) o ax num kpt many cols chg brd old page pgM told enD row ways far hav wtd fnd mdT wnT sN (cpF 6 kW sW) sC sM drw kN kW kC kS kG kB hh L mf) hf 12 9 rfl rfl q674 hR d (by rfl) kk
theorem cpx_sC {Γ : tX} {R : Room} {nL k n : Nat} {Q : State → Prop} {pc : Nat} {lv : List (Nat × Value)} {cc : ByteArray} {o : Nat} {ax : Nat → Nat} {num kpt : Int → Option Nat} {many cols chg brd old : Int} {page : Int → Int} {pgM told enD : Int} {row : Int → Int} {ways far : Int} {hav : Int → Int} {wtd : Int} {fnd : Int → Int} {mdT wnT : Int} {sN sW sC : Int → Int} {sM drw : Int} {kN kW kC : Int → Int} {kS kG kB : Int} {hh : Int64} {L : List Nat} {mf : Nat → Nat × Int × Int × Int} (hf : Fx Γ RX0 cc nL) (hfr : ∀ i, 0 ≤ sC i ∧ sC i ≤ 1) (hR : 1 ≤ R.frames ∧ 60 ≤ R.locals) (d : decode cc pc = .ok (.invokestatic 305, 3)) (kk : T Γ R nL k n Q (xW (xg Γ) o ax num kpt many cols chg brd old page pgM told enD row ways far hav wtd fnd mdT wnT sN sW sC sM drw kN kW (cpF 6 sC kC) kS kG kB hh L mf) (pc + 3) lv []) : T Γ R nL k n Q (xW (xg Γ) o ax num kpt many cols chg brd old page pgM told enD row ways far hav wtd fnd mdT wnT sN sW sC sM drw kN kW kC kS kG kB hh L mf) pc lv [.int (iI 6), .int (iI 0), .ref (ax 27), .int (iI 0), .ref (ax 22)] := tt_cpyz (ws' := xW (xg Γ) o ax num kpt many cols chg brd old page pgM told enD row ways far hav wtd fnd mdT wnT sN sW sC sM drw kN kW (cpF 6 sC kC) kS kG kB hh L mf) hf hfr 10 13 rfl rfl q674 hR d (by rfl) kk
theorem cpx_kC {Γ : tX} {R : Room} {nL k n : Nat} {Q : State → Prop} {pc : Nat} {lv : List (Nat × Value)} {cc : ByteArray} {o : Nat} {ax : Nat → Nat} {num kpt : Int → Option Nat} {many cols chg brd old : Int} {page : Int → Int} {pgM told enD : Int} {row : Int → Int} {ways far : Int} {hav : Int → Int} {wtd : Int} {fnd : Int → Int} {mdT wnT : Int} {sN sW sC : Int → Int} {sM drw : Int} {kN kW kC : Int → Int} {kS kG kB : Int} {hh : Int64} {L : List Nat} {mf : Nat → Nat × Int × Int × Int} (hf : Fx Γ RX0 cc nL) (hfr : ∀ i, 0 ≤ kC i ∧ kC i ≤ 1) (hR : 1 ≤ R.frames ∧ 60 ≤ R.locals) (d : decode cc pc = .ok (.invokestatic 305, 3)) (kk : T Γ R nL k n Q (xW (xg Γ) o ax num kpt many cols chg brd old page pgM told enD row ways far hav wtd fnd mdT wnT sN sW (cpF 6 kC sC) sM drw kN kW kC kS kG kB hh L mf) (pc + 3) lv []) : T Γ R nL k n Q (xW (xg Γ) o ax num kpt many cols chg brd old page pgM told enD row ways far hav wtd fnd mdT wnT sN sW sC sM drw kN kW kC kS kG kB hh L mf) pc lv [.int (iI 6), .int (iI 0), .ref (ax 22), .int (iI 0), .ref (ax 27)] := tt_cpyz (ws' := xW (xg Γ) o ax num kpt many cols chg brd old page pgM told enD row ways far hav wtd fnd mdT wnT sN sW (cpF 6 kC sC) sM drw kN kW kC kS kG kB hh L mf) hf hfr 13 10 rfl rfl q674 hR d (by rfl) kk
/-! what is kept -/
def mixO (i : Int) (a b : Int → Option Nat) : Int → Option Nat := fun n => if 1 ≤ n ∧ n < i then a n else b n
theorem mixO_1 {a b : Int → Option Nat} : mixO 1 a b = b := by funext n; unfold mixO; rw [if_neg (by omega)]
theorem mixO_s {i : Int} {a b : Int → Option Nat} {v : Nat} (hi : 1 ≤ i) (hv : a i = some v) : uI (mixO i a b) i (some v) = mixO (i + 1) a b := by
  funext n
  by_cases e : n = i
  · subst e; rw [uI_s]; unfold mixO; rw [if_pos (by omega), hv]
  · rw [uI_n e]
    unfold mixO
    by_cases q : 1 ≤ n ∧ n < i
    · rw [if_pos q, if_pos (by omega)]
    · rw [if_neg q, if_neg (by omega)]
abbrev Mf : Type := Nat → Nat × Int × Int × Int
/-- kept colours of the first ones are laid by -/
def imM (num : Int → Option Nat) (mf : Mf) (i : Int) : Mf := fun b => if 1 ≤ (mf b).2.1 ∧ (mf b).2.1 < i ∧ num (mf b).2.1 = some b then ((mf b).1, (mf b).2.1, (mf b).2.2.1, (mf b).2.2.1) else mf b
theorem imM_k {num : Int → Option Nat} {mf : Mf} {i : Int} (b : Nat) : (imM num mf i b).1 = (mf b).1 ∧ (imM num mf i b).2.1 = (mf b).2.1 ∧ (imM num mf i b).2.2.1 = (mf b).2.2.1 := by
  unfold imM; split <;> exact ⟨rfl, rfl, rfl⟩
theorem imM_1 {num : Int → Option Nat} {mf : Mf} : imM num mf 1 = mf := by funext b; unfold imM; rw [if_neg (by omega)]
theorem imM_s {num : Int → Option Nat} {mf : Mf} {i : Int} {a : Nat} (hi : 1 ≤ i) (ha : num i = some a) (hn : (mf a).2.1 = i) : va_up (imM num mf i) a ((imM num mf i a).1, (imM num mf i a).2.1, (imM num mf i a).2.2.1, (imM num mf i a).2.2.1) = imM num mf (i + 1) := by
  funext b
  by_cases q : b = a
  · subst q
    rw [va_up_self]
    have h := imM_k (num := num) (mf := mf) (i := i) b
    rw [h.1, h.2.1, h.2.2]
    unfold imM
    rw [if_pos ⟨by omega, by omega, by rw [hn]; exact ha⟩]
  · rw [va_up_ne _ _ q]
    unfold imM
    by_cases p : 1 ≤ (mf b).2.1 ∧ (mf b).2.1 < i ∧ num (mf b).2.1 = some b
    · rw [if_pos p, if_pos ⟨p.1, by omega, p.2.2⟩]
    · rw [if_neg p, if_neg]
      rintro ⟨p1, p2, p3⟩
      by_cases e : (mf b).2.1 = i
      · rw [e, ha] at p3
        exact q (Option.some.inj p3).symm
      · exact p ⟨p1, by omega, p3⟩
def rsM (kpt : Int → Option Nat) (mf : Mf) (i : Int) : Mf := fun b => if 1 ≤ (mf b).2.1 ∧ (mf b).2.1 < i ∧ kpt (mf b).2.1 = some b then ((mf b).1, (mf b).2.1, (mf b).2.2.2, (mf b).2.2.2) else mf b
theorem rsM_k {kpt : Int → Option Nat} {mf : Mf} {i : Int} (b : Nat) : (rsM kpt mf i b).1 = (mf b).1 ∧ (rsM kpt mf i b).2.1 = (mf b).2.1 ∧ (rsM kpt mf i b).2.2.2 = (mf b).2.2.2 := by
  unfold rsM; split <;> exact ⟨rfl, rfl, rfl⟩
theorem rsM_1 {kpt : Int → Option Nat} {mf : Mf} : rsM kpt mf 1 = mf := by funext b; unfold rsM; rw [if_neg (by omega)]
theorem rsM_s {kpt : Int → Option Nat} {mf : Mf} {i : Int} {a : Nat} (hi : 1 ≤ i) (ha : kpt i = some a) (hn : (mf a).2.1 = i) : va_up (rsM kpt mf i) a ((rsM kpt mf i a).1, (rsM kpt mf i a).2.1, (rsM kpt mf i a).2.2.2, (rsM kpt mf i a).2.2.2) = rsM kpt mf (i + 1) := by
  funext b
  by_cases q : b = a
  · subst q
    rw [va_up_self]
    have h := rsM_k (kpt := kpt) (mf := mf) (i := i) b
    rw [h.1, h.2.1, h.2.2]
    unfold rsM
    rw [if_pos ⟨by omega, by omega, by rw [hn]; exact ha⟩]
  · rw [va_up_ne _ _ q]
    unfold rsM
    by_cases p : 1 ≤ (mf b).2.1 ∧ (mf b).2.1 < i ∧ kpt (mf b).2.1 = some b
    · rw [if_pos p, if_pos ⟨p.1, by omega, p.2.2⟩]
    · rw [if_neg p, if_neg]
      rintro ⟨p1, p2, p3⟩
      by_cases e : (mf b).2.1 = i
      · rw [e, ha] at p3
        exact q (Option.some.inj p3).symm
      · exact p ⟨p1, by omega, p3⟩
/-- the kept members: kinds and colours -/
def xK (many : Int) (kpt : Int → Option Nat) (L : List Nat) (mf : Mf) (kK kO : Int → Int) : Prop := ∀ n, 1 ≤ n → n ≤ many → ∃ a, kpt n = some a ∧ a ∈ L ∧ (mf a).1 < 5 ∧ (mf a).2.1 = n ∧ ((mf a).1 : Int) = kK n ∧ (mf a).2.2.2 = kO n
theorem im_xB {many i : Int} {num : Int → Option Nat} {L : List Nat} {mf : Mf} (h : xB many num L mf) : xB many num L (imM num mf i) := by
  refine ⟨fun n b hb => ?_, h.2⟩
  have e := h.1 n b hb
  have k := imM_k (num := num) (mf := mf) (i := i) b
  rw [k.1, k.2.1, k.2.2]
  exact e
theorem im_kd {num : Int → Option Nat} {mf : Mf} {i : Int} : xkd num (imM num mf i) = xkd num mf := by
  funext n; unfold xkd
  cases num n with
  | none => rfl
  | some b => simp only; rw [(imM_k b).1]
theorem im_co {num : Int → Option Nat} {mf : Mf} {i : Int} : xco num (imM num mf i) = xco num mf := by
  funext n; unfold xco
  cases num n with
  | none => rfl
  | some b => simp only; rw [(imM_k b).2.2]
theorem im_xK {many : Int} {num kpt : Int → Option Nat} {L : List Nat} {mf : Mf} (h : xB many num L mf) : xK many (mixO (many + 1) num kpt) L (imM num mf (many + 1)) (xkd num mf) (xco num mf) := by
  intro n h1 h2
  obtain ⟨a, ha, e1, e2, e3, e4⟩ := h.at h1 h2
  have k := imM_k (num := num) (mf := mf) (i := many + 1) a
  refine ⟨a, by unfold mixO; rw [if_pos (by omega)]; exact ha, e1, by rw [k.1]; exact e2, by rw [k.2.1]; exact e3, by rw [k.1, xkd_at ha], ?_⟩
  rw [xco_at ha]
  unfold imM
  rw [if_pos ⟨by omega, by omega, by rw [e3]; exact ha⟩]
theorem rs_at {many : Int} {num kpt : Int → Option Nat} {L : List Nat} {mf : Mf} {kK kO : Int → Int} (hK : xK many kpt L mf kK kO) {n : Int} {b : Nat} (h1 : 1 ≤ n) (h2 : n ≤ many) (hb : mixO (many + 1) kpt num n = some b) : b ∈ L ∧ (rsM kpt mf (many + 1) b).1 < 5 ∧ (rsM kpt mf (many + 1) b).2.1 = n ∧ ((rsM kpt mf (many + 1) b).1 : Int) = kK n ∧ (rsM kpt mf (many + 1) b).2.2.1 = kO n := by
  unfold mixO at hb
  rw [if_pos (by omega)] at hb
  obtain ⟨a, ha, e1, e2, e3, e4, e5⟩ := hK n h1 h2
  rw [hb] at ha
  cases ha
  have k := rsM_k (kpt := kpt) (mf := mf) (i := many + 1) b
  refine ⟨e1, by rw [k.1]; exact e2, by rw [k.2.1]; exact e3, by rw [k.1]; exact e4, ?_⟩
  unfold rsM
  rw [if_pos ⟨by omega, by omega, by rw [e3]; exact hb⟩]
  exact e5
theorem rs_out {many : Int} {num kpt : Int → Option Nat} {L : List Nat} {mf : Mf} (h : xB many num L mf) {n : Int} {b : Nat} (h1 : ¬ (1 ≤ n ∧ n ≤ many)) (hb : num n = some b) : rsM kpt mf (many + 1) b = mf b := by
  have e := (h.1 n b hb).2.2.1
  unfold rsM
  rw [if_neg (by omega)]
theorem rs_xB {many : Int} {num kpt : Int → Option Nat} {L : List Nat} {mf : Mf} {kK kO : Int → Int} (h : xB many num L mf) (hK : xK many kpt L mf kK kO) (hO : ∀ n, -1 ≤ kO n ∧ kO n ≤ 2) : xB many (mixO (many + 1) kpt num) L (rsM kpt mf (many + 1)) := by
  constructor
  · intro n b hb
    by_cases q : 1 ≤ n ∧ n ≤ many
    · have e := rs_at hK q.1 q.2 hb
      exact ⟨e.1, e.2.1, e.2.2.1, by rw [e.2.2.2.2]; exact hO n⟩
    · have hb2 : num n = some b := by unfold mixO at hb; rw [if_neg (by omega)] at hb; exact hb
      rw [rs_out h q hb2]
      exact h.1 n b hb2
  · intro n h1 h2
    obtain ⟨a, ha, _⟩ := hK n h1 h2
    exact ⟨a, by unfold mixO; rw [if_pos (by omega)]; exact ha⟩
theorem rs_kd {many : Int} {num kpt : Int → Option Nat} {L : List Nat} {mf : Mf} {kK kO : Int → Int} (h : xB many num L mf) (hK : xK many kpt L mf kK kO) : xkd (mixO (many + 1) kpt num) (rsM kpt mf (many + 1)) = mixF (many + 1) kK (xkd num mf) := by
  funext n
  by_cases q : 1 ≤ n ∧ n ≤ many
  · obtain ⟨a, ha, _⟩ := hK n q.1 q.2
    have hb : mixO (many + 1) kpt num n = some a := by unfold mixO; rw [if_pos (by omega)]; exact ha
    rw [xkd_at hb, mixF_in (by omega)]
    exact (rs_at hK q.1 q.2 hb).2.2.2.1
  · rw [mixF_out (by omega)]
    unfold xkd mixO
    rw [if_neg (by omega)]
    cases e : num n with
    | none => rfl
    | some b => simp only; rw [rs_out h q e]
theorem rs_co {many : Int} {num kpt : Int → Option Nat} {L : List Nat} {mf : Mf} {kK kO : Int → Int} (h : xB many num L mf) (hK : xK many kpt L mf kK kO) : xco (mixO (many + 1) kpt num) (rsM kpt mf (many + 1)) = mixF (many + 1) kO (xco num mf) := by
  funext n
  by_cases q : 1 ≤ n ∧ n ≤ many
  · obtain ⟨a, ha, _⟩ := hK n q.1 q.2
    have hb : mixO (many + 1) kpt num n = some a := by unfold mixO; rw [if_pos (by omega)]; exact ha
    rw [xco_at hb, mixF_in (by omega)]
    exact (rs_at hK q.1 q.2 hb).2.2.2.2
  · rw [mixF_out (by omega)]
    unfold xco mixO
    rw [if_neg (by omega)]
    cases e : num n with
    | none => rfl
    | some b => simp only; rw [rs_out h q e]
theorem rs_xK {many : Int} {kpt : Int → Option Nat} {L : List Nat} {mf : Mf} {kK kO : Int → Int} (hK : xK many kpt L mf kK kO) : xK many kpt L (rsM kpt mf (many + 1)) kK kO := by
  intro n h1 h2
  obtain ⟨a, ha, e1, e2, e3, e4, e5⟩ := hK n h1 h2
  have k := rsM_k (kpt := kpt) (mf := mf) (i := many + 1) a
  exact ⟨a, ha, e1, by rw [k.1]; exact e2, by rw [k.2.1]; exact e3, by rw [k.1]; exact e4, by rw [k.2.2]; exact e5⟩
set_option maxHeartbeats 4000000 in
set_option maxRecDepth 100000 in
theorem cx_image {l : Launch} {g : tG} {o : Nat} {ax : Nat → Nat} {num kpt : Int → Option Nat} {many cols chg brd old : Int} {page : Int → Int} {pgM told enD : Int} {row : Int → Int} {ways far : Int} {hav : Int → Int} {wtd : Int} {fnd : Int → Int} {mdT wnT : Int} {sN sW sC : Int → Int} {sM drw : Int} {kN kW kC : Int → Int} {kS kG kB : Int} {hh : Int64} {L : List Nat} {mf : Nat → Nat × Int × Int × Int}  (hm : 0 ≤ many ∧ many ≤ 10) (hB : xB many num L mf) (hch : 0 ≤ chg ∧ chg ≤ 999) (hsC : ∀ i, 0 ≤ sC i ∧ sC i ≤ 1) : Ce l g yX0_image (ws_ yX0_image cX0_image 2 (Option.some Jvm.ClassFile.FieldType.int)) (rmL 3) [.ref o] (xW g o ax num kpt many cols chg brd old page pgM told enD row ways far hav wtd fnd mdT wnT sN sW sC sM drw kN kW kC kS kG kB hh L mf) (if ¬ many = 0 then chg else -103) (xW g o ax num (if ¬ many = 0 then mixO (many + 1) num kpt else kpt) many cols chg brd old page pgM told enD row ways far hav wtd fnd mdT wnT sN sW sC sM drw (if ¬ many = 0 then cpF 6 sN kN else kN) (if ¬ many = 0 then cpF 6 sW kW else kW) (if ¬ many = 0 then cpF 6 sC kC else kC) (if ¬ many = 0 then sM else kS) (if ¬ many = 0 then chg else kG) (if ¬ many = 0 then brd else kB) hh L (if ¬ many = 0 then imM num mf (many + 1) else mf)) := by
  refine Ct.of (by decide) (Nat.le_of_ble_eq_true rfl) ?_
  intro Γ hl hg hf hrT
  subst hl hg
  have hf : Fx Γ RX0 cX0_image 2 := hf
  show T Γ (rmL 3) 2 0 0 (Qe Γ (rmL 3) _) _ 0 [(0, .ref o)] []
  refine tt_aload_n hf 0 dX0_image_0 rfl ?_
  refine gx_many hf dX0_image_1 ?_
  refine tt_if_ne (tgt := 10) hf dX0_image_4 (by decide) (by omega) (fun c4 => ?_) (fun c4 => ?_)
  · refine tt_iconst hf dX0_image_10 ?_
    refine tt_istore_n (lv' := [(1, .int (iI 1)), (0, .ref o)]) hf dX0_image_11 (by decide) rfl ?_
    have lp : ∀ (N : Nat) (i : Int) (kx : Int → Option Nat) (mx : Mf), (1 ≤ i ∧ i ≤ many + 1) → (kx = mixO i num kpt) → (mx = imM num mf i) → (11 - i).toNat < N → T Γ (rmL 3) 2 0 0 (Qe Γ (rmL 3) (fun vv w => ∃ r : Int, vv = some (.int (iI r)) ∧ iR r ∧ r = (if ¬ many = 0 then chg else -103) ∧ w = xW (xg Γ) o ax num (if ¬ many = 0 then mixO (many + 1) num kpt else kpt) many cols chg brd old page pgM told enD row ways far hav wtd fnd mdT wnT sN sW sC sM drw (if ¬ many = 0 then cpF 6 sN kN else kN) (if ¬ many = 0 then cpF 6 sW kW else kW) (if ¬ many = 0 then cpF 6 sC kC else kC) (if ¬ many = 0 then sM else kS) (if ¬ many = 0 then chg else kG) (if ¬ many = 0 then brd else kB) hh L (if ¬ many = 0 then imM num mf (many + 1) else mf))) (xW (xg Γ) o ax num kx many cols chg brd old page pgM told enD row ways far hav wtd fnd mdT wnT sN sW sC sM drw kN kW kC kS kG kB hh L mx) 12 [(0, .ref o), (1, .int (iI i))] [] := by
      intro N
      induction N with
      | zero => intro i kx mx hi hkx hmx hN; exact absurd hN (Nat.not_lt_zero _)
      | succ N ih =>
        intro i kx mx hi hkx hmx hN
        refine tt_iload_n hf 1 dX0_image_12 rfl ?_
        refine tt_aload_n hf 0 dX0_image_13 rfl ?_
        refine gx_many hf dX0_image_14 ?_
        refine tt_icmp_gt (tgt := 56) hf dX0_image_17 (by decide) (by omega) (by omega) (fun c17 => ?_) (fun c17 => ?_)
        · refine tt_aload_n hf 0 dX0_image_56 rfl ?_
          refine gx_sN hf dX0_image_57 ?_
          refine tt_iconst hf dX0_image_60 ?_
          refine tt_aload_n hf 0 dX0_image_61 rfl ?_
          refine gx_kN hf dX0_image_62 ?_
          refine tt_iconst hf dX0_image_65 ?_
          refine tt_bipush hf dX0_image_66 (by decide) ?_
          refine cpx_sN hf (by decide) dX0_image_68 ?_
          refine tt_aload_n hf 0 dX0_image_71 rfl ?_
          refine gx_sW hf dX0_image_72 ?_
          refine tt_iconst hf dX0_image_75 ?_
          refine tt_aload_n hf 0 dX0_image_76 rfl ?_
          refine gx_kW hf dX0_image_77 ?_
          refine tt_iconst hf dX0_image_80 ?_
          refine tt_bipush hf dX0_image_81 (by decide) ?_
          refine cpx_sW hf (by decide) dX0_image_83 ?_
          refine tt_aload_n hf 0 dX0_image_86 rfl ?_
          refine gx_sC hf dX0_image_87 ?_
          refine tt_iconst hf dX0_image_90 ?_
          refine tt_aload_n hf 0 dX0_image_91 rfl ?_
          refine gx_kC hf dX0_image_92 ?_
          refine tt_iconst hf dX0_image_95 ?_
          refine tt_bipush hf dX0_image_96 (by decide) ?_
          refine cpx_sC hf hsC (by decide) dX0_image_98 ?_
          refine tt_aload_n hf 0 dX0_image_101 rfl ?_
          refine tt_aload_n hf 0 dX0_image_102 rfl ?_
          refine gx_sM hf dX0_image_103 ?_
          refine px_kS hf dX0_image_106 ?_
          refine tt_aload_n hf 0 dX0_image_109 rfl ?_
          refine tt_aload_n hf 0 dX0_image_110 rfl ?_
          refine gx_chg hf dX0_image_111 ?_
          refine px_kG hf dX0_image_114 ?_
          refine tt_aload_n hf 0 dX0_image_117 rfl ?_
          refine tt_aload_n hf 0 dX0_image_118 rfl ?_
          refine gx_brd hf dX0_image_119 ?_
          refine px_kB hf dX0_image_122 ?_
          refine tt_aload_n hf 0 dX0_image_125 rfl ?_
          refine gx_chg hf dX0_image_126 ?_
          have ei : i = many + 1 := by omega
          rw [ei] at hkx hmx
          exact tt_ireti hf hrT dX0_image_129 (Nat.le_refl _) (Nat.le_refl _) (by omega) ⟨(by rw [if_pos c4]), (by rw [if_pos c4, if_pos c4, if_pos c4, if_pos c4, if_pos c4, if_pos c4, if_pos c4, if_pos c4, ← hkx, ← hmx])⟩
        · obtain ⟨a0, ha0, ma0, ka0, na0, ca0⟩ := hB.at (n := i) (by omega) (by omega)
          have ka1 : (mx a0).1 < 5 := by rw [hmx, (imM_k a0).1]; exact ka0
          refine tt_aload_n hf 0 dX0_image_20 rfl ?_
          refine gx_kpt hf dX0_image_21 ?_
          refine tt_iload_n hf 1 dX0_image_24 rfl ?_
          refine tt_aload_n hf 0 dX0_image_25 rfl ?_
          refine gx_num hf dX0_image_26 ?_
          refine tt_iload_n hf 1 dX0_image_29 rfl ?_
          refine lx_num hf (by omega) ha0 dX0_image_30 ?_
          refine sx_kpt hf (by omega) ma0 ka1 dX0_image_31 ?_
          refine tt_aload_n hf 0 dX0_image_32 rfl ?_
          refine gx_num hf dX0_image_33 ?_
          refine tt_iload_n hf 1 dX0_image_36 rfl ?_
          refine lx_num hf (by omega) ha0 dX0_image_37 ?_
          refine tt_aload_n hf 0 dX0_image_38 rfl ?_
          refine gx_num hf dX0_image_39 ?_
          refine tt_iload_n hf 1 dX0_image_42 rfl ?_
          refine lx_num hf (by omega) ha0 dX0_image_43 ?_
          refine gm_colour hf ma0 ka1 dX0_image_44 ?_
          refine pm_keptColour hf ma0 ka1 dX0_image_47 ?_
          refine tt_iinc (lv' := [(1, .int (iI (i + 1))), (0, .ref o)]) hf 1 dX0_image_50 rfl (by decide) rfl ?_
          refine tt_goto (tgt := 12) hf dX0_image_53 (by decide) ?_
          refine tt_sub [1, 0] rfl ?_
          exact ih (i + 1) (uI kx i (some a0)) (va_up mx a0 ((mx a0).1, (mx a0).2.1, (mx a0).2.2.1, (mx a0).2.2.1)) (by omega) (by rw [hkx]; exact mixO_s (by omega) ha0) (by rw [hmx]; exact imM_s (by omega) ha0 na0) (by omega)
    refine tt_sub [1, 0] rfl ?_
    exact lp _ 1 kpt mf (by omega) mixO_1.symm imM_1.symm (Nat.lt_succ_self _)
  · refine tt_bipush hf dX0_image_7 (by decide) ?_
    exact tt_ireti hf hrT dX0_image_9 (Nat.le_refl _) (Nat.le_refl _) (by omega) ⟨(by rw [if_neg (fun q => q c4)]), (by rw [if_neg (fun q => q c4), if_neg (fun q => q c4), if_neg (fun q => q c4), if_neg (fun q => q c4), if_neg (fun q => q c4), if_neg (fun q => q c4), if_neg (fun q => q c4), if_neg (fun q => q c4)])⟩
set_option maxHeartbeats 4000000 in
set_option maxRecDepth 100000 in
theorem cx_restore {l : Launch} {g : tG} {o : Nat} {ax : Nat → Nat} {num kpt : Int → Option Nat} {many cols chg brd old : Int} {page : Int → Int} {pgM told enD : Int} {row : Int → Int} {ways far : Int} {hav : Int → Int} {wtd : Int} {fnd : Int → Int} {mdT wnT : Int} {sN sW sC : Int → Int} {sM drw : Int} {kN kW kC : Int → Int} {kS kG kB : Int} {hh : Int64} {L : List Nat} {mf : Nat → Nat × Int × Int × Int} {kK kO : Int → Int} (hm : 0 ≤ many ∧ many ≤ 10) (hK : kB = brd → xK many kpt L mf kK kO) (hkG : 0 ≤ kG ∧ kG ≤ 999) (hkB : iR kB) (hbr : iR brd) (hkC : ∀ i, 0 ≤ kC i ∧ kC i ≤ 1) : Ce l g yX0_restore (ws_ yX0_restore cX0_restore 2 (Option.some Jvm.ClassFile.FieldType.int)) (rmL 3) [.ref o] (xW g o ax num kpt many cols chg brd old page pgM told enD row ways far hav wtd fnd mdT wnT sN sW sC sM drw kN kW kC kS kG kB hh L mf) (if kB = brd then kG else -103) (xW g o ax (if kB = brd then mixO (many + 1) kpt num else num) kpt many cols (if kB = brd then kG else chg) brd (if kB = brd then 1 else old) page pgM told enD row ways far hav wtd fnd mdT wnT (if kB = brd then cpF 6 kN sN else sN) (if kB = brd then cpF 6 kW sW else sW) (if kB = brd then cpF 6 kC sC else sC) (if kB = brd then kS else sM) drw kN kW kC kS kG kB hh L (if kB = brd then rsM kpt mf (many + 1) else mf)) := by
  refine Ct.of (by decide) (Nat.le_of_ble_eq_true rfl) ?_
  intro Γ hl hg hf hrT
  subst hl hg
  have hf : Fx Γ RX0 cX0_restore 2 := hf
  show T Γ (rmL 3) 2 0 0 (Qe Γ (rmL 3) _) _ 0 [(0, .ref o)] []
  refine tt_aload_n hf 0 dX0_restore_0 rfl ?_
  refine gx_kB hf dX0_restore_1 ?_
  refine tt_aload_n hf 0 dX0_restore_4 rfl ?_
  refine gx_brd hf dX0_restore_5 ?_
  refine tt_icmp_eq (tgt := 14) hf dX0_restore_8 (by decide) (by omega) (by omega) (fun c8 => ?_) (fun c8 => ?_)
  · refine tt_iconst hf dX0_restore_14 ?_
    refine tt_istore_n (lv' := [(1, .int (iI 1)), (0, .ref o)]) hf dX0_restore_15 (by decide) rfl ?_
    have hK := hK c8
    have lp : ∀ (N : Nat) (i : Int) (nx : Int → Option Nat) (mx : Mf), (1 ≤ i ∧ i ≤ many + 1) → (nx = mixO i kpt num) → (mx = rsM kpt mf i) → (11 - i).toNat < N → T Γ (rmL 3) 2 0 0 (Qe Γ (rmL 3) (fun vv w => ∃ r : Int, vv = some (.int (iI r)) ∧ iR r ∧ r = (if kB = brd then kG else -103) ∧ w = xW (xg Γ) o ax (if kB = brd then mixO (many + 1) kpt num else num) kpt many cols (if kB = brd then kG else chg) brd (if kB = brd then 1 else old) page pgM told enD row ways far hav wtd fnd mdT wnT (if kB = brd then cpF 6 kN sN else sN) (if kB = brd then cpF 6 kW sW else sW) (if kB = brd then cpF 6 kC sC else sC) (if kB = brd then kS else sM) drw kN kW kC kS kG kB hh L (if kB = brd then rsM kpt mf (many + 1) else mf))) (xW (xg Γ) o ax nx kpt many cols chg brd old page pgM told enD row ways far hav wtd fnd mdT wnT sN sW sC sM drw kN kW kC kS kG kB hh L mx) 16 [(0, .ref o), (1, .int (iI i))] [] := by
      intro N
      induction N with
      | zero => intro i nx mx hi hnx hmx hN; exact absurd hN (Nat.not_lt_zero _)
      | succ N ih =>
        intro i nx mx hi hnx hmx hN
        refine tt_iload_n hf 1 dX0_restore_16 rfl ?_
        refine tt_aload_n hf 0 dX0_restore_17 rfl ?_
        refine gx_many hf dX0_restore_18 ?_
        refine tt_icmp_gt (tgt := 60) hf dX0_restore_21 (by decide) (by omega) (by omega) (fun c21 => ?_) (fun c21 => ?_)
        · refine tt_aload_n hf 0 dX0_restore_60 rfl ?_
          refine gx_kN hf dX0_restore_61 ?_
          refine tt_iconst hf dX0_restore_64 ?_
          refine tt_aload_n hf 0 dX0_restore_65 rfl ?_
          refine gx_sN hf dX0_restore_66 ?_
          refine tt_iconst hf dX0_restore_69 ?_
          refine tt_bipush hf dX0_restore_70 (by decide) ?_
          refine cpx_kN hf (by decide) dX0_restore_72 ?_
          refine tt_aload_n hf 0 dX0_restore_75 rfl ?_
          refine gx_kW hf dX0_restore_76 ?_
          refine tt_iconst hf dX0_restore_79 ?_
          refine tt_aload_n hf 0 dX0_restore_80 rfl ?_
          refine gx_sW hf dX0_restore_81 ?_
          refine tt_iconst hf dX0_restore_84 ?_
          refine tt_bipush hf dX0_restore_85 (by decide) ?_
          refine cpx_kW hf (by decide) dX0_restore_87 ?_
          refine tt_aload_n hf 0 dX0_restore_90 rfl ?_
          refine gx_kC hf dX0_restore_91 ?_
          refine tt_iconst hf dX0_restore_94 ?_
          refine tt_aload_n hf 0 dX0_restore_95 rfl ?_
          refine gx_sC hf dX0_restore_96 ?_
          refine tt_iconst hf dX0_restore_99 ?_
          refine tt_bipush hf dX0_restore_100 (by decide) ?_
          refine cpx_kC hf hkC (by decide) dX0_restore_102 ?_
          refine tt_aload_n hf 0 dX0_restore_105 rfl ?_
          refine tt_aload_n hf 0 dX0_restore_106 rfl ?_
          refine gx_kS hf dX0_restore_107 ?_
          refine px_sM hf dX0_restore_110 ?_
          refine tt_aload_n hf 0 dX0_restore_113 rfl ?_
          refine tt_aload_n hf 0 dX0_restore_114 rfl ?_
          refine gx_kG hf dX0_restore_115 ?_
          refine px_chg hf dX0_restore_118 ?_
          refine tt_aload_n hf 0 dX0_restore_121 rfl ?_
          refine tt_iconst hf dX0_restore_122 ?_
          refine px_old hf dX0_restore_123 (by omega) ?_
          refine tt_aload_n hf 0 dX0_restore_126 rfl ?_
          refine gx_chg hf dX0_restore_127 ?_
          have ei : i = many + 1 := by omega
          rw [ei] at hnx hmx
          exact tt_ireti hf hrT dX0_restore_130 (Nat.le_refl _) (Nat.le_refl _) (by omega) ⟨(by rw [if_pos c8]), (by rw [if_pos c8, if_pos c8, if_pos c8, if_pos c8, if_pos c8, if_pos c8, if_pos c8, if_pos c8, ← hnx, ← hmx])⟩
        · obtain ⟨a0, ha0, ma0, ka0, na0, _, _⟩ := hK i (by omega) (by omega)
          have ka1 : (mx a0).1 < 5 := by rw [hmx, (rsM_k a0).1]; exact ka0
          refine tt_aload_n hf 0 dX0_restore_24 rfl ?_
          refine gx_num hf dX0_restore_25 ?_
          refine tt_iload_n hf 1 dX0_restore_28 rfl ?_
          refine tt_aload_n hf 0 dX0_restore_29 rfl ?_
          refine gx_kpt hf dX0_restore_30 ?_
          refine tt_iload_n hf 1 dX0_restore_33 rfl ?_
          refine lx_kpt hf (by omega) ha0 dX0_restore_34 ?_
          refine sx_num hf (by omega) ma0 ka1 dX0_restore_35 ?_
          refine tt_aload_n hf 0 dX0_restore_36 rfl ?_
          refine gx_num hf dX0_restore_37 ?_
          refine tt_iload_n hf 1 dX0_restore_40 rfl ?_
          refine lx_num hf (by omega) uI_s dX0_restore_41 ?_
          refine tt_aload_n hf 0 dX0_restore_42 rfl ?_
          refine gx_num hf dX0_restore_43 ?_
          refine tt_iload_n hf 1 dX0_restore_46 rfl ?_
          refine lx_num hf (by omega) uI_s dX0_restore_47 ?_
          refine gm_keptColour hf ma0 ka1 dX0_restore_48 ?_
          refine pm_colour hf ma0 ka1 dX0_restore_51 ?_
          refine tt_iinc (lv' := [(1, .int (iI (i + 1))), (0, .ref o)]) hf 1 dX0_restore_54 rfl (by decide) rfl ?_
          refine tt_goto (tgt := 16) hf dX0_restore_57 (by decide) ?_
          refine tt_sub [1, 0] rfl ?_
          exact ih (i + 1) (uI nx i (some a0)) (va_up mx a0 ((mx a0).1, (mx a0).2.1, (mx a0).2.2.2, (mx a0).2.2.2)) (by omega) (by rw [hnx]; exact mixO_s (by omega) ha0) (by rw [hmx]; exact rsM_s (by omega) ha0 na0) (by omega)
    refine tt_sub [1, 0] rfl ?_
    exact lp _ 1 num mf (by omega) mixO_1.symm rsM_1.symm (Nat.lt_succ_self _)
  · refine tt_bipush hf dX0_restore_11 (by decide) ?_
    exact tt_ireti hf hrT dX0_restore_13 (Nat.le_refl _) (Nat.le_refl _) (by omega) ⟨(by rw [if_neg c8]), (by rw [if_neg c8, if_neg c8, if_neg c8, if_neg c8, if_neg c8, if_neg c8, if_neg c8, if_neg c8])⟩
