/-! members: their fields, their methods through whichever class -/
section TM
variable {Γ : tX} {R : Room} {nL k n : Nat} {Q : State → Prop} {ws : va_W} {pc : Nat} {lv : List (Nat × Value)} {st : List Value} {own : String} {cc : ByteArray}
theorem lw_O {own : String} {idx : Nat} {C owner : String} {x y : MethodName} {b : ByteArray} {L : Nat} {r : Option FieldType} (h1 : Cond.methodLink own idx x ∈ lw_all) (h2 : Cond.sameMethod x.cls owner x.name x.desc ∈ lw_all) (h3 : Cond.instanceMethod ⟨owner, x.name, x.desc⟩ ∈ lw_all) (h4 : Cond.selects C x y ∈ lw_all) (h5 : Cond.instanceMethod y ∈ lw_all) (h6 : Cond.initialized y.cls ∈ lw_all) (h7 : Cond.code y b L r ∈ lw_all) : GoodIn lw_all (va_wsO own idx C owner x y (ws_ y b L r)) := by
  refine lw_app ?_ (lw_meth h7)
  intro w hw
  simp only [List.mem_cons, List.not_mem_nil, or_false] at hw
  rcases hw with e | e | e | e | e | e
  · rw [e]; exact h1
  · rw [e]; exact h2
  · rw [e]; exact h3
  · rw [e]; exact h4
  · rw [e]; exact h5
  · rw [e]; exact h6
theorem lw_U {own : String} {idx : Nat} {C owner : String} {x y : MethodName} {b : ByteArray} {L : Nat} {r : Option FieldType} (h1 : Cond.methodLink own idx x ∈ lw_all) (h2 : Cond.sameMethod x.cls owner x.name x.desc ∈ lw_all) (h4 : Cond.selects C x y ∈ lw_all) (h5 : Cond.instanceMethod y ∈ lw_all) (h6 : Cond.initialized y.cls ∈ lw_all) (h7 : Cond.code y b L r ∈ lw_all) : GoodIn lw_all (va_wsU own idx C owner x y (ws_ y b L r)) := by
  refine lw_app ?_ (lw_meth h7)
  intro w hw
  simp only [List.mem_cons, List.not_mem_nil, or_false] at hw
  rcases hw with e | e | e | e | e
  · rw [e]; exact h1
  · rw [e]; exact h2
  · rw [e]; exact h4
  · rw [e]; exact h5
  · rw [e]; exact h6
theorem lw_SU {own : String} {idx : Nat} {y : MethodName} {b : ByteArray} {L : Nat} {r : Option FieldType} (h1 : Cond.methodLink own idx y ∈ lw_all) (h2 : Cond.sameMethod y.cls y.cls y.name y.desc ∈ lw_all) (h3 : Cond.superclass own y.cls ∈ lw_all) (h5 : Cond.instanceMethod y ∈ lw_all) (h6 : Cond.initialized y.cls ∈ lw_all) (h7 : Cond.code y b L r ∈ lw_all) : GoodIn lw_all (va_wsSU own idx y (ws_ y b L r)) := by
  refine lw_app ?_ (lw_meth h7)
  intro w hw
  simp only [List.mem_cons, List.not_mem_nil, or_false] at hw
  rcases hw with e | e | e | e | e
  · rw [e]; exact h1
  · rw [e]; exact h2
  · rw [e]; exact h3
  · rw [e]; exact h5
  · rw [e]; exact h6
theorem lw_F {own : String} {idx : Nat} {C : String} {x y : MethodName} {b : ByteArray} {L : Nat} {r : Option FieldType} (h1 : Cond.methodLink own idx x ∈ lw_all) (h4 : Cond.selects C x y ∈ lw_all) (h5 : Cond.instanceMethod y ∈ lw_all) (h6 : Cond.initialized y.cls ∈ lw_all) (h7 : Cond.code y b L r ∈ lw_all) : GoodIn lw_all (va_wsF own idx C x y (ws_ y b L r)) := by
  refine lw_app ?_ (lw_meth h7)
  intro w hw
  simp only [List.mem_cons, List.not_mem_nil, or_false] at hw
  rcases hw with e | e | e | e
  · rw [e]; exact h1
  · rw [e]; exact h4
  · rw [e]; exact h5
  · rw [e]; exact h6
theorem tt_callO (hf : Fx Γ own cc nL) {x y : MethodName} {bytes : ByteArray} {maxL index : Nat} {ret : Option FieldType} {rm : Room} {post : Option Value → va_W → Prop} {As rest : List Value} {b ci q0 N n0 : Nat} {C owner : String} {T0 : u_T} {fs : List Value} {b0 : ByteArray} {m0 : Nat} {r0 : Option FieldType}
    (hC : Ct (xl Γ) (xg Γ) y (ws_ y bytes maxL ret) rm (.ref b :: As) ws post) (hg : GoodIn lw_all (va_wsO own index C owner x y (ws_ y bytes maxL ret))) (h0c : Cond.code ⟨owner, x.name, x.desc⟩ b0 m0 r0 ∈ lw_all) (hd : owner ≠ "java/lang/invoke/MethodHandle" ∧ owner ≠ "java/lang/invoke/VarHandle" ∧ (parseMethodDescriptor x.desc).map (fun d => d.parameters.length) = some n0) (hn0 : As.length = n0)
    (he : ws[q0]? = some (b, .inr (ci, fs))) (hc : tCl[ci]? = some (C, T0, N)) (h0 : rm.cells = 0 ∧ rm.slots = 0) (hR : rm.frames + 1 ≤ R.frames ∧ 8 + (maxL + 11) + rm.locals ≤ R.locals) (hroom : k ≤ R.cells ∧ n ≤ R.slots) (hcat : (rest.map fun v => v.category).sum ≤ 8) (d : decode cc pc = .ok (.invokevirtual index, 3))
    (hst : st = As.reverse ++ .ref b :: rest) (kk : ∀ (v : Option Value) (ws' : va_W), post v ws' → T Γ R nL k n Q ws' (pc + 3) lv (v.toList ++ rest)) : T Γ R nL k n Q ws pc lv st := by
  subst hst
  exact tt_after hf (fun H locs ls hP hD hS hl => va_runU hf.fix (hC H.size) (va_cwO n0 hf.ts hg rfl rfl rfl h0c hd hR) ⟨Pg.blind, va_recv hf.K hP hc he, hf.pre hP hD⟩ rfl hn0 hl.1 rfl (lv_room hcat) d (by rw [h0.1, h0.2]; exact hroom)) (fun v w hp => by rw [h0.1, h0.2]; exact kk v w hp)
theorem tt_callU (hf : Fx Γ own cc nL) {x y : MethodName} {bytes : ByteArray} {maxL index : Nat} {ret : Option FieldType} {rm : Room} {post : Option Value → va_W → Prop} {As rest : List Value} {b ci q0 N n0 : Nat} {C owner : String} {T0 : u_T} {fs : List Value}
    (hC : Ct (xl Γ) (xg Γ) y (ws_ y bytes maxL ret) rm (.ref b :: As) ws post) (hg : GoodIn lw_all (va_wsU own index C owner x y (ws_ y bytes maxL ret))) (hyx : y = ⟨owner, x.name, x.desc⟩) (hd : owner ≠ "java/lang/invoke/MethodHandle" ∧ owner ≠ "java/lang/invoke/VarHandle" ∧ (parseMethodDescriptor x.desc).map (fun d => d.parameters.length) = some n0) (hn0 : As.length = n0)
    (he : ws[q0]? = some (b, .inr (ci, fs))) (hc : tCl[ci]? = some (C, T0, N)) (h0 : rm.cells = 0 ∧ rm.slots = 0) (hR : rm.frames + 1 ≤ R.frames ∧ 8 + (maxL + 11) + rm.locals ≤ R.locals) (hroom : k ≤ R.cells ∧ n ≤ R.slots) (hcat : (rest.map fun v => v.category).sum ≤ 8) (d : decode cc pc = .ok (.invokevirtual index, 3))
    (hst : st = As.reverse ++ .ref b :: rest) (kk : ∀ (v : Option Value) (ws' : va_W), post v ws' → T Γ R nL k n Q ws' (pc + 3) lv (v.toList ++ rest)) : T Γ R nL k n Q ws pc lv st := by
  subst hst
  exact tt_after hf (fun H locs ls hP hD hS hl => va_runU hf.fix (hC H.size) (va_cwU n0 hf.ts hg rfl rfl rfl hyx hd hR) ⟨Pg.blind, va_recv hf.K hP hc he, hf.pre hP hD⟩ rfl hn0 hl.1 rfl (lv_room hcat) d (by rw [h0.1, h0.2]; exact hroom)) (fun v w hp => by rw [h0.1, h0.2]; exact kk v w hp)
theorem tt_callSU (hf : Fx Γ own cc nL) {y : MethodName} {bytes : ByteArray} {maxL index : Nat} {ret : Option FieldType} {rm : Room} {post : Option Value → va_W → Prop} {As rest : List Value} {b ci q0 N n0 : Nat} {C : String} {T0 : u_T} {fs : List Value}
    (hC : Ct (xl Γ) (xg Γ) y (ws_ y bytes maxL ret) rm (.ref b :: As) ws post) (hg : GoodIn lw_all (va_wsSU own index y (ws_ y bytes maxL ret))) (hd : y.name ≠ "<init>" ∧ (parseMethodDescriptor y.desc).map (fun d => d.parameters.length) = some n0) (hn0 : As.length = n0)
    (he : ws[q0]? = some (b, .inr (ci, fs))) (hc : tCl[ci]? = some (C, T0, N)) (h0 : rm.cells = 0 ∧ rm.slots = 0) (hR : rm.frames + 1 ≤ R.frames ∧ 8 + (maxL + 11) + rm.locals ≤ R.locals) (hroom : k ≤ R.cells ∧ n ≤ R.slots) (hcat : (rest.map fun v => v.category).sum ≤ 8) (d : decode cc pc = .ok (.invokespecial index, 3))
    (hst : st = As.reverse ++ .ref b :: rest) (kk : ∀ (v : Option Value) (ws' : va_W), post v ws' → T Γ R nL k n Q ws' (pc + 3) lv (v.toList ++ rest)) : T Γ R nL k n Q ws pc lv st := by
  subst hst
  exact tt_after hf (fun H locs ls hP hD hS hl => va_runSU (hf.K.1 ci _ hc).2 hf.fix (hC H.size) (va_cwSU n0 hf.ts hg rfl rfl rfl hd hR) ⟨Pg.blind, va_recv hf.K hP hc he, hf.pre hP hD⟩ rfl hn0 hl.1 rfl (lv_room hcat) d (by rw [h0.1, h0.2]; exact hroom)) (fun v w hp => by rw [h0.1, h0.2]; exact kk v w hp)
theorem tt_after5 (hf : Fx Γ own cc nL) {rm : Room} {post : Option Value → va_W → Prop} {st0 rest : List Value} {a : Array Value}
    (hr : ∀ (H : Heap) (locs : List Loc) (ls : Array Slot), va_P (xg Γ).1 tCl ws H → va_D (xA Γ) ws → va_S (xA Γ) (xs Γ).heap H locs → lv_has ls nL lv → va_Run5 (xp Γ) (xl Γ) (xe Γ) R (xs Γ) (xm Γ) (xa Γ) (xb Γ) (xh Γ) (xc Γ) H locs k n rm.cells rm.slots (F0 (xm Γ) pc ls st0) rest (Qg post (xg Γ) (va_A ws H.size) a) (va_A ws H.size))
    (kk : ∀ (v : Option Value) (ws' : va_W), post v ws' → T Γ R nL (k + rm.cells) (n + rm.slots) Q ws' (pc + 5) lv (v.toList ++ rest)) : T Γ R nL k n Q ws pc lv st0 := by
  intro H locs ls hP hD hS hl T' hT X
  obtain ⟨v, st₀, t, T'', L, h0, X', hL, e1, e2, ⟨⟨v', ws', hv, hp, hP1, hK1, hD1⟩, hz, hk⟩, stp⟩ := hr H locs ls hP hD hS hl T' hT X
  cases hv
  rw [h0] at hz hk
  have hFr : ∀ q, va_A ws H.size q → xA Γ q := by
    intro q h
    rcases h with ⟨j, e, h⟩ | h
    · exact hD.2 j (q, e) h
    · exact hf.A q (Nat.le_trans hS.1 h)
  obtain ⟨t2, a1, b1⟩ := kk v ws' hp T''.heap (locs ++ L) ls (by rw [e1]; exact hP1) (hD1.weaken (fun _ q _ h => hFr q.1 h))
    ⟨Nat.le_trans hS.1 (by rw [e1]; exact hz), fun q h1 h2 => by rw [e1, hk q (Nat.lt_of_lt_of_le h1 hS.1) (fun z => h2 (hFr q z))]; exact hS.2.1 q h1 h2, fun q hq => by
      rcases List.mem_append.mp hq with h | h
      · exact hS.2.2 q h
      · exact hFr _ (hL q h)⟩ hl T'' rfl X'
  exact ⟨t2, stp t2 a1, b1⟩
theorem tt_callF (hf : Fx Γ own cc nL) {x y : MethodName} {bytes : ByteArray} {maxL index count : Nat} {ret : Option FieldType} {rm : Room} {post : Option Value → va_W → Prop} {As rest : List Value} {b ci q0 N n0 : Nat} {C : String} {T0 : u_T} {fs : List Value}
    (hC : Ct (xl Γ) (xg Γ) y (ws_ y bytes maxL ret) rm (.ref b :: As) ws post) (hg : GoodIn lw_all (va_wsF own index C x y (ws_ y bytes maxL ret))) (hF : va_Fw C x y (xs Γ)) (hd : x.cls ≠ "java/lang/invoke/MethodHandle" ∧ x.cls ≠ "java/lang/invoke/VarHandle" ∧ (parseMethodDescriptor x.desc).map (fun d => d.parameters.length) = some n0) (hn0 : As.length = n0)
    (he : ws[q0]? = some (b, .inr (ci, fs))) (hc : tCl[ci]? = some (C, T0, N)) (h0 : rm.cells = 0 ∧ rm.slots = 0) (hR : rm.frames + 1 ≤ R.frames ∧ 8 + (maxL + 11) + rm.locals ≤ R.locals) (hroom : k ≤ R.cells ∧ n ≤ R.slots) (hcat : (rest.map fun v => v.category).sum ≤ 8) (d : decode cc pc = .ok (.invokeinterface index count, 5))
    (hst : st = As.reverse ++ .ref b :: rest) (kk : ∀ (v : Option Value) (ws' : va_W), post v ws' → T Γ R nL k n Q ws' (pc + 5) lv (v.toList ++ rest)) : T Γ R nL k n Q ws pc lv st := by
  subst hst
  exact tt_after5 hf (fun H locs ls hP hD hS hl => va_runF (hf.K.1 ci _ hc).2 hf.fix (hC H.size) (va_cwF n0 hf.ts hg rfl rfl rfl hF hd hR) ⟨Pg.blind, va_recv hf.K hP hc he, hf.pre hP hD⟩ rfl hn0 hl.1 rfl (lv_room hcat) d (by rw [h0.1, h0.2]; exact hroom)) (fun v w hp => by rw [h0.1, h0.2]; exact kk v w hp)
/-- a call that lands in an interface's default -/
theorem tt_callD (hf : Fx Γ own cc nL) {x y : MethodName} {bytes : ByteArray} {maxL index : Nat} {ret : Option FieldType} {rm : Room} {post : Option Value → va_W → Prop} {As rest : List Value} {b ci q0 N n0 : Nat} {C owner : String} {T0 : u_T} {fs : List Value}
    (hC : Ct (xl Γ) (xg Γ) y (ws_ y bytes maxL ret) rm (.ref b :: As) ws post) (hcode : Cond.code y bytes maxL ret ∈ lw_all) (hini : Cond.initialized y.cls ∈ lw_all) (hinst : Cond.instanceMethod y ∈ lw_all) (hlink : va_Nw (.methodLink own index x) (xs Γ)) (hsame : va_Nw (.sameMethod x.cls owner x.name x.desc) (xs Γ)) (hdecl : va_Nw (.declares ⟨owner, x.name, x.desc⟩) (xs Γ)) (hsel : va_Nw (.landsInDefault C x y) (xs Γ))
    (hd : owner ≠ "java/lang/invoke/MethodHandle" ∧ owner ≠ "java/lang/invoke/VarHandle" ∧ (parseMethodDescriptor x.desc).map (fun d => d.parameters.length) = some n0) (hn0 : As.length = n0)
    (he : ws[q0]? = some (b, .inr (ci, fs))) (hc : tCl[ci]? = some (C, T0, N)) (h0 : rm.cells = 0 ∧ rm.slots = 0) (hR : rm.frames + 1 ≤ R.frames ∧ 8 + (maxL + 11) + rm.locals ≤ R.locals) (hroom : k ≤ R.cells ∧ n ≤ R.slots) (hcat : (rest.map fun v => v.category).sum ≤ 8) (d : decode cc pc = .ok (.invokevirtual index, 3))
    (hst : st = As.reverse ++ .ref b :: rest) (kk : ∀ (v : Option Value) (ws' : va_W), post v ws' → T Γ R nL k n Q ws' (pc + 3) lv (v.toList ++ rest)) : T Γ R nL k n Q ws pc lv st := by
  subst hst
  refine tt_after hf (rm := rm) (post := post) (a := (Value.ref b :: As).toArray) (fun H locs ls hP hD hS hl => ?_) (fun v w hp => by rw [h0.1, h0.2]; exact kk v w hp)
  have hG : GoodIn lw_all (ws_ y bytes maxL ret) := lw_meth hcode
  have hK : Back (xl Γ) R (xp Γ) (xe Γ) (xb Γ) (xs Γ) (xa Γ) y 3 8 (PreOf R rm.cells rm.slots (va_Pc (.ref b :: As) (Pg (xg Γ) ws H.size))) (PostOf (Qg post (xg Γ) (va_A ws H.size)) rm.cells rm.slots (va_A ws H.size)) :=
    back_of (bytes := bytes) (maxL := maxL) (ret := ret) (hC H.size) Pg.blind rfl rfl hR.1 hR.2 (pay_in hf.ts hG) List.mem_cons_self (fun a' U hW => word_at hW (Or.inl (by first | rfl | simp [Cond.onTables, Cond.keeps, Cond.steady])) (hf.ts _ hini))
  obtain ⟨cellB, hcB, hoB, hclB⟩ := va_recv hf.K hP hc he
  intro T' hT X
  obtain ⟨v, vm₁, ⟨U', l2, c2, s2⟩, hW₁, X', ⟨g', mk, t, L, e1, e2, hq, h1, hL, h2, h3⟩, stp⟩ := X.virtualBackUpD hf.x (C := C) (owner := owner) (x := x) (y := y) hf.own (va_Nw.use rfl hlink) (va_Nw.use rfl hsame) (va_Nw.use rfl hdecl) ⟨hd.1, hd.2.1⟩ hsel (hf.ts _ hinst) hK (b := b) hclB ⟨cellB, by rw [hT]; exact hcB, rfl, hoB⟩
    (g := F0 (xm Γ) pc ls (As.reverse ++ .ref b :: rest)) rfl (hl.1.trans hf.ml.symm) (Steps.refl _) (argsL := As) (rest := rest) (fun sig h => by have h2 := hd.2.2; rw [h] at h2; rw [hn0]; exact (Option.some.inj h2).symm) rfl (lv_room hcat) (by rw [hf.b]; exact d)
    (fun vm₁ hW₁ => ⟨by show k + _ ≤ _; rw [h0.1]; exact hroom.1, by show n + _ ≤ _; rw [h0.2]; exact hroom.2, hf.pre hP hD (T'.setVm vm₁) hT hW₁⟩)
  dsimp only [Pt.U, Pt.locs, Pt.cells, Pt.slots] at X' e1 e2 h1 h2 h3 stp
  subst h1; subst h2; subst h3
  exact ⟨v, (T'.setVm vm₁).calling g' mk (Value.ref b :: As).toArray, t, U', L, hT, X', hL, e1, e2, hq, fun target h => stp.trans h⟩
/-! fields of a member -/
theorem tt_getm (hf : Fx Γ own cc nL) {a : Nat} {m : Nat × Int × Int × Int} (j : Nat) (hj : ws[j]? = some (a, mE m)) (hk : m.1 < 5) (i : Nat) (hi : i < 3) {index : Nat} (hlink : Cond.fieldLink own index "SumColours$Member" (TX1 i).2.1 (TX1 i).2.2.1 ∈ lw_all) {v : Value} (hv : [Value.int (iI m.2.1), .int (iI m.2.2.1), .int (iI m.2.2.2)][i]? = some v) (d : decode cc pc = .ok (.getfield index, 3)) (kk : T Γ R nL k n Q ws (pc + 3) lv (v :: st)) : T Γ R nL k n Q ws pc lv (.ref a :: st) := by
  obtain ⟨k0, m1⟩ := m
  rcases (show k0 = 0 ∨ k0 = 1 ∨ k0 = 2 ∨ k0 = 3 ∨ k0 = 4 by have : k0 < 5 := hk; omega) with e | e | e | e | e <;> subst e <;> rcases (show i = 0 ∨ i = 1 ∨ i = 2 by omega) with e | e | e <;> subst e
  · exact tt_get hf in_X1 j hj rfl 0 (by decide) hlink rfl hv d kk
  · exact tt_get hf in_X1 j hj rfl 1 (by decide) hlink rfl hv d kk
  · exact tt_get hf in_X1 j hj rfl 2 (by decide) hlink rfl hv d kk
  · exact tt_get hf in_X2 j hj rfl 0 (by decide) hlink rfl hv d kk
  · exact tt_get hf in_X2 j hj rfl 1 (by decide) hlink rfl hv d kk
  · exact tt_get hf in_X2 j hj rfl 2 (by decide) hlink rfl hv d kk
  · exact tt_get hf in_X3 j hj rfl 0 (by decide) hlink rfl hv d kk
  · exact tt_get hf in_X3 j hj rfl 1 (by decide) hlink rfl hv d kk
  · exact tt_get hf in_X3 j hj rfl 2 (by decide) hlink rfl hv d kk
  · exact tt_get hf in_X4 j hj rfl 0 (by decide) hlink rfl hv d kk
  · exact tt_get hf in_X4 j hj rfl 1 (by decide) hlink rfl hv d kk
  · exact tt_get hf in_X4 j hj rfl 2 (by decide) hlink rfl hv d kk
  · exact tt_get hf in_X5 j hj rfl 0 (by decide) hlink rfl hv d kk
  · exact tt_get hf in_X5 j hj rfl 1 (by decide) hlink rfl hv d kk
  · exact tt_get hf in_X5 j hj rfl 2 (by decide) hlink rfl hv d kk
/-- a store, where the new world may be told by what lies apart -/
theorem tt_putd (hf : Fx Γ own cc nL) {ref C : String} {T0 : u_T} {N ci index a : Nat} {fs : List Value} (hin : ∀ w ∈ u_ws C T0 N, w ∈ lw_all) (ty0 : Nat → FieldType) (hty : ∀ i, i < N → parseFieldDescriptor (T0 i).2.2.1 = some (ty0 i)) (hnm : ∀ a, a < N → ∀ b, b < N → a ≠ b → (T0 a).2.1 ≠ (T0 b).2.1) (q0 : Nat) (he : ws[q0]? = some (a, .inr (ci, fs))) (hc : tCl[ci]? = some (C, T0, N)) (i : Nat) (hi : i < N) (hlink : Cond.fieldLink own index ref (T0 i).2.1 (T0 i).2.2.1 ∈ lw_all) (hsame : ref = (T0 i).1) (hfin : (T0 i).2.2.2 = false) {ty : FieldType} {v : Value} (hd : parseFieldDescriptor (T0 i).2.2.1 = some ty) (hn : narrow ty v = v) (hfit : fits ty v = true) (hl0 : i < fs.length) (d : decode cc pc = .ok (.putfield index, 3))
    {ws' : va_W} (hw : va_D (xA Γ) ws → ws.set q0 (a, .inr (ci, fs.set i v)) = ws') (kk : T Γ R nL k n Q ws' (pc + 3) lv st) : T Γ R nL k n Q ws pc lv (v :: .ref a :: st) :=
  fun H locs ls hP hD hS hl => va_put hf.x hf.b hf.ts hin ty0 hty hnm hf.own hf.K hP hD hS q0 he hc i hi (hf.ts _ hlink) (fun x h => by rw [hsame]; exact h) hfin hd hn hfit hl0 d (fun H1 locs1 hP1 hD1 hS1 => kk H1 locs1 ls ((hw hD) ▸ hP1) ((hw hD) ▸ hD1) hS1 hl)
/-- a member with one field changed -/
def mS (m : Nat × Int × Int × Int) (i : Nat) (v : Int) : Nat × Int × Int × Int := if i = 0 then (m.1, v, m.2.2) else if i = 1 then (m.1, m.2.1, v, m.2.2.2) else (m.1, m.2.1, m.2.2.1, v)
theorem tt_putm (hf : Fx Γ own cc nL) {a : Nat} {m : Nat × Int × Int × Int} (j : Nat) (hj : ws[j]? = some (a, mE m)) (hk : m.1 < 5) (i : Nat) (hi : i < 3) {index : Nat} (hlink : Cond.fieldLink own index "SumColours$Member" (TX1 i).2.1 (TX1 i).2.2.1 ∈ lw_all) {v : Int} (d : decode cc pc = .ok (.putfield index, 3)) {ws' : va_W} (hw : va_D (xA Γ) ws → ws.set j (a, mE (mS m i v)) = ws') (kk : T Γ R nL k n Q ws' (pc + 3) lv st) : T Γ R nL k n Q ws pc lv (.int (iI v) :: .ref a :: st) := by
  obtain ⟨k0, m1⟩ := m
  rcases (show k0 = 0 ∨ k0 = 1 ∨ k0 = 2 ∨ k0 = 3 ∨ k0 = 4 by have : k0 < 5 := hk; omega) with e | e | e | e | e <;> subst e <;> rcases (show i = 0 ∨ i = 1 ∨ i = 2 by omega) with e | e | e <;> subst e
  · exact tt_putd (ty := .int) hf in_X1 tyX1 tyX1_ok nmX1 j hj rfl 0 (by decide) hlink rfl rfl (by decide +kernel) rfl rfl (Nat.le_of_ble_eq_true rfl) d hw kk
  · exact tt_putd (ty := .int) hf in_X1 tyX1 tyX1_ok nmX1 j hj rfl 1 (by decide) hlink rfl rfl (by decide +kernel) rfl rfl (Nat.le_of_ble_eq_true rfl) d hw kk
  · exact tt_putd (ty := .int) hf in_X1 tyX1 tyX1_ok nmX1 j hj rfl 2 (by decide) hlink rfl rfl (by decide +kernel) rfl rfl (Nat.le_of_ble_eq_true rfl) d hw kk
  · exact tt_putd (ty := .int) hf in_X2 tyX2 tyX2_ok nmX2 j hj rfl 0 (by decide) hlink rfl rfl (by decide +kernel) rfl rfl (Nat.le_of_ble_eq_true rfl) d hw kk
  · exact tt_putd (ty := .int) hf in_X2 tyX2 tyX2_ok nmX2 j hj rfl 1 (by decide) hlink rfl rfl (by decide +kernel) rfl rfl (Nat.le_of_ble_eq_true rfl) d hw kk
  · exact tt_putd (ty := .int) hf in_X2 tyX2 tyX2_ok nmX2 j hj rfl 2 (by decide) hlink rfl rfl (by decide +kernel) rfl rfl (Nat.le_of_ble_eq_true rfl) d hw kk
  · exact tt_putd (ty := .int) hf in_X3 tyX3 tyX3_ok nmX3 j hj rfl 0 (by decide) hlink rfl rfl (by decide +kernel) rfl rfl (Nat.le_of_ble_eq_true rfl) d hw kk
  · exact tt_putd (ty := .int) hf in_X3 tyX3 tyX3_ok nmX3 j hj rfl 1 (by decide) hlink rfl rfl (by decide +kernel) rfl rfl (Nat.le_of_ble_eq_true rfl) d hw kk
  · exact tt_putd (ty := .int) hf in_X3 tyX3 tyX3_ok nmX3 j hj rfl 2 (by decide) hlink rfl rfl (by decide +kernel) rfl rfl (Nat.le_of_ble_eq_true rfl) d hw kk
  · exact tt_putd (ty := .int) hf in_X4 tyX4 tyX4_ok nmX4 j hj rfl 0 (by decide) hlink rfl rfl (by decide +kernel) rfl rfl (Nat.le_of_ble_eq_true rfl) d hw kk
  · exact tt_putd (ty := .int) hf in_X4 tyX4 tyX4_ok nmX4 j hj rfl 1 (by decide) hlink rfl rfl (by decide +kernel) rfl rfl (Nat.le_of_ble_eq_true rfl) d hw kk
  · exact tt_putd (ty := .int) hf in_X4 tyX4 tyX4_ok nmX4 j hj rfl 2 (by decide) hlink rfl rfl (by decide +kernel) rfl rfl (Nat.le_of_ble_eq_true rfl) d hw kk
  · exact tt_putd (ty := .int) hf in_X5 tyX5 tyX5_ok nmX5 j hj rfl 0 (by decide) hlink rfl rfl (by decide +kernel) rfl rfl (Nat.le_of_ble_eq_true rfl) d hw kk
  · exact tt_putd (ty := .int) hf in_X5 tyX5 tyX5_ok nmX5 j hj rfl 1 (by decide) hlink rfl rfl (by decide +kernel) rfl rfl (Nat.le_of_ble_eq_true rfl) d hw kk
  · exact tt_putd (ty := .int) hf in_X5 tyX5 tyX5_ok nmX5 j hj rfl 2 (by decide) hlink rfl rfl (by decide +kernel) rfl rfl (Nat.le_of_ble_eq_true rfl) d hw kk
end TM
