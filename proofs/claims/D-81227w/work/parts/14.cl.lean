/-! contracts by the kind of their answer; room by levels -/
def rmL (d : Nat) : Room := { frames := d, cells := 0, slots := 0, locals := 40 * d }
abbrev Ci (l : Launch) (g : tG) (y : MethodName) (wd : List Cond) (rm : Room) (as : List Value) (ws : va_W) (post : Int → va_W → Prop) : Prop := Ct l g y wd rm as ws (fun v w => ∃ r : Int, v = some (.int (iI r)) ∧ iR r ∧ post r w)
abbrev Ce (l : Launch) (g : tG) (y : MethodName) (wd : List Cond) (rm : Room) (as : List Value) (ws : va_W) (E : Int) (w' : va_W) : Prop := Ci l g y wd rm as ws (fun r w => r = E ∧ w = w')
abbrev Cv (l : Launch) (g : tG) (y : MethodName) (wd : List Cond) (rm : Room) (as : List Value) (ws : va_W) (post : va_W → Prop) : Prop := Ct l g y wd rm as ws (fun v w => v = none ∧ post w)
abbrev Cl (l : Launch) (g : tG) (y : MethodName) (wd : List Cond) (rm : Room) (as : List Value) (ws : va_W) (post : Int64 → va_W → Prop) : Prop := Ct l g y wd rm as ws (fun v w => ∃ r : Int64, v = some (.long r) ∧ post r w)
section CL
variable {Γ : tX} {R : Room} {nL k n : Nat} {Q : State → Prop} {ws : va_W} {pc : Nat} {lv : List (Nat × Value)} {st : List Value} {own : String} {cc : ByteArray}
theorem tt_ireti (hf : Fx Γ own cc nL) {rm : Room} {post : Int → va_W → Prop} {z : Int} (hr : (xh Γ).sig.returnType = some .int) (d : decode cc pc = .ok (.ireturn, 1)) (h1 : k ≤ rm.cells) (h2 : n ≤ rm.slots) (hz : iR z) (hp : post z ws) : T Γ R nL k n (Qe Γ rm (fun v w => ∃ r : Int, v = some (.int (iI r)) ∧ iR r ∧ post r w)) ws pc lv [.int (iI z)] :=
  tt_iret hf hr rfl d h1 h2 ⟨z, rfl, hz, hp⟩
theorem tt_iretz (hf : Fx Γ own cc nL) {rm : Room} {post : Int → va_W → Prop} {z : Int} (hr : (xh Γ).sig.returnType = some .boolean) (d : decode cc pc = .ok (.ireturn, 1)) (h1 : k ≤ rm.cells) (h2 : n ≤ rm.slots) (hz : z = 0 ∨ z = 1) (hp : post z ws) : T Γ R nL k n (Qe Γ rm (fun v w => ∃ r : Int, v = some (.int (iI r)) ∧ iR r ∧ post r w)) ws pc lv [.int (iI z)] :=
  tt_iret hf hr (by rcases hz with rfl | rfl <;> rfl) d h1 h2 ⟨z, rfl, by omega, hp⟩
theorem tt_vretv (hf : Fx Γ own cc nL) {rm : Room} {post : va_W → Prop} (hr : (xh Γ).sig.returnType = none) (d : decode cc pc = .ok (.return_, 1)) (h1 : k ≤ rm.cells) (h2 : n ≤ rm.slots) (hp : post ws) : T Γ R nL k n (Qe Γ rm (fun v w => v = none ∧ post w)) ws pc lv [] :=
  tt_vret hf hr d h1 h2 ⟨rfl, hp⟩
theorem tt_lretl (hf : Fx Γ own cc nL) {rm : Room} {post : Int64 → va_W → Prop} {z : Int64} (hr : (xh Γ).sig.returnType = some .long) (d : decode cc pc = .ok (.lreturn, 1)) (h1 : k ≤ rm.cells) (h2 : n ≤ rm.slots) (hp : post z ws) : T Γ R nL k n (Qe Γ rm (fun v w => ∃ r : Int64, v = some (.long r) ∧ post r w)) ws pc lv [.long z] :=
  tt_lret hf hr d h1 h2 ⟨z, rfl, hp⟩
theorem tt_ifb_eq (hf : Fx Γ own cc nL) {P : Prop} [Decidable P] {off : Int} {tgt : Nat} (d : decode cc pc = .ok (.ifCond .eq off, 3)) (ht : (pc : Int) + off = (tgt : Int)) (kt : ¬ P → T Γ R nL k n Q ws tgt lv st) (kf : P → T Γ R nL k n Q ws (pc + 3) lv st) : T Γ R nL k n Q ws pc lv (.int (iI (if P then 1 else 0)) :: st) :=
  tt_if_eq hf d ht (by split <;> omega) (fun c => kt (fun h => by simp [h] at c)) (fun c => kf (by by_cases h : P; exact h; simp [h] at c))
theorem tt_ifb_ne (hf : Fx Γ own cc nL) {P : Prop} [Decidable P] {off : Int} {tgt : Nat} (d : decode cc pc = .ok (.ifCond .ne off, 3)) (ht : (pc : Int) + off = (tgt : Int)) (kt : P → T Γ R nL k n Q ws tgt lv st) (kf : ¬ P → T Γ R nL k n Q ws (pc + 3) lv st) : T Γ R nL k n Q ws pc lv (.int (iI (if P then 1 else 0)) :: st) :=
  tt_if_ne hf d ht (by split <;> omega) (fun c => kt (by by_cases h : P; exact h; simp [h] at c)) (fun c => kf (fun h => by simp [h] at c))
/-- calls that make no cell -/
theorem tt_callV0 (hf : Fx Γ own cc nL) {y : MethodName} {bytes : ByteArray} {maxL index : Nat} {ret : Option FieldType} {rm : Room} {post : Option Value → va_W → Prop} {As rest : List Value} {b ci q0 N n0 : Nat} {C : String} {T0 : u_T} {fs : List Value}
    (hC : Ct (xl Γ) (xg Γ) y (ws_ y bytes maxL ret) rm (.ref b :: As) ws post) (hg : GoodIn lw_all (wsV own index C y (ws_ y bytes maxL ret))) (hd : y.cls = C ∧ y.cls ≠ "java/lang/invoke/MethodHandle" ∧ y.cls ≠ "java/lang/invoke/VarHandle" ∧ (parseMethodDescriptor y.desc).map (fun d => d.parameters.length) = some n0) (hn0 : As.length = n0)
    (he : ws[q0]? = some (b, .inr (ci, fs))) (hc : tCl[ci]? = some (C, T0, N)) (h0 : rm.cells = 0 ∧ rm.slots = 0) (hR : rm.frames + 1 ≤ R.frames ∧ 8 + (maxL + 11) + rm.locals ≤ R.locals) (hroom : k ≤ R.cells ∧ n ≤ R.slots) (hcat : (rest.map fun v => v.category).sum ≤ 8) (d : decode cc pc = .ok (.invokevirtual index, 3))
    (hst : st = As.reverse ++ .ref b :: rest) (kk : ∀ (v : Option Value) (ws' : va_W), post v ws' → T Γ R nL k n Q ws' (pc + 3) lv (v.toList ++ rest)) : T Γ R nL k n Q ws pc lv st :=
  tt_callV hf hC hg hd hn0 he hc hR (by rw [h0.1, h0.2]; exact hroom) hcat d hst (fun v w hp => by rw [h0.1, h0.2]; exact kk v w hp)
theorem tt_callS0 (hf : Fx Γ own cc nL) {y : MethodName} {bytes : ByteArray} {maxL index : Nat} {ret : Option FieldType} {rm : Room} {post : Option Value → va_W → Prop} {As rest : List Value} {n0 : Nat}
    (hC : Ct (xl Γ) (xg Γ) y (ws_ y bytes maxL ret) rm As ws post) (hg : GoodIn lw_all (va_wsS own index y (ws_ y bytes maxL ret))) (hd : y.cls ≠ "java/lang/invoke/MethodHandle" ∧ y.cls ≠ "java/lang/invoke/VarHandle" ∧ (parseMethodDescriptor y.desc).map (fun d => d.parameters.length) = some n0) (hn0 : As.length = n0)
    (h0 : rm.cells = 0 ∧ rm.slots = 0) (hR : rm.frames + 1 ≤ R.frames ∧ 8 + (maxL + 11) + rm.locals ≤ R.locals) (hroom : k ≤ R.cells ∧ n ≤ R.slots) (hcat : (rest.map fun v => v.category).sum ≤ 8) (d : decode cc pc = .ok (.invokestatic index, 3))
    (hst : st = As.reverse ++ rest) (kk : ∀ (v : Option Value) (ws' : va_W), post v ws' → T Γ R nL k n Q ws' (pc + 3) lv (v.toList ++ rest)) : T Γ R nL k n Q ws pc lv st :=
  tt_callS hf hC hg hd hn0 hR (by rw [h0.1, h0.2]; exact hroom) hcat d hst (fun v w hp => by rw [h0.1, h0.2]; exact kk v w hp)
theorem kk_i {post : Int → va_W → Prop} {rest : List Value} (kk : ∀ (r : Int) (w : va_W), iR r → post r w → T Γ R nL k n Q w pc lv (.int (iI r) :: rest)) : ∀ (v : Option Value) (ws' : va_W), (∃ r : Int, v = some (.int (iI r)) ∧ iR r ∧ post r ws') → T Γ R nL k n Q ws' pc lv (v.toList ++ rest) := by
  rintro v w ⟨r, rfl, hr, hp⟩
  exact kk r w hr hp
theorem kk_e {E : Int} {w' : va_W} {rest : List Value} (kk : iR E → T Γ R nL k n Q w' pc lv (.int (iI E) :: rest)) : ∀ (v : Option Value) (ws' : va_W), (∃ r : Int, v = some (.int (iI r)) ∧ iR r ∧ r = E ∧ ws' = w') → T Γ R nL k n Q ws' pc lv (v.toList ++ rest) := by
  rintro v w ⟨r, rfl, hr, rfl, rfl⟩
  exact kk hr
theorem kk_v {post : va_W → Prop} {rest : List Value} (kk : ∀ (w : va_W), post w → T Γ R nL k n Q w pc lv rest) : ∀ (v : Option Value) (ws' : va_W), (v = none ∧ post ws') → T Γ R nL k n Q ws' pc lv (v.toList ++ rest) := by
  rintro v w ⟨rfl, hp⟩
  exact kk w hp
theorem kk_l {post : Int64 → va_W → Prop} {rest : List Value} (kk : ∀ (r : Int64) (w : va_W), post r w → T Γ R nL k n Q w pc lv (.long r :: rest)) : ∀ (v : Option Value) (ws' : va_W), (∃ r : Int64, v = some (.long r) ∧ post r ws') → T Γ R nL k n Q ws' pc lv (v.toList ++ rest) := by
  rintro v w ⟨r, rfl, hp⟩
  exact kk r w hp
end CL
