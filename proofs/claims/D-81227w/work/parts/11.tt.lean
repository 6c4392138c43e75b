/-- a method's run: program, launch, environment, start, method, arguments, below, its tables' rows, classes, what it may write -/
abbrev tX : Type := Program × Launch × Env × State × MethodId × Array Value × List Frame × Method × Code × tG × (Nat → Prop)
abbrev xp (Γ : tX) : Program := Γ.1
abbrev xl (Γ : tX) : Launch := Γ.2.1
abbrev xe (Γ : tX) : Env := Γ.2.2.1
abbrev xs (Γ : tX) : State := Γ.2.2.2.1
abbrev xm (Γ : tX) : MethodId := Γ.2.2.2.2.1
abbrev xa (Γ : tX) : Array Value := Γ.2.2.2.2.2.1
abbrev xb (Γ : tX) : List Frame := Γ.2.2.2.2.2.2.1
abbrev xh (Γ : tX) : Method := Γ.2.2.2.2.2.2.2.1
abbrev xc (Γ : tX) : Code := Γ.2.2.2.2.2.2.2.2.1
abbrev xg (Γ : tX) : tG := Γ.2.2.2.2.2.2.2.2.2.1
abbrev xA (Γ : tX) : Nat → Prop := Γ.2.2.2.2.2.2.2.2.2.2
def T (Γ : tX) (R : Room) (nL k n : Nat) (Q : State → Prop) (ws : va_W) (pc : Nat) (lv : List (Nat × Value)) (st : List Value) : Prop :=
  ∀ (H : Heap) (locs : List Loc) (ls : Array Slot), va_P (xg Γ).1 tCl ws H → va_D (xA Γ) ws → va_S (xA Γ) (xs Γ).heap H locs → lv_has ls nL lv →
    W (xp Γ) (xl Γ) (xe Γ) R (xs Γ) (xm Γ) (xa Γ) (xb Γ) (xh Γ) (xc Γ) H locs k n Q (F0 (xm Γ) pc ls st)
def Fx (Γ : tX) (own : String) (cc : ByteArray) (nL : Nat) : Prop :=
  (xp Γ).tables.exec = Jvm.exec ∧ (xc Γ).code = cc ∧ (xc Γ).maxLocals = nL ∧ (xs Γ).vm.findClass own = some (xm Γ).cls ∧ (∀ w ∈ lw_all, w.before (xa Γ) (xs Γ) = true) ∧ va_K (xg Γ).1 tCl (tT (xg Γ)) (xs Γ) ∧ (∀ q : Nat, (xs Γ).heap.size ≤ q → (xA Γ) q) ∧ (xh Γ).locks = false ∧ tN (xs Γ)
theorem Fx.x {Γ : tX} {own : String} {cc : ByteArray} {nL : Nat} (h : Fx Γ own cc nL) : (xp Γ).tables.exec = Jvm.exec := h.1
theorem Fx.b {Γ : tX} {own : String} {cc : ByteArray} {nL : Nat} (h : Fx Γ own cc nL) : (xc Γ).code = cc := h.2.1
theorem Fx.ml {Γ : tX} {own : String} {cc : ByteArray} {nL : Nat} (h : Fx Γ own cc nL) : (xc Γ).maxLocals = nL := h.2.2.1
theorem Fx.own {Γ : tX} {own : String} {cc : ByteArray} {nL : Nat} (h : Fx Γ own cc nL) : (xs Γ).vm.findClass own = some (xm Γ).cls := h.2.2.2.1
theorem Fx.ts {Γ : tX} {own : String} {cc : ByteArray} {nL : Nat} (h : Fx Γ own cc nL) : ∀ w ∈ lw_all, w.before (xa Γ) (xs Γ) = true := h.2.2.2.2.1
theorem Fx.K {Γ : tX} {own : String} {cc : ByteArray} {nL : Nat} (h : Fx Γ own cc nL) : va_K (xg Γ).1 tCl (tT (xg Γ)) (xs Γ) := h.2.2.2.2.2.1
theorem Fx.A {Γ : tX} {own : String} {cc : ByteArray} {nL : Nat} (h : Fx Γ own cc nL) : ∀ q : Nat, (xs Γ).heap.size ≤ q → (xA Γ) q := h.2.2.2.2.2.2.1
theorem Fx.lk {Γ : tX} {own : String} {cc : ByteArray} {nL : Nat} (h : Fx Γ own cc nL) : (xh Γ).locks = false := h.2.2.2.2.2.2.2.1
theorem Fx.N {Γ : tX} {own : String} {cc : ByteArray} {nL : Nat} (h : Fx Γ own cc nL) : tN (xs Γ) := h.2.2.2.2.2.2.2.2
/-- a method's end -/
def Qg (post : Option Value → va_W → Prop) (g : tG) (A : Nat → Prop) : Array Value → State → Outcome → State → Prop := fun _ st oc t =>
  (∃ (v : Option Value) (ws' : va_W), oc = .returned v ∧ post v ws' ∧ va_P g.1 tCl ws' t.heap ∧ va_K g.1 tCl (tT g) t ∧ va_D A ws') ∧ va_F A st t
def Qe (Γ : tX) (rm : Room) (post : Option Value → va_W → Prop) : State → Prop := MQ (xb Γ) (Qg post (xg Γ) (xA Γ)) (xa Γ) (xs Γ) rm.cells rm.slots (xA Γ)
/-- a method's start -/
def Pg (g : tG) (ws : va_W) (sz : Nat) : State → Prop := fun U => U.heap.size = sz ∧ va_P g.1 tCl ws U.heap ∧ va_K g.1 tCl (tT g) U ∧ va_D (fun _ => True) ws ∧ tN U
/-- a CONTRACT: over the world ws, with the arguments as, the answer v and the world ws' behind it meet post; no other cell changes -/
def Ct (l : Launch) (g : tG) (y : MethodName) (wd : List Cond) (rm : Room) (as : List Value) (ws : va_W) (post : Option Value → va_W → Prop) : Prop :=
  ∀ sz : Nat, Met l y wd rm (va_Pc as (Pg g ws sz)) (Qg post g (va_A ws sz)) rm.cells rm.slots (va_A ws sz)
theorem Ct.of {l : Launch} {g : tG} {y : MethodName} {cc : ByteArray} {nL : Nat} {ret : Option FieldType} {rm : Room} {as : List Value} {ws : va_W} {post : Option Value → va_W → Prop} (hy : plainName y.cls = true) (hlen : (lg_sl as).length ≤ nL)
    (body : ∀ Γ : tX, xl Γ = l → xg Γ = g → Fx Γ y.cls cc nL → (xh Γ).sig.returnType = ret → T Γ rm nL 0 0 (Qe Γ rm post) ws 0 (lv_args 0 as) []) : Ct l g y (ws_ y cc nL ret) rm as ws post := by
  intro sz
  refine Met.ofW (cc := cc) (maxL := nL) (ret := ret) hy rfl ?_
  intro p e s m args below meth c s₁ B hml hv
  obtain ⟨rfl, hsz, hP, hK, hD0, hN⟩ := hv
  subst hsz
  have hts := atoms_spec (ws := ws_ y cc nL ret) B.pre
  rw [lg_entry_eq]
  exact body (p, l, e, s, m, as.toArray, below, meth, c, g, va_A ws s.heap.size) rfl rfl ⟨B.exec, B.bytes, hml, findClass_of_methodNamed B.named, fun w h => hts w (List.mem_cons_of_mem _ h), hK, fun q h => Or.inr h, B.notSynchronized, hN⟩ B.returns s.heap [] _ hP hD0.self va_S.rf (lv_entry as hlen)
/-- what is said may be said less -/
theorem Ct.mono {l : Launch} {g : tG} {y : MethodName} {wd : List Cond} {rm : Room} {as : List Value} {ws : va_W} {post post' : Option Value → va_W → Prop} (h : Ct l g y wd rm as ws post) (hp : ∀ v w, post v w → post' v w) : Ct l g y wd rm as ws post' := by
  intro sz p e ha hc hk s m args below hf happ hpre hk2
  obtain ⟨t, o, h1, h2, h3, ⟨⟨v, w, e1, hq, r⟩, hF⟩, r2⟩ := h sz p e ha hc hk s m args below hf happ hpre hk2
  exact ⟨t, o, h1, h2, h3, ⟨⟨v, w, e1, hp v w hq, r⟩, hF⟩, r2⟩
section TT
variable {Γ : tX} {R : Room} {nL k n : Nat} {Q : State → Prop} {ws : va_W} {pc : Nat} {lv : List (Nat × Value)} {st : List Value} {own : String} {cc : ByteArray}
theorem tt_iconst (hf : Fx Γ own cc nL) {z : Int} (d : decode cc pc = .ok (.iconst z, 1)) (kk : T Γ R nL k n Q ws (pc + 1) lv (.int (iI z) :: st)) : T Γ R nL k n Q ws pc lv st :=
  fun H locs ls hP hD hS hl => lv_iconst hf.x hf.b d rfl (kk H locs ls hP hD hS hl)
theorem tt_bipush (hf : Fx Γ own cc nL) {z : Int} (d : decode cc pc = .ok (.bipush z, 2)) (hv : (Int8.ofInt z).toInt32 = iI z) (kk : T Γ R nL k n Q ws (pc + 2) lv (.int (iI z) :: st)) : T Γ R nL k n Q ws pc lv st :=
  fun H locs ls hP hD hS hl => lv_bipush hf.x hf.b d hv (kk H locs ls hP hD hS hl)
theorem tt_sipush (hf : Fx Γ own cc nL) {z : Int} (d : decode cc pc = .ok (.sipush z, 3)) (hv : (Int16.ofInt z).toInt32 = iI z) (kk : T Γ R nL k n Q ws (pc + 3) lv (.int (iI z) :: st)) : T Γ R nL k n Q ws pc lv st :=
  fun H locs ls hP hD hS hl => lv_sipush hf.x hf.b d hv (kk H locs ls hP hD hS hl)
theorem tt_ldc (hf : Fx Γ own cc nL) {i : Nat} {v : Int32} (z : Int) (hc : Cond.constant own i v ∈ lw_all) (hv : v = iI z) (d : decode cc pc = .ok (.ldc i, 2)) (kk : T Γ R nL k n Q ws (pc + 2) lv (.int (iI z) :: st)) : T Γ R nL k n Q ws pc lv st :=
  fun H locs ls hP hD hS hl => lv_ldc hf.x hf.b hf.own (hf.ts _ hc) d (hv ▸ kk H locs ls hP hD hS hl)
theorem tt_ldc2 (hf : Fx Γ own cc nL) {i : Nat} {v : Int64} (hc : Cond.constantLong own i v ∈ lw_all) (d : decode cc pc = .ok (.ldc2_w i, 3)) (kk : T Γ R nL k n Q ws (pc + 3) lv (.long v :: st)) : T Γ R nL k n Q ws pc lv st :=
  fun H locs ls hP hD hS hl => lv_ldc2 hf.x hf.b hf.own (hf.ts _ hc) d (kk H locs ls hP hD hS hl)
theorem tt_lconst (hf : Fx Γ own cc nL) {z : Fin 2} (d : decode cc pc = .ok (.lconst z, 1)) (kk : T Γ R nL k n Q ws (pc + 1) lv (.long (Int64.ofNat (z : Nat)) :: st)) : T Γ R nL k n Q ws pc lv st :=
  fun H locs ls hP hD hS hl => lv_lconst hf.x hf.b d rfl (kk H locs ls hP hD hS hl)
theorem tt_iload_n (hf : Fx Γ own cc nL) {i : Fin 4} {x : Int32} (j : Nat) (d : decode cc pc = .ok (.iload_n i, 1)) (h : lv[j]? = some ((i : Nat), .int x)) (kk : T Γ R nL k n Q ws (pc + 1) lv (.int x :: st)) : T Γ R nL k n Q ws pc lv st :=
  fun H locs ls hP hD hS hl => lv_iload_n hf.x hf.b d rfl (lv_at hl j h) (kk H locs ls hP hD hS hl)
theorem tt_iload (hf : Fx Γ own cc nL) {i : Nat} {x : Int32} (j : Nat) (d : decode cc pc = .ok (.iload i, 2)) (h : lv[j]? = some (i, .int x)) (kk : T Γ R nL k n Q ws (pc + 2) lv (.int x :: st)) : T Γ R nL k n Q ws pc lv st :=
  fun H locs ls hP hD hS hl => lv_iload hf.x hf.b d (lv_at hl j h) (kk H locs ls hP hD hS hl)
theorem tt_lload_n (hf : Fx Γ own cc nL) {i : Fin 4} {x : Int64} (j : Nat) (d : decode cc pc = .ok (.lload_n i, 1)) (h : lv[j]? = some ((i : Nat), .long x)) (kk : T Γ R nL k n Q ws (pc + 1) lv (.long x :: st)) : T Γ R nL k n Q ws pc lv st :=
  fun H locs ls hP hD hS hl => lv_lload_n hf.x hf.b d rfl (lv_at hl j h) (kk H locs ls hP hD hS hl)
theorem tt_lload (hf : Fx Γ own cc nL) {i : Nat} {x : Int64} (j : Nat) (d : decode cc pc = .ok (.lload i, 2)) (h : lv[j]? = some (i, .long x)) (kk : T Γ R nL k n Q ws (pc + 2) lv (.long x :: st)) : T Γ R nL k n Q ws pc lv st :=
  fun H locs ls hP hD hS hl => lv_lload hf.x hf.b d (lv_at hl j h) (kk H locs ls hP hD hS hl)
theorem tt_aload_n (hf : Fx Γ own cc nL) {i : Fin 4} {x : Nat} (j : Nat) (d : decode cc pc = .ok (.aload_n i, 1)) (h : lv[j]? = some ((i : Nat), .ref x)) (kk : T Γ R nL k n Q ws (pc + 1) lv (.ref x :: st)) : T Γ R nL k n Q ws pc lv st :=
  fun H locs ls hP hD hS hl => lv_aload_n hf.x hf.b d rfl (lv_at hl j h) (kk H locs ls hP hD hS hl)
theorem tt_aload (hf : Fx Γ own cc nL) {i : Nat} {x : Nat} (j : Nat) (d : decode cc pc = .ok (.aload i, 2)) (h : lv[j]? = some (i, .ref x)) (kk : T Γ R nL k n Q ws (pc + 2) lv (.ref x :: st)) : T Γ R nL k n Q ws pc lv st :=
  fun H locs ls hP hD hS hl => lv_aload hf.x hf.b d (lv_at hl j h) (kk H locs ls hP hD hS hl)
theorem tt_istore_n (hf : Fx Γ own cc nL) {i : Fin 4} {x : Int32} {lv' : List (Nat × Value)} (d : decode cc pc = .ok (.istore_n i, 1)) (hn : (i : Nat) < nL) (hl' : ((i : Nat), Value.int x) :: lv.filter (fun q => !(q.1 == (i : Nat)) && !(q.1 + 1 == (i : Nat) && q.2.category == 2)) = lv') (kk : T Γ R nL k n Q ws (pc + 1) lv' st) : T Γ R nL k n Q ws pc lv (.int x :: st) :=
  fun H locs ls hP hD hS hl => lv_istore_n hf.x hf.b d rfl hl hn hl' (fun ls' h' => kk H locs ls' hP hD hS h')
theorem tt_istore (hf : Fx Γ own cc nL) {i : Nat} {x : Int32} {lv' : List (Nat × Value)} (d : decode cc pc = .ok (.istore i, 2)) (hn : i < nL) (hl' : (i, Value.int x) :: lv.filter (fun q => !(q.1 == i) && !(q.1 + 1 == i && q.2.category == 2)) = lv') (kk : T Γ R nL k n Q ws (pc + 2) lv' st) : T Γ R nL k n Q ws pc lv (.int x :: st) :=
  fun H locs ls hP hD hS hl => lv_istore hf.x hf.b d hl hn hl' (fun ls' h' => kk H locs ls' hP hD hS h')
theorem tt_astore_n (hf : Fx Γ own cc nL) {i : Fin 4} {x : Nat} {lv' : List (Nat × Value)} (d : decode cc pc = .ok (.astore_n i, 1)) (hn : (i : Nat) < nL) (hl' : ((i : Nat), Value.ref x) :: lv.filter (fun q => !(q.1 == (i : Nat)) && !(q.1 + 1 == (i : Nat) && q.2.category == 2)) = lv') (kk : T Γ R nL k n Q ws (pc + 1) lv' st) : T Γ R nL k n Q ws pc lv (.ref x :: st) :=
  fun H locs ls hP hD hS hl => lv_astore_n hf.x hf.b d rfl hl hn hl' (fun ls' h' => kk H locs ls' hP hD hS h')
theorem tt_astore (hf : Fx Γ own cc nL) {i : Nat} {x : Nat} {lv' : List (Nat × Value)} (d : decode cc pc = .ok (.astore i, 2)) (hn : i < nL) (hl' : (i, Value.ref x) :: lv.filter (fun q => !(q.1 == i) && !(q.1 + 1 == i && q.2.category == 2)) = lv') (kk : T Γ R nL k n Q ws (pc + 2) lv' st) : T Γ R nL k n Q ws pc lv (.ref x :: st) :=
  fun H locs ls hP hD hS hl => lv_astore hf.x hf.b d hl hn hl' (fun ls' h' => kk H locs ls' hP hD hS h')
theorem tt_iinc (hf : Fx Γ own cc nL) {i : Nat} {x : Int} {z : Int} {lv' : List (Nat × Value)} (j : Nat) (d : decode cc pc = .ok (.iinc i z, 3)) (h : lv[j]? = some (i, .int (iI x))) (hn : i < nL) (hl' : (i, Value.int (iI (x + z))) :: lv.filter (fun q => !(q.1 == i) && !(q.1 + 1 == i && q.2.category == 2)) = lv') (kk : T Γ R nL k n Q ws (pc + 3) lv' st) : T Γ R nL k n Q ws pc lv st :=
  fun H locs ls hP hD hS hl => lv_iinc (k := j) hf.x hf.b d hl h (iI_add x z) hn hl' (fun ls' h' => kk H locs ls' hP hD hS h')
theorem tt_iadd (hf : Fx Γ own cc nL) {x y : Int} (d : decode cc pc = .ok (.iadd, 1)) (kk : T Γ R nL k n Q ws (pc + 1) lv (.int (iI (x + y)) :: st)) : T Γ R nL k n Q ws pc lv (.int (iI y) :: .int (iI x) :: st) :=
  fun H locs ls hP hD hS hl => lv_iadd hf.x hf.b d (by rw [iI_add]; exact kk H locs ls hP hD hS hl)
theorem tt_isub (hf : Fx Γ own cc nL) {x y : Int} (d : decode cc pc = .ok (.isub, 1)) (kk : T Γ R nL k n Q ws (pc + 1) lv (.int (iI (x - y)) :: st)) : T Γ R nL k n Q ws pc lv (.int (iI y) :: .int (iI x) :: st) :=
  fun H locs ls hP hD hS hl => lv_isub hf.x hf.b d (by rw [iI_sub]; exact kk H locs ls hP hD hS hl)
theorem tt_imul (hf : Fx Γ own cc nL) {x y : Int} (d : decode cc pc = .ok (.imul, 1)) (kk : T Γ R nL k n Q ws (pc + 1) lv (.int (iI (x * y)) :: st)) : T Γ R nL k n Q ws pc lv (.int (iI y) :: .int (iI x) :: st) :=
  fun H locs ls hP hD hS hl => lv_imul hf.x hf.b d (by rw [iI_mul]; exact kk H locs ls hP hD hS hl)
theorem iI_div {x y : Int} (hx : 0 ≤ x ∧ x ≤ 2147483647) (hy : 0 < y ∧ y ≤ 2147483647) : iI x / iI y = iI (x / y) := by
  have e1 : iI x = nI x.toNat := by
    show Int32.ofInt x = Int32.ofNat x.toNat
    rw [← Int32.ofInt_eq_ofNat]; congr 1; omega
  have e2 : iI y = nI y.toNat := by
    show Int32.ofInt y = Int32.ofNat y.toNat
    rw [← Int32.ofInt_eq_ofNat]; congr 1; omega
  rw [e1, e2, pk_div (by omega) (by omega) (by omega)]
  show Int32.ofNat _ = Int32.ofInt _
  rw [← Int32.ofInt_eq_ofNat]
  congr 1
  rw [Int.natCast_ediv]
  congr 1 <;> omega
theorem iI_rem {x y : Int} (hx : 0 ≤ x ∧ x ≤ 2147483647) (hy : 0 < y ∧ y ≤ 2147483647) : iI x - iI x / iI y * iI y = iI (x % y) := by
  rw [iI_div hx hy, iI_mul, iI_sub, Int.emod_def, Int.mul_comm]
theorem tt_idiv (hf : Fx Γ own cc nL) {x y : Int} (d : decode cc pc = .ok (.idiv, 1)) (hx : 0 ≤ x ∧ x ≤ 2147483647) (hy : 0 < y ∧ y ≤ 2147483647) (kk : T Γ R nL k n Q ws (pc + 1) lv (.int (iI (x / y)) :: st)) : T Γ R nL k n Q ws pc lv (.int (iI y) :: .int (iI x) :: st) :=
  fun H locs ls hP hD hS hl => lv_idiv hf.x hf.b d (by rw [← iI_0, iI_eq (by constructor <;> omega) (by constructor <;> omega)]; omega) (by rw [iI_div hx hy]; exact kk H locs ls hP hD hS hl)
theorem tt_irem (hf : Fx Γ own cc nL) {x y : Int} (d : decode cc pc = .ok (.irem, 1)) (hx : 0 ≤ x ∧ x ≤ 2147483647) (hy : 0 < y ∧ y ≤ 2147483647) (kk : T Γ R nL k n Q ws (pc + 1) lv (.int (iI (x % y)) :: st)) : T Γ R nL k n Q ws pc lv (.int (iI y) :: .int (iI x) :: st) :=
  fun H locs ls hP hD hS hl => lv_irem hf.x hf.b d (by rw [← iI_0, iI_eq (by constructor <;> omega) (by constructor <;> omega)]; omega) (by rw [iI_rem hx hy]; exact kk H locs ls hP hD hS hl)
theorem tt_iand (hf : Fx Γ own cc nL) {x y : Int32} (d : decode cc pc = .ok (.iand, 1)) {z : Int} (hz : x &&& y = iI z) (kk : T Γ R nL k n Q ws (pc + 1) lv (.int (iI z) :: st)) : T Γ R nL k n Q ws pc lv (.int y :: .int x :: st) :=
  fun H locs ls hP hD hS hl => lv_iand hf.x hf.b d (by rw [hz]; exact kk H locs ls hP hD hS hl)
theorem tt_ior (hf : Fx Γ own cc nL) {x y : Int32} (d : decode cc pc = .ok (.ior, 1)) {z : Int} (hz : x ||| y = iI z) (kk : T Γ R nL k n Q ws (pc + 1) lv (.int (iI z) :: st)) : T Γ R nL k n Q ws pc lv (.int y :: .int x :: st) :=
  fun H locs ls hP hD hS hl => lv_ior hf.x hf.b d (by rw [hz]; exact kk H locs ls hP hD hS hl)
theorem tt_ixor (hf : Fx Γ own cc nL) {x y : Int32} (d : decode cc pc = .ok (.ixor, 1)) {z : Int} (hz : x ^^^ y = iI z) (kk : T Γ R nL k n Q ws (pc + 1) lv (.int (iI z) :: st)) : T Γ R nL k n Q ws pc lv (.int y :: .int x :: st) :=
  fun H locs ls hP hD hS hl => lv_ixor hf.x hf.b d (by rw [hz]; exact kk H locs ls hP hD hS hl)
theorem tt_ishl (hf : Fx Γ own cc nL) {x y : Int32} (d : decode cc pc = .ok (.ishl, 1)) {z : Int} (hz : x <<< (y &&& 31) = iI z) (kk : T Γ R nL k n Q ws (pc + 1) lv (.int (iI z) :: st)) : T Γ R nL k n Q ws pc lv (.int y :: .int x :: st) :=
  fun H locs ls hP hD hS hl => lv_ishl hf.x hf.b d (by rw [hz]; exact kk H locs ls hP hD hS hl)
theorem tt_ishr (hf : Fx Γ own cc nL) {x y : Int32} (d : decode cc pc = .ok (.ishr, 1)) {z : Int} (hz : x >>> (y &&& 31) = iI z) (kk : T Γ R nL k n Q ws (pc + 1) lv (.int (iI z) :: st)) : T Γ R nL k n Q ws pc lv (.int y :: .int x :: st) :=
  fun H locs ls hP hD hS hl => lv_ishr hf.x hf.b d (by rw [hz]; exact kk H locs ls hP hD hS hl)
theorem tt_i2l (hf : Fx Γ own cc nL) {x : Int32} (d : decode cc pc = .ok (.i2l, 1)) (kk : T Γ R nL k n Q ws (pc + 1) lv (.long x.toInt64 :: st)) : T Γ R nL k n Q ws pc lv (.int x :: st) :=
  fun H locs ls hP hD hS hl => lv_i2l hf.x hf.b d rfl (kk H locs ls hP hD hS hl)
theorem tt_l2i (hf : Fx Γ own cc nL) {x : Int64} (d : decode cc pc = .ok (.l2i, 1)) {z : Int} (hz : x.toInt32 = iI z) (kk : T Γ R nL k n Q ws (pc + 1) lv (.int (iI z) :: st)) : T Γ R nL k n Q ws pc lv (.long x :: st) :=
  fun H locs ls hP hD hS hl => lv_l2i hf.x hf.b d hz (kk H locs ls hP hD hS hl)
theorem tt_i2b (hf : Fx Γ own cc nL) {x : Int32} (d : decode cc pc = .ok (.i2b, 1)) {z : Int} (hz : x.toInt8.toInt32 = iI z) (kk : T Γ R nL k n Q ws (pc + 1) lv (.int (iI z) :: st)) : T Γ R nL k n Q ws pc lv (.int x :: st) :=
  fun H locs ls hP hD hS hl => lv_i2b hf.x hf.b d hz (kk H locs ls hP hD hS hl)
theorem tt_ladd (hf : Fx Γ own cc nL) {x y : Int64} (d : decode cc pc = .ok (.ladd, 1)) (kk : T Γ R nL k n Q ws (pc + 1) lv (.long (x + y) :: st)) : T Γ R nL k n Q ws pc lv (.long y :: .long x :: st) :=
  fun H locs ls hP hD hS hl => lv_ladd hf.x hf.b d (kk H locs ls hP hD hS hl)
theorem tt_lmul (hf : Fx Γ own cc nL) {x y : Int64} (d : decode cc pc = .ok (.lmul, 1)) (kk : T Γ R nL k n Q ws (pc + 1) lv (.long (x * y) :: st)) : T Γ R nL k n Q ws pc lv (.long y :: .long x :: st) :=
  fun H locs ls hP hD hS hl => lv_lmul hf.x hf.b d (kk H locs ls hP hD hS hl)
theorem tt_land (hf : Fx Γ own cc nL) {x y : Int64} (d : decode cc pc = .ok (.land, 1)) (kk : T Γ R nL k n Q ws (pc + 1) lv (.long (x &&& y) :: st)) : T Γ R nL k n Q ws pc lv (.long y :: .long x :: st) :=
  fun H locs ls hP hD hS hl => lv_land hf.x hf.b d (kk H locs ls hP hD hS hl)
theorem tt_ldiv (hf : Fx Γ own cc nL) {x y : Int64} (d : decode cc pc = .ok (.ldiv, 1)) (hy : ¬ y = 0) (kk : T Γ R nL k n Q ws (pc + 1) lv (.long (x / y) :: st)) : T Γ R nL k n Q ws pc lv (.long y :: .long x :: st) :=
  fun H locs ls hP hD hS hl => lv_ldiv hf.x hf.b d hy (kk H locs ls hP hD hS hl)
theorem tt_lrem (hf : Fx Γ own cc nL) {x y : Int64} (d : decode cc pc = .ok (.lrem, 1)) (hy : ¬ y = 0) (kk : T Γ R nL k n Q ws (pc + 1) lv (.long (x - x / y * y) :: st)) : T Γ R nL k n Q ws pc lv (.long y :: .long x :: st) :=
  fun H locs ls hP hD hS hl => lv_lrem hf.x hf.b d hy (kk H locs ls hP hD hS hl)
theorem tt_lcmp (hf : Fx Γ own cc nL) {x y : Int64} (d : decode cc pc = .ok (.lcmp, 1)) {z : Int} (hz : lg_cmp x y = iI z) (kk : T Γ R nL k n Q ws (pc + 1) lv (.int (iI z) :: st)) : T Γ R nL k n Q ws pc lv (.long y :: .long x :: st) :=
  fun H locs ls hP hD hS hl => W.lcmp hf.x hf.b d (by rw [hz]; exact kk H locs ls hP hD hS hl)
theorem tt_dup (hf : Fx Γ own cc nL) {v : Value} (d : decode cc pc = .ok (.dup, 1)) (hv : v.category = 1) (kk : T Γ R nL k n Q ws (pc + 1) lv (v :: v :: st)) : T Γ R nL k n Q ws pc lv (v :: st) :=
  fun H locs ls hP hD hS hl => lv_dup hf.x hf.b d hv (kk H locs ls hP hD hS hl)
theorem tt_pop (hf : Fx Γ own cc nL) {v : Value} (d : decode cc pc = .ok (.pop, 1)) (hv : v.category = 1) (kk : T Γ R nL k n Q ws (pc + 1) lv st) : T Γ R nL k n Q ws pc lv (v :: st) :=
  fun H locs ls hP hD hS hl => lv_pop hf.x hf.b d hv (kk H locs ls hP hD hS hl)
theorem tt_dup2 (hf : Fx Γ own cc nL) {v w : Value} (d : decode cc pc = .ok (.dup2, 1)) (hv : v.category = 1) (hw : w.category = 1) (kk : T Γ R nL k n Q ws (pc + 1) lv (v :: w :: v :: w :: st)) : T Γ R nL k n Q ws pc lv (v :: w :: st) :=
  fun H locs ls hP hD hS hl => lv_dup2_11 hf.x hf.b d hv hw (kk H locs ls hP hD hS hl)
theorem tt_goto (hf : Fx Γ own cc nL) {off : Int} {tgt : Nat} (d : decode cc pc = .ok (.goto off, 3)) (ht : (pc : Int) + off = (tgt : Int)) (kk : T Γ R nL k n Q ws tgt lv st) : T Γ R nL k n Q ws pc lv st :=
  fun H locs ls hP hD hS hl => lv_goto hf.x hf.b d ht (kk H locs ls hP hD hS hl)
theorem tt_icmp_eq (hf : Fx Γ own cc nL) {x y : Int} {off : Int} {tgt : Nat} (d : decode cc pc = .ok (.if_icmp .eq off, 3)) (ht : (pc : Int) + off = (tgt : Int)) (hx : iR x) (hy : iR y) (kt : x = y → T Γ R nL k n Q ws tgt lv st) (kf : ¬ x = y → T Γ R nL k n Q ws (pc + 3) lv st) : T Γ R nL k n Q ws pc lv (.int (iI y) :: .int (iI x) :: st) :=
  fun H locs ls hP hD hS hl => lv_icmp_eq hf.x hf.b d ht (fun c => kt (by first | exact (iI_eq hx hy).mp c | exact (iI_lt hx hy).mp c | exact (iI_lt hy hx).mp c | exact (iI_le hx hy).mp c | exact (iI_le hy hx).mp c | exact fun h => c ((iI_eq hx hy).mpr h)) H locs ls hP hD hS hl) (fun c => kf (by simp only [iI_eq hx hy, iI_lt hx hy, iI_lt hy hx, iI_le hx hy, iI_le hy hx] at c; omega) H locs ls hP hD hS hl)
theorem tt_if_eq (hf : Fx Γ own cc nL) {x : Int} {off : Int} {tgt : Nat} (d : decode cc pc = .ok (.ifCond .eq off, 3)) (ht : (pc : Int) + off = (tgt : Int)) (hx : iR x) (kt : x = 0 → T Γ R nL k n Q ws tgt lv st) (kf : ¬ x = 0 → T Γ R nL k n Q ws (pc + 3) lv st) : T Γ R nL k n Q ws pc lv (.int (iI x) :: st) :=
  fun H locs ls hP hD hS hl => lv_if_eq hf.x hf.b d ht (fun c => kt (by have hy : iR 0 := (by decide); rw [← iI_0] at c; simp only [ne_eq, iI_eq hx hy, iI_lt hx hy, iI_lt hy hx, iI_le hx hy, iI_le hy hx] at c; omega) H locs ls hP hD hS hl) (fun c => kf (by have hy : iR 0 := (by decide); rw [← iI_0] at c; simp only [ne_eq, iI_eq hx hy, iI_lt hx hy, iI_lt hy hx, iI_le hx hy, iI_le hy hx] at c; omega) H locs ls hP hD hS hl)
theorem tt_icmp_ne (hf : Fx Γ own cc nL) {x y : Int} {off : Int} {tgt : Nat} (d : decode cc pc = .ok (.if_icmp .ne off, 3)) (ht : (pc : Int) + off = (tgt : Int)) (hx : iR x) (hy : iR y) (kt : x ≠ y → T Γ R nL k n Q ws tgt lv st) (kf : x = y → T Γ R nL k n Q ws (pc + 3) lv st) : T Γ R nL k n Q ws pc lv (.int (iI y) :: .int (iI x) :: st) :=
  fun H locs ls hP hD hS hl => lv_icmp_ne hf.x hf.b d ht (fun c => kt (by first | exact (iI_eq hx hy).mp c | exact (iI_lt hx hy).mp c | exact (iI_lt hy hx).mp c | exact (iI_le hx hy).mp c | exact (iI_le hy hx).mp c | exact fun h => c ((iI_eq hx hy).mpr h)) H locs ls hP hD hS hl) (fun c => kf (by simp only [iI_eq hx hy, iI_lt hx hy, iI_lt hy hx, iI_le hx hy, iI_le hy hx] at c; omega) H locs ls hP hD hS hl)
theorem tt_if_ne (hf : Fx Γ own cc nL) {x : Int} {off : Int} {tgt : Nat} (d : decode cc pc = .ok (.ifCond .ne off, 3)) (ht : (pc : Int) + off = (tgt : Int)) (hx : iR x) (kt : x ≠ 0 → T Γ R nL k n Q ws tgt lv st) (kf : x = 0 → T Γ R nL k n Q ws (pc + 3) lv st) : T Γ R nL k n Q ws pc lv (.int (iI x) :: st) :=
  fun H locs ls hP hD hS hl => lv_if_ne hf.x hf.b d ht (fun c => kt (by have hy : iR 0 := (by decide); rw [← iI_0] at c; simp only [ne_eq, iI_eq hx hy, iI_lt hx hy, iI_lt hy hx, iI_le hx hy, iI_le hy hx] at c; omega) H locs ls hP hD hS hl) (fun c => kf (by have hy : iR 0 := (by decide); rw [← iI_0] at c; simp only [ne_eq, iI_eq hx hy, iI_lt hx hy, iI_lt hy hx, iI_le hx hy, iI_le hy hx] at c; omega) H locs ls hP hD hS hl)
theorem tt_icmp_lt (hf : Fx Γ own cc nL) {x y : Int} {off : Int} {tgt : Nat} (d : decode cc pc = .ok (.if_icmp .lt off, 3)) (ht : (pc : Int) + off = (tgt : Int)) (hx : iR x) (hy : iR y) (kt : x < y → T Γ R nL k n Q ws tgt lv st) (kf : y ≤ x → T Γ R nL k n Q ws (pc + 3) lv st) : T Γ R nL k n Q ws pc lv (.int (iI y) :: .int (iI x) :: st) :=
  fun H locs ls hP hD hS hl => lv_icmp_lt hf.x hf.b d ht (fun c => kt (by first | exact (iI_eq hx hy).mp c | exact (iI_lt hx hy).mp c | exact (iI_lt hy hx).mp c | exact (iI_le hx hy).mp c | exact (iI_le hy hx).mp c | exact fun h => c ((iI_eq hx hy).mpr h)) H locs ls hP hD hS hl) (fun c => kf (by simp only [iI_eq hx hy, iI_lt hx hy, iI_lt hy hx, iI_le hx hy, iI_le hy hx] at c; omega) H locs ls hP hD hS hl)
theorem tt_if_lt (hf : Fx Γ own cc nL) {x : Int} {off : Int} {tgt : Nat} (d : decode cc pc = .ok (.ifCond .lt off, 3)) (ht : (pc : Int) + off = (tgt : Int)) (hx : iR x) (kt : x < 0 → T Γ R nL k n Q ws tgt lv st) (kf : 0 ≤ x → T Γ R nL k n Q ws (pc + 3) lv st) : T Γ R nL k n Q ws pc lv (.int (iI x) :: st) :=
  fun H locs ls hP hD hS hl => lv_if_lt hf.x hf.b d ht (fun c => kt (by have hy : iR 0 := (by decide); rw [← iI_0] at c; simp only [ne_eq, iI_eq hx hy, iI_lt hx hy, iI_lt hy hx, iI_le hx hy, iI_le hy hx] at c; omega) H locs ls hP hD hS hl) (fun c => kf (by have hy : iR 0 := (by decide); rw [← iI_0] at c; simp only [ne_eq, iI_eq hx hy, iI_lt hx hy, iI_lt hy hx, iI_le hx hy, iI_le hy hx] at c; omega) H locs ls hP hD hS hl)
theorem tt_icmp_ge (hf : Fx Γ own cc nL) {x y : Int} {off : Int} {tgt : Nat} (d : decode cc pc = .ok (.if_icmp .ge off, 3)) (ht : (pc : Int) + off = (tgt : Int)) (hx : iR x) (hy : iR y) (kt : y ≤ x → T Γ R nL k n Q ws tgt lv st) (kf : x < y → T Γ R nL k n Q ws (pc + 3) lv st) : T Γ R nL k n Q ws pc lv (.int (iI y) :: .int (iI x) :: st) :=
  fun H locs ls hP hD hS hl => lv_icmp_ge hf.x hf.b d ht (fun c => kt (by first | exact (iI_eq hx hy).mp c | exact (iI_lt hx hy).mp c | exact (iI_lt hy hx).mp c | exact (iI_le hx hy).mp c | exact (iI_le hy hx).mp c | exact fun h => c ((iI_eq hx hy).mpr h)) H locs ls hP hD hS hl) (fun c => kf (by simp only [iI_eq hx hy, iI_lt hx hy, iI_lt hy hx, iI_le hx hy, iI_le hy hx] at c; omega) H locs ls hP hD hS hl)
theorem tt_if_ge (hf : Fx Γ own cc nL) {x : Int} {off : Int} {tgt : Nat} (d : decode cc pc = .ok (.ifCond .ge off, 3)) (ht : (pc : Int) + off = (tgt : Int)) (hx : iR x) (kt : 0 ≤ x → T Γ R nL k n Q ws tgt lv st) (kf : x < 0 → T Γ R nL k n Q ws (pc + 3) lv st) : T Γ R nL k n Q ws pc lv (.int (iI x) :: st) :=
  fun H locs ls hP hD hS hl => lv_if_ge hf.x hf.b d ht (fun c => kt (by have hy : iR 0 := (by decide); rw [← iI_0] at c; simp only [ne_eq, iI_eq hx hy, iI_lt hx hy, iI_lt hy hx, iI_le hx hy, iI_le hy hx] at c; omega) H locs ls hP hD hS hl) (fun c => kf (by have hy : iR 0 := (by decide); rw [← iI_0] at c; simp only [ne_eq, iI_eq hx hy, iI_lt hx hy, iI_lt hy hx, iI_le hx hy, iI_le hy hx] at c; omega) H locs ls hP hD hS hl)
theorem tt_icmp_gt (hf : Fx Γ own cc nL) {x y : Int} {off : Int} {tgt : Nat} (d : decode cc pc = .ok (.if_icmp .gt off, 3)) (ht : (pc : Int) + off = (tgt : Int)) (hx : iR x) (hy : iR y) (kt : y < x → T Γ R nL k n Q ws tgt lv st) (kf : x ≤ y → T Γ R nL k n Q ws (pc + 3) lv st) : T Γ R nL k n Q ws pc lv (.int (iI y) :: .int (iI x) :: st) :=
  fun H locs ls hP hD hS hl => lv_icmp_gt hf.x hf.b d ht (fun c => kt (by first | exact (iI_eq hx hy).mp c | exact (iI_lt hx hy).mp c | exact (iI_lt hy hx).mp c | exact (iI_le hx hy).mp c | exact (iI_le hy hx).mp c | exact fun h => c ((iI_eq hx hy).mpr h)) H locs ls hP hD hS hl) (fun c => kf (by simp only [iI_eq hx hy, iI_lt hx hy, iI_lt hy hx, iI_le hx hy, iI_le hy hx] at c; omega) H locs ls hP hD hS hl)
theorem tt_if_gt (hf : Fx Γ own cc nL) {x : Int} {off : Int} {tgt : Nat} (d : decode cc pc = .ok (.ifCond .gt off, 3)) (ht : (pc : Int) + off = (tgt : Int)) (hx : iR x) (kt : 0 < x → T Γ R nL k n Q ws tgt lv st) (kf : x ≤ 0 → T Γ R nL k n Q ws (pc + 3) lv st) : T Γ R nL k n Q ws pc lv (.int (iI x) :: st) :=
  fun H locs ls hP hD hS hl => lv_if_gt hf.x hf.b d ht (fun c => kt (by have hy : iR 0 := (by decide); rw [← iI_0] at c; simp only [ne_eq, iI_eq hx hy, iI_lt hx hy, iI_lt hy hx, iI_le hx hy, iI_le hy hx] at c; omega) H locs ls hP hD hS hl) (fun c => kf (by have hy : iR 0 := (by decide); rw [← iI_0] at c; simp only [ne_eq, iI_eq hx hy, iI_lt hx hy, iI_lt hy hx, iI_le hx hy, iI_le hy hx] at c; omega) H locs ls hP hD hS hl)
theorem tt_icmp_le (hf : Fx Γ own cc nL) {x y : Int} {off : Int} {tgt : Nat} (d : decode cc pc = .ok (.if_icmp .le off, 3)) (ht : (pc : Int) + off = (tgt : Int)) (hx : iR x) (hy : iR y) (kt : x ≤ y → T Γ R nL k n Q ws tgt lv st) (kf : y < x → T Γ R nL k n Q ws (pc + 3) lv st) : T Γ R nL k n Q ws pc lv (.int (iI y) :: .int (iI x) :: st) :=
  fun H locs ls hP hD hS hl => lv_icmp_le hf.x hf.b d ht (fun c => kt (by first | exact (iI_eq hx hy).mp c | exact (iI_lt hx hy).mp c | exact (iI_lt hy hx).mp c | exact (iI_le hx hy).mp c | exact (iI_le hy hx).mp c | exact fun h => c ((iI_eq hx hy).mpr h)) H locs ls hP hD hS hl) (fun c => kf (by simp only [iI_eq hx hy, iI_lt hx hy, iI_lt hy hx, iI_le hx hy, iI_le hy hx] at c; omega) H locs ls hP hD hS hl)
theorem tt_if_le (hf : Fx Γ own cc nL) {x : Int} {off : Int} {tgt : Nat} (d : decode cc pc = .ok (.ifCond .le off, 3)) (ht : (pc : Int) + off = (tgt : Int)) (hx : iR x) (kt : x ≤ 0 → T Γ R nL k n Q ws tgt lv st) (kf : 0 < x → T Γ R nL k n Q ws (pc + 3) lv st) : T Γ R nL k n Q ws pc lv (.int (iI x) :: st) :=
  fun H locs ls hP hD hS hl => lv_if_le hf.x hf.b d ht (fun c => kt (by have hy : iR 0 := (by decide); rw [← iI_0] at c; simp only [ne_eq, iI_eq hx hy, iI_lt hx hy, iI_lt hy hx, iI_le hx hy, iI_le hy hx] at c; omega) H locs ls hP hD hS hl) (fun c => kf (by have hy : iR 0 := (by decide); rw [← iI_0] at c; simp only [ne_eq, iI_eq hx hy, iI_lt hx hy, iI_lt hy hx, iI_le hx hy, iI_le hy hx] at c; omega) H locs ls hP hD hS hl)
/-- the top's name -/
theorem tt_top {z z' : Int} (h : z = z') (kk : T Γ R nL k n Q ws pc lv (.int (iI z') :: st)) : T Γ R nL k n Q ws pc lv (.int (iI z) :: st) := h ▸ kk
theorem tt_sub {lv' : List (Nat × Value)} (ks : List Nat) (h : lv_pick lv ks = lv') (kk : T Γ R nL k n Q ws pc lv' st) : T Γ R nL k n Q ws pc lv st :=
  fun H locs ls hP hD hS hl => kk H locs ls hP hD hS (lv_sub hl ks h)
theorem tt_tableIn (hf : Fx Γ own cc nL) {dflt lo hi : Int} {offs : Array Int} {len : Nat} {z : Int} {off : Int} {tgt : Nat} (d : decode cc pc = .ok (.tableswitch dflt lo hi offs, len)) (hz : iR z) (h1 : ¬ z < lo) (h2 : ¬ hi < z) (ho : offs[(z - lo).toNat]? = some off) (ht : (pc : Int) + off = (tgt : Int)) (kk : T Γ R nL k n Q ws tgt lv st) : T Γ R nL k n Q ws pc lv (.int (iI z) :: st) :=
  fun H locs ls hP hD hS hl => lv_tableIn hf.x hf.b d (by rw [iI_toInt hz]; exact h1) (by rw [iI_toInt hz]; exact h2) (by rw [iI_toInt hz]; exact ho) ht (kk H locs ls hP hD hS hl)
theorem tt_tableOut (hf : Fx Γ own cc nL) {dflt lo hi : Int} {offs : Array Int} {len : Nat} {z : Int} {tgt : Nat} (d : decode cc pc = .ok (.tableswitch dflt lo hi offs, len)) (hz : iR z) (h : z < lo ∨ hi < z) (ht : (pc : Int) + dflt = (tgt : Int)) (kk : T Γ R nL k n Q ws tgt lv st) : T Γ R nL k n Q ws pc lv (.int (iI z) :: st) :=
  fun H locs ls hP hD hS hl => lv_tableOut hf.x hf.b d (by rw [iI_toInt hz]; exact h) ht (kk H locs ls hP hD hS hl)
theorem tt_widen {k' n' : Nat} (h1 : k ≤ k') (h2 : n ≤ n') (kk : T Γ R nL k' n' Q ws pc lv st) : T Γ R nL k n Q ws pc lv st :=
  fun H locs ls hP hD hS hl => W.widen h1 h2 (kk H locs ls hP hD hS hl)
/-! the ends -/
theorem tt_iret (hf : Fx Γ own cc nL) {ty : FieldType} {rm : Room} {post : Option Value → va_W → Prop} {x : Int32} (hr : (xh Γ).sig.returnType = some ty) (hn : narrow ty (.int x) = .int x) (d : decode cc pc = .ok (.ireturn, 1)) (h1 : k ≤ rm.cells) (h2 : n ≤ rm.slots) (hp : post (some (.int x)) ws) : T Γ R nL k n (Qe Γ rm post) ws pc lv [.int x] :=
  fun H locs ls hP hD hS hl => W.widen h1 h2 (W.zret (v := x) hf.x hf.b hr hn (fun t ht hW => ⟨⟨some (.int x), ws, rfl, hp, by rw [ht]; exact hP, va_K.moved hW.alike hf.K, hD⟩, hS.F ht⟩) hS.2.2 d hf.lk)
theorem tt_lret (hf : Fx Γ own cc nL) {rm : Room} {post : Option Value → va_W → Prop} {x : Int64} (hr : (xh Γ).sig.returnType = some .long) (d : decode cc pc = .ok (.lreturn, 1)) (h1 : k ≤ rm.cells) (h2 : n ≤ rm.slots) (hp : post (some (.long x)) ws) : T Γ R nL k n (Qe Γ rm post) ws pc lv [.long x] :=
  fun H locs ls hP hD hS hl => W.widen h1 h2 (W.lret (v := x) hf.x hf.b hr (fun t ht hW => ⟨⟨some (.long x), ws, rfl, hp, by rw [ht]; exact hP, va_K.moved hW.alike hf.K, hD⟩, hS.F ht⟩) hS.2.2 d hf.lk)
theorem tt_vret (hf : Fx Γ own cc nL) {rm : Room} {post : Option Value → va_W → Prop} (hr : (xh Γ).sig.returnType = none) (d : decode cc pc = .ok (.return_, 1)) (h1 : k ≤ rm.cells) (h2 : n ≤ rm.slots) (hp : post none ws) : T Γ R nL k n (Qe Γ rm post) ws pc lv [] :=
  fun H locs ls hP hD hS hl => W.widen h1 h2 (W.vret hf.x hf.b hr (fun t ht hW => ⟨⟨none, ws, rfl, hp, by rw [ht]; exact hP, va_K.moved hW.alike hf.K, hD⟩, hS.F ht⟩) hS.2.2 d hf.lk)
theorem tt_aret (hf : Fx Γ own cc nL) {rm : Room} {post : Option Value → va_W → Prop} {C : String} {a : Nat} (hr : (xh Γ).sig.returnType = some (.object C)) (d : decode cc pc = .ok (.areturn, 1)) (h1 : k ≤ rm.cells) (h2 : n ≤ rm.slots) (hp : post (some (.ref a)) ws) : T Γ R nL k n (Qe Γ rm post) ws pc lv [.ref a] :=
  fun H locs ls hP hD hS hl => W.widen h1 h2 (W.aret (v := .ref a) hf.x hf.b hr (Or.inl ⟨_, rfl⟩) (Or.inr ⟨_, rfl⟩) (fun t ht hW => ⟨⟨some (.ref a), ws, rfl, hp, by rw [ht]; exact hP, va_K.moved hW.alike hf.K, hD⟩, hS.F ht⟩) hS.2.2 d hf.lk)
/-! cells -/
theorem tt_get (hf : Fx Γ own cc nL) {ref C : String} {T0 : u_T} {N ci index a : Nat} {fs : List Value} (hin : ∀ w ∈ u_ws C T0 N, w ∈ lw_all) (q0 : Nat) (he : ws[q0]? = some (a, .inr (ci, fs))) (hc : tCl[ci]? = some (C, T0, N)) (i : Nat) (hi : i < N) (hlink : Cond.fieldLink own index ref (T0 i).2.1 (T0 i).2.2.1 ∈ lw_all) (hsame : ref = (T0 i).1) {v : Value} (hv : fs[i]? = some v) (d : decode cc pc = .ok (.getfield index, 3)) (kk : T Γ R nL k n Q ws (pc + 3) lv (v :: st)) : T Γ R nL k n Q ws pc lv (.ref a :: st) :=
  fun H locs ls hP hD hS hl => va_get hf.x hf.b hf.ts hin hf.own hf.K hP q0 he hc i hi (hf.ts _ hlink) (fun x h => by rw [hsame]; exact h) hv d (kk H locs ls hP hD hS hl)
theorem tt_put (hf : Fx Γ own cc nL) {ref C : String} {T0 : u_T} {N ci index a : Nat} {fs : List Value} (hin : ∀ w ∈ u_ws C T0 N, w ∈ lw_all) (ty0 : Nat → FieldType) (hty : ∀ i, i < N → parseFieldDescriptor (T0 i).2.2.1 = some (ty0 i)) (hnm : ∀ a, a < N → ∀ b, b < N → a ≠ b → (T0 a).2.1 ≠ (T0 b).2.1) (q0 : Nat) (he : ws[q0]? = some (a, .inr (ci, fs))) (hc : tCl[ci]? = some (C, T0, N)) (i : Nat) (hi : i < N) (hlink : Cond.fieldLink own index ref (T0 i).2.1 (T0 i).2.2.1 ∈ lw_all) (hsame : ref = (T0 i).1) (hfin : (T0 i).2.2.2 = false) {ty : FieldType} {v : Value} (hd : parseFieldDescriptor (T0 i).2.2.1 = some ty) (hn : narrow ty v = v) (hfit : fits ty v = true) (hl0 : i < fs.length) (d : decode cc pc = .ok (.putfield index, 3))
    {ws' : va_W} (hw : ws.set q0 (a, .inr (ci, fs.set i v)) = ws') (kk : T Γ R nL k n Q ws' (pc + 3) lv st) : T Γ R nL k n Q ws pc lv (v :: .ref a :: st) :=
  fun H locs ls hP hD hS hl => va_put hf.x hf.b hf.ts hin ty0 hty hnm hf.own hf.K hP hD hS q0 he hc i hi (hf.ts _ hlink) (fun x h => by rw [hsame]; exact h) hfin hd hn hfit hl0 d (fun H1 locs1 hP1 hD1 hS1 => kk H1 locs1 ls (hw ▸ hP1) (hw ▸ hD1) hS1 hl)
abbrev aI (g : tG) (N : Nat) (f : Int → Int) : va_E := .inl (g.2.1, N, .inl (fun j : Nat => iI (f j)))
abbrev aB (g : tG) (N : Nat) (f : Int → Int) : va_E := .inl (g.2.2.1, N, .inl (fun j : Nat => iI (f j)))
abbrev aZ (g : tG) (N : Nat) (f : Int → Int) : va_E := .inl (g.2.2.2.1, N, .inl (fun j : Nat => iI (f j)))
abbrev aQ (g : tG) (N : Nat) (f : Int → Option Nat) : va_E := .inl (g.2.2.2.2, N, .inr (.inr (.inr (.inr (fun j : Nat => f j)))))
theorem ix_cast {z : Int} (h0 : 0 ≤ z) (h1 : z ≤ 2147483647) : (((iI z).toNatClampNeg : Nat) : Int) = z := by
  rw [iI_clamp (by constructor <;> omega)]; omega
theorem tt_iald (hf : Fx Γ own cc nL) {a N : Nat} {f : Int → Int} {z : Int} (q0 : Nat) (he : ws[q0]? = some (a, aI (xg Γ) N f)) (hN : N ≤ 2147483647) (hz : 0 ≤ z ∧ z < N) (d : decode cc pc = .ok (.iaload, 1)) (kk : T Γ R nL k n Q ws (pc + 1) lv (.int (iI (f z)) :: st)) : T Γ R nL k n Q ws pc lv (.int (iI z) :: .ref a :: st) :=
  fun H locs ls hP hD hS hl => va_iald hf.x hf.b hf.K hP q0 0 he rfl (iI_in hz.1 hz.2 hN) d (by show W _ _ _ _ _ _ _ _ _ _ _ _ _ _ _ (F0 _ _ _ (.int (iI (f (((iI z).toNatClampNeg : Nat) : Int))) :: _)); rw [ix_cast hz.1 (by omega)]; exact kk H locs ls hP hD hS hl)
theorem tt_bald (hf : Fx Γ own cc nL) {a N : Nat} {f : Int → Int} {z : Int} (q0 : Nat) (he : ws[q0]? = some (a, aB (xg Γ) N f)) (hN : N ≤ 2147483647) (hz : 0 ≤ z ∧ z < N) (d : decode cc pc = .ok (.baload, 1)) (kk : T Γ R nL k n Q ws (pc + 1) lv (.int (iI (f z)) :: st)) : T Γ R nL k n Q ws pc lv (.int (iI z) :: .ref a :: st) :=
  fun H locs ls hP hD hS hl => va_bald hf.x hf.b hf.K hP q0 1 he rfl (iI_in hz.1 hz.2 hN) d (by show W _ _ _ _ _ _ _ _ _ _ _ _ _ _ _ (F0 _ _ _ (.int (iI (f (((iI z).toNatClampNeg : Nat) : Int))) :: _)); rw [ix_cast hz.1 (by omega)]; exact kk H locs ls hP hD hS hl)
theorem tt_zald (hf : Fx Γ own cc nL) {a N : Nat} {f : Int → Int} {z : Int} (q0 : Nat) (he : ws[q0]? = some (a, aZ (xg Γ) N f)) (hN : N ≤ 2147483647) (hz : 0 ≤ z ∧ z < N) (d : decode cc pc = .ok (.baload, 1)) (kk : T Γ R nL k n Q ws (pc + 1) lv (.int (iI (f z)) :: st)) : T Γ R nL k n Q ws pc lv (.int (iI z) :: .ref a :: st) :=
  fun H locs ls hP hD hS hl => va_zald hf.x hf.b hf.K hP q0 2 he rfl (iI_in hz.1 hz.2 hN) d (by show W _ _ _ _ _ _ _ _ _ _ _ _ _ _ _ (F0 _ _ _ (.int (iI (f (((iI z).toNatClampNeg : Nat) : Int))) :: _)); rw [ix_cast hz.1 (by omega)]; exact kk H locs ls hP hD hS hl)
theorem tt_aald (hf : Fx Γ own cc nL) {a N b : Nat} {f : Int → Option Nat} {z : Int} (q0 : Nat) (he : ws[q0]? = some (a, aQ (xg Γ) N f)) (hN : N ≤ 2147483647) (hz : 0 ≤ z ∧ z < N) (hb : f z = some b) (d : decode cc pc = .ok (.aaload, 1)) (kk : T Γ R nL k n Q ws (pc + 1) lv (.ref b :: st)) : T Γ R nL k n Q ws pc lv (.int (iI z) :: .ref a :: st) :=
  fun H locs ls hP hD hS hl => va_aldq hf.x hf.b hf.K hP q0 3 he rfl (iI_in hz.1 hz.2 hN) d (by show W _ _ _ _ _ _ _ _ _ _ _ _ _ _ _ (F0 _ _ _ (va_rf (f (((iI z).toNatClampNeg : Nat) : Int)) :: _)); rw [ix_cast hz.1 (by omega), hb]; exact kk H locs ls hP hD hS hl)
theorem tt_iast (hf : Fx Γ own cc nL) {a N : Nat} {f : Int → Int} {z v : Int} (q0 : Nat) (he : ws[q0]? = some (a, aI (xg Γ) N f)) (hN : N ≤ 2147483647) (hz : 0 ≤ z ∧ z < N) (d : decode cc pc = .ok (.iastore, 1)) {ws' : va_W} (hw : ws.set q0 (a, aI (xg Γ) N (uI f z v)) = ws') (kk : T Γ R nL k n Q ws' (pc + 1) lv st) : T Γ R nL k n Q ws pc lv (.int (iI v) :: .int (iI z) :: .ref a :: st) :=
  fun H locs ls hP hD hS hl => va_iast hf.x hf.b hf.K hP hD hS q0 0 he rfl (iI_in hz.1 hz.2 hN) d (fun H1 locs1 hP1 hD1 hS1 => kk H1 locs1 ls (by rw [← hw, aI, ← uI_upd hz.1 (by omega)]; exact hP1) (by rw [← hw, aI, ← uI_upd hz.1 (by omega)]; exact hD1) hS1 hl)
theorem nar_b {v : Int} (hv : -128 ≤ v ∧ v ≤ 127) : vp_nar .byte (iI v) = iI v := by
  rw [vp_nar_byte]
  apply Int32.toInt_inj.mp
  rw [Int8.toInt_toInt32, Int32.toInt_toInt8, iI_toInt (by constructor <;> omega)]
  rw [Int.bmod_eq_of_le (by omega) (by omega)]
theorem tt_bast (hf : Fx Γ own cc nL) {a N : Nat} {f : Int → Int} {z v : Int} (q0 : Nat) (he : ws[q0]? = some (a, aB (xg Γ) N f)) (hN : N ≤ 2147483647) (hz : 0 ≤ z ∧ z < N) (hv : -128 ≤ v ∧ v ≤ 127) (d : decode cc pc = .ok (.bastore, 1)) {ws' : va_W} (hw : ws.set q0 (a, aB (xg Γ) N (uI f z v)) = ws') (kk : T Γ R nL k n Q ws' (pc + 1) lv st) : T Γ R nL k n Q ws pc lv (.int (iI v) :: .int (iI z) :: .ref a :: st) :=
  fun H locs ls hP hD hS hl => va_bast hf.x hf.b hf.K hP hD hS q0 1 he rfl (iI_in hz.1 hz.2 hN) d (fun H1 locs1 hP1 hD1 hS1 => kk H1 locs1 ls (by rw [nar_b hv] at hP1; rw [← hw, aB, ← uI_upd hz.1 (by omega)]; exact hP1) (by rw [nar_b hv] at hD1; rw [← hw, aB, ← uI_upd hz.1 (by omega)]; exact hD1) hS1 hl)
theorem tt_zast (hf : Fx Γ own cc nL) {a N : Nat} {f : Int → Int} {z v : Int} (q0 : Nat) (he : ws[q0]? = some (a, aZ (xg Γ) N f)) (hN : N ≤ 2147483647) (hz : 0 ≤ z ∧ z < N) (hv : vp_nar .boolean (iI v) = iI v) (d : decode cc pc = .ok (.bastore, 1)) {ws' : va_W} (hw : ws.set q0 (a, aZ (xg Γ) N (uI f z v)) = ws') (kk : T Γ R nL k n Q ws' (pc + 1) lv st) : T Γ R nL k n Q ws pc lv (.int (iI v) :: .int (iI z) :: .ref a :: st) :=
  fun H locs ls hP hD hS hl => va_zast hf.x hf.b hf.K hP hD hS q0 2 he rfl (iI_in hz.1 hz.2 hN) d (fun H1 locs1 hP1 hD1 hS1 => kk H1 locs1 ls (by rw [hv] at hP1; rw [← hw, aZ, ← uI_upd hz.1 (by omega)]; exact hP1) (by rw [hv] at hD1; rw [← hw, aZ, ← uI_upd hz.1 (by omega)]; exact hD1) hS1 hl)
/-! calls -/
theorem tt_after (hf : Fx Γ own cc nL) {rm : Room} {post : Option Value → va_W → Prop} {st0 rest : List Value} {a : Array Value}
    (hr : ∀ (H : Heap) (locs : List Loc) (ls : Array Slot), va_P (xg Γ).1 tCl ws H → va_D (xA Γ) ws → va_S (xA Γ) (xs Γ).heap H locs → lv_has ls nL lv → va_Run (xp Γ) (xl Γ) (xe Γ) R (xs Γ) (xm Γ) (xa Γ) (xb Γ) (xh Γ) (xc Γ) H locs k n rm.cells rm.slots (F0 (xm Γ) pc ls st0) rest (Qg post (xg Γ) (va_A ws H.size) a) (va_A ws H.size))
    (kk : ∀ (v : Option Value) (ws' : va_W), post v ws' → T Γ R nL (k + rm.cells) (n + rm.slots) Q ws' (pc + 3) lv (v.toList ++ rest)) : T Γ R nL k n Q ws pc lv st0 := by
  intro H locs ls hP hD hS hl T' hT X
  obtain ⟨v, st₀, t, T'', L, h0, X', hL, e1, e2, ⟨⟨v', ws', hv, hp, hP1, hK1, hD1⟩, hz, hk⟩, stp⟩ := hr H locs ls hP hD hS hl T' hT X
  cases hv
  rw [h0] at hz hk
  have hFr : ∀ q, va_A ws H.size q → xA Γ q := by
    intro q h
    rcases h with ⟨j, e, h⟩ | h
    · exact hD.2 j (q, e) h
    · exact hf.A q (Nat.le_trans hS.1 h)
  obtain ⟨t2, a1, b1⟩ := kk v ws' hp T''.heap (locs ++ L) ls (by rw [e1]; exact hP1) (hD1.weaken (fun _ q _ h => hFr q.1 h))
    ⟨Nat.le_trans hS.1 (by rw [e1]; exact hz), fun q h1 h2 => by rw [e1, hk q (Nat.lt_of_lt_of_le h1 hS.1) (fun z => h2 (hFr q z))]; exact hS.2.1 q h1 h2, fun q hq => by
      rcases List.mem_append.mp hq with h | h
      · exact hS.2.2 q h
      · exact hFr _ (hL q h)⟩ hl T'' rfl X'
  exact ⟨t2, stp t2 a1, b1⟩
theorem Pg.blind {g : tG} {ws : va_W} {sz : Nat} {as : List Value} : FrameBlind (va_Pc as (Pg g ws sz)) := by
  intro a U g mk q
  obtain ⟨q0, q1, qP, qK, qD, qN⟩ := q
  exact ⟨q0, q1, qP, va_K.moved (u := U) (U := U.calling g mk a) (Vm.Alike.refl U.vm) qK, qD, qN.calling⟩
theorem Fx.pre (hf : Fx Γ own cc nL) {H : Heap} {as : List Value} (hP : va_P (xg Γ).1 tCl ws H) (hD : va_D (xA Γ) ws) : ∀ U : State, U.heap = H → (xs Γ).WarmedH U.vm → va_Pc as (Pg (xg Γ) ws H.size) as.toArray U :=
  fun U hU hW => ⟨rfl, by rw [hU], by rw [hU]; exact hP, va_K.moved hW.alike hf.K, hD.weaken (fun _ _ _ _ => trivial), hf.N.warm hW⟩
theorem Fx.fix (hf : Fx Γ own cc nL) : CallFix (xp Γ) (xm Γ) (xc Γ) cc nL (xs Γ) (xa Γ) lw_all own := ⟨hf.x, hf.b, hf.ml, hf.own, hf.ts⟩
/-- a call through an object of the class that declares the method -/
theorem tt_callV (hf : Fx Γ own cc nL) {y : MethodName} {bytes : ByteArray} {maxL index : Nat} {ret : Option FieldType} {rm : Room} {post : Option Value → va_W → Prop} {As rest : List Value} {b ci q0 N n0 : Nat} {C : String} {T0 : u_T} {fs : List Value}
    (hC : Ct (xl Γ) (xg Γ) y (ws_ y bytes maxL ret) rm (.ref b :: As) ws post) (hg : GoodIn lw_all (wsV own index C y (ws_ y bytes maxL ret))) (hd : y.cls = C ∧ y.cls ≠ "java/lang/invoke/MethodHandle" ∧ y.cls ≠ "java/lang/invoke/VarHandle" ∧ (parseMethodDescriptor y.desc).map (fun d => d.parameters.length) = some n0) (hn0 : As.length = n0)
    (he : ws[q0]? = some (b, .inr (ci, fs))) (hc : tCl[ci]? = some (C, T0, N)) (hR : rm.frames + 1 ≤ R.frames ∧ 8 + (maxL + 11) + rm.locals ≤ R.locals) (hroom : k + rm.cells ≤ R.cells ∧ n + rm.slots ≤ R.slots) (hcat : (rest.map fun v => v.category).sum ≤ 8) (d : decode cc pc = .ok (.invokevirtual index, 3))
    (hst : st = As.reverse ++ .ref b :: rest) (kk : ∀ (v : Option Value) (ws' : va_W), post v ws' → T Γ R nL (k + rm.cells) (n + rm.slots) Q ws' (pc + 3) lv (v.toList ++ rest)) : T Γ R nL k n Q ws pc lv st := by
  subst hst
  exact tt_after hf (fun H locs ls hP hD hS hl => va_runV hf.fix (hC H.size) (cwV n0 hf.ts hg rfl rfl rfl hd hR) ⟨Pg.blind, va_recv hf.K hP hc he, hf.pre hP hD⟩ rfl hn0 hl.1 rfl (lv_room hcat) d hroom) kk
theorem tt_callS (hf : Fx Γ own cc nL) {y : MethodName} {bytes : ByteArray} {maxL index : Nat} {ret : Option FieldType} {rm : Room} {post : Option Value → va_W → Prop} {As rest : List Value} {n0 : Nat}
    (hC : Ct (xl Γ) (xg Γ) y (ws_ y bytes maxL ret) rm As ws post) (hg : GoodIn lw_all (va_wsS own index y (ws_ y bytes maxL ret))) (hd : y.cls ≠ "java/lang/invoke/MethodHandle" ∧ y.cls ≠ "java/lang/invoke/VarHandle" ∧ (parseMethodDescriptor y.desc).map (fun d => d.parameters.length) = some n0) (hn0 : As.length = n0)
    (hR : rm.frames + 1 ≤ R.frames ∧ 8 + (maxL + 11) + rm.locals ≤ R.locals) (hroom : k + rm.cells ≤ R.cells ∧ n + rm.slots ≤ R.slots) (hcat : (rest.map fun v => v.category).sum ≤ 8) (d : decode cc pc = .ok (.invokestatic index, 3))
    (hst : st = As.reverse ++ rest) (kk : ∀ (v : Option Value) (ws' : va_W), post v ws' → T Γ R nL (k + rm.cells) (n + rm.slots) Q ws' (pc + 3) lv (v.toList ++ rest)) : T Γ R nL k n Q ws pc lv st := by
  subst hst
  exact tt_after hf (fun H locs ls hP hD hS hl => va_runS hf.fix (hC H.size) (va_cwS n0 hf.ts hg rfl rfl rfl hd hR) ⟨Pg.blind, hf.pre hP hD⟩ rfl hn0 hl.1 rfl (lv_room hcat) d hroom) kk
end TT
