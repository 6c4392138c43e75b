/-! ===== T: a walk over a world of cells, its heap hidden; ints are mathematical integers ===== -/
def iI (z : Int) : Int32 := Int32.ofInt z
abbrev iR (z : Int) : Prop := -2147483648 ≤ z ∧ z ≤ 2147483647
theorem iI_add (a b : Int) : iI a + iI b = iI (a + b) := (Int32.ofInt_add a b).symm
theorem iI_sub (a b : Int) : iI a - iI b = iI (a - b) := (Int32.ofInt_sub a b).symm
theorem iI_mul (a b : Int) : iI a * iI b = iI (a * b) := (Int32.ofInt_mul a b).symm
theorem iI_toInt {z : Int} (h : iR z) : (iI z).toInt = z := by
  obtain ⟨h1, h2⟩ := h
  exact Int32.toInt_ofInt_of_le (by omega) (by omega)
theorem iI_of (x : Int32) : iI x.toInt = x := Int32.ofInt_toInt x
theorem iR_of (x : Int32) : iR x.toInt := by
  have h1 := x.le_toInt
  have h2 := x.toInt_lt
  constructor <;> omega
theorem iI_lt {a b : Int} (ha : iR a) (hb : iR b) : iI a < iI b ↔ a < b := by rw [Int32.lt_iff_toInt_lt, iI_toInt ha, iI_toInt hb]
theorem iI_le {a b : Int} (ha : iR a) (hb : iR b) : iI a ≤ iI b ↔ a ≤ b := by rw [Int32.le_iff_toInt_le, iI_toInt ha, iI_toInt hb]
theorem iI_eq {a b : Int} (ha : iR a) (hb : iR b) : iI a = iI b ↔ a = b := by rw [← Int32.toInt_inj, iI_toInt ha, iI_toInt hb]
theorem iI_clamp {z : Int} (h : iR z) : (iI z).toNatClampNeg = z.toNat := by
  show (iI z).toInt.toNat = _
  rw [iI_toInt h]
theorem iI_0 : iI 0 = 0 := by decide
theorem iI_in {z : Int} {n : Nat} (h0 : 0 ≤ z) (h1 : z < n) (hn : n ≤ 2147483647) : vp_in (iI z) n := by
  rw [vp_in_iff, iI_toInt (by constructor <;> omega)]
  exact ⟨h0, h1⟩
/-- a place of an array, changed -/
def uI {α : Type} (f : Int → α) (z : Int) (v : α) : Int → α := fun j => if j = z then v else f j
theorem uI_s {α : Type} {f : Int → α} {z : Int} {v : α} : uI f z v z = v := by simp [uI]
theorem uI_n {α : Type} {f : Int → α} {z j : Int} {v : α} (h : j ≠ z) : uI f z v j = f j := by simp [uI, h]
theorem uI_upd {f : Int → Int} {z v : Int} (h0 : 0 ≤ z) (h1 : z ≤ 2147483647) : upd (fun j : Nat => iI (f j)) (iI z).toNatClampNeg (iI v) = fun j : Nat => iI (uI f z v j) := by
  rw [iI_clamp (by constructor <;> omega)]
  funext j
  by_cases hj : j = z.toNat
  · subst hj
    have : ((z.toNat : Nat) : Int) = z := by omega
    simp [upd, uI, this]
  · have : ¬ (j : Int) = z := by omega
    simp [upd, uI, hj, this]
theorem uI_up {f : Int → Option Nat} {z : Int} {v : Option Nat} (h0 : 0 ≤ z) (h1 : z ≤ 2147483647) : va_up (fun j : Nat => f j) (iI z).toNatClampNeg v = fun j : Nat => uI f z v j := by
  rw [iI_clamp (by constructor <;> omega)]
  funext j
  by_cases hj : j = z.toNat
  · subst hj
    have : ((z.toNat : Nat) : Int) = z := by omega
    simp [va_up, uI, this]
  · have : ¬ (j : Int) = z := by omega
    simp [va_up, uI, hj, this]
/-- the classes: 0 SumColours, 1 .. 5 the members by kind, 6 SumColoursModel -/
abbrev tCl : List vw_C := [(RX0, TX0, 32), (RX1, TX1, 3), (RX2, TX2, 3), (RX3, TX3, 3), (RX4, TX4, 3), (RX5, TX5, 3), (RX6, TX6, 33)]
/-- classes; arrays of int, byte, boolean, Member -/
abbrev tG : Type := va_G × ClassId × ClassId × ClassId × ClassId
abbrev tT (g : tG) : List (ClassId × FieldType) := [(g.2.1, .int), (g.2.2.1, .byte), (g.2.2.2.1, .boolean), (g.2.2.2.2, .object "SumColours$Member")]
/-! what the tables say that does not ride in lw_all -/
def tNm : List (String × Nat × MethodName × String) := [("SumColours", 9, ⟨"SumColours$Member", "<init>", "()V"⟩, "SumColours"), ("SumColours", 15, ⟨"SumColours$Loose", "<init>", "()V"⟩, "SumColours"), ("SumColours", 18, ⟨"SumColours$Free", "<init>", "()V"⟩, "SumColours"), ("SumColours", 21, ⟨"SumColours$Shy", "<init>", "()V"⟩, "SumColours"), ("SumColours", 24, ⟨"SumColours$Lone", "<init>", "()V"⟩, "SumColours"), ("SumColours$Loose", 1, ⟨"SumColours$Member", "<init>", "()V"⟩, "SumColours"), ("SumColours$Free", 1, ⟨"SumColours$Member", "<init>", "()V"⟩, "SumColours"), ("SumColours$Shy", 1, ⟨"SumColours$Member", "<init>", "()V"⟩, "SumColours"), ("SumColours$Lone", 1, ⟨"SumColours$Shy", "<init>", "()V"⟩, "SumColours")]
def tNc : List (String × String) := [("SumColours$Free", "SumColours$Member"), ("SumColours$Lone", "SumColours$Member"), ("SumColours$Loose", "SumColours$Member"), ("SumColours$Shy", "SumColours$Member"), ("SumColours$Lone", "SumColours$Shy")]
def tNn : List (String × String) := [("SumColours$Member", "SumColours$Loose"), ("SumColours$Member", "SumColours$Free"), ("SumColours$Member", "SumColours$Shy"), ("SumColours$Member", "SumColours$Lone"), ("SumColours$Loose", "SumColours$Free"), ("SumColours$Loose", "SumColours$Shy"), ("SumColours$Loose", "SumColours$Lone"), ("SumColours$Free", "SumColours$Loose"), ("SumColours$Free", "SumColours$Shy"), ("SumColours$Free", "SumColours$Lone"), ("SumColours$Shy", "SumColours$Loose"), ("SumColours$Shy", "SumColours$Free"), ("SumColours$Shy", "SumColours$Lone"), ("SumColours$Lone", "SumColours$Loose"), ("SumColours$Lone", "SumColours$Free")]
def tNf : List (String × MethodName × MethodName) := [("SumColours$Member", ⟨"SumColours$Counts", "isPart", "()Z"⟩, ⟨"SumColours$Member", "isPart", "()Z"⟩), ("SumColours$Loose", ⟨"SumColours$Counts", "isPart", "()Z"⟩, ⟨"SumColours$Member", "isPart", "()Z"⟩), ("SumColours$Free", ⟨"SumColours$Counts", "isPart", "()Z"⟩, ⟨"SumColours$Member", "isPart", "()Z"⟩), ("SumColours$Shy", ⟨"SumColours$Counts", "isPart", "()Z"⟩, ⟨"SumColours$Shy", "isPart", "()Z"⟩), ("SumColours$Lone", ⟨"SumColours$Counts", "isPart", "()Z"⟩, ⟨"SumColours$Shy", "isPart", "()Z"⟩),
  ("SumColours$Member", ⟨"SumColours$Counts", "isMinding", "(Z)Z"⟩, ⟨"SumColours$Member", "isMinding", "(Z)Z"⟩), ("SumColours$Loose", ⟨"SumColours$Counts", "isMinding", "(Z)Z"⟩, ⟨"SumColours$Loose", "isMinding", "(Z)Z"⟩), ("SumColours$Free", ⟨"SumColours$Counts", "isMinding", "(Z)Z"⟩, ⟨"SumColours$Free", "isMinding", "(Z)Z"⟩), ("SumColours$Shy", ⟨"SumColours$Counts", "isMinding", "(Z)Z"⟩, ⟨"SumColours$Member", "isMinding", "(Z)Z"⟩), ("SumColours$Lone", ⟨"SumColours$Counts", "isMinding", "(Z)Z"⟩, ⟨"SumColours$Lone", "isMinding", "(Z)Z"⟩)]
def tNd : List String := ["SumColours$Member", "SumColours$Loose", "SumColours$Free", "SumColours$Shy", "SumColours$Lone"]
def tN (U : State) : Prop :=
  (∀ q ∈ tNm, va_Nw (.methodLinkNest q.1 q.2.1 q.2.2.1 q.2.2.2) U) ∧ (∀ q ∈ tNc, va_Nw (.castable q.1 q.2) U) ∧ (∀ q ∈ tNn, va_Nc q.1 q.2 U) ∧ (∀ q ∈ tNf, va_Fw q.1 q.2.1 q.2.2 U) ∧ va_AO "SumColours$Member" U ∧
  (∀ C ∈ tNd, va_Nw (.landsInDefault C ⟨"SumColours$Member", "isSo", "(I)Z"⟩ ⟨"SumColours$Counts", "isSo", "(I)Z"⟩) U) ∧
  va_Nw (.declares ⟨"SumColours$Counts", "isSo", "(I)Z"⟩) U ∧ va_Nw (.methodLink "SumColours" 273 ⟨"SumColours$Member", "isSo", "(I)Z"⟩) U ∧ va_Nw (.sameMethod "SumColours$Member" "SumColours$Counts" "isSo" "(I)Z") U
theorem tN_f_ok : ∀ q ∈ tNf, q.2.1.cls ≠ "java/lang/invoke/MethodHandle" ∧ q.2.1.cls ≠ "java/lang/invoke/VarHandle" := by decide +kernel
theorem tN_w {w : Cond} (hw : (w.onTables && w.keeps) = true) {s U : State} (hW : s.WarmedH U.vm) (h : va_Nw w s) : va_Nw w U := word_at hW (Or.inl hw) h
theorem tN_l {C : String} {x y : MethodName} {s U : State} (hW : s.WarmedH U.vm) (h : va_Nw (.landsInDefault C x y) s) : va_Nw (.landsInDefault C x y) U := by
  have h1 : (Cond.landsInDefault C x y).before #[] (s.setVm U.vm) = true := (Cond.landsInDefault_setVm hW.alike (State.methodFound?_setVm hW.alike _ _ _)).trans h
  exact h1
theorem tN.warm {s U : State} (hW : s.WarmedH U.vm) (h : tN s) : tN U := by
  obtain ⟨h1, h2, h3, h4, h5, h6, h7, h8, h9⟩ := h
  exact ⟨fun q hq => (h1 q hq).warmM hW, fun q hq => (h2 q hq).warmC hW, fun q hq => (h3 q hq).moved hW.alike, fun q hq => (h4 q hq).moved (tN_f_ok q hq) hW.alike, h5.moved hW.alike, fun C hC => tN_l hW (h6 C hC), h7.warmD hW, tN_w rfl hW h8, tN_w rfl hW h9⟩
theorem tN.calling {U : State} {g : JFrame} {mk : MethodId} {a : Array Value} (h : tN U) : tN (U.calling g mk a) := by
  obtain ⟨h1, h2, h3, h4, h5, h6, h7, h8, h9⟩ := h
  exact ⟨h1, h2, h3, h4, h5, h6, h7, h8, h9⟩
