/-! the plain values: parts, what minds, bad threes -/
abbrev prt (k : Int) : Prop := k ≠ 3 ∧ k ≠ 4
abbrev mnd (k : Int) (tw : Prop) : Prop := k = 0 ∨ k = 3 ∨ (k = 1 ∧ ¬ tw)
abbrev isB (kd row : Int → Int) (a b : Int) : Prop := row a ≠ -1 ∧ row a = row b ∧ row a = row (a + b) ∧ prt (kd a) ∧ prt (kd b) ∧ mnd (kd (a + b)) (a = b)
/-- bad ones with the sum s, the lesser part one of 1 .. k -/
def bdN (kd row : Int → Int) (s : Int) : Nat → Int
  | 0 => 0
  | k + 1 => bdN kd row s k + (if isB kd row (k + 1) (s - (k + 1)) then 1 else 0)
def bd (kd row : Int → Int) (s : Int) : Int := bdN kd row s (s / 2).toNat
/-- bad ones with a sum of 1 .. k -/
def bu (kd row : Int → Int) : Nat → Int
  | 0 => 0
  | k + 1 => bu kd row k + bd kd row (k + 1)
theorem bdN_rng (kd row : Int → Int) (s : Int) : ∀ k, 0 ≤ bdN kd row s k ∧ bdN kd row s k ≤ k
  | 0 => by simp [bdN]
  | k + 1 => by
    have h := bdN_rng kd row s k
    simp only [bdN]
    split <;> omega
theorem bd_rng {kd row : Int → Int} {s : Int} (h : 0 ≤ s) : 0 ≤ bd kd row s ∧ bd kd row s ≤ s := by
  have h1 := bdN_rng kd row s (s / 2).toNat
  unfold bd
  omega
theorem bu_rng (kd row : Int → Int) : ∀ k : Nat, 0 ≤ bu kd row k ∧ bu kd row k ≤ k * k
  | 0 => by simp [bu]
  | k + 1 => by
    have h := bu_rng kd row k
    have h1 := bd_rng (kd := kd) (row := row) (s := (k : Int) + 1) (by omega)
    have e : ((k + 1 : Nat) : Int) * ((k + 1 : Nat) : Int) = (k : Int) * k + 2 * k + 1 := by
      push_cast
      simp only [Int.add_mul, Int.mul_add]
      omega
    simp only [bu]
    omega
theorem bdN_s (kd row : Int → Int) (s i : Int) (h : 1 ≤ i) : bdN kd row s i.toNat = bdN kd row s (i - 1).toNat + (if isB kd row i (s - i) then 1 else 0) := by
  obtain ⟨j, rfl⟩ : ∃ j : Nat, i = (j : Int) + 1 := ⟨(i - 1).toNat, by omega⟩
  have e1 : ((j : Int) + 1).toNat = j + 1 := by omega
  have e2 : ((j : Int) + 1 - 1).toNat = j := by omega
  rw [e1, e2]
  rfl
theorem bu_s (kd row : Int → Int) (i : Int) (h : 1 ≤ i) : bu kd row i.toNat = bu kd row (i - 1).toNat + bd kd row i := by
  obtain ⟨j, rfl⟩ : ∃ j : Nat, i = (j : Int) + 1 := ⟨(i - 1).toNat, by omega⟩
  have e1 : ((j : Int) + 1).toNat = j + 1 := by omega
  have e2 : ((j : Int) + 1 - 1).toNat = j := by omega
  rw [e1, e2]
  rfl
theorem bd_1 (kd row : Int → Int) : bd kd row 1 = 0 := rfl
theorem bu_1 (kd row : Int → Int) : bu kd row 1 = 0 := rfl
/-- the row that is laid -/
def lay (many : Int) (co now : Int → Int) : Int → Int := fun n => if 1 ≤ n ∧ n ≤ 10 then (if n ≤ many then co n else -1) else now n
theorem bu_exit {kd row : Int → Int} {s i : Int} (hs : 0 ≤ s) (h : s < i) (hi : 2 ≤ i ∧ (i ≤ s + 1 ∨ i = 2)) : bu kd row (i - 1).toNat = bu kd row s.toNat := by
  rcases hi.2 with q | q
  · have e : i - 1 = s := by omega
    rw [e]
  · subst q
    rcases (show s = 0 ∨ s = 1 by omega) with e | e
    · subst e
      rfl
    · subst e
      rfl
