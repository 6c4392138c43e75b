/-! laying the ways; what is told of them -/
def zF (i : Int) (oft : Int → Int) : Int → Int := fun j => if 0 ≤ j ∧ j < i then 0 else oft j
theorem zF_0 {oft : Int → Int} : zF 0 oft = oft := by
  funext j; unfold zF; rw [if_neg (by omega)]
theorem zF_s {i : Int} {oft : Int → Int} (hi : 0 ≤ i) : uI (zF i oft) i 0 = zF (i + 1) oft := by
  funext j
  by_cases e : j = i
  · subst e; rw [uI_s]; unfold zF; rw [if_pos (by omega)]
  · rw [uI_n e]; unfold zF
    by_cases q : 0 ≤ j ∧ j < i
    · rw [if_pos q, if_pos (by omega)]
    · rw [if_neg q, if_neg (by omega)]
def cntOk (kd co : Int → Int) (cols many : Int) (oft : Int → Int) : Prop := ∀ n c, 1 ≤ n → n ≤ many → 0 ≤ c → c ≤ 2 → oft (3 * n + c) = cnt (WL kd co cols many) n c
def wtOk (kd co : Int → Int) (cols many nb : Int) (wtd : Int → Int) : Prop := 0 ≤ nb → ∀ r', (WL kd co cols many)[nb.toNat]? = some r' → ∀ n, 1 ≤ n → n ≤ many → wtd n = r' n
/-- some are taken, the others are left -/
def lwI (l0 rem : List (Int → Int)) (many nb wy : Int) (of wt : Int → Int) : Prop := 0 ≤ wy ∧ wy + rem.length = l0.length ∧ (∀ r ∈ rem, r ∈ l0) ∧ (∀ n c, 1 ≤ n → n ≤ many → 0 ≤ c → c ≤ 2 → of (3 * n + c) + cnt rem n c = cnt l0 n c) ∧ (0 ≤ nb → nb < wy → ∀ r', l0[nb.toNat]? = some r' → ∀ n, 1 ≤ n → n ≤ many → wt n = r' n) ∧ (wy ≤ nb → l0[nb.toNat]? = rem[(nb - wy).toNat]?)
theorem lwI_s {l0 rest : List (Int → Int)} {many nb wy : Int} {of wt nw : Int → Int} (h : lwI l0 (nw :: rest) many nb wy of wt) : lwI l0 rest many nb (wy + 1) (hvF (many + 1) nw of) (wtF (many + 1) wy nb nw wt) := by
  obtain ⟨h1, h2, h3, h4, h5, h6⟩ := h
  refine ⟨by omega, by simp only [List.length_cons] at h2; omega, fun r hr => h3 r (List.mem_cons_of_mem _ hr), fun n c g1 g2 g3 g4 => ?_, fun g1 g2 r' g3 n g4 g5 => ?_, fun g => ?_⟩
  · have := h4 n c g1 g2 g3 g4
    rw [hvF_at g1 g2 ⟨g3, g4⟩]
    simp only [cnt] at this
    omega
  · by_cases e : wy = nb
    · have q := h6 (by omega)
      rw [show (nb - wy).toNat = 0 by omega, g3] at q
      simp only [List.getElem?_cons_zero, Option.some.injEq] at q
      subst q
      unfold wtF
      rw [if_pos (by omega)]
    · unfold wtF
      rw [if_neg (by omega)]
      exact h5 g1 (by omega) r' g3 n g4 g5
  · have q := h6 (by omega)
    obtain ⟨j, hj⟩ : ∃ j : Nat, nb - wy = (j : Int) + 1 := ⟨(nb - wy - 1).toNat, by omega⟩
    rw [show (nb - wy).toNat = j + 1 by omega] at q
    rw [q, show (nb - (wy + 1)).toNat = j by omega]
    rfl
theorem lwI_0 {l0 : List (Int → Int)} {many nb : Int} {oft wt : Int → Int} (hm : many ≤ 10) : lwI l0 l0 many nb 0 (zF 33 oft) wt := by
  refine ⟨by omega, by omega, fun r h => h, fun n c g1 g2 g3 g4 => ?_, fun g1 g2 => by omega, fun g => by rw [Int.sub_zero]⟩
  unfold zF
  rw [if_pos (by omega)]
  omega
theorem lwI_end {kd co : Int → Int} {cols many nb wy : Int} {r of wt : Int → Int} (hm : 0 ≤ many) (h : lwI (cmp kd co cols many.toNat 1 r) [] many nb wy of wt) : cntOk kd co cols many of ∧ wtOk kd co cols many nb wt ∧ wy = (WL kd co cols many).length := by
  obtain ⟨h1, h2, h3, h4, h5, h6⟩ := h
  have hl : wy = (WL kd co cols many).length := by rw [← WL_len hm r]; simp only [List.length_nil] at h2; omega
  refine ⟨fun n c g1 g2 g3 g4 => ?_, fun g1 r' g2 n g3 g4 => ?_, hl⟩
  · rw [← WL_cnt hm r g1 g2, ← h4 n c g1 g2 g3 g4]; simp [cnt]
  · rw [← WL_of hm r, List.getElem?_map] at g2
    cases q : (cmp kd co cols many.toNat 1 r)[nb.toNat]? with
    | none => rw [q] at g2; cases g2
    | some x =>
      rw [q] at g2
      simp only [Option.map_some, Option.some.injEq] at g2
      rw [← g2, rz_in g3 g4]
      have hlt := (List.getElem?_eq_some_iff.mp q).1
      exact h5 g1 (by simp only [List.length_nil] at h2; omega) x q n g3 g4
theorem WL_le {kd co : Int → Int} {cols many : Int} (hc : cols ≤ 3) (hm : many ≤ 10) (r : Int → Int) : (cmp kd co cols many.toNat 1 r).length ≤ 59049 :=
  Nat.le_trans (cmp_len hc _ _ _) (Nat.le_trans (Nat.pow_le_pow_right (by decide) (show many.toNat ≤ 10 by omega)) (by decide))
theorem WL_at {kd co : Int → Int} {cols many : Int} (hco : ∀ i, -1 ≤ co i ∧ co i ≤ 2) (hcc : ∀ i, 1 ≤ i → i ≤ many → co i ≤ cols - 1) (hm : 0 ≤ many) {r r' : Int → Int} (h : r' ∈ cmp kd co cols many.toNat 1 r) : ∀ i, 1 ≤ i → i ≤ many → 0 ≤ r' i ∧ r' i ≤ cols - 1 := by
  intro i h1 h2
  refine (cmp_at (kd := kd) (fun i q => by have := hco i; omega) many.toNat 1 r (fun i h3 h4 => hcc i h3 (by omega)) r' h).2 i h1 (by omega)
/-- sure of a colour -/
def suR (ways cols : Int) (oft : Int → Int) (n r : Int) : Prop := (r = -1 ∧ ∀ c, 0 ≤ c → c < cols → ¬ (0 < ways ∧ oft (3 * n + c) = ways)) ∨ (0 ≤ r ∧ r < cols ∧ 0 < ways ∧ oft (3 * n + r) = ways)
def suE (l : List (Int → Int)) (n : Int) : Int := if 0 < l.length ∧ cnt l n 0 = l.length then 0 else if 0 < l.length ∧ cnt l n 1 = l.length then 1 else if 0 < l.length ∧ cnt l n 2 = l.length then 2 else -1
theorem cnt_sum {n cols : Int} (hc : cols ≤ 3) : ∀ l : List (Int → Int), (∀ r ∈ l, 0 ≤ r n ∧ r n ≤ cols - 1) → cnt l n 0 + cnt l n 1 + cnt l n 2 = l.length ∧ (cols ≤ 2 → cnt l n 2 = 0)
  | [], _ => by simp [cnt]
  | r :: l, h => by
    obtain ⟨g1, g2⟩ := cnt_sum hc l (fun x hx => h x (List.mem_cons_of_mem _ hx))
    have h1 := h r List.mem_cons_self
    simp only [cnt, List.length_cons]
    constructor
    · rcases (show r n = 0 ∨ r n = 1 ∨ r n = 2 by omega) with e | e | e <;> simp only [e] <;> simp <;> omega
    · intro q
      have := g2 q
      rw [if_neg (by omega)]
      omega
theorem su_uniq {kd co : Int → Int} {cols many : Int} {oft : Int → Int} {n r : Int} (hc : 2 ≤ cols ∧ cols ≤ 3) (hco : ∀ i, -1 ≤ co i ∧ co i ≤ 2) (hcc : ∀ i, 1 ≤ i → i ≤ many → co i ≤ cols - 1) (hn : 1 ≤ n) (hm : n ≤ many) (ho : cntOk kd co cols many oft) (h : suR (WL kd co cols many).length cols oft n r) : r = suE (WL kd co cols many) n := by
  have e0 := ho n 0 hn hm (by omega) (by omega)
  have e1 := ho n 1 hn hm (by omega) (by omega)
  have e2 := ho n 2 hn hm (by omega) (by omega)
  obtain ⟨s1, s2⟩ := cnt_sum (n := n) hc.2 (WL kd co cols many) (fun x hx => WL_at hco hcc (by omega) hx n hn hm)
  have b0 := cnt_rng (WL kd co cols many) n 0
  have b1 := cnt_rng (WL kd co cols many) n 1
  have b2 := cnt_rng (WL kd co cols many) n 2
  unfold suE
  rcases h with ⟨rfl, h⟩ | ⟨h1, h2, h3, h4⟩
  · have g0 := h 0 (by omega) (by omega)
    have g1 := h 1 (by omega) (by omega)
    rw [e0] at g0
    rw [e1] at g1
    rw [if_neg (by omega), if_neg (by omega), if_neg]
    intro q
    by_cases q3 : cols = 3
    · have g2 := h 2 (by omega) (by omega)
      rw [e2] at g2
      omega
    · have := s2 (by omega); omega
  · rcases (show r = 0 ∨ r = 1 ∨ r = 2 by omega) with e | e | e
    · subst e
      rw [e0] at h4
      rw [if_pos (by omega)]
    · subst e
      rw [e1] at h4
      rw [if_neg (by omega), if_pos (by omega)]
    · subst e
      rw [e2] at h4
      rw [if_neg (by omega), if_neg (by omega), if_pos (by omega)]
/-- what is next: number and colour with the most ways -/
def nxC (cv : Int → Int → Int) (co : Int → Int) (n : Int) : Nat → Int × Int → Int × Int
  | 0, s => s
  | c + 1, s => if co n = -1 ∧ (nxC cv co n c s).2 < cv n c then (10 * n + c, cv n c) else nxC cv co n c s
def nxN (cv : Int → Int → Int) (co : Int → Int) (cols : Int) : Nat → Int × Int
  | 0 => (-1, 0)
  | n + 1 => nxC cv co (n + 1) cols.toNat (nxN cv co cols n)
theorem nxC_s {cv : Int → Int → Int} {co : Int → Int} {n c : Int} {s : Int × Int} (hc : 0 ≤ c) : nxC cv co n (c + 1).toNat s = if co n = -1 ∧ (nxC cv co n c.toNat s).2 < cv n c then (10 * n + c, cv n c) else nxC cv co n c.toNat s := by
  obtain ⟨j, rfl⟩ : ∃ j : Nat, c = j := ⟨c.toNat, by omega⟩
  rfl
theorem nxN_s {cv : Int → Int → Int} {co : Int → Int} {cols n : Int} (hn : 1 ≤ n) : nxN cv co cols n.toNat = nxC cv co n cols.toNat (nxN cv co cols (n - 1).toNat) := by
  obtain ⟨j, rfl⟩ : ∃ j : Nat, n = (j : Int) + 1 := ⟨(n - 1).toNat, by omega⟩
  rw [show ((j : Int) + 1).toNat = j + 1 by omega, show ((j : Int) + 1 - 1).toNat = j by omega]
  rfl
/-- how far a painting goes -/
def frN (kd co : Int → Int) (cols : Int) : Nat → Int
  | 0 => 0
  | n + 1 => if cmp kd co cols (n + 1) 1 (fun _ => 0) ≠ [] then n + 1 else frN kd co cols n
theorem frN_s {kd co : Int → Int} {cols n : Int} (hn : 1 ≤ n) : frN kd co cols n.toNat = if WL kd co cols n ≠ [] then n else frN kd co cols (n - 1).toNat := by
  obtain ⟨j, rfl⟩ : ∃ j : Nat, n = (j : Int) + 1 := ⟨(n - 1).toNat, by omega⟩
  unfold WL
  rw [show ((j : Int) + 1).toNat = j + 1 by omega, show ((j : Int) + 1 - 1).toNat = j by omega]
  rfl
theorem frN_rng (kd co : Int → Int) (cols : Int) : ∀ n : Nat, 0 ≤ frN kd co cols n ∧ frN kd co cols n ≤ n
  | 0 => by simp [frN]
  | n + 1 => by
    have := frN_rng kd co cols n
    simp only [frN]
    split <;> omega
theorem WL_nil {kd co : Int → Int} {cols many : Int} (hm : 0 ≤ many) (r : Int → Int) : cmp kd co cols many.toNat 1 r = [] ↔ WL kd co cols many = [] := by
  rw [← WL_of hm r, List.map_eq_nil_iff]
/-- how many are bare -/
def brN (co : Int → Int) : Nat → Int
  | 0 => 0
  | n + 1 => brN co n + (if co ((n : Int) + 1) = -1 then 1 else 0)
theorem brN_s {co : Int → Int} {n : Int} (hn : 1 ≤ n) : brN co n.toNat = brN co (n - 1).toNat + (if co n = -1 then 1 else 0) := by
  obtain ⟨j, rfl⟩ : ∃ j : Nat, n = (j : Int) + 1 := ⟨(n - 1).toNat, by omega⟩
  rw [show ((j : Int) + 1).toNat = j + 1 by omega, show ((j : Int) + 1 - 1).toNat = j by omega]
  rfl
theorem brN_rng (co : Int → Int) : ∀ n : Nat, 0 ≤ brN co n ∧ brN co n ≤ n
  | 0 => by simp [brN]
  | n + 1 => by
    have := brN_rng co n
    simp only [brN]
    split <;> omega
def thN : Nat → Int
  | 0 => 0
  | n + 1 => thN n + ((n : Int) + 1) / 2
theorem thN_s {n : Int} (hn : 1 ≤ n) : thN n.toNat = thN (n - 1).toNat + n / 2 := by
  obtain ⟨j, rfl⟩ : ∃ j : Nat, n = (j : Int) + 1 := ⟨(n - 1).toNat, by omega⟩
  rw [show ((j : Int) + 1).toNat = j + 1 by omega, show ((j : Int) + 1 - 1).toNat = j by omega]
  rfl
