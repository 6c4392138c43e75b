/-! the ways: what is told of them -/
theorem goS_startI {kd co : Int → Int} {cols last : Int} {r : Int → Int} (hc : 1 ≤ cols) (hl : 0 ≤ last) (hfr : ∀ k, 1 ≤ k → k ≤ last → r k = co k) : goS kd co cols last 1 r (cmp kd co cols last.toNat 1 r = []) (fun r' => ∃ rest, cmp kd co cols last.toNat 1 r = r' :: rest ∧ up kd co cols last.toNat last.toNat r' = rest) := by
  obtain ⟨k, rfl⟩ : ∃ k : Nat, last = k := ⟨last.toNat, by omega⟩
  exact goS_start hc hfr
theorem goS_nextI {kd co : Int → Int} {cols last : Int} {r : Int → Int} (hc : 1 ≤ cols) (hl : 0 ≤ last) (hr : ∀ i, 1 ≤ i → i ≤ last → co i = -1 → 0 ≤ r i ∧ r i ≤ cols - 1) : goS kd co cols last (tb cols co last.toNat r).1 (tb cols co last.toNat r).2 (up kd co cols last.toNat last.toNat r = []) (fun r' => ∃ rest, up kd co cols last.toNat last.toNat r = r' :: rest ∧ up kd co cols last.toNat last.toNat r' = rest) := by
  obtain ⟨k, rfl⟩ : ∃ k : Nat, last = k := ⟨last.toNat, by omega⟩
  exact goS_next hc hr
/-- rows in use: colours of -1 .. 2, of the board's within the ten numbers -/
def rOk (cols : Int) (r : Int → Int) : Prop := (∀ i, -1 ≤ r i ∧ r i ≤ 2) ∧ ∀ i, 1 ≤ i → i ≤ 10 → r i ≤ cols - 1
theorem rOk_u {cols : Int} {r : Int → Int} {z v : Int} (h : rOk cols r) (h1 : -1 ≤ v ∧ v ≤ 2) (h2 : v ≤ cols - 1) : rOk cols (uI r z v) := by
  refine ⟨fun i => ?_, fun i h3 h4 => ?_⟩
  · by_cases e : i = z
    · subst e; rw [uI_s]; exact h1
    · rw [uI_n e]; exact h.1 i
  · by_cases e : i = z
    · subst e; rw [uI_s]; exact h2
    · rw [uI_n e]; exact h.2 i h3 h4
theorem tb_s {cols : Int} {co r : Int → Int} {n : Int} (hn : 1 ≤ n) : tb cols co n.toNat r = if co n ≠ -1 ∨ r n = cols - 1 then tb cols co (n - 1).toNat (uI r n (co n)) else (n, uI r n (r n + 1)) := by
  obtain ⟨j, rfl⟩ : ∃ j : Nat, n = (j : Int) + 1 := ⟨(n - 1).toNat, by omega⟩
  rw [show ((j : Int) + 1).toNat = j + 1 by omega, show ((j : Int) + 1 - 1).toNat = j by omega]
  rfl
theorem tb_ok {cols : Int} {co : Int → Int} (hc : 2 ≤ cols ∧ cols ≤ 3) (hco : ∀ i, -1 ≤ co i ∧ co i ≤ 2) : ∀ (m : Nat) (r : Int → Int), m ≤ 10 → (∀ i, 1 ≤ i → i ≤ (m : Int) → co i ≤ cols - 1) → rOk cols r → rOk cols (tb cols co m r).2 ∧ 0 ≤ (tb cols co m r).1 ∧ (tb cols co m r).1 ≤ m
  | 0, r, _, _, h => ⟨h, Int.le_refl _, Int.le_refl _⟩
  | m + 1, r, hm, hcc, h => by
    simp only [tb]
    split
    · obtain ⟨g1, g2, g3⟩ := tb_ok hc hco m (uI r ((m : Int) + 1) (co ((m : Int) + 1))) (by omega) (fun i h1 h2 => hcc i h1 (by omega)) (rOk_u h (hco _) (hcc _ (by omega) (by omega)))
      exact ⟨g1, g2, by omega⟩
    · rename_i hq
      have h2 := h.2 ((m : Int) + 1) (by omega) (by omega)
      have h1 := h.1 ((m : Int) + 1)
      have h3 : ¬ r ((m : Int) + 1) = cols - 1 := fun q => hq (Or.inr q)
      exact ⟨rOk_u h (by omega) (by omega), by simp only; omega, by simp only; omega⟩
theorem fst0_ok {cols : Int} {r : Int → Int} {n : Int} (hc : 2 ≤ cols) (h : rOk cols r) : rOk cols (fst0 r n) := by
  unfold fst0
  split
  · exact rOk_u h (by omega) (by omega)
  · exact h
/-- the row laid for a board -/
def layN (i many : Int) (co now : Int → Int) : Int → Int := fun n => if 1 ≤ n ∧ n < i then (if n ≤ many then co n else -1) else now n
theorem layN_1 {many : Int} {co now : Int → Int} : layN 1 many co now = now := by
  funext n; unfold layN; rw [if_neg (by omega)]
theorem layN_s {i many : Int} {co now : Int → Int} {v : Int} (hi : 1 ≤ i) (hv : v = if i ≤ many then co i else -1) : uI (layN i many co now) i v = layN (i + 1) many co now := by
  funext n
  unfold layN
  by_cases e : n = i
  · subst e; rw [uI_s, if_pos (by omega), hv]
  · rw [uI_n e]
    by_cases q : 1 ≤ n ∧ n < i
    · rw [if_pos q, if_pos (show 1 ≤ n ∧ n < i + 1 by omega)]
    · rw [if_neg q, if_neg (show ¬ (1 ≤ n ∧ n < i + 1) by omega)]
theorem layN_11 {many : Int} {co now : Int → Int} : layN 11 many co now = lay many co now := by
  funext n; unfold layN lay
  by_cases q : 1 ≤ n ∧ n < 11
  · rw [if_pos q, if_pos (show 1 ≤ n ∧ n ≤ 10 by omega)]
  · rw [if_neg q, if_neg (show ¬ (1 ≤ n ∧ n ≤ 10) by omega)]
theorem lay_rng {many : Int} {co now : Int → Int} (hco : ∀ i, -1 ≤ co i ∧ co i ≤ 2) (hnow : ∀ i, -1 ≤ now i ∧ now i ≤ 2) : ∀ i, -1 ≤ lay many co now i ∧ lay many co now i ≤ 2 := by
  intro i
  have h1 := hco i
  have h2 := hnow i
  unfold lay
  split
  · split <;> omega
  · exact h2
theorem lay_ok {many cols : Int} {co now : Int → Int} (hc : 2 ≤ cols) (hco : ∀ i, -1 ≤ co i ∧ co i ≤ 2) (hcc : ∀ i, 1 ≤ i → i ≤ many → co i ≤ cols - 1) (hnow : ∀ i, -1 ≤ now i ∧ now i ≤ 2) : rOk cols (lay many co now) := by
  refine ⟨lay_rng hco hnow, fun i h1 h2 => ?_⟩
  unfold lay
  rw [if_pos (by omega)]
  split
  · exact hcc i h1 (by assumption)
  · omega
theorem lay_in {many : Int} {co now : Int → Int} (hm : many ≤ 10) : ∀ i, 1 ≤ i → i ≤ many → lay many co now i = co i := by
  intro i h1 h2
  unfold lay
  rw [if_pos (by omega), if_pos h2]
/-- in how many of the list the number n has the colour c -/
def cnt : List (Int → Int) → Int → Int → Int
  | [], _, _ => 0
  | r :: l, n, c => (if r n = c then 1 else 0) + cnt l n c
theorem cnt_app (a b : List (Int → Int)) (n c : Int) : cnt (a ++ b) n c = cnt a n c + cnt b n c := by
  induction a with
  | nil => simp [cnt]
  | cons r a ih => simp only [List.cons_append, cnt, ih]; omega
theorem cnt_rng (a : List (Int → Int)) (n c : Int) : 0 ≤ cnt a n c ∧ cnt a n c ≤ a.length := by
  induction a with
  | nil => simp [cnt]
  | cons r a ih =>
    simp only [cnt, List.length_cons]
    split <;> omega
def hvF (i : Int) (now oft : Int → Int) : Int → Int := fun j => if 3 ≤ j ∧ j < 3 * i ∧ now (j / 3) = j % 3 then oft j + 1 else oft j
theorem hvF_1 {now oft : Int → Int} : hvF 1 now oft = oft := by
  funext j; unfold hvF; rw [if_neg (by omega)]
theorem hvF_s {i : Int} {now oft : Int → Int} (hi : 1 ≤ i) (h0 : 0 ≤ now i ∧ now i ≤ 2) : uI (hvF i now oft) (3 * i + now i) (hvF i now oft (3 * i + now i) + 1) = hvF (i + 1) now oft := by
  funext j
  by_cases e : j = 3 * i + now i
  · have e1 : (3 * i + now i) / 3 = i := by omega
    have e2 : (3 * i + now i) % 3 = now i := by omega
    subst e
    rw [uI_s]
    unfold hvF
    rw [e1, e2, if_neg (by omega), if_pos (by omega)]
  · rw [uI_n e]
    unfold hvF
    by_cases q : 3 ≤ j ∧ j < 3 * i ∧ now (j / 3) = j % 3
    · rw [if_pos q, if_pos (by omega)]
    · rw [if_neg q, if_neg]
      intro h
      by_cases g : j / 3 = i
      · rw [g] at h; omega
      · omega
theorem hvF_at {many : Int} {now oft : Int → Int} {n c : Int} (hn : 1 ≤ n) (hm : n ≤ many) (hc : 0 ≤ c ∧ c ≤ 2) : hvF (many + 1) now oft (3 * n + c) = oft (3 * n + c) + (if now n = c then 1 else 0) := by
  have e1 : (3 * n + c) / 3 = n := by omega
  have e2 : (3 * n + c) % 3 = c := by omega
  unfold hvF
  rw [e1, e2]
  by_cases q : now n = c
  · rw [if_pos (by omega), if_pos q]
  · rw [if_neg (by omega), if_neg q]; omega
def wtF (i a b : Int) (now wtd : Int → Int) : Int → Int := fun j => if a = b ∧ 1 ≤ j ∧ j < i then now j else wtd j
theorem wtF_1 {a b : Int} {now wtd : Int → Int} : wtF 1 a b now wtd = wtd := by
  funext j; unfold wtF; rw [if_neg (by omega)]
theorem wtF_y {i a b : Int} {now wtd : Int → Int} (hi : 1 ≤ i) (h : a = b) : uI (wtF i a b now wtd) i (now i) = wtF (i + 1) a b now wtd := by
  funext j
  by_cases e : j = i
  · subst e; rw [uI_s]; unfold wtF; rw [if_pos (by omega)]
  · rw [uI_n e]; unfold wtF
    by_cases q : a = b ∧ 1 ≤ j ∧ j < i
    · rw [if_pos q, if_pos (by omega)]
    · rw [if_neg q, if_neg (by omega)]
theorem wtF_n {i a b : Int} {now wtd : Int → Int} (h : ¬ a = b) : uI (wtF i a b now wtd) i (wtF i a b now wtd i) = wtF (i + 1) a b now wtd := by
  rw [uI_e rfl]
  funext j; unfold wtF
  rw [if_neg (fun q => h q.1), if_neg (fun q => h q.1)]
/-- within the numbers alone -/
def rz (many : Int) (r : Int → Int) : Int → Int := fun i => if 1 ≤ i ∧ i ≤ many then r i else 0
theorem rz_in {many : Int} {r : Int → Int} {i : Int} (h1 : 1 ≤ i) (h2 : i ≤ many) : rz many r i = r i := by
  unfold rz; rw [if_pos ⟨h1, h2⟩]
theorem rz_u {many : Int} {r : Int → Int} {n c : Int} (h1 : 1 ≤ n) (h2 : n ≤ many) : rz many (uI r n c) = uI (rz many r) n c := by
  funext i
  by_cases e : i = n
  · subst e; rw [uI_s, rz_in h1 h2, uI_s]
  · rw [uI_n e]; unfold rz; rw [uI_n e]
theorem cmp_rz {kd co : Int → Int} {cols many : Int} : ∀ (f : Nat) (n : Int) (r : Int → Int), 1 ≤ n → n + f = many + 1 → (cmp kd co cols f n r).map (rz many) = cmp kd co cols f n (rz many r)
  | 0, _, _, _, _ => rfl
  | f + 1, n, r, h1, h2 => by
    simp only [cmp, List.map_flatMap]
    congr 1
    funext c
    have hb : bd kd (uI r n c) n = bd kd (uI (rz many r) n c) n := by
      rw [← rz_u h1 (by omega)]
      exact bd_cg (fun i h3 h4 => (rz_in h3 (by omega)).symm)
    rw [hb, ← rz_u h1 (by omega)]
    split
    · exact cmp_rz f (n + 1) _ (by omega) (by omega)
    · rfl
/-- all ways of a board, in order -/
def WL (kd co : Int → Int) (cols many : Int) : List (Int → Int) := cmp kd co cols many.toNat 1 (fun _ => 0)
theorem WL_of {kd co : Int → Int} {cols many : Int} (hm : 0 ≤ many) (r : Int → Int) : (cmp kd co cols many.toNat 1 r).map (rz many) = WL kd co cols many := by
  rw [cmp_rz _ _ _ (by omega) (by omega)]
  exact cmp_irr _ _ _ _ (fun i hi => by unfold rz; rw [if_neg (by omega)])
theorem cnt_map {many : Int} {n c : Int} (h1 : 1 ≤ n) (h2 : n ≤ many) : ∀ l : List (Int → Int), cnt (l.map (rz many)) n c = cnt l n c
  | [] => rfl
  | r :: l => by simp only [List.map_cons, cnt, cnt_map h1 h2 l, rz_in h1 h2]
theorem WL_cnt {kd co : Int → Int} {cols many : Int} (hm : 0 ≤ many) (r : Int → Int) {n c : Int} (h1 : 1 ≤ n) (h2 : n ≤ many) : cnt (cmp kd co cols many.toNat 1 r) n c = cnt (WL kd co cols many) n c := by
  rw [← WL_of hm r, cnt_map h1 h2]
theorem WL_len {kd co : Int → Int} {cols many : Int} (hm : 0 ≤ many) (r : Int → Int) : (cmp kd co cols many.toNat 1 r).length = (WL kd co cols many).length := by
  rw [← WL_of hm r, List.length_map]
theorem cl_mem {cols : Int} : ∀ (k : Nat) (c : Int), c ∈ cl cols k → cols - k ≤ c ∧ c ≤ cols - 1
  | 0, c, h => by cases h
  | k + 1, c, h => by
    simp only [cl, List.mem_cons] at h
    rcases h with h | h
    · omega
    · have := cl_mem k c h; omega
theorem cl_len {cols : Int} : ∀ k : Nat, (cl cols k).length = k
  | 0 => rfl
  | k + 1 => by simp only [cl, List.length_cons, cl_len k]
theorem fm_len {α β : Type} {f : α → List β} {B : Nat} : ∀ l : List α, (∀ a ∈ l, (f a).length ≤ B) → (l.flatMap f).length ≤ l.length * B
  | [], _ => by simp
  | a :: l, h => by
    have h1 := h a List.mem_cons_self
    have h2 := fm_len l (fun b hb => h b (List.mem_cons_of_mem _ hb))
    simp only [List.flatMap_cons, List.length_append, List.length_cons, Nat.add_mul, Nat.one_mul]
    omega
theorem cmp_len {kd co : Int → Int} {cols : Int} (hc : cols ≤ 3) : ∀ (f : Nat) (n : Int) (r : Int → Int), (cmp kd co cols f n r).length ≤ 3 ^ f
  | 0, _, _ => by simp [cmp]
  | f + 1, n, r => by
    simp only [cmp]
    refine Nat.le_trans (fm_len (B := 3 ^ f) _ (fun c _ => ?_)) ?_
    · split
      · exact cmp_len hc f _ _
      · simp
    · rw [Nat.pow_succ, Nat.mul_comm]
      refine Nat.mul_le_mul (Nat.le_refl _) ?_
      split
      · simp
      · rw [cl_len]; omega
theorem cmp_at {kd co : Int → Int} {cols : Int} (hcc : ∀ i : Int, co i ≠ -1 → 0 ≤ co i) : ∀ (f : Nat) (n : Int) (r : Int → Int), (∀ i, n ≤ i → i < n + f → co i ≤ cols - 1) → ∀ r' ∈ cmp kd co cols f n r, (∀ i, i < n ∨ n + f ≤ i → r' i = r i) ∧ ∀ i, n ≤ i → i < n + f → 0 ≤ r' i ∧ r' i ≤ cols - 1
  | 0, n, r, _, r', h => by
    simp only [cmp, List.mem_singleton] at h
    subst h
    exact ⟨fun _ _ => rfl, fun i h1 h2 => by omega⟩
  | f + 1, n, r, hc, r', h => by
    simp only [cmp, List.mem_flatMap] at h
    obtain ⟨c, hcm, h⟩ := h
    have hcr : 0 ≤ c ∧ c ≤ cols - 1 := by
      split at hcm
      · rename_i hp
        rw [List.mem_singleton] at hcm
        subst hcm
        exact ⟨hcc n hp, hc n (by omega) (by omega)⟩
      · have := cl_mem _ _ hcm
        omega
    split at h
    · obtain ⟨g1, g2⟩ := cmp_at hcc f (n + 1) (uI r n c) (fun i h1 h2 => hc i (by omega) (by omega)) r' h
      refine ⟨fun i hi => ?_, fun i h1 h2 => ?_⟩
      · rw [g1 i (by omega), uI_n (by omega)]
      · by_cases e : i = n
        · subst e; rw [g1 i (by omega), uI_s]; exact hcr
        · exact g2 i (by omega) (by omega)
    · cases h
