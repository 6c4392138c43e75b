/-! mending; winning -/
def mixF (i : Int) (a b : Int → Int) : Int → Int := fun n => if 1 ≤ n ∧ n < i then a n else b n
theorem mixF_1 {a b : Int → Int} : mixF 1 a b = b := by
  funext n; unfold mixF; rw [if_neg (by omega)]
theorem mixF_s {i : Int} {a b : Int → Int} {v : Int} (hi : 1 ≤ i) (hv : v = a i) : uI (mixF i a b) i v = mixF (i + 1) a b := by
  funext n
  by_cases e : n = i
  · subst e; rw [uI_s]; unfold mixF; rw [if_pos (by omega), hv]
  · rw [uI_n e]; unfold mixF
    by_cases q : 1 ≤ n ∧ n < i
    · rw [if_pos q, if_pos (show 1 ≤ n ∧ n < i + 1 by omega)]
    · rw [if_neg q, if_neg (show ¬ (1 ≤ n ∧ n < i + 1) by omega)]
theorem mixF_in {i n : Int} {a b : Int → Int} (h : 1 ≤ n ∧ n < i) : mixF i a b n = a n := by unfold mixF; rw [if_pos h]
theorem mixF_out {i n : Int} {a b : Int → Int} (h : ¬ (1 ≤ n ∧ n < i)) : mixF i a b n = b n := by unfold mixF; rw [if_neg h]
/-- how many that were painted have another colour -/
def dfN (co r : Int → Int) : Nat → Int
  | 0 => 0
  | n + 1 => dfN co r n + (if co ((n : Int) + 1) ≠ -1 ∧ co ((n : Int) + 1) ≠ r ((n : Int) + 1) then 1 else 0)
theorem dfN_s {co r : Int → Int} {n : Int} (hn : 1 ≤ n) : dfN co r n.toNat = dfN co r (n - 1).toNat + (if co n ≠ -1 ∧ co n ≠ r n then 1 else 0) := by
  obtain ⟨j, rfl⟩ : ∃ j : Nat, n = (j : Int) + 1 := ⟨(n - 1).toNat, by omega⟩
  rw [show ((j : Int) + 1).toNat = j + 1 by omega, show ((j : Int) + 1 - 1).toNat = j by omega]
  rfl
theorem dfN_rng (co r : Int → Int) : ∀ n : Nat, 0 ≤ dfN co r n ∧ dfN co r n ≤ n
  | 0 => by simp [dfN]
  | n + 1 => by
    have := dfN_rng co r n
    simp only [dfN]
    split <;> omega
theorem dfN_cg {co r r' : Int → Int} : ∀ n : Nat, (∀ i, 1 ≤ i → i ≤ (n : Int) → r i = r' i) → dfN co r n = dfN co r' n
  | 0, _ => rfl
  | n + 1, h => by
    simp only [dfN]
    rw [dfN_cg n (fun i h1 h2 => h i h1 (by omega)), h ((n : Int) + 1) (by omega) (by omega)]
def mdF (co : Int → Int) (many : Int) : Int → List (Int → Int) → Int
  | m, [] => m
  | m, r :: l => mdF co many (if dfN co r many.toNat < m then dfN co r many.toNat else m) l
theorem mdF_map {co : Int → Int} {many : Int} (hm : 0 ≤ many) : ∀ (l : List (Int → Int)) (m : Int), mdF co many m (l.map (rz many)) = mdF co many m l
  | [], _ => rfl
  | r :: l, m => by
    have e : dfN co (rz many r) many.toNat = dfN co r many.toNat := dfN_cg _ (fun i h1 h2 => rz_in h1 (by omega))
    simp only [List.map_cons, mdF, e, mdF_map hm l]
theorem cmp_co {kd co co' : Int → Int} {cols : Int} : ∀ (f : Nat) (n : Int) (r : Int → Int), (∀ i, n ≤ i → i < n + f → co i = co' i) → cmp kd co cols f n r = cmp kd co' cols f n r
  | 0, _, _, _ => rfl
  | f + 1, n, r, h => by
    simp only [cmp]
    rw [h n (by omega) (by omega)]
    congr 1
    funext c
    rw [cmp_co f (n + 1) _ (fun i h1 h2 => h i (by omega) (by omega))]
def mdE (kd co : Int → Int) (cols many : Int) : Int := if mdF co many 268435456 (WL kd (fun _ => -1) cols many) = 268435456 then -1 else mdF co many 268435456 (WL kd (fun _ => -1) cols many)
theorem md_of {kd co co' r : Int → Int} {cols many m : Int} (hm : 0 ≤ many) (h : ∀ i, 1 ≤ i → i ≤ many → co' i = -1) : mdF co many m (cmp kd co' cols many.toNat 1 r) = mdF co many m (WL kd (fun _ => -1) cols many) := by
  rw [← WL_of hm r, mdF_map hm, cmp_co (co := co') (co' := fun _ => -1) _ _ _ (fun i h1 h2 => h i h1 (by omega))]
/-- the first of the last k colours for which P holds -/
def fC (P : Int → Bool) (cols : Int) : Nat → Int
  | 0 => -1
  | k + 1 => if P (cols - (k + 1)) = true then cols - (k + 1) else fC P cols k
theorem fC_rng {P : Int → Bool} {cols : Int} : ∀ k : Nat, (k : Int) ≤ cols → -1 ≤ fC P cols k ∧ fC P cols k ≤ cols - 1 ∧ (0 ≤ cols → -1 ≤ cols - 1)
  | 0, h => by simp only [fC]; omega
  | k + 1, h => by
    have := fC_rng (P := P) (cols := cols) k (by omega)
    simp only [fC]
    split <;> omega
/-- who is next wins by which colour: the bare ones are tr d, tr (d + 1) .. -/
def wn (kd : Int → Int) (cols many : Int) (tr : Int → Int) : Nat → Int → (Int → Int) → Int
  | 0, _, _ => -1
  | g + 1, d, row => fC (fun c => decide (bu kd (uI row (tr d) c) many.toNat = 0 ∧ wn kd cols many tr g (d + 1) (uI row (tr d) c) = -1)) cols cols.toNat
def winStep (kd tr : Int → Int) (cols many B : Int) (P : Int → (Int → Int) → (Int → Int) → (Int → Int) → Prop) : Prop := ∀ (d : Int) (now cAt wAt : Int → Int), 0 ≤ d → d ≤ B →
  (¬ (d = B ∨ cAt d = cols ∨ wAt d ≠ -1) → (bu kd (uI now (tr d) (cAt d)) many.toNat ≠ 0 → P d (uI now (tr d) (cAt d)) (uI cAt d (cAt d + 1)) wAt) ∧ (bu kd (uI now (tr d) (cAt d)) many.toNat = 0 → P (d + 1) (uI now (tr d) (cAt d)) (uI (uI cAt d (cAt d + 1)) (d + 1) 0) (uI wAt (d + 1) (-1)))) →
  ((d = B ∨ cAt d = cols ∨ wAt d ≠ -1) → P (d - 1) (if d < B then uI now (tr d) (-1) else now) cAt (if 0 ≤ d - 1 ∧ wAt d = -1 then uI wAt (d - 1) (cAt (d - 1) - 1) else wAt)) → P d now cAt wAt
theorem win_W {kd tr : Int → Int} {cols many B : Int} {P : Int → (Int → Int) → (Int → Int) → (Int → Int) → Prop} (hcols : 1 ≤ cols) (hstep : winStep kd tr cols many B P) (hinc : ∀ j k, 0 ≤ j → j < k → k < B → tr j < tr k) :
    ∀ (g : Nat) (k : Nat) (d : Int) (row now cAt wAt : Int → Int), d + g + 1 = B → 0 ≤ d → (k : Int) ≤ cols → (∀ j, d ≤ j → j < B → row (tr j) = -1) → (∀ i, i ≠ tr d → now i = row i) → cAt d = cols - k → wAt d = -1 →
      (∀ now1 cAt1 wAt1 : Int → Int, (∀ i, i ≠ tr d → now1 i = row i) → (∀ j, j < d → cAt1 j = cAt j ∧ wAt1 j = wAt j) → wAt1 d = fC (fun c => decide (bu kd (uI row (tr d) c) many.toNat = 0 ∧ wn kd cols many tr g (d + 1) (uI row (tr d) c) = -1)) cols k → (cAt1 d = cols ∨ wAt1 d ≠ -1) → P d now1 cAt1 wAt1) → P d now cAt wAt := by
  intro g
  induction g with
  | zero =>
    intro k
    induction k with
    | zero =>
      intro d row now cAt wAt hd h0 hk hrow hnow hc hw hex
      exact hex now cAt wAt hnow (fun _ _ => ⟨rfl, rfl⟩) hw (Or.inl (by rw [hc]; omega))
    | succ k ih =>
      intro d row now cAt wAt hd h0 hk hrow hnow hc hw hex
      have e2 : uI now (tr d) (cAt d) = uI row (tr d) (cAt d) := by
        funext i
        by_cases e : i = tr d
        · subst e; rw [uI_s, uI_s]
        · rw [uI_n e, uI_n e]; exact hnow i e
      have hcd : cAt d = cols - ((k : Int) + 1) := by rw [hc]; omega
      refine hstep d now cAt wAt h0 (by omega) (fun _ => ⟨fun hb => ?_, fun hb => ?_⟩) (fun ho => absurd ho (by omega))
      · refine ih d row _ _ _ hd h0 (by omega) hrow (fun i hi => by rw [uI_n hi]; exact hnow i hi) (by rw [uI_s, hcd]; omega) hw (fun n1 c1 w1 g1 g2 g3 g4 => hex n1 c1 w1 g1 (fun j hj => by have := g2 j hj; rw [uI_n (by omega)] at this; exact this) ?_ g4)
        rw [g3]; simp only [fC]; rw [if_neg]
        rw [e2, hcd] at hb
        simp [hb]
      · have hB : d + 1 = B := by omega
        refine hstep (d + 1) _ _ _ (by omega) (by omega) (fun hn => absurd (Or.inl hB) hn) (fun _ => ?_)
        rw [if_neg (show ¬ (d + 1 < B) by omega), show d + 1 - 1 = d by omega, if_pos ⟨h0, uI_s⟩]
        have ecd : uI (uI cAt d (cAt d + 1)) (d + 1) 0 d = cAt d + 1 := by rw [uI_n (by omega), uI_s]
        rw [ecd, show cAt d + 1 - 1 = cAt d by omega]
        refine hex _ _ _ (fun i hi => by rw [uI_n hi]; exact hnow i hi) (fun j hj => by rw [uI_n (by omega), uI_n (by omega), uI_n (by omega), uI_n (by omega)]; exact ⟨rfl, rfl⟩) ?_ (Or.inr (by rw [uI_s, hcd]; omega))
        rw [uI_s]; simp only [fC]; rw [if_pos, hcd]
        rw [e2, hcd] at hb
        simp [hb, wn]
  | succ g ihg =>
    intro k
    induction k with
    | zero =>
      intro d row now cAt wAt hd h0 hk hrow hnow hc hw hex
      exact hex now cAt wAt hnow (fun _ _ => ⟨rfl, rfl⟩) hw (Or.inl (by rw [hc]; omega))
    | succ k ih =>
      intro d row now cAt wAt hd h0 hk hrow hnow hc hw hex
      have e2 : uI now (tr d) (cAt d) = uI row (tr d) (cAt d) := by
        funext i
        by_cases e : i = tr d
        · subst e; rw [uI_s, uI_s]
        · rw [uI_n e, uI_n e]; exact hnow i e
      have hcd : cAt d = cols - ((k : Int) + 1) := by rw [hc]; omega
      have htr : tr d < tr (d + 1) := hinc d (d + 1) h0 (by omega) (by omega)
      refine hstep d now cAt wAt h0 (by omega) (fun _ => ⟨fun hb => ?_, fun hb => ?_⟩) (fun ho => absurd ho (by omega))
      · refine ih d row _ _ _ hd h0 (by omega) hrow (fun i hi => by rw [uI_n hi]; exact hnow i hi) (by rw [uI_s, hcd]; omega) hw (fun n1 c1 w1 g1 g2 g3 g4 => hex n1 c1 w1 g1 (fun j hj => by have := g2 j hj; rw [uI_n (by omega)] at this; exact this) ?_ g4)
        rw [g3]; simp only [fC]; rw [if_neg]
        rw [e2, hcd] at hb
        simp [hb]
      · rw [e2]
        obtain ⟨kc, hkc⟩ : ∃ kc : Nat, cols = kc := ⟨cols.toNat, by omega⟩
        refine ihg kc (d + 1) (uI row (tr d) (cAt d)) _ _ _ (by omega) (by omega) (by omega) (fun j h1 h2 => ?_) (fun i _ => rfl) (by rw [uI_s]; omega) (by rw [uI_s]) (fun n3 c3 w3 g1 g2 g3 g4 => ?_)
        · have := hinc d j h0 (by omega) h2
          rw [uI_n (by omega)]; exact hrow j (by omega) h2
        refine hstep (d + 1) n3 c3 w3 (by omega) (by omega) (fun hn => absurd (Or.inr g4) hn) (fun _ => ?_)
        rw [if_pos (show d + 1 < B by omega), show d + 1 - 1 = d by omega]
        have hn4 : ∀ i, i ≠ tr d → uI n3 (tr (d + 1)) (-1) i = row i := by
          intro i hi
          by_cases e : i = tr (d + 1)
          · subst e; rw [uI_s]; exact (hrow (d + 1) (by omega) (by omega)).symm
          · rw [uI_n e, g1 i e, uI_n hi]
        have hc3 : c3 d = cAt d + 1 := by rw [(g2 d (by omega)).1, uI_n (by omega), uI_s]
        have hw3 : w3 d = -1 := by rw [(g2 d (by omega)).2, uI_n (by omega), hw]
        have hlow : ∀ j, j < d → c3 j = cAt j ∧ w3 j = wAt j := by
          intro j hj
          have := g2 j (by omega)
          rw [uI_n (by omega), uI_n (by omega), uI_n (by omega)] at this
          exact this
        have hwn : wn kd cols many tr (g + 1) (d + 1) (uI row (tr d) (cAt d)) = w3 (d + 1) := by
          rw [g3]; simp only [wn]; rw [show cols.toNat = kc by omega]
        by_cases hres : w3 (d + 1) = -1
        · rw [if_pos ⟨h0, hres⟩, hc3, show cAt d + 1 - 1 = cAt d by omega]
          refine hex _ _ _ hn4 (fun j hj => by rw [uI_n (by omega)]; exact hlow j hj) ?_ (Or.inr (by rw [uI_s, hcd]; omega))
          rw [uI_s]; simp only [fC]; rw [if_pos, hcd]
          rw [hres] at hwn
          rw [hcd] at hwn hb e2
          rw [e2] at hb
          simp [hb, hwn]
        · rw [if_neg (fun q => hres q.2)]
          refine ih d row _ _ _ hd h0 (by omega) hrow hn4 (by rw [hc3, hcd]; omega) hw3 (fun n1 c1 w1 q1 q2 q3 q4 => hex n1 c1 w1 q1 (fun j hj => ⟨(q2 j hj).1.trans (hlow j hj).1, (q2 j hj).2.trans (hlow j hj).2⟩) ?_ q4)
          rw [q3]; simp only [fC]; rw [if_neg]
          rw [hcd] at hwn
          simp only [decide_eq_true_eq]
          intro q
          exact hres (by rw [← hwn]; exact q.2)
/-- the first bare number -/
def fb (row : Int → Int) : Nat → Int → Int
  | 0, n => n
  | f + 1, n => if row n = -1 then n else fb row f (n + 1)
theorem fb_is {row : Int → Int} {t : Int} (ht : row t = -1) : ∀ (f : Nat) (n : Int), n ≤ t → t < n + f → (∀ i, n ≤ i → i < t → row i ≠ -1) → fb row f n = t
  | 0, n, h1, h2, _ => by omega
  | f + 1, n, h1, h2, h3 => by
    simp only [fb]
    by_cases e : n = t
    · subst e; rw [if_pos ht]
    · rw [if_neg (h3 n (by omega) (by omega))]
      exact fb_is ht f (n + 1) (by omega) (by omega) (fun i h4 h5 => h3 i (by omega) h5)
theorem fb_none {row : Int → Int} : ∀ (f : Nat) (n : Int), (∀ i, n ≤ i → i < n + f → row i ≠ -1) → fb row f n = n + f
  | 0, n, _ => by simp [fb]
  | f + 1, n, h => by
    simp only [fb]
    rw [if_neg (h n (by omega) (by omega)), fb_none f (n + 1) (fun i h1 h2 => h i (by omega) (by omega))]
    omega
/-- who is next wins by which colour: the bare ones in order -/
def wnX (kd : Int → Int) (cols many : Int) : Nat → (Int → Int) → Int
  | 0, _ => -1
  | g + 1, row => if fb row many.toNat 1 ≤ many then fC (fun c => decide (bu kd (uI row (fb row many.toNat 1) c) many.toNat = 0 ∧ wnX kd cols many g (uI row (fb row many.toNat 1) c) = -1)) cols cols.toNat else -1
theorem fC_cg {P P' : Int → Bool} {cols : Int} : ∀ k : Nat, (k : Int) ≤ cols → (∀ c, 0 ≤ c → c < cols → P c = P' c) → fC P cols k = fC P' cols k
  | 0, _, _ => rfl
  | k + 1, hk, h => by
    simp only [fC]
    rw [h (cols - (k + 1)) (by omega) (by omega), fC_cg k (by omega) h]
theorem wn_eq {kd tr : Int → Int} {cols many B : Int} (hc : 0 ≤ cols) (htr : ∀ j, 0 ≤ j → j < B → 1 ≤ tr j ∧ tr j ≤ many) (hinc : ∀ j k, 0 ≤ j → j < k → k < B → tr j < tr k) : ∀ (g : Nat) (d : Int) (row : Int → Int), 0 ≤ d → d + g = B → (∀ i, 1 ≤ i → i ≤ many → (row i = -1 ↔ ∃ j, d ≤ j ∧ j < B ∧ i = tr j)) → wn kd cols many tr g d row = wnX kd cols many g row
  | 0, _, _, _, _, _ => rfl
  | g + 1, d, row, h0, hd, hb => by
    have ht := htr d h0 (by omega)
    have hfb : fb row many.toNat 1 = tr d := by
      refine fb_is ((hb _ ht.1 ht.2).mpr ⟨d, by omega, by omega, rfl⟩) _ _ ht.1 (by omega) (fun i h1 h2 => ?_)
      intro q
      obtain ⟨j, g1, g2, g3⟩ := (hb i h1 (by omega)).mp q
      by_cases e : j = d
      · subst e; omega
      · have := hinc d j h0 (by omega) g2; omega
    simp only [wn, wnX]
    rw [hfb, if_pos ht.2]
    refine fC_cg _ (by omega) (fun c h1 h2 => ?_)
    rw [wn_eq hc htr hinc g (d + 1) (uI row (tr d) c) (by omega) (by omega) (fun i h3 h4 => ?_)]
    by_cases e : i = tr d
    · subst e
      rw [uI_s]
      constructor
      · intro q; omega
      · rintro ⟨j, g1, g2, g3⟩
        have := hinc d j h0 (by omega) g2; omega
    · rw [uI_n e, hb i h3 h4]
      constructor
      · rintro ⟨j, g1, g2, g3⟩
        refine ⟨j, ?_, g2, g3⟩
        by_cases e2 : j = d
        · subst e2; exact absurd g3 e
        · omega
      · rintro ⟨j, g1, g2, g3⟩; exact ⟨j, by omega, g2, g3⟩
def trOk (co : Int → Int) (m B : Int) (tr : Int → Int) : Prop := 0 ≤ B ∧ B ≤ m ∧ (∀ j, 0 ≤ j → j < B → 1 ≤ tr j ∧ tr j ≤ m ∧ co (tr j) = -1) ∧ (∀ j k, 0 ≤ j → j < k → k < B → tr j < tr k) ∧ (∀ i, 1 ≤ i → i ≤ m → co i = -1 → ∃ j, 0 ≤ j ∧ j < B ∧ i = tr j)
theorem trOk_0 {co tr : Int → Int} : trOk co 0 0 tr := ⟨by omega, by omega, fun j h1 h2 => by omega, fun j k h1 h2 h3 => by omega, fun i h1 h2 => by omega⟩
theorem trOk_n {co tr : Int → Int} {m B : Int} (h : trOk co m B tr) (hc : co (m + 1) ≠ -1) : trOk co (m + 1) B tr := by
  obtain ⟨h1, h2, h3, h4, h5⟩ := h
  refine ⟨h1, by omega, fun j g1 g2 => by have := h3 j g1 g2; omega, h4, fun i g1 g2 g3 => ?_⟩
  by_cases e : i = m + 1
  · subst e; exact absurd g3 hc
  · exact h5 i g1 (by omega) g3
theorem trOk_y {co tr : Int → Int} {m B : Int} (hm : 0 ≤ m) (h : trOk co m B tr) (hc : co (m + 1) = -1) : trOk co (m + 1) (B + 1) (uI tr B (m + 1)) := by
  obtain ⟨h1, h2, h3, h4, h5⟩ := h
  refine ⟨by omega, by omega, fun j g1 g2 => ?_, fun j k g1 g2 g3 => ?_, fun i g1 g2 g3 => ?_⟩
  · by_cases e : j = B
    · subst e; rw [uI_s]; exact ⟨by omega, by omega, hc⟩
    · rw [uI_n e]; have := h3 j g1 (by omega); omega
  · by_cases e : k = B
    · subst e; rw [uI_s, uI_n (by omega)]; have := h3 j g1 (by omega); omega
    · rw [uI_n e, uI_n (by omega)]; exact h4 j k g1 g2 (by omega)
  · by_cases e : i = m + 1
    · subst e; exact ⟨B, h1, by omega, by rw [uI_s]⟩
    · obtain ⟨j, q1, q2, q3⟩ := h5 i g1 (by omega) g3
      exact ⟨j, q1, by omega, by rw [uI_n (by omega)]; exact q3⟩
/-- the answer: none, if some are bad or none is bare -/
def winE (kd co : Int → Int) (cols many : Int) : Int := if bu kd co many.toNat ≠ 0 then -1 else wnX kd cols many 10 co
theorem bu_cg {kd r r' : Int → Int} : ∀ n : Nat, (∀ i, 1 ≤ i → i ≤ (n : Int) → r i = r' i) → bu kd r n = bu kd r' n
  | 0, _ => rfl
  | n + 1, h => by
    simp only [bu]
    rw [bu_cg n (fun i h1 h2 => h i h1 (by omega)), bd_cg (fun i h1 h2 => h i h1 (by omega))]
theorem fb_cg {r r' : Int → Int} : ∀ (f : Nat) (n : Int), (∀ i, n ≤ i → i < n + f → r i = r' i) → fb r f n = fb r' f n
  | 0, _, _ => rfl
  | f + 1, n, h => by
    simp only [fb]
    rw [h n (by omega) (by omega), fb_cg f (n + 1) (fun i h1 h2 => h i (by omega) (by omega))]
theorem wnX_cg {kd : Int → Int} {cols many : Int} (hc : 0 ≤ cols) (hm : 0 ≤ many) : ∀ (g : Nat) (r r' : Int → Int), (∀ i, 1 ≤ i → i ≤ many → r i = r' i) → wnX kd cols many g r = wnX kd cols many g r'
  | 0, _, _, _ => rfl
  | g + 1, r, r', h => by
    simp only [wnX]
    rw [fb_cg _ _ (fun i h1 h2 => h i h1 (by omega))]
    split
    · refine fC_cg _ (by omega) (fun c h1 h2 => ?_)
      have e : ∀ i, 1 ≤ i → i ≤ many → uI r (fb r' many.toNat 1) c i = uI r' (fb r' many.toNat 1) c i := by
        intro i h3 h4
        by_cases q : i = fb r' many.toNat 1
        · subst q; rw [uI_s, uI_s]
        · rw [uI_n q, uI_n q]; exact h i h3 h4
      rw [bu_cg _ (fun i h3 h4 => e i h3 (by omega)), wnX_cg hc hm g _ _ e]
    · rfl
theorem brN_u {row : Int → Int} {t c : Int} (h1 : 1 ≤ t) (hr : row t = -1) (hc : 0 ≤ c) : ∀ n : Nat, brN (uI row t c) n = brN row n - (if t ≤ (n : Int) then 1 else 0)
  | 0 => by simp only [brN]; rw [if_neg (by omega)]; rfl
  | n + 1 => by
    have ih := brN_u h1 hr hc n
    simp only [brN]
    rw [ih]
    by_cases e : (n : Int) + 1 = t
    · rw [e, uI_s, if_neg (by omega), if_neg (by omega), if_pos hr, if_pos (by omega)]; omega
    · rw [uI_n e]
      by_cases q : t ≤ (n : Int)
      · rw [if_pos q, if_pos (show t ≤ ((n + 1 : Nat) : Int) by omega)]; omega
      · rw [if_neg q, if_neg (show ¬ t ≤ ((n + 1 : Nat) : Int) by omega)]; omega
theorem fb_at {row : Int → Int} : ∀ (f : Nat) (n : Int), n ≤ fb row f n ∧ (fb row f n < n + f → row (fb row f n) = -1) ∧ fb row f n ≤ n + f
  | 0, n => by simp only [fb]; exact ⟨by omega, fun h => by omega, by omega⟩
  | f + 1, n => by
    simp only [fb]
    split
    · rename_i h; exact ⟨by omega, fun _ => h, by omega⟩
    · obtain ⟨g1, g2, g3⟩ := fb_at (row := row) f (n + 1)
      exact ⟨by omega, fun h => g2 (by omega), by omega⟩
theorem brN_fb {row : Int → Int} {many : Int} (hm : 0 ≤ many) (c : Int) (hc : 0 ≤ c) (h : fb row many.toNat 1 ≤ many) : brN (uI row (fb row many.toNat 1) c) many.toNat = brN row many.toNat - 1 := by
  obtain ⟨g1, g2, g3⟩ := fb_at (row := row) many.toNat 1
  rw [brN_u g1 (g2 (by omega)) hc, if_pos (by omega)]
/-- more room than bare ones changes nothing -/
theorem wnX_g {kd : Int → Int} {cols many : Int} (hc : 0 ≤ cols) (hm : 0 ≤ many) : ∀ (g h : Nat) (row : Int → Int), brN row many.toNat ≤ g → brN row many.toNat ≤ h → wnX kd cols many g row = wnX kd cols many h row := by
  have key : ∀ row : Int → Int, brN row many.toNat ≤ 0 → ∀ h, wnX kd cols many h row = -1 := by
    intro row hb h
    cases h with
    | zero => rfl
    | succ h =>
      simp only [wnX]
      rw [if_neg]
      rw [fb_none]
      · omega
      · intro i h1 h2 q
        have : ∀ n : Nat, i ≤ (n : Int) → 1 ≤ brN row n := by
          intro n
          induction n with
          | zero => intro h3; omega
          | succ n ih =>
            intro h3
            have hr := brN_rng row n
            simp only [brN]
            by_cases e : i = (n : Int) + 1
            · rw [← e, if_pos q]; omega
            · have := ih (by omega)
              split <;> omega
        have := this many.toNat (by omega)
        omega
  intro g
  induction g with
  | zero => intro h row h1 h2; rw [key row (by omega) 0, key row (by omega) h]
  | succ g ih =>
    intro h row h1 h2
    cases h with
    | zero => rw [key row (by omega) 0, key row (by omega)]
    | succ h =>
      simp only [wnX]
      split
      · rename_i hfb
        refine fC_cg _ (by omega) (fun c g1 g2 => ?_)
        have hlt := brN_fb hm c g1 hfb
        rw [ih h (uI row (fb row many.toNat 1) c) (by omega) (by omega)]
      · rfl
