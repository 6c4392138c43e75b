/-! all paintings from a number on, in order; what is left behind one of them; the walk that turns back -/
theorem uI_e {f : Int → Int} {z v : Int} (h : f z = v) : uI f z v = f := by
  funext j
  by_cases e : j = z
  · subst e; simp [uI, h]
  · simp [uI, e]
theorem uI_u {α : Type} {f : Int → α} {z : Int} {v w : α} : uI (uI f z v) z w = uI f z w := by
  funext j
  by_cases e : j = z
  · subst e; simp [uI]
  · simp [uI, e]
theorem bdN_cg {kd r r' : Int → Int} {s : Int} (h : ∀ i, 1 ≤ i → i ≤ s → r i = r' i) : ∀ k : Nat, 2 * (k : Int) ≤ s → bdN kd r s k = bdN kd r' s k
  | 0, _ => rfl
  | k + 1, hk => by
    have ih := bdN_cg (kd := kd) h k (by omega)
    have e1 := h ((k : Int) + 1) (by omega) (by omega)
    have e2 := h (s - ((k : Int) + 1)) (by omega) (by omega)
    have e3 := h ((k : Int) + 1 + (s - ((k : Int) + 1))) (by omega) (by omega)
    simp only [bdN, isB, ih, e1, e2, e3]
theorem bd_cg {kd r r' : Int → Int} {s : Int} (h : ∀ i, 1 ≤ i → i ≤ s → r i = r' i) : bd kd r s = bd kd r' s := by
  by_cases hs : 0 ≤ s
  · exact bdN_cg h _ (by omega)
  · unfold bd
    have : (s / 2).toNat = 0 := by omega
    rw [this]; rfl
/-- the last k colours -/
def cl (cols : Int) : Nat → List Int
  | 0 => []
  | k + 1 => (cols - (k + 1)) :: cl cols k
def cmp (kd co : Int → Int) (cols : Int) : Nat → Int → (Int → Int) → List (Int → Int)
  | 0, _, r => [r]
  | f + 1, n, r => (if co n ≠ -1 then [co n] else cl cols cols.toNat).flatMap (fun c => if bd kd (uI r n c) n = 0 then cmp kd co cols f (n + 1) (uI r n c) else [])
def nd (kd co : Int → Int) (cols : Int) (f : Nat) (n : Int) (r : Int → Int) (cs : List Int) : List (Int → Int) := cs.flatMap (fun c => if bd kd (uI r n c) n = 0 then cmp kd co cols f (n + 1) (uI r n c) else [])
def up (kd co : Int → Int) (cols : Int) (last : Nat) : Nat → (Int → Int) → List (Int → Int)
  | 0, _ => []
  | m + 1, r => (if co ((m : Int) + 1) ≠ -1 then [] else nd kd co cols (last - (m + 1)) ((m : Int) + 1) r (cl cols (cols - 1 - r ((m : Int) + 1)).toNat)) ++ up kd co cols last m r
def tb (cols : Int) (co : Int → Int) : Nat → (Int → Int) → Int × (Int → Int)
  | 0, r => (0, r)
  | m + 1, r => if co ((m : Int) + 1) ≠ -1 ∨ r ((m : Int) + 1) = cols - 1 then tb cols co m (uI r ((m : Int) + 1) (co ((m : Int) + 1))) else ((m : Int) + 1, uI r ((m : Int) + 1) (r ((m : Int) + 1) + 1))
def fst0 (r : Int → Int) (n : Int) : Int → Int := if r n = -1 then uI r n 0 else r
theorem cmp_irr {kd co : Int → Int} {cols : Int} : ∀ (f : Nat) (n : Int) (r r' : Int → Int), (∀ i, i < n ∨ n + f ≤ i → r i = r' i) → cmp kd co cols f n r = cmp kd co cols f n r'
  | 0, n, r, r', h => by
    have : r = r' := funext fun i => h i (by omega)
    rw [this]
  | f + 1, n, r, r', h => by
    simp only [cmp]
    congr 1
    funext c
    have h1 : ∀ i, i < n + 1 ∨ n + 1 + f ≤ i → uI r n c i = uI r' n c i := by
      intro i hi
      by_cases e : i = n
      · subst e; simp [uI]
      · simp only [uI, e, if_false]; exact h i (by omega)
    rw [cmp_irr f (n + 1) _ _ h1, bd_cg (s := n) (fun i _ hi => h1 i (by omega))]
theorem nd_irr {kd co : Int → Int} {cols : Int} {f : Nat} {n : Int} {r r' : Int → Int} {cs : List Int} (h : ∀ i, i < n ∨ n + 1 + f ≤ i → r i = r' i) : nd kd co cols f n r cs = nd kd co cols f n r' cs := by
  unfold nd
  congr 1
  funext c
  have h1 : ∀ i, i < n + 1 ∨ n + 1 + f ≤ i → uI r n c i = uI r' n c i := by
    intro i hi
    by_cases e : i = n
    · subst e; simp [uI]
    · simp only [uI, e, if_false]; exact h i (by omega)
  rw [cmp_irr f (n + 1) _ _ h1, bd_cg (s := n) (fun i _ hi => h1 i (by omega))]
theorem up_irr {kd co : Int → Int} {cols : Int} {last : Nat} : ∀ (m : Nat) (r r' : Int → Int), m ≤ last → (∀ i : Int, i ≤ m ∨ (last : Int) < i → r i = r' i) → up kd co cols last m r = up kd co cols last m r'
  | 0, _, _, _, _ => rfl
  | m + 1, r, r', hm, h => by
    simp only [up]
    rw [up_irr m r r' (by omega) (fun i hi => h i (by omega)), h ((m : Int) + 1) (by omega), nd_irr (r := r) (r' := r') (fun i hi => h i (by omega))]
theorem nd_cons {kd co : Int → Int} {cols : Int} {f : Nat} {n : Int} {r : Int → Int} {c : Int} {cs : List Int} (h : r n = c) : nd kd co cols f n r (c :: cs) = (if bd kd r n = 0 then cmp kd co cols f (n + 1) r else []) ++ nd kd co cols f n r cs := by
  simp only [nd, List.flatMap_cons, uI_e h]
section GO
variable {kd co : Int → Int} {cols : Int} {last : Nat} {P : Int → (Int → Int) → Prop}
/-- one turn of the walk -/
def goStep (kd co : Int → Int) (cols : Int) (last : Int) (P : Int → (Int → Int) → Prop) : Prop := ∀ (n : Int) (r : Int → Int), 1 ≤ n → n ≤ last → (bd kd (fst0 r n) n ≠ 0 → P (tb cols co n.toNat (fst0 r n)).1 (tb cols co n.toNat (fst0 r n)).2) → (bd kd (fst0 r n) n = 0 → P (n + 1) (fst0 r n)) → P n r
def goA (kd co : Int → Int) (cols : Int) (last : Nat) (P : Int → (Int → Int) → Prop) (f : Nat) : Prop := ∀ (n : Int) (r : Int → Int), 1 ≤ n → n + f = last + 1 → (∀ k, n ≤ k → k ≤ last → r k = co k) → (cmp kd co cols f n r = [] → P (tb cols co (n - 1).toNat r).1 (tb cols co (n - 1).toNat r).2) → (∀ r' rest, cmp kd co cols f n r = r' :: rest → up kd co cols last last r' = rest ++ up kd co cols last (n - 1).toNat r → P (last + 1) r') → P n r
theorem go_C (hstep : goStep kd co cols last P) {f : Nat} (hA : goA kd co cols last P f) {n : Int} (hn : 1 ≤ n) (hf : n + f = last) (hco : co n = -1) :
    ∀ (k : Nat) (r1 : Int → Int), (k : Int) + 1 ≤ cols → r1 n = cols - (k + 1) → (∀ j, n < j → j ≤ last → r1 j = co j) →
      (nd kd co cols f n r1 (cl cols (k + 1)) = [] → P (tb cols co (n - 1).toNat (uI r1 n (-1))).1 (tb cols co (n - 1).toNat (uI r1 n (-1))).2) →
      (∀ r' rest, nd kd co cols f n r1 (cl cols (k + 1)) = r' :: rest → up kd co cols last last r' = rest ++ up kd co cols last (n - 1).toNat r1 → P (last + 1) r') →
      (bd kd r1 n ≠ 0 → P (tb cols co n.toNat r1).1 (tb cols co n.toNat r1).2) ∧ (bd kd r1 n = 0 → P (n + 1) r1) := by
  obtain ⟨j, rfl⟩ : ∃ j : Nat, n = (j : Int) + 1 := ⟨(n - 1).toNat, by omega⟩
  have e1 : ((j : Int) + 1).toNat = j + 1 := by omega
  have e2 : ((j : Int) + 1 - 1).toNat = j := by omega
  rw [e1, e2]
  intro k
  induction k with
  | zero =>
    intro r1 hk hr hfr h0 h1
    have hnd : nd kd co cols f ((j : Int) + 1) r1 (cl cols (0 + 1)) = (if bd kd r1 ((j : Int) + 1) = 0 then cmp kd co cols f ((j : Int) + 1 + 1) r1 else []) ++ [] := nd_cons (by rw [hr])
    have htb : tb cols co (j + 1) r1 = tb cols co j (uI r1 ((j : Int) + 1) (-1)) := by
      simp only [tb]
      rw [if_pos (Or.inr (by rw [hr]; omega)), hco]
    have back : nd kd co cols f ((j : Int) + 1) r1 (cl cols (0 + 1)) = [] → P (tb cols co (j + 1) r1).1 (tb cols co (j + 1) r1).2 := fun h => by rw [htb]; exact h0 h
    refine ⟨fun hb => back (by rw [hnd, if_neg hb]; rfl), fun hb => ?_⟩
    rw [if_pos hb, List.append_nil] at hnd
    refine hA ((j : Int) + 1 + 1) r1 (by omega) (by omega) (fun i h2 h3 => hfr i (by omega) h3) (fun h => ?_) (fun r' rest h hu => ?_)
    · have e3 : ((j : Int) + 1 + 1 - 1).toNat = j + 1 := by omega
      rw [e3]
      exact back (by rw [hnd]; exact h)
    · have e3 : ((j : Int) + 1 + 1 - 1).toNat = j + 1 := by omega
      rw [e3] at hu
      refine h1 r' rest (by rw [hnd]; exact h) ?_
      rw [hu]
      simp only [up]
      rw [if_neg (by simp [hco]), hr, show (cols - 1 - (cols - (((0 : Nat) : Int) + 1))).toNat = 0 by omega]
      rfl
  | succ k ih =>
    intro r1 hk hr hfr h0 h1
    have hnd : nd kd co cols f ((j : Int) + 1) r1 (cl cols (k + 1 + 1)) = (if bd kd r1 ((j : Int) + 1) = 0 then cmp kd co cols f ((j : Int) + 1 + 1) r1 else []) ++ nd kd co cols f ((j : Int) + 1) r1 (cl cols (k + 1)) := nd_cons (by rw [hr])
    have hne : ¬ r1 ((j : Int) + 1) = cols - 1 := by rw [hr]; omega
    have htb : tb cols co (j + 1) r1 = ((j : Int) + 1, uI r1 ((j : Int) + 1) (r1 ((j : Int) + 1) + 1)) := by
      simp only [tb]
      rw [if_neg (by rw [hco]; simp [hne])]
    have back : nd kd co cols f ((j : Int) + 1) r1 (cl cols (k + 1 + 1)) = nd kd co cols f ((j : Int) + 1) r1 (cl cols (k + 1)) → P (tb cols co (j + 1) r1).1 (tb cols co (j + 1) r1).2 := by
      intro h
      rw [htb]
      show P ((j : Int) + 1) (uI r1 ((j : Int) + 1) (r1 ((j : Int) + 1) + 1))
      have hr2 : uI r1 ((j : Int) + 1) (r1 ((j : Int) + 1) + 1) ((j : Int) + 1) = cols - ((k : Int) + 1) := by rw [uI_s, hr]; omega
      have hf0 : fst0 (uI r1 ((j : Int) + 1) (r1 ((j : Int) + 1) + 1)) ((j : Int) + 1) = uI r1 ((j : Int) + 1) (r1 ((j : Int) + 1) + 1) := by
        unfold fst0
        rw [if_neg (by rw [hr2]; omega)]
      have hirr : nd kd co cols f ((j : Int) + 1) (uI r1 ((j : Int) + 1) (r1 ((j : Int) + 1) + 1)) (cl cols (k + 1)) = nd kd co cols f ((j : Int) + 1) r1 (cl cols (k + 1)) := nd_irr (fun i hi => uI_n (by omega))
      have hup : up kd co cols last j (uI r1 ((j : Int) + 1) (r1 ((j : Int) + 1) + 1)) = up kd co cols last j r1 := up_irr j _ _ (by omega) (fun i hi => uI_n (by omega))
      obtain ⟨g1, g2⟩ := ih (uI r1 ((j : Int) + 1) (r1 ((j : Int) + 1) + 1)) (by omega) hr2 (fun i h2 h3 => by rw [uI_n (by omega)]; exact hfr i h2 h3)
        (fun h3 => by rw [uI_u]; exact h0 (by rw [h, ← hirr]; exact h3))
        (fun r' rest h3 hu => h1 r' rest (by rw [h, ← hirr]; exact h3) (by rw [hu, hup]))
      refine hstep ((j : Int) + 1) _ (by omega) (by omega) ?_ ?_
      · rw [hf0, e1]; exact g1
      · rw [hf0]; exact g2
    refine ⟨fun hb => back (by rw [hnd, if_neg hb]; rfl), fun hb => ?_⟩
    rw [if_pos hb] at hnd
    have e3 : ((j : Int) + 1 + 1 - 1).toNat = j + 1 := by omega
    refine hA ((j : Int) + 1 + 1) r1 (by omega) (by omega) (fun i h2 h3 => hfr i (by omega) h3) (fun h => ?_) (fun r' rest h hu => ?_)
    · rw [e3]
      exact back (by rw [hnd, h]; rfl)
    · rw [e3] at hu
      refine h1 r' (rest ++ nd kd co cols f ((j : Int) + 1) r1 (cl cols (k + 1))) (by rw [hnd, h]; rfl) ?_
      rw [hu]
      simp only [up]
      rw [if_neg (by simp [hco]), hr, show (cols - 1 - (cols - (((k + 1 : Nat) : Int) + 1))).toNat = k + 1 by omega, show last - (j + 1) = f by omega, List.append_assoc]
theorem go_A (hc : 1 ≤ cols) (hstep : goStep kd co cols last P) : ∀ f : Nat, goA kd co cols last P f := by
  intro f
  induction f with
  | zero =>
    intro n r hn hf hfr h0 h1
    have e : n = last + 1 := by omega
    subst e
    exact h1 r [] rfl (by rw [show ((last : Int) + 1 - 1).toNat = last by omega]; rfl)
  | succ f ih =>
    intro n r hn hf hfr h0 h1
    have hrn : r n = co n := hfr n (by omega) (by omega)
    by_cases hp : co n = -1
    · have e0 : fst0 r n = uI r n 0 := by unfold fst0; rw [if_pos (by rw [hrn, hp])]
      obtain ⟨k, hk⟩ : ∃ k : Nat, cols = (k : Int) + 1 := ⟨(cols - 1).toNat, by omega⟩
      have hcm : cmp kd co cols (f + 1) n r = nd kd co cols f n (uI r n 0) (cl cols (k + 1)) := by
        simp only [cmp]
        rw [if_neg (by simp [hp]), show cols.toNat = k + 1 by omega]
        exact (nd_irr (r := r) (r' := uI r n 0) (fun i hi => (uI_n (by omega)).symm))
      have hup : up kd co cols last (n - 1).toNat (uI r n 0) = up kd co cols last (n - 1).toNat r := up_irr _ _ _ (by omega) (fun i hi => uI_n (by omega))
      have hre : uI (uI r n 0) n (-1) = r := by rw [uI_u]; exact uI_e (by rw [hrn, hp])
      obtain ⟨g1, g2⟩ := go_C hstep ih hn (by omega) hp k (uI r n 0) (by omega) (by rw [uI_s]; omega) (fun i h2 h3 => by rw [uI_n (by omega)]; exact hfr i (by omega) h3)
        (fun h => by rw [hre]; exact h0 (by rw [hcm]; exact h)) (fun r' rest h hu => h1 r' rest (by rw [hcm]; exact h) (by rw [hu, hup]))
      refine hstep n r hn (by omega) ?_ ?_
      · rw [e0]; exact g1
      · rw [e0]; exact g2
    · have e0 : fst0 r n = r := by unfold fst0; rw [if_neg (by rw [hrn]; exact hp)]
      have hre : uI r n (co n) = r := uI_e hrn
      have hcm : cmp kd co cols (f + 1) n r = if bd kd r n = 0 then cmp kd co cols f (n + 1) r else [] := by
        simp only [cmp]
        rw [if_pos hp]
        simp only [List.flatMap_cons, List.flatMap_nil, List.append_nil, hre]
      obtain ⟨j, rfl⟩ : ∃ j : Nat, n = (j : Int) + 1 := ⟨(n - 1).toNat, by omega⟩
      have e1 : ((j : Int) + 1).toNat = j + 1 := by omega
      have e2 : ((j : Int) + 1 - 1).toNat = j := by omega
      have htb : tb cols co (j + 1) r = tb cols co j r := by
        simp only [tb]
        rw [if_pos (Or.inl hp), hre]
      have hup : up kd co cols last (j + 1) r = up kd co cols last j r := by
        simp only [up]
        rw [if_pos hp]
        rfl
      rw [e2] at h0 h1
      refine hstep _ r hn (by omega) ?_ ?_
      · rw [e0, e1, htb]
        intro hb
        exact h0 (by rw [hcm, if_neg hb])
      · rw [e0]
        intro hb
        rw [if_pos hb] at hcm
        have e3 : ((j : Int) + 1 + 1 - 1).toNat = j + 1 := by omega
        refine ih _ r (by omega) (by omega) (fun i h2 h3 => hfr i (by omega) h3) (fun h => ?_) (fun r' rest h hu => ?_)
        · rw [e3, htb]; exact h0 (by rw [hcm]; exact h)
        · rw [e3, hup] at hu; exact h1 r' rest (by rw [hcm]; exact h) hu
theorem go_B (hc : 1 ≤ cols) (hstep : goStep kd co cols last P) : ∀ (m : Nat) (r : Int → Int), m ≤ last → (∀ i : Int, 1 ≤ i → i ≤ m → co i = -1 → 0 ≤ r i ∧ r i ≤ cols - 1) → (∀ k, (m : Int) < k → k ≤ last → r k = co k) →
    (up kd co cols last m r = [] → ∀ r', P 0 r') → (∀ r' rest, up kd co cols last m r = r' :: rest → up kd co cols last last r' = rest → P (last + 1) r') → P (tb cols co m r).1 (tb cols co m r).2 := by
  intro m
  induction m with
  | zero => intro r hm hr hfr h0 h1; exact h0 rfl r
  | succ m ih =>
    intro r hm hr hfr h0 h1
    by_cases hp : co ((m : Int) + 1) ≠ -1 ∨ r ((m : Int) + 1) = cols - 1
    · have htb : tb cols co (m + 1) r = tb cols co m (uI r ((m : Int) + 1) (co ((m : Int) + 1))) := by
        simp only [tb]; rw [if_pos hp]
      have hup : up kd co cols last (m + 1) r = up kd co cols last m (uI r ((m : Int) + 1) (co ((m : Int) + 1))) := by
        simp only [up]
        rw [up_irr m (uI r ((m : Int) + 1) (co ((m : Int) + 1))) r (by omega) (fun i hi => uI_n (by omega))]
        by_cases hq : co ((m : Int) + 1) ≠ -1
        · rw [if_pos hq]; rfl
        · rw [if_neg hq, (hp.resolve_left hq), show (cols - 1 - (cols - 1)).toNat = 0 by omega]; rfl
      rw [htb]
      refine ih _ (by omega) (fun i h2 h3 h4 => by rw [uI_n (by omega)]; exact hr i h2 (by omega) h4) (fun i h2 h3 => ?_) (fun h => h0 (by rw [hup]; exact h)) (fun r' rest h hu => h1 r' rest (by rw [hup]; exact h) hu)
      by_cases e : i = (m : Int) + 1
      · subst e; rw [uI_s]
      · rw [uI_n e]; exact hfr i (by omega) h3
    · have hco : co ((m : Int) + 1) = -1 := by
        by_cases q : co ((m : Int) + 1) = -1
        · exact q
        · exact absurd (Or.inl q) hp
      have hne : ¬ r ((m : Int) + 1) = cols - 1 := fun q => hp (Or.inr q)
      have hrg := hr ((m : Int) + 1) (by omega) (by omega) hco
      have htb : tb cols co (m + 1) r = ((m : Int) + 1, uI r ((m : Int) + 1) (r ((m : Int) + 1) + 1)) := by
        simp only [tb]; rw [if_neg hp]
      obtain ⟨k, hk⟩ : ∃ k : Nat, r ((m : Int) + 1) + 1 = cols - ((k : Int) + 1) := ⟨(cols - 2 - r ((m : Int) + 1)).toNat, by omega⟩
      rw [htb]
      show P ((m : Int) + 1) (uI r ((m : Int) + 1) (r ((m : Int) + 1) + 1))
      have hr2 : uI r ((m : Int) + 1) (r ((m : Int) + 1) + 1) ((m : Int) + 1) = cols - ((k : Int) + 1) := by rw [uI_s, hk]
      have hf0 : fst0 (uI r ((m : Int) + 1) (r ((m : Int) + 1) + 1)) ((m : Int) + 1) = uI r ((m : Int) + 1) (r ((m : Int) + 1) + 1) := by
        unfold fst0
        rw [if_neg (by rw [uI_s]; omega)]
      have hupm : ∀ v, up kd co cols last m (uI r ((m : Int) + 1) v) = up kd co cols last m r := fun v => up_irr m _ _ (by omega) (fun i hi => uI_n (by omega))
      have hup : up kd co cols last (m + 1) r = nd kd co cols (last - (m + 1)) ((m : Int) + 1) (uI r ((m : Int) + 1) (r ((m : Int) + 1) + 1)) (cl cols (k + 1)) ++ up kd co cols last m r := by
        simp only [up]
        rw [if_neg (by simp [hco]), show (cols - 1 - r ((m : Int) + 1)).toNat = k + 1 by omega, nd_irr (r := r) (r' := uI r ((m : Int) + 1) (r ((m : Int) + 1) + 1)) (fun i hi => (uI_n (by omega)).symm)]
      have e1 : ((m : Int) + 1).toNat = m + 1 := by omega
      have e2 : ((m : Int) + 1 - 1).toNat = m := by omega
      obtain ⟨g1, g2⟩ := go_C (f := last - (m + 1)) hstep (go_A hc hstep _) (n := (m : Int) + 1) (by omega) (by omega) hco k (uI r ((m : Int) + 1) (r ((m : Int) + 1) + 1)) (by omega) hr2 (fun i h2 h3 => by rw [uI_n (by omega)]; exact hfr i (by omega) h3)
        (fun h => by
          rw [e2, uI_u]
          refine ih _ (by omega) (fun i h2 h3 h4 => by rw [uI_n (by omega)]; exact hr i h2 (by omega) h4) (fun i h2 h3 => ?_) (fun h5 => h0 (by rw [hup, h, ← hupm (-1)]; exact h5)) (fun r' rest h5 hu => h1 r' rest (by rw [hup, h, ← hupm (-1)]; exact h5) hu)
          by_cases e : i = (m : Int) + 1
          · subst e; rw [uI_s, hco]
          · rw [uI_n e]; exact hfr i (by omega) h3)
        (fun r' rest h hu => by
          rw [e2, hupm] at hu
          exact h1 r' (rest ++ up kd co cols last m r) (by rw [hup, h]; rfl) hu)
      refine hstep _ _ (by omega) (by omega) ?_ ?_
      · rw [hf0]; exact g1
      · rw [hf0]; exact g2
end GO
/-- the walk from n, r on comes to 0, and then E0, or behind the last, and then E1 -/
def goS (kd co : Int → Int) (cols : Int) (last : Int) (n : Int) (r : Int → Int) (E0 : Prop) (E1 : (Int → Int) → Prop) : Prop := ∀ P : Int → (Int → Int) → Prop, goStep kd co cols last P → (E0 → ∀ r', P 0 r') → (∀ r', E1 r' → P (last + 1) r') → P n r
theorem goS_start {kd co : Int → Int} {cols : Int} {last : Nat} {r : Int → Int} (hc : 1 ≤ cols) (hfr : ∀ k, 1 ≤ k → k ≤ (last : Int) → r k = co k) : goS kd co cols last 1 r (cmp kd co cols last 1 r = []) (fun r' => ∃ rest, cmp kd co cols last 1 r = r' :: rest ∧ up kd co cols last last r' = rest) :=
  fun P hstep h0 h1 => go_A hc hstep last 1 r (by omega) (by omega) hfr (fun h => h0 h r) (fun r' rest h hu => h1 r' ⟨rest, h, by rw [hu]; simp [up]⟩)
theorem goS_next {kd co : Int → Int} {cols : Int} {last : Nat} {r : Int → Int} (hc : 1 ≤ cols) (hr : ∀ i, 1 ≤ i → i ≤ (last : Int) → co i = -1 → 0 ≤ r i ∧ r i ≤ cols - 1) : goS kd co cols last (tb cols co last r).1 (tb cols co last r).2 (up kd co cols last last r = []) (fun r' => ∃ rest, up kd co cols last last r = r' :: rest ∧ up kd co cols last last r' = rest) :=
  fun P hstep h0 h1 => go_B hc hstep last r (Nat.le_refl _) hr (fun k h2 h3 => by omega) (fun h => h0 h) (fun r' rest h hu => h1 r' ⟨rest, h, hu⟩)
