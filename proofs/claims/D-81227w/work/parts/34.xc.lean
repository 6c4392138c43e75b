theorem wnX_10 {kd : Int → Int} {cols many : Int} {row : Int → Int} : wnX kd cols many 10 row = if fb row many.toNat 1 ≤ many then fC (fun c => decide (bu kd (uI row (fb row many.toNat 1) c) many.toNat = 0 ∧ wnX kd cols many 9 (uI row (fb row many.toNat 1) c) = -1)) cols cols.toNat else -1 := rfl
theorem cl_has {cols : Int} : ∀ (k : Nat) (c : Int), cols - k ≤ c → c ≤ cols - 1 → c ∈ cl cols k
  | 0, c, h1, h2 => by omega
  | k + 1, c, h1, h2 => by
    simp only [cl, List.mem_cons]
    by_cases q : c = cols - ((k : Int) + 1)
    · exact Or.inl q
    · exact Or.inr (cl_has k c (by omega) h2)
theorem cmp_same {kd co : Int → Int} {cols : Int} : ∀ (f : Nat) (n : Int) (r x : Int → Int), x ∈ cmp kd co cols f n r → ∀ i, i < n → x i = r i
  | 0, n, r, x, h, i, hi => by simp only [cmp, List.mem_singleton] at h; rw [h]
  | f + 1, n, r, x, h, i, hi => by
    simp only [cmp, List.mem_flatMap] at h
    obtain ⟨c, _, h2⟩ := h
    split at h2
    · rw [cmp_same f (n + 1) _ x h2 i (by omega), uI_n (by omega)]
    · cases h2
theorem dfN_mono (co r : Int → Int) (a : Nat) : ∀ k : Nat, dfN co r a ≤ dfN co r (a + k)
  | 0 => Int.le_refl _
  | k + 1 => by
    have h := dfN_mono co r a k
    rw [← Nat.add_assoc]
    simp only [dfN]
    split <;> omega
/-- the least from a number on: what the code's answer is worth -/
def lsP (kd co : Int → Int) (cols : Int) (f : Nat) (n many : Int) (row : Int → Int) (most r : Int) : Prop := (r = 99999 ∨ ∃ x ∈ cmp kd (fun _ => -1) cols f n row, r + dfN co row (n - 1).toNat = dfN co x many.toNat) ∧ (∀ x ∈ cmp kd (fun _ => -1) cols f n row, dfN co x many.toNat - dfN co row (n - 1).toNat ≤ most → r ≤ dfN co x many.toNat - dfN co row (n - 1).toNat) ∧ 0 ≤ r ∧ r ≤ 99999
theorem mem_cmp {kd : Int → Int} {cols : Int} {f : Nat} {n : Int} {row x : Int → Int} (hc : 0 ≤ cols) : x ∈ cmp kd (fun _ => -1) cols (f + 1) n row ↔ ∃ c, 0 ≤ c ∧ c < cols ∧ x ∈ gN kd (fun _ => -1) cols f n (uI row n c) := by
  rw [cmp_s, if_neg (by simp)]
  unfold nd gN
  rw [List.mem_flatMap]
  constructor
  · rintro ⟨c, h1, h2⟩
    have := cl_mem _ c h1
    exact ⟨c, by omega, by omega, h2⟩
  · rintro ⟨c, h1, h2, h3⟩
    exact ⟨c, cl_has _ c (by omega) (by omega), h3⟩
theorem df_gN {kd co : Int → Int} {cols many : Int} {f : Nat} {n : Int} {row x : Int → Int} (hn : 1 ≤ n) (hf : n + f = many) (h : x ∈ gN kd (fun _ => -1) cols f n row) : dfN co row n.toNat ≤ dfN co x many.toNat := by
  unfold gN at h
  split at h
  · have h1 := (cmp_same f (n + 1) row x h)
    rw [dfN_cg (co := co) (r := row) (r' := x) n.toNat (fun i h2 h3 => (h1 i (by omega)).symm), show many.toNat = n.toNat + f by omega]
    exact dfN_mono co x n.toNat f
  · cases h
theorem df_u {co row : Int → Int} {n c : Int} (hn : 1 ≤ n) : dfN co (uI row n c) n.toNat = dfN co row (n - 1).toNat + (if co n ≠ -1 ∧ co n ≠ c then 1 else 0) := by
  rw [dfN_s hn, uI_s, dfN_cg (r := uI row n c) (r' := row) _ (fun i h1 h2 => uI_n (by omega))]
/-- the loop over colours -/
def lsI (kd co : Int → Int) (cols : Int) (f : Nat) (n many : Int) (row : Int → Int) (most c r : Int) : Prop := (r = 99999 ∨ ∃ x ∈ cmp kd (fun _ => -1) cols (f + 1) n row, r + dfN co row (n - 1).toNat = dfN co x many.toNat) ∧ (∀ c', 0 ≤ c' → c' < c → ∀ x ∈ gN kd (fun _ => -1) cols f n (uI row n c'), dfN co x many.toNat - dfN co row (n - 1).toNat ≤ most → r ≤ dfN co x many.toNat - dfN co row (n - 1).toNat) ∧ 0 ≤ r ∧ r ≤ 99999
theorem lsI_0 {kd co : Int → Int} {cols : Int} {f : Nat} {n many : Int} {row : Int → Int} {most : Int} : lsI kd co cols f n many row most 0 99999 := ⟨Or.inl rfl, fun c' h1 h2 => by omega, by omega, by omega⟩
theorem lsI_end {kd co : Int → Int} {cols : Int} {f : Nat} {n many : Int} {row : Int → Int} {most r : Int} (hc : 0 ≤ cols) (h : lsI kd co cols f n many row most cols r) : lsP kd co cols (f + 1) n many row most r := by
  refine ⟨h.1, ?_, h.2.2⟩
  intro x hx h1
  obtain ⟨c, c1, c2, c3⟩ := (mem_cmp hc).mp hx
  exact h.2.1 c c1 c2 x c3 h1
theorem lsI_n {kd co : Int → Int} {cols : Int} {f : Nat} {n many : Int} {row : Int → Int} {most c r : Int} (h : lsI kd co cols f n many row most c r) (hx : ∀ x ∈ gN kd (fun _ => -1) cols f n (uI row n c), ¬ dfN co x many.toNat - dfN co row (n - 1).toNat ≤ most) : lsI kd co cols f n many row most (c + 1) r := by
  refine ⟨h.1, ?_, h.2.2⟩
  intro c' h1 h2 x h3 h4
  by_cases q : c' = c
  · subst q; exact absurd h4 (hx x h3)
  · exact h.2.1 c' h1 (by omega) x h3 h4
theorem lsI_bad {kd co : Int → Int} {cols : Int} {f : Nat} {n many : Int} {row : Int → Int} {most c r : Int} (h : lsI kd co cols f n many row most c r) (hb : ¬ bd kd (uI row n c) n = 0) : lsI kd co cols f n many row most (c + 1) r :=
  lsI_n h (fun x hx => by unfold gN at hx; rw [if_neg hb] at hx; cases hx)
theorem lsI_much {kd co : Int → Int} {cols : Int} {f : Nat} {n many : Int} {row : Int → Int} {most c r : Int} (h : lsI kd co cols f n many row most c r) (hn : 1 ≤ n) (hf : n + f = many) (hm : most < (if co n ≠ -1 ∧ co n ≠ c then 1 else 0)) : lsI kd co cols f n many row most (c + 1) r :=
  lsI_n h (fun x hx q => by have e := df_gN (co := co) hn hf hx; rw [df_u hn] at e; omega)
theorem lsI_s {kd co : Int → Int} {cols : Int} {f : Nat} {n many : Int} {row : Int → Int} {most c r q s mo : Int} (h : lsI kd co cols f n many row most c r) (hn : 1 ≤ n) (hc : 0 ≤ c ∧ c < cols) (hb : bd kd (uI row n c) n = 0) (hmo : mo = if co n ≠ -1 ∧ co n ≠ c then 1 else 0)
    (hq : lsP kd co cols f (n + 1) many (uI row n c) ((if most ≤ r - 1 then most else r - 1) - mo) q) (hs : s = if r ≤ mo + q then r else mo + q) : lsI kd co cols f n many row most (c + 1) s := by
  have hg : gN kd (fun _ => -1) cols f n (uI row n c) = cmp kd (fun _ => -1) cols f (n + 1) (uI row n c) := by unfold gN; rw [if_pos hb]
  obtain ⟨a1, a2, a3, a4⟩ := h
  obtain ⟨b1, b2, b3, b4⟩ := hq
  rw [Int.add_sub_cancel, df_u hn, ← hmo] at b1 b2
  have hmr : 0 ≤ mo ∧ mo ≤ 1 := by rw [hmo]; split <;> omega
  refine ⟨?_, ?_, by rw [hs]; split <;> omega, by rw [hs]; split <;> omega⟩
  · rw [hs]
    split
    · exact a1
    · rename_i hlt
      rcases b1 with b | ⟨x, x1, x2⟩
      · omega
      · exact Or.inr ⟨x, (mem_cmp (by omega)).mpr ⟨c, hc.1, hc.2, by rw [hg]; exact x1⟩, by omega⟩
  · intro c' h1 h2 x h3 h4
    by_cases e : c' = c
    · subst e
      rw [hg] at h3
      by_cases q1 : dfN co x many.toNat - (dfN co row (n - 1).toNat + mo) ≤ (if most ≤ r - 1 then most else r - 1) - mo
      · have := b2 x h3 q1
        rw [hs]; split <;> omega
      · rw [hs]; split at q1 <;> split <;> omega
    · have := a2 c' h1 (by omega) x h3 h4
      rw [hs]; split <;> omega
theorem lsP_0 {kd co : Int → Int} {cols : Int} {n many : Int} {row : Int → Int} {most : Int} (h : n - 1 = many) : lsP kd co cols 0 n many row most 0 := by
  refine ⟨Or.inr ⟨row, by simp [cmp], by rw [h]; omega⟩, ?_, by omega, by omega⟩
  intro x hx _
  simp only [cmp, List.mem_singleton] at hx
  subst hx
  rw [h]; omega
theorem lsP_irr {kd co : Int → Int} {cols : Int} {f : Nat} {n many : Int} {r r' : Int → Int} {most x : Int} (h : ∀ i, i < n ∨ n + f ≤ i → r i = r' i) (hn : 1 ≤ n) (e : lsP kd co cols f n many r most x) : lsP kd co cols f n many r' most x := by
  unfold lsP at e ⊢
  rw [cmp_irr f n r r' h, dfN_cg (r := r) (r' := r') _ (fun i h1 h2 => h i (by omega))] at e
  exact e
theorem mdF_is {co : Int → Int} {many : Int} : ∀ (l : List (Int → Int)) (m : Int), mdF co many m l ≤ m ∧ (∀ x ∈ l, mdF co many m l ≤ dfN co x many.toNat) ∧ (mdF co many m l = m ∨ ∃ x ∈ l, mdF co many m l = dfN co x many.toNat)
  | [], m => ⟨Int.le_refl _, fun x hx => (by cases hx), Or.inl rfl⟩
  | a :: l, m => by
    have h := mdF_is (co := co) (many := many) l (if dfN co a many.toNat < m then dfN co a many.toNat else m)
    simp only [mdF]
    obtain ⟨h1, h2, h3⟩ := h
    refine ⟨Int.le_trans h1 (by split <;> omega), ?_, ?_⟩
    · intro x hx
      rcases List.mem_cons.mp hx with q | q
      · subst q
        refine Int.le_trans h1 ?_
        split <;> omega
      · exact h2 x q
    · rcases h3 with q | ⟨x, x1, x2⟩
      · by_cases e : dfN co a many.toNat < m
        · rw [if_pos e] at q ⊢
          exact Or.inr ⟨a, List.mem_cons_self, q⟩
        · rw [if_neg e] at q ⊢
          exact Or.inl q
      · exact Or.inr ⟨x, List.mem_cons_of_mem _ x1, x2⟩
theorem lsP_top {kd co : Int → Int} {cols : Int} {many : Int} {row : Int → Int} {r : Int} (hm : 0 ≤ many ∧ many ≤ 10) (h : lsP kd co cols many.toNat 1 many row many r) : (r < 99999 → r = mdE kd co cols many) ∧ (¬ r < 99999 → -1 = mdE kd co cols many) := by
  unfold mdE
  rw [← md_of (co' := (fun _ => -1)) (r := row) (by omega) (fun _ _ _ => rfl)]
  obtain ⟨m1, m2, m3⟩ := mdF_is (co := co) (many := many) (cmp kd (fun _ => -1) cols many.toNat 1 row) 268435456
  obtain ⟨h1, h2, h3, h4⟩ := h
  have e0 : dfN co row (1 - 1 : Int).toNat = 0 := rfl
  rw [e0] at h1 h2
  have hd : ∀ x : Int → Int, 0 ≤ dfN co x many.toNat ∧ dfN co x many.toNat ≤ many := fun x => by have := dfN_rng co x many.toNat; omega
  rcases m3 with q | ⟨x, x1, x2⟩
  · rw [if_pos q]
    refine ⟨fun hr => ?_, fun _ => rfl⟩
    rcases h1 with p | ⟨y, y1, y2⟩
    · omega
    · have := m2 y y1
      have := hd y
      omega
  · have hx := hd x
    have hr := h2 x x1 (by omega)
    rw [if_neg (by omega)]
    refine ⟨fun _ => ?_, fun hr => by omega⟩
    rcases h1 with p | ⟨y, y1, y2⟩
    · omega
    · have := m2 y y1
      omega
theorem fC_s {P : Int → Bool} {cols c : Int} (h : 0 ≤ c ∧ c < cols) : fC P cols (cols - c).toNat = if P c = true then c else fC P cols (cols - (c + 1)).toNat := by
  rw [show (cols - c).toNat = (cols - (c + 1)).toNat + 1 by omega]
  simp only [fC]
  rw [show cols - (((cols - (c + 1)).toNat : Int) + 1) = c by omega]
set_option maxHeartbeats 4000000 in
set_option maxRecDepth 100000 in
theorem cx_leastFrom_0 {l : Launch} {g : tG} {o : Nat} {ax : Nat → Nat} {num kpt : Int → Option Nat} {many cols chg brd old : Int} {page : Int → Int} {pgM told enD ways far : Int} {hav : Int → Int} {wtd : Int} {fnd : Int → Int} {mdT wnT : Int} {sN sW sC : Int → Int} {sM drw : Int} {kN kW kC : Int → Int} {kS kG kB : Int} {hh : Int64} {L : List Nat} {mf : Nat → Nat × Int × Int × Int} (hm : 0 ≤ many ∧ many ≤ 10) (hc : 2 ≤ cols ∧ cols ≤ 3) (hB : xB many num L mf) : ∀ (n most : Int) (row : Int → Int), 1 ≤ n → n + (0 : Nat) = many + 1 → iR most → -10 ≤ most → (∀ i, -1 ≤ row i ∧ row i ≤ 2) → Ci l g yX0_leastFrom (ws_ yX0_leastFrom cX0_leastFrom 6 (Option.some Jvm.ClassFile.FieldType.int)) (rmL (8 + 0)) [.ref o, .int (iI n), .int (iI most)] (xW g o ax num kpt many cols chg brd old page pgM told enD row ways far hav wtd fnd mdT wnT sN sW sC sM drw kN kW kC kS kG kB hh L mf) (fun r w => ∃ row1 : Int → Int, (∀ i, i < n ∨ many < i → row1 i = row i) ∧ (∀ i, -1 ≤ row1 i ∧ row1 i ≤ 2) ∧ lsP (xkd num mf) (xco num mf) cols 0 n many row most r ∧ w = xW g o ax num kpt many cols chg brd old page pgM told enD row1 ways far hav wtd fnd mdT wnT sN sW sC sM drw kN kW kC kS kG kB hh L mf) := by
  intro n most row hn hf0 hmo hmo2 hrow
  refine Ct.of (by decide) (Nat.le_of_ble_eq_true rfl) ?_
  intro Γ hl hg hf hrT
  subst hl hg
  have hf : Fx Γ RX0 cX0_leastFrom 6 := hf
  show T Γ (rmL (8 + 0)) 6 0 0 (Qe Γ (rmL (8 + 0)) _) _ 0 [(0, .ref o), (1, .int (iI n)), (2, .int (iI most))] []
  refine tt_iload_n hf 1 dX0_leastFrom_0 rfl ?_
  refine tt_aload_n hf 0 dX0_leastFrom_1 rfl ?_
  refine gx_many hf dX0_leastFrom_2 ?_
  refine tt_icmp_le (tgt := 10) hf dX0_leastFrom_5 (by decide) (by omega) (by omega) (fun c5 => ?_) (fun c5 => ?_)
  · exact absurd c5 (by omega)
  · refine tt_iconst hf dX0_leastFrom_8 ?_
    exact tt_ireti hf hrT dX0_leastFrom_9 (Nat.le_refl _) (Nat.le_refl _) (by decide) ⟨row, fun _ _ => rfl, hrow, lsP_0 (by omega), rfl⟩
set_option maxHeartbeats 4000000 in
set_option maxRecDepth 100000 in
theorem cx_leastFrom_s {l : Launch} {g : tG} {o : Nat} {ax : Nat → Nat} {num kpt : Int → Option Nat} {many cols chg brd old : Int} {page : Int → Int} {pgM told enD ways far : Int} {hav : Int → Int} {wtd : Int} {fnd : Int → Int} {mdT wnT : Int} {sN sW sC : Int → Int} {sM drw : Int} {kN kW kC : Int → Int} {kS kG kB : Int} {hh : Int64} {L : List Nat} {mf : Nat → Nat × Int × Int × Int} (hm : 0 ≤ many ∧ many ≤ 10) (hc : 2 ≤ cols ∧ cols ≤ 3) (hB : xB many num L mf) (f : Nat) (IH : ∀ (n most : Int) (row : Int → Int), 1 ≤ n → n + (f : Nat) = many + 1 → iR most → -10 ≤ most → (∀ i, -1 ≤ row i ∧ row i ≤ 2) → Ci l g yX0_leastFrom (ws_ yX0_leastFrom cX0_leastFrom 6 (Option.some Jvm.ClassFile.FieldType.int)) (rmL (8 + f)) [.ref o, .int (iI n), .int (iI most)] (xW g o ax num kpt many cols chg brd old page pgM told enD row ways far hav wtd fnd mdT wnT sN sW sC sM drw kN kW kC kS kG kB hh L mf) (fun r w => ∃ row1 : Int → Int, (∀ i, i < n ∨ many < i → row1 i = row i) ∧ (∀ i, -1 ≤ row1 i ∧ row1 i ≤ 2) ∧ lsP (xkd num mf) (xco num mf) cols f n many row most r ∧ w = xW g o ax num kpt many cols chg brd old page pgM told enD row1 ways far hav wtd fnd mdT wnT sN sW sC sM drw kN kW kC kS kG kB hh L mf)) : ∀ (n most : Int) (row : Int → Int), 1 ≤ n → n + ((f + 1) : Nat) = many + 1 → iR most → -10 ≤ most → (∀ i, -1 ≤ row i ∧ row i ≤ 2) → Ci l g yX0_leastFrom (ws_ yX0_leastFrom cX0_leastFrom 6 (Option.some Jvm.ClassFile.FieldType.int)) (rmL (8 + (f + 1))) [.ref o, .int (iI n), .int (iI most)] (xW g o ax num kpt many cols chg brd old page pgM told enD row ways far hav wtd fnd mdT wnT sN sW sC sM drw kN kW kC kS kG kB hh L mf) (fun r w => ∃ row1 : Int → Int, (∀ i, i < n ∨ many < i → row1 i = row i) ∧ (∀ i, -1 ≤ row1 i ∧ row1 i ≤ 2) ∧ lsP (xkd num mf) (xco num mf) cols (f + 1) n many row most r ∧ w = xW g o ax num kpt many cols chg brd old page pgM told enD row1 ways far hav wtd fnd mdT wnT sN sW sC sM drw kN kW kC kS kG kB hh L mf) := by
  intro n most row hn hf0 hmo hmo2 hrow
  refine Ct.of (by decide) (Nat.le_of_ble_eq_true rfl) ?_
  intro Γ hl hg hf hrT
  subst hl hg
  have hf : Fx Γ RX0 cX0_leastFrom 6 := hf
  show T Γ (rmL (8 + (f + 1))) 6 0 0 (Qe Γ (rmL (8 + (f + 1))) _) _ 0 [(0, .ref o), (1, .int (iI n)), (2, .int (iI most))] []
  obtain ⟨a0, ha0, ma0, ka0, na0, ca0⟩ := hB.at (n := n) (by omega) (by omega)
  have x0 := xco_at (mf := mf) ha0
  refine tt_iload_n hf 1 dX0_leastFrom_0 rfl ?_
  refine tt_aload_n hf 0 dX0_leastFrom_1 rfl ?_
  refine gx_many hf dX0_leastFrom_2 ?_
  refine tt_icmp_le (tgt := 10) hf dX0_leastFrom_5 (by decide) (by omega) (by omega) (fun c5 => ?_) (fun c5 => ?_)
  · refine tt_ldc hf (99999) q380 (by decide) dX0_leastFrom_10 ?_
    refine tt_istore_n (lv' := [(3, .int (iI 99999)), (0, .ref o), (1, .int (iI n)), (2, .int (iI most))]) hf dX0_leastFrom_12 (by decide) rfl ?_
    refine tt_iconst hf dX0_leastFrom_13 ?_
    refine tt_istore (lv' := [(4, .int (iI 0)), (3, .int (iI 99999)), (0, .ref o), (1, .int (iI n)), (2, .int (iI most))]) hf dX0_leastFrom_14 (by decide) rfl ?_
    have lp : ∀ (N : Nat) (z : Int) (c : Int) (rr : Int → Int), (0 ≤ c ∧ c ≤ cols) → (0 ≤ z ∧ z ≤ 99999) → (∀ i, i < n ∨ many < i → rr i = row i) → (∀ i, -1 ≤ rr i ∧ rr i ≤ 2) → (lsI (xkd num mf) (xco num mf) cols f n many row most c z) → (cols - c).toNat < N → T Γ (rmL (8 + (f + 1))) 6 0 0 (Qe Γ (rmL (8 + (f + 1))) (fun vv w => ∃ r : Int, vv = some (.int (iI r)) ∧ iR r ∧ (∃ row1 : Int → Int, (∀ i, i < n ∨ many < i → row1 i = row i) ∧ (∀ i, -1 ≤ row1 i ∧ row1 i ≤ 2) ∧ lsP (xkd num mf) (xco num mf) cols (f + 1) n many row most r ∧ w = xW (xg Γ) o ax num kpt many cols chg brd old page pgM told enD row1 ways far hav wtd fnd mdT wnT sN sW sC sM drw kN kW kC kS kG kB hh L mf))) (xW (xg Γ) o ax num kpt many cols chg brd old page pgM told enD rr ways far hav wtd fnd mdT wnT sN sW sC sM drw kN kW kC kS kG kB hh L mf) 16 [(0, .ref o), (1, .int (iI n)), (2, .int (iI most)), (3, .int (iI z)), (4, .int (iI c))] [] := by
      intro N
      induction N with
      | zero => intro z c rr hc0 hz h1 hrr h2 hN; exact absurd hN (Nat.not_lt_zero _)
      | succ N ih =>
        intro z c rr hc0 hz h1 hrr h2 hN
        refine tt_iload hf 4 dX0_leastFrom_16 rfl ?_
        refine tt_aload_n hf 0 dX0_leastFrom_18 rfl ?_
        refine gx_cols hf dX0_leastFrom_19 ?_
        refine tt_icmp_ge (tgt := 112) hf dX0_leastFrom_22 (by decide) (by omega) (by omega) (fun c22 => ?_) (fun c22 => ?_)
        · refine tt_iload_n hf 3 dX0_leastFrom_112 rfl ?_
          exact tt_ireti hf hrT dX0_leastFrom_113 (Nat.le_refl _) (Nat.le_refl _) (by omega) ⟨rr, h1, hrr, lsI_end (by omega) (by have e : c = cols := (by omega); subst e; exact h2), rfl⟩
        · refine tt_aload_n hf 0 dX0_leastFrom_25 rfl ?_
          refine gx_num hf dX0_leastFrom_26 ?_
          refine tt_iload_n hf 1 dX0_leastFrom_29 rfl ?_
          refine lx_num hf (by omega) ha0 dX0_leastFrom_30 ?_
          refine gm_colour hf ma0 ka0 dX0_leastFrom_31 ?_
          refine tt_iconst hf dX0_leastFrom_34 ?_
          refine tt_icmp_eq (tgt := 52) hf dX0_leastFrom_35 (by decide) (by omega) (by omega) (fun c35 => ?_) (fun c35 => ?_)
          · refine tt_iconst hf dX0_leastFrom_52 ?_
            refine tt_goto (tgt := 57) hf dX0_leastFrom_53 (by decide) ?_
            refine tt_istore (lv' := [(5, .int (iI 0)), (0, .ref o), (1, .int (iI n)), (2, .int (iI most)), (3, .int (iI z)), (4, .int (iI c))]) hf dX0_leastFrom_57 (by decide) rfl ?_
            refine tt_aload_n hf 1 dX0_leastFrom_59 rfl ?_
            refine gx_row hf dX0_leastFrom_60 ?_
            refine tt_iload_n hf 2 dX0_leastFrom_63 rfl ?_
            refine tt_iload hf 5 dX0_leastFrom_64 rfl ?_
            refine sx_row hf (by omega) dX0_leastFrom_66 ?_
            refine tt_iload hf 0 dX0_leastFrom_67 rfl ?_
            refine tt_iload_n hf 3 dX0_leastFrom_69 rfl ?_
            refine tt_icmp_gt (tgt := 106) hf dX0_leastFrom_70 (by decide) (by omega) (by omega) (fun c70 => ?_) (fun c70 => ?_)
            · refine tt_iinc (lv' := [(4, .int (iI (c + 1))), (5, .int (iI 0)), (0, .ref o), (1, .int (iI n)), (2, .int (iI most)), (3, .int (iI z))]) hf 5 dX0_leastFrom_106 rfl (by decide) rfl ?_
              refine tt_goto (tgt := 16) hf dX0_leastFrom_109 (by decide) ?_
              refine tt_sub [2, 3, 4, 5, 0] rfl ?_
              exact ih z (c + 1) (uI rr n c) (by omega) hz (fun i hi => by rw [uI_n (by omega)]; exact h1 i hi) (uI_rng hrr (by omega)) (lsI_much h2 (by omega) (by omega) (by rw [x0]; first | rw [if_pos (by omega)]; omega | rw [if_neg (by omega)]; omega)) (by omega)
            · refine tt_aload_n hf 1 dX0_leastFrom_73 rfl ?_
              refine tt_iload_n hf 2 dX0_leastFrom_74 rfl ?_
              have eu : ∀ i, i ≤ n → uI rr n c i = uI row n c i := (fun i hi => by by_cases q : i = n; subst q; rw [uI_s, uI_s]; rw [uI_n q, uI_n q]; exact h1 i (by omega))
              have hbq := bd_rng (kd := (xkd num mf)) (row := uI rr n c) (s := n) (by omega)
              refine tt_callV0 (As := [.int (iI n)]) (rest := []) (q0 := 0) (ci := 0) hf (cx_badAt hm hB (uI_rng hrr (by omega)) (by omega)) lk_X0_X0_badAt hd_X0_badAt rfl rfl rfl ⟨rfl, rfl⟩ (rmL_ok (by omega) (by decide)) ⟨Nat.zero_le _, Nat.zero_le _⟩ (Nat.le_of_ble_eq_true rfl) dX0_leastFrom_75 rfl (kk_e (fun r75 => ?_))
              refine tt_if_ne (tgt := 106) hf dX0_leastFrom_78 (by decide) (by omega) (fun c78 => ?_) (fun c78 => ?_)
              · refine tt_iinc (lv' := [(4, .int (iI (c + 1))), (5, .int (iI 0)), (0, .ref o), (1, .int (iI n)), (2, .int (iI most)), (3, .int (iI z))]) hf 5 dX0_leastFrom_106 rfl (by decide) rfl ?_
                refine tt_goto (tgt := 16) hf dX0_leastFrom_109 (by decide) ?_
                refine tt_sub [2, 3, 4, 5, 0] rfl ?_
                exact ih z (c + 1) (uI rr n c) (by omega) hz (fun i hi => by rw [uI_n (by omega)]; exact h1 i hi) (uI_rng hrr (by omega)) (lsI_bad h2 (by rw [← bd_cg (s := n) (fun i _ hi => eu i hi)]; exact c78)) (by omega)
              · refine tt_iload_n hf 4 dX0_leastFrom_81 rfl ?_
                refine tt_iload hf 0 dX0_leastFrom_82 rfl ?_
                refine tt_aload_n hf 1 dX0_leastFrom_84 rfl ?_
                refine tt_iload_n hf 2 dX0_leastFrom_85 rfl ?_
                refine tt_iconst hf dX0_leastFrom_86 ?_
                refine tt_iadd hf dX0_leastFrom_87 ?_
                refine tt_iload_n hf 3 dX0_leastFrom_88 rfl ?_
                refine tt_iload_n hf 4 dX0_leastFrom_89 rfl ?_
                refine tt_iconst hf dX0_leastFrom_90 ?_
                refine tt_isub hf dX0_leastFrom_91 ?_
                refine tt_callS0 (As := [.int (iI most), .int (iI (z - 1))]) (rest := [.int (iI (n + 1)), .ref o, .int (iI 0), .int (iI z)]) hf (cj_min (by omega) (by omega)) lk_X0_J0_min hd_J0_min rfl ⟨rfl, rfl⟩ (rmL_ok (by omega) (by decide)) ⟨Nat.zero_le _, Nat.zero_le _⟩ (Nat.le_of_ble_eq_true rfl) dX0_leastFrom_92 rfl (kk_e (fun r92 => ?_))
                refine tt_iload hf 0 dX0_leastFrom_95 rfl ?_
                refine tt_isub hf dX0_leastFrom_97 ?_
                refine tt_callV0 (As := [.int (iI (n + 1)), .int (iI ((if most ≤ (z - 1) then most else (z - 1)) - 0))]) (rest := [.int (iI 0), .int (iI z)]) (q0 := 0) (ci := 0) hf (IH (n + 1) ((if most ≤ (z - 1) then most else (z - 1)) - 0) (uI rr n c) (by omega) (by omega) (by split <;> omega) (by split <;> omega) (uI_rng hrr (by omega))) lk_X0_X0_leastFrom hd_X0_leastFrom rfl rfl rfl ⟨rfl, rfl⟩ (rmL_ok (by omega) (by decide)) ⟨Nat.zero_le _, Nat.zero_le _⟩ (Nat.le_of_ble_eq_true rfl) dX0_leastFrom_98 rfl (kk_i (fun r98 w hr98 hp98 => ?_))
                obtain ⟨row98, p98, q98, l98, rfl⟩ := hp98
                have l98b := l98.2.2
                refine tt_iadd hf dX0_leastFrom_101 ?_
                refine tt_callS0 (As := [.int (iI z), .int (iI (0 + r98))]) (rest := []) hf (cj_min (by omega) (by omega)) lk_X0_J0_min hd_J0_min rfl ⟨rfl, rfl⟩ (rmL_ok (by omega) (by decide)) ⟨Nat.zero_le _, Nat.zero_le _⟩ (Nat.le_of_ble_eq_true rfl) dX0_leastFrom_102 rfl (kk_e (fun r102 => ?_))
                refine tt_istore_n (lv' := [(3, .int (iI (if z ≤ (0 + r98) then z else (0 + r98)))), (5, .int (iI 0)), (0, .ref o), (1, .int (iI n)), (2, .int (iI most)), (4, .int (iI c))]) hf dX0_leastFrom_105 (by decide) rfl ?_
                refine tt_iinc (lv' := [(4, .int (iI (c + 1))), (3, .int (iI (if z ≤ (0 + r98) then z else (0 + r98)))), (5, .int (iI 0)), (0, .ref o), (1, .int (iI n)), (2, .int (iI most))]) hf 5 dX0_leastFrom_106 rfl (by decide) rfl ?_
                refine tt_goto (tgt := 16) hf dX0_leastFrom_109 (by decide) ?_
                refine tt_sub [3, 4, 5, 1, 0] rfl ?_
                exact ih (if z ≤ (0 + r98) then z else (0 + r98)) (c + 1) row98 (by omega) (by split <;> omega) (fun i hi => by rw [p98 i (by omega), uI_n (by omega)]; exact h1 i hi) q98 (lsI_s h2 (by omega) (by omega) (by rw [← bd_cg (s := n) (fun i _ hi => eu i hi)]; exact c78) (mo := 0) (by rw [x0]; first | rw [if_pos (by omega)] | rw [if_neg (by omega)]) (lsP_irr (fun i hi => by by_cases q : i = n; subst q; rw [uI_s, uI_s]; rw [uI_n q, uI_n q]; exact h1 i (by omega)) (by omega) l98) rfl) (by omega)
          · refine tt_aload_n hf 0 dX0_leastFrom_38 rfl ?_
            refine gx_num hf dX0_leastFrom_39 ?_
            refine tt_iload_n hf 1 dX0_leastFrom_42 rfl ?_
            refine lx_num hf (by omega) ha0 dX0_leastFrom_43 ?_
            refine gm_colour hf ma0 ka0 dX0_leastFrom_44 ?_
            refine tt_iload hf 4 dX0_leastFrom_47 rfl ?_
            refine tt_icmp_ne (tgt := 56) hf dX0_leastFrom_49 (by decide) (by omega) (by omega) (fun c49 => ?_) (fun c49 => ?_)
            · refine tt_iconst hf dX0_leastFrom_56 ?_
              refine tt_istore (lv' := [(5, .int (iI 1)), (0, .ref o), (1, .int (iI n)), (2, .int (iI most)), (3, .int (iI z)), (4, .int (iI c))]) hf dX0_leastFrom_57 (by decide) rfl ?_
              refine tt_aload_n hf 1 dX0_leastFrom_59 rfl ?_
              refine gx_row hf dX0_leastFrom_60 ?_
              refine tt_iload_n hf 2 dX0_leastFrom_63 rfl ?_
              refine tt_iload hf 5 dX0_leastFrom_64 rfl ?_
              refine sx_row hf (by omega) dX0_leastFrom_66 ?_
              refine tt_iload hf 0 dX0_leastFrom_67 rfl ?_
              refine tt_iload_n hf 3 dX0_leastFrom_69 rfl ?_
              refine tt_icmp_gt (tgt := 106) hf dX0_leastFrom_70 (by decide) (by omega) (by omega) (fun c70 => ?_) (fun c70 => ?_)
              · refine tt_iinc (lv' := [(4, .int (iI (c + 1))), (5, .int (iI 1)), (0, .ref o), (1, .int (iI n)), (2, .int (iI most)), (3, .int (iI z))]) hf 5 dX0_leastFrom_106 rfl (by decide) rfl ?_
                refine tt_goto (tgt := 16) hf dX0_leastFrom_109 (by decide) ?_
                refine tt_sub [2, 3, 4, 5, 0] rfl ?_
                exact ih z (c + 1) (uI rr n c) (by omega) hz (fun i hi => by rw [uI_n (by omega)]; exact h1 i hi) (uI_rng hrr (by omega)) (lsI_much h2 (by omega) (by omega) (by rw [x0]; first | rw [if_pos (by omega)]; omega | rw [if_neg (by omega)]; omega)) (by omega)
              · refine tt_aload_n hf 1 dX0_leastFrom_73 rfl ?_
                refine tt_iload_n hf 2 dX0_leastFrom_74 rfl ?_
                have eu : ∀ i, i ≤ n → uI rr n c i = uI row n c i := (fun i hi => by by_cases q : i = n; subst q; rw [uI_s, uI_s]; rw [uI_n q, uI_n q]; exact h1 i (by omega))
                have hbq := bd_rng (kd := (xkd num mf)) (row := uI rr n c) (s := n) (by omega)
                refine tt_callV0 (As := [.int (iI n)]) (rest := []) (q0 := 0) (ci := 0) hf (cx_badAt hm hB (uI_rng hrr (by omega)) (by omega)) lk_X0_X0_badAt hd_X0_badAt rfl rfl rfl ⟨rfl, rfl⟩ (rmL_ok (by omega) (by decide)) ⟨Nat.zero_le _, Nat.zero_le _⟩ (Nat.le_of_ble_eq_true rfl) dX0_leastFrom_75 rfl (kk_e (fun r75 => ?_))
                refine tt_if_ne (tgt := 106) hf dX0_leastFrom_78 (by decide) (by omega) (fun c78 => ?_) (fun c78 => ?_)
                · refine tt_iinc (lv' := [(4, .int (iI (c + 1))), (5, .int (iI 1)), (0, .ref o), (1, .int (iI n)), (2, .int (iI most)), (3, .int (iI z))]) hf 5 dX0_leastFrom_106 rfl (by decide) rfl ?_
                  refine tt_goto (tgt := 16) hf dX0_leastFrom_109 (by decide) ?_
                  refine tt_sub [2, 3, 4, 5, 0] rfl ?_
                  exact ih z (c + 1) (uI rr n c) (by omega) hz (fun i hi => by rw [uI_n (by omega)]; exact h1 i hi) (uI_rng hrr (by omega)) (lsI_bad h2 (by rw [← bd_cg (s := n) (fun i _ hi => eu i hi)]; exact c78)) (by omega)
                · refine tt_iload_n hf 4 dX0_leastFrom_81 rfl ?_
                  refine tt_iload hf 0 dX0_leastFrom_82 rfl ?_
                  refine tt_aload_n hf 1 dX0_leastFrom_84 rfl ?_
                  refine tt_iload_n hf 2 dX0_leastFrom_85 rfl ?_
                  refine tt_iconst hf dX0_leastFrom_86 ?_
                  refine tt_iadd hf dX0_leastFrom_87 ?_
                  refine tt_iload_n hf 3 dX0_leastFrom_88 rfl ?_
                  refine tt_iload_n hf 4 dX0_leastFrom_89 rfl ?_
                  refine tt_iconst hf dX0_leastFrom_90 ?_
                  refine tt_isub hf dX0_leastFrom_91 ?_
                  refine tt_callS0 (As := [.int (iI most), .int (iI (z - 1))]) (rest := [.int (iI (n + 1)), .ref o, .int (iI 1), .int (iI z)]) hf (cj_min (by omega) (by omega)) lk_X0_J0_min hd_J0_min rfl ⟨rfl, rfl⟩ (rmL_ok (by omega) (by decide)) ⟨Nat.zero_le _, Nat.zero_le _⟩ (Nat.le_of_ble_eq_true rfl) dX0_leastFrom_92 rfl (kk_e (fun r92 => ?_))
                  refine tt_iload hf 0 dX0_leastFrom_95 rfl ?_
                  refine tt_isub hf dX0_leastFrom_97 ?_
                  refine tt_callV0 (As := [.int (iI (n + 1)), .int (iI ((if most ≤ (z - 1) then most else (z - 1)) - 1))]) (rest := [.int (iI 1), .int (iI z)]) (q0 := 0) (ci := 0) hf (IH (n + 1) ((if most ≤ (z - 1) then most else (z - 1)) - 1) (uI rr n c) (by omega) (by omega) (by split <;> omega) (by split <;> omega) (uI_rng hrr (by omega))) lk_X0_X0_leastFrom hd_X0_leastFrom rfl rfl rfl ⟨rfl, rfl⟩ (rmL_ok (by omega) (by decide)) ⟨Nat.zero_le _, Nat.zero_le _⟩ (Nat.le_of_ble_eq_true rfl) dX0_leastFrom_98 rfl (kk_i (fun r98 w hr98 hp98 => ?_))
                  obtain ⟨row98, p98, q98, l98, rfl⟩ := hp98
                  have l98b := l98.2.2
                  refine tt_iadd hf dX0_leastFrom_101 ?_
                  refine tt_callS0 (As := [.int (iI z), .int (iI (1 + r98))]) (rest := []) hf (cj_min (by omega) (by omega)) lk_X0_J0_min hd_J0_min rfl ⟨rfl, rfl⟩ (rmL_ok (by omega) (by decide)) ⟨Nat.zero_le _, Nat.zero_le _⟩ (Nat.le_of_ble_eq_true rfl) dX0_leastFrom_102 rfl (kk_e (fun r102 => ?_))
                  refine tt_istore_n (lv' := [(3, .int (iI (if z ≤ (1 + r98) then z else (1 + r98)))), (5, .int (iI 1)), (0, .ref o), (1, .int (iI n)), (2, .int (iI most)), (4, .int (iI c))]) hf dX0_leastFrom_105 (by decide) rfl ?_
                  refine tt_iinc (lv' := [(4, .int (iI (c + 1))), (3, .int (iI (if z ≤ (1 + r98) then z else (1 + r98)))), (5, .int (iI 1)), (0, .ref o), (1, .int (iI n)), (2, .int (iI most))]) hf 5 dX0_leastFrom_106 rfl (by decide) rfl ?_
                  refine tt_goto (tgt := 16) hf dX0_leastFrom_109 (by decide) ?_
                  refine tt_sub [3, 4, 5, 1, 0] rfl ?_
                  exact ih (if z ≤ (1 + r98) then z else (1 + r98)) (c + 1) row98 (by omega) (by split <;> omega) (fun i hi => by rw [p98 i (by omega), uI_n (by omega)]; exact h1 i hi) q98 (lsI_s h2 (by omega) (by omega) (by rw [← bd_cg (s := n) (fun i _ hi => eu i hi)]; exact c78) (mo := 1) (by rw [x0]; first | rw [if_pos (by omega)] | rw [if_neg (by omega)]) (lsP_irr (fun i hi => by by_cases q : i = n; subst q; rw [uI_s, uI_s]; rw [uI_n q, uI_n q]; exact h1 i (by omega)) (by omega) l98) rfl) (by omega)
            · refine tt_iconst hf dX0_leastFrom_52 ?_
              refine tt_goto (tgt := 57) hf dX0_leastFrom_53 (by decide) ?_
              refine tt_istore (lv' := [(5, .int (iI 0)), (0, .ref o), (1, .int (iI n)), (2, .int (iI most)), (3, .int (iI z)), (4, .int (iI c))]) hf dX0_leastFrom_57 (by decide) rfl ?_
              refine tt_aload_n hf 1 dX0_leastFrom_59 rfl ?_
              refine gx_row hf dX0_leastFrom_60 ?_
              refine tt_iload_n hf 2 dX0_leastFrom_63 rfl ?_
              refine tt_iload hf 5 dX0_leastFrom_64 rfl ?_
              refine sx_row hf (by omega) dX0_leastFrom_66 ?_
              refine tt_iload hf 0 dX0_leastFrom_67 rfl ?_
              refine tt_iload_n hf 3 dX0_leastFrom_69 rfl ?_
              refine tt_icmp_gt (tgt := 106) hf dX0_leastFrom_70 (by decide) (by omega) (by omega) (fun c70 => ?_) (fun c70 => ?_)
              · refine tt_iinc (lv' := [(4, .int (iI (c + 1))), (5, .int (iI 0)), (0, .ref o), (1, .int (iI n)), (2, .int (iI most)), (3, .int (iI z))]) hf 5 dX0_leastFrom_106 rfl (by decide) rfl ?_
                refine tt_goto (tgt := 16) hf dX0_leastFrom_109 (by decide) ?_
                refine tt_sub [2, 3, 4, 5, 0] rfl ?_
                exact ih z (c + 1) (uI rr n c) (by omega) hz (fun i hi => by rw [uI_n (by omega)]; exact h1 i hi) (uI_rng hrr (by omega)) (lsI_much h2 (by omega) (by omega) (by rw [x0]; first | rw [if_pos (by omega)]; omega | rw [if_neg (by omega)]; omega)) (by omega)
              · refine tt_aload_n hf 1 dX0_leastFrom_73 rfl ?_
                refine tt_iload_n hf 2 dX0_leastFrom_74 rfl ?_
                have eu : ∀ i, i ≤ n → uI rr n c i = uI row n c i := (fun i hi => by by_cases q : i = n; subst q; rw [uI_s, uI_s]; rw [uI_n q, uI_n q]; exact h1 i (by omega))
                have hbq := bd_rng (kd := (xkd num mf)) (row := uI rr n c) (s := n) (by omega)
                refine tt_callV0 (As := [.int (iI n)]) (rest := []) (q0 := 0) (ci := 0) hf (cx_badAt hm hB (uI_rng hrr (by omega)) (by omega)) lk_X0_X0_badAt hd_X0_badAt rfl rfl rfl ⟨rfl, rfl⟩ (rmL_ok (by omega) (by decide)) ⟨Nat.zero_le _, Nat.zero_le _⟩ (Nat.le_of_ble_eq_true rfl) dX0_leastFrom_75 rfl (kk_e (fun r75 => ?_))
                refine tt_if_ne (tgt := 106) hf dX0_leastFrom_78 (by decide) (by omega) (fun c78 => ?_) (fun c78 => ?_)
                · refine tt_iinc (lv' := [(4, .int (iI (c + 1))), (5, .int (iI 0)), (0, .ref o), (1, .int (iI n)), (2, .int (iI most)), (3, .int (iI z))]) hf 5 dX0_leastFrom_106 rfl (by decide) rfl ?_
                  refine tt_goto (tgt := 16) hf dX0_leastFrom_109 (by decide) ?_
                  refine tt_sub [2, 3, 4, 5, 0] rfl ?_
                  exact ih z (c + 1) (uI rr n c) (by omega) hz (fun i hi => by rw [uI_n (by omega)]; exact h1 i hi) (uI_rng hrr (by omega)) (lsI_bad h2 (by rw [← bd_cg (s := n) (fun i _ hi => eu i hi)]; exact c78)) (by omega)
                · refine tt_iload_n hf 4 dX0_leastFrom_81 rfl ?_
                  refine tt_iload hf 0 dX0_leastFrom_82 rfl ?_
                  refine tt_aload_n hf 1 dX0_leastFrom_84 rfl ?_
                  refine tt_iload_n hf 2 dX0_leastFrom_85 rfl ?_
                  refine tt_iconst hf dX0_leastFrom_86 ?_
                  refine tt_iadd hf dX0_leastFrom_87 ?_
                  refine tt_iload_n hf 3 dX0_leastFrom_88 rfl ?_
                  refine tt_iload_n hf 4 dX0_leastFrom_89 rfl ?_
                  refine tt_iconst hf dX0_leastFrom_90 ?_
                  refine tt_isub hf dX0_leastFrom_91 ?_
                  refine tt_callS0 (As := [.int (iI most), .int (iI (z - 1))]) (rest := [.int (iI (n + 1)), .ref o, .int (iI 0), .int (iI z)]) hf (cj_min (by omega) (by omega)) lk_X0_J0_min hd_J0_min rfl ⟨rfl, rfl⟩ (rmL_ok (by omega) (by decide)) ⟨Nat.zero_le _, Nat.zero_le _⟩ (Nat.le_of_ble_eq_true rfl) dX0_leastFrom_92 rfl (kk_e (fun r92 => ?_))
                  refine tt_iload hf 0 dX0_leastFrom_95 rfl ?_
                  refine tt_isub hf dX0_leastFrom_97 ?_
                  refine tt_callV0 (As := [.int (iI (n + 1)), .int (iI ((if most ≤ (z - 1) then most else (z - 1)) - 0))]) (rest := [.int (iI 0), .int (iI z)]) (q0 := 0) (ci := 0) hf (IH (n + 1) ((if most ≤ (z - 1) then most else (z - 1)) - 0) (uI rr n c) (by omega) (by omega) (by split <;> omega) (by split <;> omega) (uI_rng hrr (by omega))) lk_X0_X0_leastFrom hd_X0_leastFrom rfl rfl rfl ⟨rfl, rfl⟩ (rmL_ok (by omega) (by decide)) ⟨Nat.zero_le _, Nat.zero_le _⟩ (Nat.le_of_ble_eq_true rfl) dX0_leastFrom_98 rfl (kk_i (fun r98 w hr98 hp98 => ?_))
                  obtain ⟨row98, p98, q98, l98, rfl⟩ := hp98
                  have l98b := l98.2.2
                  refine tt_iadd hf dX0_leastFrom_101 ?_
                  refine tt_callS0 (As := [.int (iI z), .int (iI (0 + r98))]) (rest := []) hf (cj_min (by omega) (by omega)) lk_X0_J0_min hd_J0_min rfl ⟨rfl, rfl⟩ (rmL_ok (by omega) (by decide)) ⟨Nat.zero_le _, Nat.zero_le _⟩ (Nat.le_of_ble_eq_true rfl) dX0_leastFrom_102 rfl (kk_e (fun r102 => ?_))
                  refine tt_istore_n (lv' := [(3, .int (iI (if z ≤ (0 + r98) then z else (0 + r98)))), (5, .int (iI 0)), (0, .ref o), (1, .int (iI n)), (2, .int (iI most)), (4, .int (iI c))]) hf dX0_leastFrom_105 (by decide) rfl ?_
                  refine tt_iinc (lv' := [(4, .int (iI (c + 1))), (3, .int (iI (if z ≤ (0 + r98) then z else (0 + r98)))), (5, .int (iI 0)), (0, .ref o), (1, .int (iI n)), (2, .int (iI most))]) hf 5 dX0_leastFrom_106 rfl (by decide) rfl ?_
                  refine tt_goto (tgt := 16) hf dX0_leastFrom_109 (by decide) ?_
                  refine tt_sub [3, 4, 5, 1, 0] rfl ?_
                  exact ih (if z ≤ (0 + r98) then z else (0 + r98)) (c + 1) row98 (by omega) (by split <;> omega) (fun i hi => by rw [p98 i (by omega), uI_n (by omega)]; exact h1 i hi) q98 (lsI_s h2 (by omega) (by omega) (by rw [← bd_cg (s := n) (fun i _ hi => eu i hi)]; exact c78) (mo := 0) (by rw [x0]; first | rw [if_pos (by omega)] | rw [if_neg (by omega)]) (lsP_irr (fun i hi => by by_cases q : i = n; subst q; rw [uI_s, uI_s]; rw [uI_n q, uI_n q]; exact h1 i (by omega)) (by omega) l98) rfl) (by omega)
    refine tt_sub [2, 3, 4, 1, 0] rfl ?_
    exact lp _ 99999 0 row (by omega) (by omega) (fun _ _ => rfl) hrow lsI_0 (Nat.lt_succ_self _)
  · exact absurd c5 (by omega)
theorem cx_leastFrom {l : Launch} {g : tG} {o : Nat} {ax : Nat → Nat} {num kpt : Int → Option Nat} {many cols chg brd old : Int} {page : Int → Int} {pgM told enD ways far : Int} {hav : Int → Int} {wtd : Int} {fnd : Int → Int} {mdT wnT : Int} {sN sW sC : Int → Int} {sM drw : Int} {kN kW kC : Int → Int} {kS kG kB : Int} {hh : Int64} {L : List Nat} {mf : Nat → Nat × Int × Int × Int} (hm : 0 ≤ many ∧ many ≤ 10) (hc : 2 ≤ cols ∧ cols ≤ 3) (hB : xB many num L mf) (f : Nat) : ∀ (n most : Int) (row : Int → Int), 1 ≤ n → n + (f : Nat) = many + 1 → iR most → -10 ≤ most → (∀ i, -1 ≤ row i ∧ row i ≤ 2) → Ci l g yX0_leastFrom (ws_ yX0_leastFrom cX0_leastFrom 6 (Option.some Jvm.ClassFile.FieldType.int)) (rmL (8 + f)) [.ref o, .int (iI n), .int (iI most)] (xW g o ax num kpt many cols chg brd old page pgM told enD row ways far hav wtd fnd mdT wnT sN sW sC sM drw kN kW kC kS kG kB hh L mf) (fun r w => ∃ row1 : Int → Int, (∀ i, i < n ∨ many < i → row1 i = row i) ∧ (∀ i, -1 ≤ row1 i ∧ row1 i ≤ 2) ∧ lsP (xkd num mf) (xco num mf) cols f n many row most r ∧ w = xW g o ax num kpt many cols chg brd old page pgM told enD row1 ways far hav wtd fnd mdT wnT sN sW sC sM drw kN kW kC kS kG kB hh L mf) := by
  induction f with
  | zero => exact cx_leastFrom_0 hm hc hB
  | succ f ih => exact cx_leastFrom_s hm hc hB f ih
set_option maxHeartbeats 4000000 in
set_option maxRecDepth 100000 in
theorem cx_barest {l : Launch} {g : tG} {o : Nat} {ax : Nat → Nat} {num kpt : Int → Option Nat} {many cols chg brd old : Int} {page : Int → Int} {pgM told enD : Int} {row : Int → Int} {ways far : Int} {hav : Int → Int} {wtd : Int} {fnd : Int → Int} {mdT wnT : Int} {sN sW sC : Int → Int} {sM drw : Int} {kN kW kC : Int → Int} {kS kG kB : Int} {hh : Int64} {L : List Nat} {mf : Nat → Nat × Int × Int × Int}  (hm : 0 ≤ many ∧ many ≤ 10) (hrow : ∀ i, -1 ≤ row i ∧ row i ≤ 2) : Ce l g yX0_barest (ws_ yX0_barest cX0_barest 2 (Option.some Jvm.ClassFile.FieldType.int)) (rmL 1) [.ref o] (xW g o ax num kpt many cols chg brd old page pgM told enD row ways far hav wtd fnd mdT wnT sN sW sC sM drw kN kW kC kS kG kB hh L mf) (fb row many.toNat 1) (xW g o ax num kpt many cols chg brd old page pgM told enD row ways far hav wtd fnd mdT wnT sN sW sC sM drw kN kW kC kS kG kB hh L mf) := by
  refine Ct.of (by decide) (Nat.le_of_ble_eq_true rfl) ?_
  intro Γ hl hg hf hrT
  subst hl hg
  have hf : Fx Γ RX0 cX0_barest 2 := hf
  show T Γ (rmL 1) 2 0 0 (Qe Γ (rmL 1) _) _ 0 [(0, .ref o)] []
  have lp : ∀ (N : Nat) (i : Int), (1 ≤ i ∧ i ≤ many + 1) → (fb row many.toNat 1 = fb row (many + 1 - i).toNat i) → (11 - i).toNat < N → T Γ (rmL 1) 2 0 0 (Qe Γ (rmL 1) (fun vv w => ∃ r : Int, vv = some (.int (iI r)) ∧ iR r ∧ r = (fb row many.toNat 1) ∧ w = xW (xg Γ) o ax num kpt many cols chg brd old page pgM told enD row ways far hav wtd fnd mdT wnT sN sW sC sM drw kN kW kC kS kG kB hh L mf)) (xW (xg Γ) o ax num kpt many cols chg brd old page pgM told enD row ways far hav wtd fnd mdT wnT sN sW sC sM drw kN kW kC kS kG kB hh L mf) 2 [(0, .ref o), (1, .int (iI i))] [] := by
    intro N
    induction N with
    | zero => intro i hi hb hN; exact absurd hN (Nat.not_lt_zero _)
    | succ N ih =>
      intro i hi hb hN
      have hri := hrow i
      refine tt_iload_n hf 1 dX0_barest_2 rfl ?_
      refine tt_aload_n hf 0 dX0_barest_3 rfl ?_
      refine gx_many hf dX0_barest_4 ?_
      refine tt_icmp_gt (tgt := 26) hf dX0_barest_7 (by decide) (by omega) (by omega) (fun c7 => ?_) (fun c7 => ?_)
      · refine tt_iload_n hf 1 dX0_barest_26 rfl ?_
        exact tt_ireti hf hrT dX0_barest_27 (Nat.le_refl _) (Nat.le_refl _) (by omega) ⟨(by rw [hb, show (many + 1 - i).toNat = 0 by omega]; rfl), rfl⟩
      · refine tt_aload_n hf 0 dX0_barest_10 rfl ?_
        refine gx_row hf dX0_barest_11 ?_
        refine tt_iload_n hf 1 dX0_barest_14 rfl ?_
        refine lx_row hf (by omega) dX0_barest_15 ?_
        refine tt_iconst hf dX0_barest_16 ?_
        refine tt_icmp_eq (tgt := 26) hf dX0_barest_17 (by decide) (by omega) (by omega) (fun c17 => ?_) (fun c17 => ?_)
        · refine tt_iload_n hf 1 dX0_barest_26 rfl ?_
          exact tt_ireti hf hrT dX0_barest_27 (Nat.le_refl _) (Nat.le_refl _) (by omega) ⟨(by rw [hb, show (many + 1 - i).toNat = (many + 1 - (i + 1)).toNat + 1 by omega]; simp only [fb]; rw [if_pos c17]), rfl⟩
        · refine tt_iinc (lv' := [(1, .int (iI (i + 1))), (0, .ref o)]) hf 1 dX0_barest_20 rfl (by decide) rfl ?_
          refine tt_goto (tgt := 2) hf dX0_barest_23 (by decide) ?_
          refine tt_sub [1, 0] rfl ?_
          exact ih (i + 1) (by omega) (by rw [hb, show (many + 1 - i).toNat = (many + 1 - (i + 1)).toNat + 1 by omega]; simp only [fb]; rw [if_neg c17]) (by omega)
  refine tt_iconst hf dX0_barest_0 ?_
  refine tt_istore_n (lv' := [(1, .int (iI 1)), (0, .ref o)]) hf dX0_barest_1 (by decide) rfl ?_
  refine tt_sub [1, 0] rfl ?_
  exact lp _ 1 (by omega) (by rw [show many + 1 - 1 = many by omega]) (Nat.lt_succ_self _)
set_option maxHeartbeats 4000000 in
set_option maxRecDepth 100000 in
theorem cx_winning_s {l : Launch} {g : tG} {o : Nat} {ax : Nat → Nat} {num kpt : Int → Option Nat} {many cols chg brd old : Int} {page : Int → Int} {pgM told enD ways far : Int} {hav : Int → Int} {wtd : Int} {fnd : Int → Int} {mdT wnT : Int} {sN sW sC : Int → Int} {sM drw : Int} {kN kW kC : Int → Int} {kS kG kB : Int} {hh : Int64} {L : List Nat} {mf : Nat → Nat × Int × Int × Int} (hm : 0 ≤ many ∧ many ≤ 10) (hc : 2 ≤ cols ∧ cols ≤ 3) (hB : xB many num L mf) (G : Nat) (IH : ∀ (row : Int → Int), brN row many.toNat + 1 ≤ (G : Int) → (∀ i, -1 ≤ row i ∧ row i ≤ 2) → Ce l g yX0_winning (ws_ yX0_winning cX0_winning 4 (Option.some Jvm.ClassFile.FieldType.int)) (rmL (9 + G)) [.ref o] (xW g o ax num kpt many cols chg brd old page pgM told enD row ways far hav wtd fnd mdT wnT sN sW sC sM drw kN kW kC kS kG kB hh L mf) (wnX (xkd num mf) cols many 10 row) (xW g o ax num kpt many cols chg brd old page pgM told enD row ways far hav wtd fnd mdT wnT sN sW sC sM drw kN kW kC kS kG kB hh L mf)) : ∀ (row : Int → Int), brN row many.toNat ≤ (G : Int) → (∀ i, -1 ≤ row i ∧ row i ≤ 2) → Ce l g yX0_winning (ws_ yX0_winning cX0_winning 4 (Option.some Jvm.ClassFile.FieldType.int)) (rmL (10 + G)) [.ref o] (xW g o ax num kpt many cols chg brd old page pgM told enD row ways far hav wtd fnd mdT wnT sN sW sC sM drw kN kW kC kS kG kB hh L mf) (wnX (xkd num mf) cols many 10 row) (xW g o ax num kpt many cols chg brd old page pgM told enD row ways far hav wtd fnd mdT wnT sN sW sC sM drw kN kW kC kS kG kB hh L mf) := by
  intro row hG hrow
  refine Ct.of (by decide) (Nat.le_of_ble_eq_true rfl) ?_
  intro Γ hl hg hf hrT
  subst hl hg
  have hf : Fx Γ RX0 cX0_winning 4 := hf
  show T Γ (rmL (10 + G)) 4 0 0 (Qe Γ (rmL (10 + G)) _) _ 0 [(0, .ref o)] []
  have hfb := fb_at (row := row) many.toNat 1
  obtain ⟨b, hb⟩ : ∃ b, b = fb row many.toNat 1 := ⟨_, rfl⟩
  rw [← hb] at hfb
  have hbr := brN_rng row many.toNat
  have hb1 : b ≤ many → ∀ c, 0 ≤ c → brN (uI row b c) many.toNat = brN row many.toNat - 1 := fun h c h0 => by rw [hb] at h ⊢; exact brN_fb hm.1 c h0 h
  have hE : wnX (xkd num mf) cols many 10 row = if b ≤ many then fC (fun c => decide (bu (xkd num mf) (uI row b c) many.toNat = 0 ∧ wnX (xkd num mf) cols many 10 (uI row b c) = -1)) cols cols.toNat else -1 := by
    rw [wnX_10, ← hb]
    by_cases q : b ≤ many
    · rw [if_pos q, if_pos q]
      refine fC_cg _ (by omega) (fun c h0 h1 => ?_)
      have := hb1 q c h0
      rw [wnX_g (by omega) (by omega) 9 10 (uI row b c) (by omega) (by omega)]
    · rw [if_neg q, if_neg q]
  refine tt_aload_n hf 0 dX0_winning_0 rfl ?_
  refine tt_callV0 (As := []) (rest := []) (q0 := 0) (ci := 0) hf (cx_barest hm hrow) lk_X0_X0_barest hd_X0_barest rfl rfl rfl ⟨rfl, rfl⟩ (rmL_ok (by omega) (by decide)) ⟨Nat.zero_le _, Nat.zero_le _⟩ (Nat.le_of_ble_eq_true rfl) dX0_winning_1 rfl (kk_e (fun r1 => ?_))
  refine tt_top (z' := b) hb.symm ?_
  refine tt_istore_n (lv' := [(1, .int (iI b)), (0, .ref o)]) hf dX0_winning_4 (by decide) rfl ?_
  refine tt_iconst hf dX0_winning_5 ?_
  refine tt_istore_n (lv' := [(2, .int (iI (-1))), (1, .int (iI b)), (0, .ref o)]) hf dX0_winning_6 (by decide) rfl ?_
  refine tt_iconst hf dX0_winning_7 ?_
  refine tt_istore_n (lv' := [(3, .int (iI 0)), (2, .int (iI (-1))), (1, .int (iI b)), (0, .ref o)]) hf dX0_winning_8 (by decide) rfl ?_
  have lp : ∀ (N : Nat) (z : Int) (c : Int) (rr : Int → Int), (0 ≤ c ∧ c ≤ cols) → (∀ v, uI rr b v = uI row b v) → (∀ i, -1 ≤ rr i ∧ rr i ≤ 2) → (many < b → rr = row) → (-1 ≤ z ∧ z ≤ 2) → ((z = -1 ∧ fC (fun c => decide (bu (xkd num mf) (uI row b c) many.toNat = 0 ∧ wnX (xkd num mf) cols many 10 (uI row b c) = -1)) cols cols.toNat = fC (fun c => decide (bu (xkd num mf) (uI row b c) many.toNat = 0 ∧ wnX (xkd num mf) cols many 10 (uI row b c) = -1)) cols (cols - c).toNat) ∨ (0 ≤ z ∧ fC (fun c => decide (bu (xkd num mf) (uI row b c) many.toNat = 0 ∧ wnX (xkd num mf) cols many 10 (uI row b c) = -1)) cols cols.toNat = z)) → (many < b → z = -1) → (cols - c).toNat < N → T Γ (rmL (10 + G)) 4 0 0 (Qe Γ (rmL (10 + G)) (fun vv w => ∃ r : Int, vv = some (.int (iI r)) ∧ iR r ∧ r = (wnX (xkd num mf) cols many 10 row) ∧ w = xW (xg Γ) o ax num kpt many cols chg brd old page pgM told enD row ways far hav wtd fnd mdT wnT sN sW sC sM drw kN kW kC kS kG kB hh L mf)) (xW (xg Γ) o ax num kpt many cols chg brd old page pgM told enD rr ways far hav wtd fnd mdT wnT sN sW sC sM drw kN kW kC kS kG kB hh L mf) 9 [(0, .ref o), (1, .int (iI b)), (2, .int (iI z)), (3, .int (iI c))] [] := by
    intro N
    induction N with
    | zero => intro z c rr hc0 hr hrr hrb hzr hz hzb hN; exact absurd hN (Nat.not_lt_zero _)
    | succ N ih =>
      intro z c rr hc0 hr hrr hrb hzr hz hzb hN
      refine tt_iload_n hf 3 dX0_winning_9 rfl ?_
      refine tt_aload_n hf 0 dX0_winning_10 rfl ?_
      refine gx_cols hf dX0_winning_11 ?_
      refine tt_icmp_ge (tgt := 68) hf dX0_winning_14 (by decide) (by omega) (by omega) (fun c14 => ?_) (fun c14 => ?_)
      · refine tt_iload_n hf 1 dX0_winning_68 rfl ?_
        refine tt_aload_n hf 0 dX0_winning_69 rfl ?_
        refine gx_many hf dX0_winning_70 ?_
        refine tt_icmp_gt (tgt := 83) hf dX0_winning_73 (by decide) (by omega) (by omega) (fun c73 => ?_) (fun c73 => ?_)
        · refine tt_iload_n hf 2 dX0_winning_83 rfl ?_
          exact tt_ireti hf hrT dX0_winning_84 (Nat.le_refl _) (Nat.le_refl _) (by omega) ⟨(by rw [hE, if_neg (by omega)]; exact hzb (by omega)), (by rw [hrb (by omega)])⟩
        · refine tt_aload_n hf 0 dX0_winning_76 rfl ?_
          refine gx_row hf dX0_winning_77 ?_
          refine tt_iload_n hf 1 dX0_winning_80 rfl ?_
          refine tt_iconst hf dX0_winning_81 ?_
          refine sx_row hf (by omega) dX0_winning_82 ?_
          refine tt_iload_n hf 2 dX0_winning_83 rfl ?_
          exact tt_ireti hf hrT dX0_winning_84 (Nat.le_refl _) (Nat.le_refl _) (by omega) ⟨(by rw [hE, if_pos (by omega)]; rcases hz with q | q; have e : c = cols := (by omega); rw [q.2, e, show (cols - cols).toNat = 0 by omega, q.1]; rfl; exact q.2.symm), (by rw [hr (-1), uI_e (hfb.2.1 (by omega))])⟩
      · refine tt_iload_n hf 1 dX0_winning_17 rfl ?_
        refine tt_aload_n hf 0 dX0_winning_18 rfl ?_
        refine gx_many hf dX0_winning_19 ?_
        refine tt_icmp_gt (tgt := 68) hf dX0_winning_22 (by decide) (by omega) (by omega) (fun c22 => ?_) (fun c22 => ?_)
        · refine tt_iload_n hf 1 dX0_winning_68 rfl ?_
          refine tt_aload_n hf 0 dX0_winning_69 rfl ?_
          refine gx_many hf dX0_winning_70 ?_
          refine tt_icmp_gt (tgt := 83) hf dX0_winning_73 (by decide) (by omega) (by omega) (fun c73 => ?_) (fun c73 => ?_)
          · refine tt_iload_n hf 2 dX0_winning_83 rfl ?_
            exact tt_ireti hf hrT dX0_winning_84 (Nat.le_refl _) (Nat.le_refl _) (by omega) ⟨(by rw [hE, if_neg (by omega)]; exact hzb (by omega)), (by rw [hrb (by omega)])⟩
          · refine tt_aload_n hf 0 dX0_winning_76 rfl ?_
            refine gx_row hf dX0_winning_77 ?_
            refine tt_iload_n hf 1 dX0_winning_80 rfl ?_
            refine tt_iconst hf dX0_winning_81 ?_
            refine sx_row hf (by omega) dX0_winning_82 ?_
            refine tt_iload_n hf 2 dX0_winning_83 rfl ?_
            exact tt_ireti hf hrT dX0_winning_84 (Nat.le_refl _) (Nat.le_refl _) (by omega) ⟨(by rw [hE, if_pos (by omega)]; rcases hz with q | q; have e : c = cols := (by omega); rw [q.2, e, show (cols - cols).toNat = 0 by omega, q.1]; rfl; exact q.2.symm), (by rw [hr (-1), uI_e (hfb.2.1 (by omega))])⟩
        · refine tt_iload_n hf 2 dX0_winning_25 rfl ?_
          refine tt_iconst hf dX0_winning_26 ?_
          refine tt_icmp_ne (tgt := 68) hf dX0_winning_27 (by decide) (by omega) (by omega) (fun c27 => ?_) (fun c27 => ?_)
          · refine tt_iload_n hf 1 dX0_winning_68 rfl ?_
            refine tt_aload_n hf 0 dX0_winning_69 rfl ?_
            refine gx_many hf dX0_winning_70 ?_
            refine tt_icmp_gt (tgt := 83) hf dX0_winning_73 (by decide) (by omega) (by omega) (fun c73 => ?_) (fun c73 => ?_)
            · refine tt_iload_n hf 2 dX0_winning_83 rfl ?_
              exact tt_ireti hf hrT dX0_winning_84 (Nat.le_refl _) (Nat.le_refl _) (by omega) ⟨(by rw [hE, if_neg (by omega)]; exact hzb (by omega)), (by rw [hrb (by omega)])⟩
            · refine tt_aload_n hf 0 dX0_winning_76 rfl ?_
              refine gx_row hf dX0_winning_77 ?_
              refine tt_iload_n hf 1 dX0_winning_80 rfl ?_
              refine tt_iconst hf dX0_winning_81 ?_
              refine sx_row hf (by omega) dX0_winning_82 ?_
              refine tt_iload_n hf 2 dX0_winning_83 rfl ?_
              exact tt_ireti hf hrT dX0_winning_84 (Nat.le_refl _) (Nat.le_refl _) (by omega) ⟨(by rw [hE, if_pos (by omega)]; rcases hz with q | q; have e : c = cols := (by omega); rw [q.2, e, show (cols - cols).toNat = 0 by omega, q.1]; rfl; exact q.2.symm), (by rw [hr (-1), uI_e (hfb.2.1 (by omega))])⟩
          · have hzz : fC (fun c => decide (bu (xkd num mf) (uI row b c) many.toNat = 0 ∧ wnX (xkd num mf) cols many 10 (uI row b c) = -1)) cols cols.toNat = fC (fun c => decide (bu (xkd num mf) (uI row b c) many.toNat = 0 ∧ wnX (xkd num mf) cols many 10 (uI row b c) = -1)) cols (cols - c).toNat := by rcases hz with q | q; exact q.2; exact absurd q.1 (by omega)
            have hub := hb1 (by omega) c (by omega)
            have hbu := bu_rng (xkd num mf) (uI rr b c) many.toNat
            have hbq : ((many.toNat : Int) * (many.toNat : Int)) ≤ 10 * 10 := Int.mul_le_mul (by omega) (by omega) (by omega) (by omega)
            refine tt_aload_n hf 0 dX0_winning_30 rfl ?_
            refine gx_row hf dX0_winning_31 ?_
            refine tt_iload_n hf 1 dX0_winning_34 rfl ?_
            refine tt_iload_n hf 3 dX0_winning_35 rfl ?_
            refine sx_row hf (by omega) dX0_winning_36 ?_
            refine tt_aload_n hf 0 dX0_winning_37 rfl ?_
            refine tt_aload_n hf 0 dX0_winning_38 rfl ?_
            refine gx_many hf dX0_winning_39 ?_
            refine tt_callV0 (As := [.int (iI many)]) (rest := []) (q0 := 0) (ci := 0) hf (cx_badUpTo hm hB (uI_rng hrr (by omega)) (by omega)) lk_X0_X0_badUpTo hd_X0_badUpTo rfl rfl rfl ⟨rfl, rfl⟩ (rmL_ok (by omega) (by decide)) ⟨Nat.zero_le _, Nat.zero_le _⟩ (Nat.le_of_ble_eq_true rfl) dX0_winning_42 rfl (kk_e (fun r42 => ?_))
            refine tt_if_ne (tgt := 60) hf dX0_winning_45 (by decide) (by omega) (fun c45 => ?_) (fun c45 => ?_)
            · refine tt_iconst hf dX0_winning_60 ?_
              refine tt_istore_n (lv' := [(2, .int (iI (-1))), (0, .ref o), (1, .int (iI b)), (3, .int (iI c))]) hf dX0_winning_61 (by decide) rfl ?_
              refine tt_iinc (lv' := [(3, .int (iI (c + 1))), (2, .int (iI (-1))), (0, .ref o), (1, .int (iI b))]) hf 3 dX0_winning_62 rfl (by decide) rfl ?_
              refine tt_goto (tgt := 9) hf dX0_winning_65 (by decide) ?_
              refine tt_sub [2, 3, 1, 0] rfl ?_
              exact ih (-1) (c + 1) (uI rr b c) (by omega) (fun v => by rw [uI_u]; exact hr v) (uI_rng hrr (by omega)) (fun q => absurd q (by omega)) (by omega) (Or.inl ⟨rfl, by rw [hzz, fC_s (by omega), if_neg (by rw [decide_eq_true_eq, ← hr c]; exact fun q => absurd q.1 c45)]⟩) (fun q => absurd q (by omega)) (by omega)
            · refine tt_aload_n hf 0 dX0_winning_48 rfl ?_
              refine tt_callV0 (As := []) (rest := []) (q0 := 0) (ci := 0) hf (IH (uI rr b c) (by rw [hr c]; omega) (uI_rng hrr (by omega))) lk_X0_X0_winning hd_X0_winning rfl rfl rfl ⟨rfl, rfl⟩ (rmL_ok (by omega) (by decide)) ⟨Nat.zero_le _, Nat.zero_le _⟩ (Nat.le_of_ble_eq_true rfl) dX0_winning_49 rfl (kk_e (fun r49 => ?_))
              refine tt_iconst hf dX0_winning_52 ?_
              refine tt_icmp_ne (tgt := 60) hf dX0_winning_53 (by decide) (by omega) (by omega) (fun c53 => ?_) (fun c53 => ?_)
              · refine tt_iconst hf dX0_winning_60 ?_
                refine tt_istore_n (lv' := [(2, .int (iI (-1))), (0, .ref o), (1, .int (iI b)), (3, .int (iI c))]) hf dX0_winning_61 (by decide) rfl ?_
                refine tt_iinc (lv' := [(3, .int (iI (c + 1))), (2, .int (iI (-1))), (0, .ref o), (1, .int (iI b))]) hf 3 dX0_winning_62 rfl (by decide) rfl ?_
                refine tt_goto (tgt := 9) hf dX0_winning_65 (by decide) ?_
                refine tt_sub [2, 3, 1, 0] rfl ?_
                exact ih (-1) (c + 1) (uI rr b c) (by omega) (fun v => by rw [uI_u]; exact hr v) (uI_rng hrr (by omega)) (fun q => absurd q (by omega)) (by omega) (Or.inl ⟨rfl, by rw [hzz, fC_s (by omega), if_neg (by rw [decide_eq_true_eq, ← hr c]; exact fun q => absurd q.2 c53)]⟩) (fun q => absurd q (by omega)) (by omega)
              · refine tt_iload_n hf 3 dX0_winning_56 rfl ?_
                refine tt_goto (tgt := 61) hf dX0_winning_57 (by decide) ?_
                refine tt_istore_n (lv' := [(2, .int (iI c)), (0, .ref o), (1, .int (iI b)), (3, .int (iI c))]) hf dX0_winning_61 (by decide) rfl ?_
                refine tt_iinc (lv' := [(3, .int (iI (c + 1))), (2, .int (iI c)), (0, .ref o), (1, .int (iI b))]) hf 3 dX0_winning_62 rfl (by decide) rfl ?_
                refine tt_goto (tgt := 9) hf dX0_winning_65 (by decide) ?_
                refine tt_sub [2, 3, 1, 0] rfl ?_
                exact ih c (c + 1) (uI rr b c) (by omega) (fun v => by rw [uI_u]; exact hr v) (uI_rng hrr (by omega)) (fun q => absurd q (by omega)) (by omega) (Or.inr ⟨by omega, by rw [hzz, fC_s (by omega), if_pos (by rw [decide_eq_true_eq, ← hr c]; exact ⟨c45, c53⟩)]⟩) (fun q => absurd q (by omega)) (by omega)
  refine tt_sub [3, 2, 1, 0] rfl ?_
  exact lp _ (-1) 0 row (by omega) (fun _ => rfl) hrow (fun _ => rfl) (by omega) (Or.inl ⟨rfl, by rw [show cols - 0 = cols by omega]⟩) (fun _ => rfl) (Nat.lt_succ_self _)
theorem cx_winning {l : Launch} {g : tG} {o : Nat} {ax : Nat → Nat} {num kpt : Int → Option Nat} {many cols chg brd old : Int} {page : Int → Int} {pgM told enD ways far : Int} {hav : Int → Int} {wtd : Int} {fnd : Int → Int} {mdT wnT : Int} {sN sW sC : Int → Int} {sM drw : Int} {kN kW kC : Int → Int} {kS kG kB : Int} {hh : Int64} {L : List Nat} {mf : Nat → Nat × Int × Int × Int} (hm : 0 ≤ many ∧ many ≤ 10) (hc : 2 ≤ cols ∧ cols ≤ 3) (hB : xB many num L mf) (G : Nat) : ∀ (row : Int → Int), brN row many.toNat ≤ (G : Int) → (∀ i, -1 ≤ row i ∧ row i ≤ 2) → Ce l g yX0_winning (ws_ yX0_winning cX0_winning 4 (Option.some Jvm.ClassFile.FieldType.int)) (rmL (10 + G)) [.ref o] (xW g o ax num kpt many cols chg brd old page pgM told enD row ways far hav wtd fnd mdT wnT sN sW sC sM drw kN kW kC kS kG kB hh L mf) (wnX (xkd num mf) cols many 10 row) (xW g o ax num kpt many cols chg brd old page pgM told enD row ways far hav wtd fnd mdT wnT sN sW sC sM drw kN kW kC kS kG kB hh L mf) := by
  induction G with
  | zero => exact cx_winning_s hm hc hB 0 (fun row h => absurd h (by have := brN_rng row many.toNat; omega))
  | succ G ih => exact cx_winning_s hm hc hB (G + 1) (fun row h hr => by have e := ih row (by omega) hr; rw [show 10 + G = 9 + (G + 1) by omega] at e; exact e)
