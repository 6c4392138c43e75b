theorem uI_rng {f : Int → Int} {z v : Int} (h : ∀ i, -1 ≤ f i ∧ f i ≤ 2) (hv : -1 ≤ v ∧ v ≤ 2) : ∀ i, -1 ≤ uI f z v i ∧ uI f z v i ≤ 2 := by
  intro i
  by_cases q : i = z
  · subst q; rw [uI_s]; exact hv
  · rw [uI_n q]; exact h i
theorem cl_s {cols c : Int} (h : 0 ≤ c ∧ c < cols) : cl cols (cols - c).toNat = c :: cl cols (cols - (c + 1)).toNat := by
  rw [show (cols - c).toNat = (cols - (c + 1)).toNat + 1 by omega]
  simp only [cl]
  congr 1
  omega
/-- a contract's start for a method that no native row stands for, whatever her class's name -/
theorem Ct.ofF {l : Launch} {g : tG} {y : MethodName} {cc : ByteArray} {nL : Nat} {ret : Option FieldType} {rm : Room} {as : List Value} {ws : va_W} {post : Option Value → va_W → Prop} (hy : plainFor y = true) (hlen : (lg_sl as).length ≤ nL)
    (body : ∀ Γ : tX, xl Γ = l → xg Γ = g → Fx Γ y.cls cc nL → (xh Γ).sig.returnType = ret → T Γ rm nL 0 0 (Qe Γ rm post) ws 0 (lv_args 0 as) []) : Ct l g y (ws_ y cc nL ret) rm as ws post := by
  intro sz
  refine MetFree.of_bodySF (code := cc) (maxLocals := nL) (ret := ret) hy ?_ ?_
  · intro args s m h hn
    obtain ⟨meth, c, h1, h2, h3, h4, h5, h6, -, -⟩ := Cond.code_spec hn (atoms_spec (ws := ws_ y cc nL ret) h _ List.mem_cons_self)
    exact ⟨meth, c, h1, h2, h3, h4, h5, h6⟩
  · intro p e s m args below meth c s₁ B hml hv _
    have hh0 : s₁.heap = s.heap := by rw [B.state]; rfl
    obtain ⟨rfl, hsz, hP, hK, hD0, hN⟩ := hv
    subst hsz
    have hts := atoms_spec (ws := ws_ y cc nL ret) B.pre
    have hw := body (p, l, e, s, m, as.toArray, below, meth, c, g, va_A ws s.heap.size) rfl rfl ⟨B.exec, B.bytes, hml, findClass_of_methodNamed B.named, fun w h => hts w (List.mem_cons_of_mem _ h), hK, fun q h => Or.inr h, B.notSynchronized, hN⟩ B.returns s.heap [] _ hP hD0.self va_S.rf (lv_entry as hlen)
    obtain ⟨t, a1, o, b1, b2, b3⟩ := hw s₁ hh0 (Stand.of_body B)
    rw [lg_entry_eq]
    exact ⟨t, o, a1, b1, b2, ⟨b3.1, b3.2⟩⟩
theorem tt_alen {Γ : tX} {R : Room} {nL k n : Nat} {Q : State → Prop} {ws : va_W} {pc : Nat} {lv : List (Nat × Value)} {st : List Value} {own : String} {cc : ByteArray} (hf : Fx Γ own cc nL) {a N : Nat} {f : Int → Int} (q0 : Nat) (he : ws[q0]? = some (a, aI (xg Γ) N f)) {z : Int} (hz : Int32.ofNat N = iI z) (d : decode cc pc = .ok (.arraylength, 1)) (kk : T Γ R nL k n Q ws (pc + 1) lv (.int (iI z) :: st)) : T Γ R nL k n Q ws pc lv (.ref a :: st) :=
  fun H locs ls hP hD hS hl => va_alen hf.x hf.b hf.K hP q0 0 he rfl hz d (kk H locs ls hP hD hS hl)
theorem rmL_ok {a b m : Nat} (h : a + 1 ≤ b) (hm : m ≤ 21) : (rmL a).frames + 1 ≤ (rmL b).frames ∧ 8 + (m + 11) + (rmL a).locals ≤ (rmL b).locals := by
  refine ⟨h, ?_⟩
  show 8 + (m + 11) + 40 * a ≤ 40 * b
  omega
/-! how far the walk comes -/
def gN (kd co : Int → Int) (cols : Int) (f : Nat) (n : Int) (r : Int → Int) : List (Int → Int) := if bd kd r n = 0 then cmp kd co cols f (n + 1) r else []
def fpF (kd co : Int → Int) (cols n many : Int) (r : Int → Int) (far far1 : Int) : Prop := far ≤ far1 ∧ (far1 = far ∨ (n ≤ far1 ∧ far1 ≤ many ∧ cmp kd co cols (far1 + 1 - n).toNat n r ≠ [])) ∧ ∀ m, n ≤ m → m ≤ many → cmp kd co cols (m + 1 - n).toNat n r ≠ [] → m ≤ far1
def fqF (kd co : Int → Int) (cols n many : Int) (r : Int → Int) (far far1 : Int) : Prop := far ≤ far1 ∧ (far1 = far ∨ (n ≤ far1 ∧ far1 ≤ many ∧ gN kd co cols (far1 - n).toNat n r ≠ [])) ∧ ∀ m, n ≤ m → m ≤ many → gN kd co cols (m - n).toNat n r ≠ [] → m ≤ far1
def fsF (kd co : Int → Int) (cols n many : Int) (r : Int → Int) (cs : List Int) (far far1 : Int) : Prop := far ≤ far1 ∧ (far1 = far ∨ (n ≤ far1 ∧ far1 ≤ many ∧ nd kd co cols (far1 - n).toNat n r cs ≠ [])) ∧ ∀ m, n ≤ m → m ≤ many → nd kd co cols (m - n).toNat n r cs ≠ [] → m ≤ far1
theorem cmp_nil {kd co : Int → Int} {cols : Int} : ∀ (f : Nat) (n : Int) (r r' : Int → Int), (∀ i, i < n → r i = r' i) → cmp kd co cols f n r = [] → cmp kd co cols f n r' = []
  | 0, _, _, _, _, h => by simp [cmp] at h
  | f + 1, n, r, r', h, e => by
    simp only [cmp, List.flatMap_eq_nil_iff] at e ⊢
    intro c hc
    have e1 := e c hc
    have h1 : ∀ i, i < n + 1 → uI r n c i = uI r' n c i := by
      intro i hi
      by_cases q : i = n
      · subst q; rw [uI_s, uI_s]
      · rw [uI_n q, uI_n q]; exact h i (by omega)
    rw [← bd_cg (s := n) (fun i _ hi => h1 i (by omega))]
    split
    · rename_i hb
      rw [if_pos hb] at e1
      exact cmp_nil f (n + 1) _ _ h1 e1
    · rfl
theorem gN_nil {kd co : Int → Int} {cols : Int} {f : Nat} {n : Int} {r r' : Int → Int} (h : ∀ i, i ≤ n → r i = r' i) (e : gN kd co cols f n r ≠ []) : gN kd co cols f n r' ≠ [] := by
  intro e1
  apply e
  unfold gN at e1 ⊢
  rw [bd_cg (s := n) (r' := r') (fun i _ hi => h i hi)]
  split
  · rename_i hb
    rw [if_pos hb] at e1
    exact cmp_nil f (n + 1) _ _ (fun i hi => (h i (by omega)).symm) e1
  · rfl
theorem fq_irr {kd co : Int → Int} {cols n many : Int} {r r' : Int → Int} {far far1 : Int} (h : ∀ i, i ≤ n → r i = r' i) (e : fqF kd co cols n many r far far1) : fqF kd co cols n many r' far far1 := by
  refine ⟨e.1, ?_, ?_⟩
  · rcases e.2.1 with q | ⟨q1, q2, q3⟩
    · exact Or.inl q
    · exact Or.inr ⟨q1, q2, gN_nil h q3⟩
  · intro m h1 h2 h3
    exact e.2.2 m h1 h2 (gN_nil (fun i hi => (h i hi).symm) h3)
theorem fq_bad {kd co : Int → Int} {cols n many : Int} {r : Int → Int} {far : Int} (h : ¬ bd kd r n = 0) : fqF kd co cols n many r far far := by
  refine ⟨Int.le_refl _, Or.inl rfl, ?_⟩
  intro m _ _ h3
  exact absurd (by unfold gN; rw [if_neg h]) h3
theorem fq_go {kd co : Int → Int} {cols n many : Int} {r : Int → Int} {far far1 : Int} (h : bd kd r n = 0) (hn : n ≤ many) (e : fpF kd co cols (n + 1) many r (if n ≤ far then far else n) far1) : fqF kd co cols n many r far far1 := by
  obtain ⟨e1, e2, e3⟩ := e
  have hg : ∀ f, gN kd co cols f n r = cmp kd co cols f (n + 1) r := fun f => by unfold gN; rw [if_pos h]
  refine ⟨by split at e1 <;> omega, ?_, ?_⟩
  · rcases e2 with q | ⟨q1, q2, q3⟩
    · split at q
      · exact Or.inl q
      · refine Or.inr ⟨by omega, by omega, ?_⟩
        rw [hg, show (far1 - n).toNat = 0 by omega]
        simp [cmp]
    · refine Or.inr ⟨by omega, q2, ?_⟩
      rw [hg, show (far1 - n).toNat = (far1 + 1 - (n + 1)).toNat by omega]
      exact q3
  · intro m h1 h2 h3
    by_cases q : m = n
    · split at e1 <;> omega
    · refine e3 m (by omega) h2 ?_
      rw [hg, show (m - n).toNat = (m + 1 - (n + 1)).toNat by omega] at h3
      exact h3
theorem fs_nil {kd co : Int → Int} {cols n many : Int} {r : Int → Int} {far : Int} : fsF kd co cols n many r [] far far := ⟨Int.le_refl _, Or.inl rfl, fun m _ _ h => absurd rfl h⟩
theorem nd_c {kd co : Int → Int} {cols : Int} {f : Nat} {n : Int} {r : Int → Int} {c : Int} {cs : List Int} : nd kd co cols f n r (c :: cs) = gN kd co cols f n (uI r n c) ++ nd kd co cols f n r cs := by
  unfold nd gN; rw [List.flatMap_cons]
theorem fs_cons {kd co : Int → Int} {cols n many : Int} {r : Int → Int} {c : Int} {cs : List Int} {far far1 far2 : Int} (h1 : fqF kd co cols n many (uI r n c) far far1) (h2 : fsF kd co cols n many r cs far1 far2) : fsF kd co cols n many r (c :: cs) far far2 := by
  obtain ⟨a1, a2, a3⟩ := h1
  obtain ⟨b1, b2, b3⟩ := h2
  refine ⟨by omega, ?_, ?_⟩
  · rcases b2 with q | ⟨q1, q2, q3⟩
    · rcases a2 with p | ⟨p1, p2, p3⟩
      · exact Or.inl (q.trans p)
      · refine Or.inr ⟨by omega, by omega, ?_⟩
        rw [nd_c, q]
        exact fun e => p3 (List.append_eq_nil_iff.mp e).1
    · refine Or.inr ⟨q1, q2, ?_⟩
      rw [nd_c]
      exact fun e => q3 (List.append_eq_nil_iff.mp e).2
  · intro m m1 m2 m3
    by_cases e : gN kd co cols (m - n).toNat n (uI r n c) = []
    · rw [nd_c, e, List.nil_append] at m3
      exact b3 m m1 m2 m3
    · exact Int.le_trans (a3 m m1 m2 e) b1
theorem cmp_s {kd co : Int → Int} {cols : Int} {f : Nat} {n : Int} {r : Int → Int} : cmp kd co cols (f + 1) n r = nd kd co cols f n r (if co n ≠ -1 then [co n] else cl cols cols.toNat) := rfl
theorem fs_fp {kd co : Int → Int} {cols n many : Int} {r : Int → Int} {far far1 : Int} (h : fsF kd co cols n many r (if co n ≠ -1 then [co n] else cl cols cols.toNat) far far1) : fpF kd co cols n many r far far1 := by
  refine ⟨h.1, ?_, ?_⟩
  · rcases h.2.1 with q | ⟨q1, q2, q3⟩
    · exact Or.inl q
    · refine Or.inr ⟨q1, q2, ?_⟩
      rw [show (far1 + 1 - n).toNat = (far1 - n).toNat + 1 by omega, cmp_s]
      exact q3
  · intro m h1 h2 h3
    rw [show (m + 1 - n).toNat = (m - n).toNat + 1 by omega, cmp_s] at h3
    exact h.2.2 m h1 h2 h3
theorem fp_end {kd co : Int → Int} {cols n many : Int} {r : Int → Int} {far : Int} (h : many + 1 ≤ n) : fpF kd co cols n many r far far := ⟨Int.le_refl _, Or.inl rfl, fun m _ _ _ => by omega⟩
theorem fr_uniq {kd co : Int → Int} {cols : Int} : ∀ (N : Nat) (far : Int), 0 ≤ far → (far = 0 ∨ (1 ≤ far ∧ far ≤ N ∧ WL kd co cols far ≠ [])) → (∀ m : Int, 1 ≤ m → m ≤ N → WL kd co cols m ≠ [] → m ≤ far) → far = frN kd co cols N
  | 0, far, h0, h1, _ => by
    rcases h1 with q | q
    · rw [q]; rfl
    · omega
  | N + 1, far, h0, h1, h2 => by
    have e := frN_s (kd := kd) (co := co) (cols := cols) (n := (N : Int) + 1) (by omega)
    rw [show ((N : Int) + 1).toNat = N + 1 by omega, show ((N : Int) + 1 - 1).toNat = N by omega] at e
    rw [e]
    by_cases q : WL kd co cols ((N : Int) + 1) ≠ []
    · rw [if_pos q]
      have := h2 ((N : Int) + 1) (by omega) (by omega) q
      rcases h1 with p | p <;> omega
    · rw [if_neg q]
      refine fr_uniq N far h0 ?_ (fun m m1 m2 m3 => h2 m m1 (by omega) m3)
      rcases h1 with p | ⟨p1, p2, p3⟩
      · exact Or.inl p
      · by_cases p4 : far = (N : Int) + 1
        · exact absurd (p4 ▸ p3) q
        · exact Or.inr ⟨p1, by omega, p3⟩
theorem fp_fr {kd co : Int → Int} {cols many : Int} {r : Int → Int} {far : Int} (hm : 0 ≤ many) (h : fpF kd co cols 1 many r 0 far) : far = frN kd co cols many.toNat := by
  have nl : ∀ m : Int, 0 ≤ m → (cmp kd co cols (m + 1 - 1).toNat 1 r ≠ [] ↔ WL kd co cols m ≠ []) := by
    intro m h0
    rw [Int.add_sub_cancel]
    exact not_congr (WL_nil h0 r)
  refine fr_uniq many.toNat far h.1 ?_ ?_
  · rcases h.2.1 with q | ⟨q1, q2, q3⟩
    · exact Or.inl q
    · exact Or.inr ⟨q1, by omega, (nl far (by omega)).mp q3⟩
  · intro m h1 h2 h3
    exact h.2.2 m h1 (by omega) ((nl m (by omega)).mpr h3)
theorem lw_room {l0 rem : List (Int → Int)} {many nb wy : Int} {of wt : Int → Int} (h : lwI l0 rem many nb wy of wt) (hl : l0.length ≤ 59049) : 0 ≤ wy ∧ wy ≤ 59049 := by
  have := h.1; have := h.2.1; omega
theorem fq_rng {kd co : Int → Int} {cols n many : Int} {r : Int → Int} {far far1 : Int} (h : 0 ≤ far ∧ far ≤ many) (e : fqF kd co cols n many r far far1) : 0 ≤ far1 ∧ far1 ≤ many := by
  have := e.1
  rcases e.2.1 with q | q <;> omega
theorem nx_hav {Γ : tX} {R : Room} {nL k n : Nat} {Q : State → Prop} {pc : Nat} {lv : List (Nat × Value)} {st : List Value} {cc : ByteArray} {o : Nat} {ax : Nat → Nat} {num kpt : Int → Option Nat} {many cols chg brd old : Int} {page : Int → Int} {pgM told enD : Int} {row : Int → Int} {ways far : Int} {hav : Int → Int} {wtd : Int} {fnd : Int → Int} {mdT wnT : Int} {sN sW sC : Int → Int} {sM drw : Int} {kN kW kC : Int → Int} {kS kG kB : Int} {hh : Int64} {L : List Nat} {mf : Nat → Nat × Int × Int × Int} (hf : Fx Γ RX0 cc nL) (d : decode cc pc = .ok (.arraylength, 1)) (kk : T Γ R nL k n Q (xW (xg Γ) o ax num kpt many cols chg brd old page pgM told enD row ways far hav wtd fnd mdT wnT sN sW sC sM drw kN kW kC kS kG kB hh L mf) (pc + 1) lv (.int (iI 33) :: st)) : T Γ R nL k n Q (xW (xg Γ) o ax num kpt many cols chg brd old page pgM told enD row ways far hav wtd fnd mdT wnT sN sW sC sM drw kN kW kC kS kG kB hh L mf) pc lv (.ref (ax 15) :: st) := tt_alen (N := 33) (f := hav) hf 6 rfl (by decide) d kk
set_option maxHeartbeats 4000000 in
set_option maxRecDepth 100000 in
theorem cj_max {l : Launch} {g : tG} {ws : va_W} {a b : Int} (ha : iR a) (hb : iR b) : Ce l g yJ0_max (ws_ yJ0_max cJ0_max 2 (Option.some Jvm.ClassFile.FieldType.int)) (rmL 1) [.int (iI a), .int (iI b)] (ws) (if b ≤ a then a else b) (ws) := by
  refine Ct.ofF (by decide +kernel) (Nat.le_of_ble_eq_true rfl) ?_
  intro Γ hl hg hf hrT
  subst hl hg
  have hf : Fx Γ RJ0 cJ0_max 2 := hf
  show T Γ (rmL 1) 2 0 0 (Qe Γ (rmL 1) _) _ 0 [(0, .int (iI a)), (1, .int (iI b))] []
  refine tt_iload_n hf 0 dJ0_max_0 rfl ?_
  refine tt_iload_n hf 1 dJ0_max_1 rfl ?_
  refine tt_icmp_lt (tgt := 9) hf dJ0_max_2 (by decide) (by omega) (by omega) (fun c2 => ?_) (fun c2 => ?_)
  · refine tt_iload_n hf 1 dJ0_max_9 rfl ?_
    exact tt_ireti hf hrT dJ0_max_10 (Nat.le_refl _) (Nat.le_refl _) (by omega) ⟨(by first | rw [if_pos (by omega)] | rw [if_neg (by omega)]), rfl⟩
  · refine tt_iload_n hf 0 dJ0_max_5 rfl ?_
    refine tt_goto (tgt := 10) hf dJ0_max_6 (by decide) ?_
    exact tt_ireti hf hrT dJ0_max_10 (Nat.le_refl _) (Nat.le_refl _) (by omega) ⟨(by first | rw [if_pos (by omega)] | rw [if_neg (by omega)]), rfl⟩
set_option maxHeartbeats 4000000 in
set_option maxRecDepth 100000 in
theorem cj_min {l : Launch} {g : tG} {ws : va_W} {a b : Int} (ha : iR a) (hb : iR b) : Ce l g yJ0_min (ws_ yJ0_min cJ0_min 2 (Option.some Jvm.ClassFile.FieldType.int)) (rmL 1) [.int (iI a), .int (iI b)] (ws) (if a ≤ b then a else b) (ws) := by
  refine Ct.ofF (by decide +kernel) (Nat.le_of_ble_eq_true rfl) ?_
  intro Γ hl hg hf hrT
  subst hl hg
  have hf : Fx Γ RJ0 cJ0_min 2 := hf
  show T Γ (rmL 1) 2 0 0 (Qe Γ (rmL 1) _) _ 0 [(0, .int (iI a)), (1, .int (iI b))] []
  refine tt_iload_n hf 0 dJ0_min_0 rfl ?_
  refine tt_iload_n hf 1 dJ0_min_1 rfl ?_
  refine tt_icmp_gt (tgt := 9) hf dJ0_min_2 (by decide) (by omega) (by omega) (fun c2 => ?_) (fun c2 => ?_)
  · refine tt_iload_n hf 1 dJ0_min_9 rfl ?_
    exact tt_ireti hf hrT dJ0_min_10 (Nat.le_refl _) (Nat.le_refl _) (by omega) ⟨(by first | rw [if_pos (by omega)] | rw [if_neg (by omega)]), rfl⟩
  · refine tt_iload_n hf 0 dJ0_min_5 rfl ?_
    refine tt_goto (tgt := 10) hf dJ0_min_6 (by decide) ?_
    exact tt_ireti hf hrT dJ0_min_10 (Nat.le_refl _) (Nat.le_refl _) (by omega) ⟨(by first | rw [if_pos (by omega)] | rw [if_neg (by omega)]), rfl⟩
set_option maxHeartbeats 4000000 in
set_option maxRecDepth 100000 in
theorem cx_keepWay {l : Launch} {g : tG} {o : Nat} {ax : Nat → Nat} {num kpt : Int → Option Nat} {many cols chg brd old : Int} {page : Int → Int} {pgM told enD : Int} {row : Int → Int} {ways far : Int} {hav : Int → Int} {wtd : Int} {fnd : Int → Int} {mdT wnT : Int} {sN sW sC : Int → Int} {sM drw : Int} {kN kW kC : Int → Int} {kS kG kB : Int} {hh : Int64} {L : List Nat} {mf : Nat → Nat × Int × Int × Int}  (hm : 0 ≤ many ∧ many ≤ 10) (hr : ∀ i, 1 ≤ i → i ≤ many → 0 ≤ row i ∧ row i ≤ 2) (hw : iR ways) (ht : iR wtd) : Cv l g yX0_keepWay (ws_ yX0_keepWay cX0_keepWay 2 (Option.none : Option Jvm.ClassFile.FieldType)) (rmL 1) [.ref o] (xW g o ax num kpt many cols chg brd old page pgM told enD row ways far hav wtd fnd mdT wnT sN sW sC sM drw kN kW kC kS kG kB hh L mf) (fun w => w = xW g o ax num kpt many cols chg brd old page pgM told enD row (ways + 1) far (hvF (many + 1) row hav) wtd (wtF (many + 1) ways wtd row fnd) mdT wnT sN sW sC sM drw kN kW kC kS kG kB hh L mf) := by
  refine Ct.of (by decide) (Nat.le_of_ble_eq_true rfl) ?_
  intro Γ hl hg hf hrT
  subst hl hg
  have hf : Fx Γ RX0 cX0_keepWay 2 := hf
  show T Γ (rmL 1) 2 0 0 (Qe Γ (rmL 1) _) _ 0 [(0, .ref o)] []
  have lp : ∀ (N : Nat) (i : Int) (hv : Int → Int) (fn : Int → Int), (1 ≤ i ∧ i ≤ many + 1) → (hv = hvF i row hav) → (fn = wtF i ways wtd row fnd) → (11 - i).toNat < N → T Γ (rmL 1) 2 0 0 (Qe Γ (rmL 1) (fun vv w => vv = none ∧ w = xW (xg Γ) o ax num kpt many cols chg brd old page pgM told enD row (ways + 1) far (hvF (many + 1) row hav) wtd (wtF (many + 1) ways wtd row fnd) mdT wnT sN sW sC sM drw kN kW kC kS kG kB hh L mf)) (xW (xg Γ) o ax num kpt many cols chg brd old page pgM told enD row ways far hv wtd fn mdT wnT sN sW sC sM drw kN kW kC kS kG kB hh L mf) 2 [(0, .ref o), (1, .int (iI i))] [] := by
    intro N
    induction N with
    | zero => intro i hv fn hi h1 h2 hN; exact absurd hN (Nat.not_lt_zero _)
    | succ N ih =>
      intro i hv fn hi h1 h2 hN
      refine tt_iload_n hf 1 dX0_keepWay_2 rfl ?_
      refine tt_aload_n hf 0 dX0_keepWay_3 rfl ?_
      refine gx_many hf dX0_keepWay_4 ?_
      refine tt_icmp_gt (tgt := 67) hf dX0_keepWay_7 (by decide) (by omega) (by omega) (fun c7 => ?_) (fun c7 => ?_)
      · refine tt_aload_n hf 0 dX0_keepWay_67 rfl ?_
        refine tt_dup hf dX0_keepWay_68 rfl ?_
        refine gx_ways hf dX0_keepWay_69 ?_
        refine tt_iconst hf dX0_keepWay_72 ?_
        refine tt_iadd hf dX0_keepWay_73 ?_
        refine px_ways hf dX0_keepWay_74 ?_
        exact tt_vretv hf hrT dX0_keepWay_77 (Nat.le_refl _) (Nat.le_refl _) (by rw [h1, h2, show i = many + 1 by omega])
      · have hri := hr i (by omega) (by omega)
        refine tt_aload_n hf 0 dX0_keepWay_10 rfl ?_
        refine gx_hav hf dX0_keepWay_11 ?_
        refine tt_iload_n hf 1 dX0_keepWay_14 rfl ?_
        refine tt_iconst hf dX0_keepWay_15 ?_
        refine tt_imul hf dX0_keepWay_16 ?_
        refine tt_aload_n hf 0 dX0_keepWay_17 rfl ?_
        refine gx_row hf dX0_keepWay_18 ?_
        refine tt_iload_n hf 1 dX0_keepWay_21 rfl ?_
        refine lx_row hf (by omega) dX0_keepWay_22 ?_
        refine tt_iadd hf dX0_keepWay_23 ?_
        refine tt_top (z' := 3 * i + row i) (by omega) ?_
        refine tt_dup2 hf dX0_keepWay_24 rfl rfl ?_
        refine lx_hav hf (by omega) dX0_keepWay_25 ?_
        refine tt_iconst hf dX0_keepWay_26 ?_
        refine tt_iadd hf dX0_keepWay_27 ?_
        refine sx_hav hf (by omega) dX0_keepWay_28 ?_
        refine tt_aload_n hf 0 dX0_keepWay_29 rfl ?_
        refine gx_fnd hf dX0_keepWay_30 ?_
        refine tt_iload_n hf 1 dX0_keepWay_33 rfl ?_
        refine tt_aload_n hf 0 dX0_keepWay_34 rfl ?_
        refine gx_ways hf dX0_keepWay_35 ?_
        refine tt_aload_n hf 0 dX0_keepWay_38 rfl ?_
        refine gx_wtd hf dX0_keepWay_39 ?_
        refine tt_icmp_ne (tgt := 54) hf dX0_keepWay_42 (by decide) (by omega) (by omega) (fun c42 => ?_) (fun c42 => ?_)
        · refine tt_aload_n hf 0 dX0_keepWay_54 rfl ?_
          refine gx_fnd hf dX0_keepWay_55 ?_
          refine tt_iload_n hf 1 dX0_keepWay_58 rfl ?_
          refine lx_fnd hf (by omega) dX0_keepWay_59 ?_
          refine sx_fnd hf (by omega) dX0_keepWay_60 ?_
          refine tt_iinc (lv' := [(1, .int (iI (i + 1))), (0, .ref o)]) hf 1 dX0_keepWay_61 rfl (by decide) rfl ?_
          refine tt_goto (tgt := 2) hf dX0_keepWay_64 (by decide) ?_
          refine tt_sub [1, 0] rfl ?_
          exact ih (i + 1) (uI hv (3 * i + row i) ((hv (3 * i + row i)) + 1)) (uI fn i (fn i)) (by omega) (by rw [h1]; exact hvF_s (by omega) (hr i (by omega) (by omega))) (by rw [h2]; exact wtF_n c42) (by omega)
        · refine tt_aload_n hf 0 dX0_keepWay_45 rfl ?_
          refine gx_row hf dX0_keepWay_46 ?_
          refine tt_iload_n hf 1 dX0_keepWay_49 rfl ?_
          refine lx_row hf (by omega) dX0_keepWay_50 ?_
          refine tt_goto (tgt := 60) hf dX0_keepWay_51 (by decide) ?_
          refine sx_fnd hf (by omega) dX0_keepWay_60 ?_
          refine tt_iinc (lv' := [(1, .int (iI (i + 1))), (0, .ref o)]) hf 1 dX0_keepWay_61 rfl (by decide) rfl ?_
          refine tt_goto (tgt := 2) hf dX0_keepWay_64 (by decide) ?_
          refine tt_sub [1, 0] rfl ?_
          exact ih (i + 1) (uI hv (3 * i + row i) ((hv (3 * i + row i)) + 1)) (uI fn i (row i)) (by omega) (by rw [h1]; exact hvF_s (by omega) (hr i (by omega) (by omega))) (by rw [h2]; exact wtF_y (by omega) c42) (by omega)
  refine tt_iconst hf dX0_keepWay_0 ?_
  refine tt_istore_n (lv' := [(1, .int (iI 1)), (0, .ref o)]) hf dX0_keepWay_1 (by decide) rfl ?_
  refine tt_sub [1, 0] rfl ?_
  exact lp _ 1 hav fnd (by omega) hvF_1.symm wtF_1.symm (Nat.lt_succ_self _)
set_option maxHeartbeats 4000000 in
set_option maxRecDepth 100000 in
theorem cx_goOn_of {l : Launch} {g : tG} {o : Nat} {ax : Nat → Nat} {num kpt : Int → Option Nat} {many cols chg brd old : Int} {page : Int → Int} {pgM told enD wtd mdT wnT : Int} {sN sW sC : Int → Int} {sM drw : Int} {kN kW kC : Int → Int} {kS kG kB : Int} {hh : Int64} {L : List Nat} {mf : Nat → Nat × Int × Int × Int} {l0 : List (Int → Int)} (hm : 0 ≤ many ∧ many ≤ 10) (hc : 2 ≤ cols ∧ cols ≤ 3) (hB : xB many num L mf) (ht : iR wtd) (hl : l0.length ≤ 59049) (hl0 : ∀ r ∈ l0, ∀ i, 1 ≤ i → i ≤ many → 0 ≤ r i ∧ r i ≤ 2) (f : Nat) (IH : ∀ (n : Int) (row : Int → Int) (ways far : Int) (hav fnd : Int → Int) (rest : List (Int → Int)), (1 ≤ n) → (n + (f : Nat) = many + 1) → (∀ i, -1 ≤ row i ∧ row i ≤ 2) → (0 ≤ far ∧ far ≤ many) → (lwI l0 (cmp (xkd num mf) (xco num mf) cols f n row ++ rest) many wtd ways hav fnd) → Cv l g yX0_goThrough (ws_ yX0_goThrough cX0_goThrough 3 (Option.none : Option Jvm.ClassFile.FieldType)) (rmL (8 + 2 * f)) [.ref o, .int (iI n)] (xW g o ax num kpt many cols chg brd old page pgM told enD row ways far hav wtd fnd mdT wnT sN sW sC sM drw kN kW kC kS kG kB hh L mf) (fun w => ∃ (row1 : Int → Int) (ways1 far1 : Int) (hav1 fnd1 : Int → Int), (∀ i, i < n ∨ many < i → row1 i = row i) ∧ (∀ i, -1 ≤ row1 i ∧ row1 i ≤ 2) ∧ lwI l0 rest many wtd ways1 hav1 fnd1 ∧ fpF (xkd num mf) (xco num mf) cols n many row far far1 ∧ w = xW g o ax num kpt many cols chg brd old page pgM told enD row1 ways1 far1 hav1 wtd fnd1 mdT wnT sN sW sC sM drw kN kW kC kS kG kB hh L mf)) : ∀ (n : Int) (row : Int → Int) (ways far : Int) (hav fnd : Int → Int) (rest : List (Int → Int)), (1 ≤ n) → (n + (f : Nat) = many) → (∀ i, -1 ≤ row i ∧ row i ≤ 2) → (0 ≤ far ∧ far ≤ many) → (lwI l0 (gN (xkd num mf) (xco num mf) cols f n row ++ rest) many wtd ways hav fnd) → Cv l g yX0_goOn (ws_ yX0_goOn cX0_goOn 2 (Option.none : Option Jvm.ClassFile.FieldType)) (rmL (9 + 2 * f)) [.ref o, .int (iI n)] (xW g o ax num kpt many cols chg brd old page pgM told enD row ways far hav wtd fnd mdT wnT sN sW sC sM drw kN kW kC kS kG kB hh L mf) (fun w => ∃ (row1 : Int → Int) (ways1 far1 : Int) (hav1 fnd1 : Int → Int), (∀ i, i ≤ n ∨ many < i → row1 i = row i) ∧ (∀ i, -1 ≤ row1 i ∧ row1 i ≤ 2) ∧ lwI l0 rest many wtd ways1 hav1 fnd1 ∧ fqF (xkd num mf) (xco num mf) cols n many row far far1 ∧ w = xW g o ax num kpt many cols chg brd old page pgM told enD row1 ways1 far1 hav1 wtd fnd1 mdT wnT sN sW sC sM drw kN kW kC kS kG kB hh L mf) := by
  intro n row ways far hav fnd rest hn hf0 hrow hfar hlw
  refine Ct.of (by decide) (Nat.le_of_ble_eq_true rfl) ?_
  intro Γ hl hg hf hrT
  subst hl hg
  have hf : Fx Γ RX0 cX0_goOn 2 := hf
  show T Γ (rmL (9 + 2 * f)) 2 0 0 (Qe Γ (rmL (9 + 2 * f)) _) _ 0 [(0, .ref o), (1, .int (iI n))] []
  have hbq := bd_rng (kd := (xkd num mf)) (row := row) (s := n) (by omega)
  refine tt_aload_n hf 0 dX0_goOn_0 rfl ?_
  refine tt_iload_n hf 1 dX0_goOn_1 rfl ?_
  refine tt_callV0 (As := [.int (iI n)]) (rest := []) (q0 := 0) (ci := 0) hf (cx_badAt hm hB hrow (by omega)) lk_X0_X0_badAt hd_X0_badAt rfl rfl rfl ⟨rfl, rfl⟩ (rmL_ok (by omega) (by decide)) ⟨Nat.zero_le _, Nat.zero_le _⟩ (Nat.le_of_ble_eq_true rfl) dX0_goOn_2 rfl (kk_e (fun r2 => ?_))
  refine tt_if_ne (tgt := 27) hf dX0_goOn_5 (by decide) (by omega) (fun c5 => ?_) (fun c5 => ?_)
  · exact tt_vretv hf hrT dX0_goOn_27 (Nat.le_refl _) (Nat.le_refl _) ⟨row, ways, far, hav, fnd, fun _ _ => rfl, hrow, (by have e := hlw; unfold gN at e; rw [if_neg c5] at e; exact e), fq_bad c5, rfl⟩
  · refine tt_aload_n hf 0 dX0_goOn_8 rfl ?_
    refine tt_aload_n hf 0 dX0_goOn_9 rfl ?_
    refine gx_far hf dX0_goOn_10 ?_
    refine tt_iload_n hf 1 dX0_goOn_13 rfl ?_
    refine tt_callS0 (As := [.int (iI far), .int (iI n)]) (rest := [.ref o]) hf (cj_max (by omega) (by omega)) lk_X0_J0_max hd_J0_max rfl ⟨rfl, rfl⟩ (rmL_ok (by omega) (by decide)) ⟨Nat.zero_le _, Nat.zero_le _⟩ (Nat.le_of_ble_eq_true rfl) dX0_goOn_14 rfl (kk_e (fun r14 => ?_))
    refine px_far hf dX0_goOn_17 ?_
    refine tt_aload_n hf 0 dX0_goOn_20 rfl ?_
    refine tt_iload_n hf 1 dX0_goOn_21 rfl ?_
    refine tt_iconst hf dX0_goOn_22 ?_
    refine tt_iadd hf dX0_goOn_23 ?_
    refine tt_callV0 (As := [.int (iI (n + 1))]) (rest := []) (q0 := 0) (ci := 0) hf (IH (n + 1) row ways (if n ≤ far then far else n) hav fnd rest (by omega) (by omega) hrow (by split <;> omega) (by have e := hlw; unfold gN at e; rw [if_pos c5] at e; exact e)) lk_X0_X0_goThrough hd_X0_goThrough rfl rfl rfl ⟨rfl, rfl⟩ (rmL_ok (by omega) (by decide)) ⟨Nat.zero_le _, Nat.zero_le _⟩ (Nat.le_of_ble_eq_true rfl) dX0_goOn_24 rfl (kk_v (fun w hp24 => ?_))
    obtain ⟨row24, ways24, far24, hav24, fnd24, p24, q24, l24, f24, rfl⟩ := hp24
    exact tt_vretv hf hrT dX0_goOn_27 (Nat.le_refl _) (Nat.le_refl _) ⟨_, _, _, _, _, fun i hi => p24 i (by omega), q24, l24, fq_go c5 (by omega) f24, rfl⟩
set_option maxHeartbeats 4000000 in
set_option maxRecDepth 100000 in
theorem cx_goThrough_0 {l : Launch} {g : tG} {o : Nat} {ax : Nat → Nat} {num kpt : Int → Option Nat} {many cols chg brd old : Int} {page : Int → Int} {pgM told enD wtd mdT wnT : Int} {sN sW sC : Int → Int} {sM drw : Int} {kN kW kC : Int → Int} {kS kG kB : Int} {hh : Int64} {L : List Nat} {mf : Nat → Nat × Int × Int × Int} {l0 : List (Int → Int)} (hm : 0 ≤ many ∧ many ≤ 10) (hc : 2 ≤ cols ∧ cols ≤ 3) (hB : xB many num L mf) (ht : iR wtd) (hl : l0.length ≤ 59049) (hl0 : ∀ r ∈ l0, ∀ i, 1 ≤ i → i ≤ many → 0 ≤ r i ∧ r i ≤ 2) : ∀ (n : Int) (row : Int → Int) (ways far : Int) (hav fnd : Int → Int) (rest : List (Int → Int)), (1 ≤ n) → (n + ((0 : Nat) : Nat) = many + 1) → (∀ i, -1 ≤ row i ∧ row i ≤ 2) → (0 ≤ far ∧ far ≤ many) → (lwI l0 (cmp (xkd num mf) (xco num mf) cols 0 n row ++ rest) many wtd ways hav fnd) → Cv l g yX0_goThrough (ws_ yX0_goThrough cX0_goThrough 3 (Option.none : Option Jvm.ClassFile.FieldType)) (rmL (8 + 2 * 0)) [.ref o, .int (iI n)] (xW g o ax num kpt many cols chg brd old page pgM told enD row ways far hav wtd fnd mdT wnT sN sW sC sM drw kN kW kC kS kG kB hh L mf) (fun w => ∃ (row1 : Int → Int) (ways1 far1 : Int) (hav1 fnd1 : Int → Int), (∀ i, i < n ∨ many < i → row1 i = row i) ∧ (∀ i, -1 ≤ row1 i ∧ row1 i ≤ 2) ∧ lwI l0 rest many wtd ways1 hav1 fnd1 ∧ fpF (xkd num mf) (xco num mf) cols n many row far far1 ∧ w = xW g o ax num kpt many cols chg brd old page pgM told enD row1 ways1 far1 hav1 wtd fnd1 mdT wnT sN sW sC sM drw kN kW kC kS kG kB hh L mf) := by
  intro n row ways far hav fnd rest hn hf0 hrow hfar hlw
  refine Ct.of (by decide) (Nat.le_of_ble_eq_true rfl) ?_
  intro Γ hl hg hf hrT
  subst hl hg
  have hf : Fx Γ RX0 cX0_goThrough 3 := hf
  show T Γ (rmL (8 + 2 * 0)) 3 0 0 (Qe Γ (rmL (8 + 2 * 0)) _) _ 0 [(0, .ref o), (1, .int (iI n))] []
  have hwr := lw_room hlw hl
  have hin : row ∈ l0 := hlw.2.2.1 row (by simp [cmp])
  refine tt_iload_n hf 1 dX0_goThrough_0 rfl ?_
  refine tt_aload_n hf 0 dX0_goThrough_1 rfl ?_
  refine gx_many hf dX0_goThrough_2 ?_
  refine tt_icmp_le (tgt := 13) hf dX0_goThrough_5 (by decide) (by omega) (by omega) (fun c5 => ?_) (fun c5 => ?_)
  · exact absurd c5 (by omega)
  · refine tt_aload_n hf 0 dX0_goThrough_8 rfl ?_
    refine tt_callV0 (As := []) (rest := []) (q0 := 0) (ci := 0) hf (cx_keepWay hm (hl0 row hin) (by omega) (by omega)) lk_X0_X0_keepWay hd_X0_keepWay rfl rfl rfl ⟨rfl, rfl⟩ (by decide) ⟨Nat.zero_le _, Nat.zero_le _⟩ (Nat.le_of_ble_eq_true rfl) dX0_goThrough_9 rfl (kk_v (fun w hw => ?_))
    subst hw
    exact tt_vretv hf hrT dX0_goThrough_12 (Nat.le_refl _) (Nat.le_refl _) ⟨row, _, far, _, _, fun _ _ => rfl, hrow, lwI_s (nw := row) hlw, fp_end (by omega), rfl⟩
set_option maxHeartbeats 4000000 in
set_option maxRecDepth 100000 in
theorem cx_goThrough_s {l : Launch} {g : tG} {o : Nat} {ax : Nat → Nat} {num kpt : Int → Option Nat} {many cols chg brd old : Int} {page : Int → Int} {pgM told enD wtd mdT wnT : Int} {sN sW sC : Int → Int} {sM drw : Int} {kN kW kC : Int → Int} {kS kG kB : Int} {hh : Int64} {L : List Nat} {mf : Nat → Nat × Int × Int × Int} {l0 : List (Int → Int)} (hm : 0 ≤ many ∧ many ≤ 10) (hc : 2 ≤ cols ∧ cols ≤ 3) (hB : xB many num L mf) (ht : iR wtd) (hl : l0.length ≤ 59049) (hl0 : ∀ r ∈ l0, ∀ i, 1 ≤ i → i ≤ many → 0 ≤ r i ∧ r i ≤ 2) (hcc : ∀ i, 1 ≤ i → i ≤ many → (xco num mf) i ≤ cols - 1) (f : Nat) (IH : ∀ (n : Int) (row : Int → Int) (ways far : Int) (hav fnd : Int → Int) (rest : List (Int → Int)), (1 ≤ n) → (n + (f : Nat) = many) → (∀ i, -1 ≤ row i ∧ row i ≤ 2) → (0 ≤ far ∧ far ≤ many) → (lwI l0 (gN (xkd num mf) (xco num mf) cols f n row ++ rest) many wtd ways hav fnd) → Cv l g yX0_goOn (ws_ yX0_goOn cX0_goOn 2 (Option.none : Option Jvm.ClassFile.FieldType)) (rmL (9 + 2 * f)) [.ref o, .int (iI n)] (xW g o ax num kpt many cols chg brd old page pgM told enD row ways far hav wtd fnd mdT wnT sN sW sC sM drw kN kW kC kS kG kB hh L mf) (fun w => ∃ (row1 : Int → Int) (ways1 far1 : Int) (hav1 fnd1 : Int → Int), (∀ i, i ≤ n ∨ many < i → row1 i = row i) ∧ (∀ i, -1 ≤ row1 i ∧ row1 i ≤ 2) ∧ lwI l0 rest many wtd ways1 hav1 fnd1 ∧ fqF (xkd num mf) (xco num mf) cols n many row far far1 ∧ w = xW g o ax num kpt many cols chg brd old page pgM told enD row1 ways1 far1 hav1 wtd fnd1 mdT wnT sN sW sC sM drw kN kW kC kS kG kB hh L mf)) : ∀ (n : Int) (row : Int → Int) (ways far : Int) (hav fnd : Int → Int) (rest : List (Int → Int)), (1 ≤ n) → (n + ((f + 1 : Nat) : Nat) = many + 1) → (∀ i, -1 ≤ row i ∧ row i ≤ 2) → (0 ≤ far ∧ far ≤ many) → (lwI l0 (cmp (xkd num mf) (xco num mf) cols (f + 1) n row ++ rest) many wtd ways hav fnd) → Cv l g yX0_goThrough (ws_ yX0_goThrough cX0_goThrough 3 (Option.none : Option Jvm.ClassFile.FieldType)) (rmL (8 + 2 * (f + 1))) [.ref o, .int (iI n)] (xW g o ax num kpt many cols chg brd old page pgM told enD row ways far hav wtd fnd mdT wnT sN sW sC sM drw kN kW kC kS kG kB hh L mf) (fun w => ∃ (row1 : Int → Int) (ways1 far1 : Int) (hav1 fnd1 : Int → Int), (∀ i, i < n ∨ many < i → row1 i = row i) ∧ (∀ i, -1 ≤ row1 i ∧ row1 i ≤ 2) ∧ lwI l0 rest many wtd ways1 hav1 fnd1 ∧ fpF (xkd num mf) (xco num mf) cols n many row far far1 ∧ w = xW g o ax num kpt many cols chg brd old page pgM told enD row1 ways1 far1 hav1 wtd fnd1 mdT wnT sN sW sC sM drw kN kW kC kS kG kB hh L mf) := by
  intro n row ways far hav fnd rest hn hf0 hrow hfar hlw
  refine Ct.of (by decide) (Nat.le_of_ble_eq_true rfl) ?_
  intro Γ hl hg hf hrT
  subst hl hg
  have hf : Fx Γ RX0 cX0_goThrough 3 := hf
  show T Γ (rmL (8 + 2 * (f + 1))) 3 0 0 (Qe Γ (rmL (8 + 2 * (f + 1))) _) _ 0 [(0, .ref o), (1, .int (iI n))] []
  obtain ⟨a0, ha0, ma0, ka0, na0, ca0⟩ := hB.at (n := n) (by omega) (by omega)
  have x0 := xco_at (mf := mf) ha0
  rw [cmp_s] at hlw
  refine tt_iload_n hf 1 dX0_goThrough_0 rfl ?_
  refine tt_aload_n hf 0 dX0_goThrough_1 rfl ?_
  refine gx_many hf dX0_goThrough_2 ?_
  refine tt_icmp_le (tgt := 13) hf dX0_goThrough_5 (by decide) (by omega) (by omega) (fun c5 => ?_) (fun c5 => ?_)
  · refine tt_aload_n hf 0 dX0_goThrough_13 rfl ?_
    refine gx_num hf dX0_goThrough_14 ?_
    refine tt_iload_n hf 1 dX0_goThrough_17 rfl ?_
    refine lx_num hf (by omega) ha0 dX0_goThrough_18 ?_
    refine gm_colour hf ma0 ka0 dX0_goThrough_19 ?_
    refine tt_iconst hf dX0_goThrough_22 ?_
    refine tt_icmp_eq (tgt := 47) hf dX0_goThrough_23 (by decide) (by omega) (by omega) (fun c23 => ?_) (fun c23 => ?_)
    · refine tt_iconst hf dX0_goThrough_47 ?_
      refine tt_istore_n (lv' := [(2, .int (iI 0)), (0, .ref o), (1, .int (iI n))]) hf dX0_goThrough_48 (by decide) rfl ?_
      have lp : ∀ (N : Nat) (c : Int) (rr : Int → Int) (wy : Int) (fr : Int) (hv : Int → Int) (fn : Int → Int), (0 ≤ c ∧ c ≤ cols) → (∀ i, i < n ∨ many < i → rr i = row i) → (∀ i, -1 ≤ rr i ∧ rr i ≤ 2) → (0 ≤ fr ∧ fr ≤ many) → (lwI l0 (nd (xkd num mf) (xco num mf) cols f n rr (cl cols (cols - c).toNat) ++ rest) many wtd wy hv fn) → (∀ far1, fsF (xkd num mf) (xco num mf) cols n many row (cl cols (cols - c).toNat) fr far1 → fsF (xkd num mf) (xco num mf) cols n many row (cl cols cols.toNat) far far1) → (cols - c).toNat < N → T Γ (rmL (8 + 2 * (f + 1))) 3 0 0 (Qe Γ (rmL (8 + 2 * (f + 1))) (fun vv w => vv = none ∧ (∃ (row1 : Int → Int) (ways1 far1 : Int) (hav1 fnd1 : Int → Int), (∀ i, i < n ∨ many < i → row1 i = row i) ∧ (∀ i, -1 ≤ row1 i ∧ row1 i ≤ 2) ∧ lwI l0 rest many wtd ways1 hav1 fnd1 ∧ fpF (xkd num mf) (xco num mf) cols n many row far far1 ∧ w = xW (xg Γ) o ax num kpt many cols chg brd old page pgM told enD row1 ways1 far1 hav1 wtd fnd1 mdT wnT sN sW sC sM drw kN kW kC kS kG kB hh L mf))) (xW (xg Γ) o ax num kpt many cols chg brd old page pgM told enD rr wy fr hv wtd fn mdT wnT sN sW sC sM drw kN kW kC kS kG kB hh L mf) 49 [(0, .ref o), (1, .int (iI n)), (2, .int (iI c))] [] := by
        intro N
        induction N with
        | zero => intro c rr wy fr hv fn hc0 h1 hrr hfr h2 h3 hN; exact absurd hN (Nat.not_lt_zero _)
        | succ N ih =>
          intro c rr wy fr hv fn hc0 h1 hrr hfr h2 h3 hN
          refine tt_iload_n hf 2 dX0_goThrough_49 rfl ?_
          refine tt_aload_n hf 0 dX0_goThrough_50 rfl ?_
          refine gx_cols hf dX0_goThrough_51 ?_
          refine tt_icmp_ge (tgt := 75) hf dX0_goThrough_54 (by decide) (by omega) (by omega) (fun c54 => ?_) (fun c54 => ?_)
          · exact tt_vretv hf hrT dX0_goThrough_75 (Nat.le_refl _) (Nat.le_refl _) ⟨rr, wy, fr, hv, fn, h1, hrr, (by have e := h2; rw [show (cols - c).toNat = 0 by omega] at e; exact e), fs_fp (by rw [if_neg (by rw [x0]; exact fun q => q c23)]; exact h3 fr (by rw [show (cols - c).toNat = 0 by omega]; exact fs_nil)), rfl⟩
          · refine tt_aload_n hf 0 dX0_goThrough_57 rfl ?_
            refine gx_row hf dX0_goThrough_58 ?_
            refine tt_iload_n hf 1 dX0_goThrough_61 rfl ?_
            refine tt_iload_n hf 2 dX0_goThrough_62 rfl ?_
            refine sx_row hf (by omega) dX0_goThrough_63 ?_
            refine tt_aload_n hf 0 dX0_goThrough_64 rfl ?_
            refine tt_iload_n hf 1 dX0_goThrough_65 rfl ?_
            refine tt_callV0 (As := [.int (iI n)]) (rest := []) (q0 := 0) (ci := 0) hf (IH n (uI rr n c) wy fr hv fn (nd (xkd num mf) (xco num mf) cols f n rr (cl cols (cols - (c + 1)).toNat) ++ rest) (by omega) (by omega) (uI_rng hrr (by omega)) hfr (by have e := h2; rw [cl_s (by omega), nd_c, List.append_assoc] at e; exact e)) lk_X0_X0_goOn hd_X0_goOn rfl rfl rfl ⟨rfl, rfl⟩ (rmL_ok (by omega) (by decide)) ⟨Nat.zero_le _, Nat.zero_le _⟩ (Nat.le_of_ble_eq_true rfl) dX0_goThrough_66 rfl (kk_v (fun w hp66 => ?_))
            obtain ⟨row66, ways66, far66, hav66, fnd66, p66, q66, l66, f66, rfl⟩ := hp66
            refine tt_iinc (lv' := [(2, .int (iI (c + 1))), (0, .ref o), (1, .int (iI n))]) hf 2 dX0_goThrough_69 rfl (by decide) rfl ?_
            refine tt_goto (tgt := 49) hf dX0_goThrough_72 (by decide) ?_
            refine tt_sub [1, 2, 0] rfl ?_
            exact ih (c + 1) row66 ways66 far66 hav66 fnd66 (by omega) (fun i hi => by rw [p66 i (by omega), uI_n (by omega)]; exact h1 i hi) q66 (fq_rng hfr f66) (by rw [nd_irr (r' := rr) (fun i hi => by rw [p66 i (by omega), uI_n (by omega)])]; exact l66) (fun far1 e => h3 far1 (by rw [cl_s (by omega)]; exact fs_cons (fq_irr (fun i hi => by by_cases q : i = n; subst q; rw [uI_s, uI_s]; rw [uI_n q, uI_n q]; exact h1 i (by omega)) f66) e)) (by omega)
      refine tt_sub [1, 2, 0] rfl ?_
      exact lp _ 0 row ways far hav fnd (by omega) (fun _ _ => rfl) hrow hfar (by have e := hlw; rw [if_neg (by rw [x0]; exact fun q => q c23)] at e; rw [show cols - 0 = cols by omega]; exact e) (fun far1 e => by rw [show cols - 0 = cols by omega] at e; exact e) (Nat.lt_succ_self _)
    · refine tt_aload_n hf 0 dX0_goThrough_26 rfl ?_
      refine gx_row hf dX0_goThrough_27 ?_
      refine tt_iload_n hf 1 dX0_goThrough_30 rfl ?_
      refine tt_aload_n hf 0 dX0_goThrough_31 rfl ?_
      refine gx_num hf dX0_goThrough_32 ?_
      refine tt_iload_n hf 1 dX0_goThrough_35 rfl ?_
      refine lx_num hf (by omega) ha0 dX0_goThrough_36 ?_
      refine gm_colour hf ma0 ka0 dX0_goThrough_37 ?_
      refine sx_row hf (by omega) dX0_goThrough_40 ?_
      refine tt_aload_n hf 0 dX0_goThrough_41 rfl ?_
      refine tt_iload_n hf 1 dX0_goThrough_42 rfl ?_
      refine tt_callV0 (As := [.int (iI n)]) (rest := []) (q0 := 0) (ci := 0) hf (IH n (uI row n ((mf a0).2.2.1)) ways far hav fnd rest (by omega) (by omega) (uI_rng hrow (by omega)) hfar (by have e := hlw; rw [if_pos (by rw [x0]; exact c23), x0, nd_c] at e; simpa [nd] using e)) lk_X0_X0_goOn hd_X0_goOn rfl rfl rfl ⟨rfl, rfl⟩ (rmL_ok (by omega) (by decide)) ⟨Nat.zero_le _, Nat.zero_le _⟩ (Nat.le_of_ble_eq_true rfl) dX0_goThrough_43 rfl (kk_v (fun w hp43 => ?_))
      obtain ⟨row43, ways43, far43, hav43, fnd43, p43, q43, l43, f43, rfl⟩ := hp43
      exact tt_vretv hf hrT dX0_goThrough_46 (Nat.le_refl _) (Nat.le_refl _) ⟨_, _, _, _, _, fun i hi => by rw [p43 i (by omega), uI_n (by omega)], q43, l43, fs_fp (by rw [if_pos (by rw [x0]; exact c23), x0]; exact fs_cons f43 fs_nil), rfl⟩
  · exact absurd c5 (by omega)
set_option maxHeartbeats 4000000 in
theorem cx_goThrough {l : Launch} {g : tG} {o : Nat} {ax : Nat → Nat} {num kpt : Int → Option Nat} {many cols chg brd old : Int} {page : Int → Int} {pgM told enD wtd mdT wnT : Int} {sN sW sC : Int → Int} {sM drw : Int} {kN kW kC : Int → Int} {kS kG kB : Int} {hh : Int64} {L : List Nat} {mf : Nat → Nat × Int × Int × Int} {l0 : List (Int → Int)} (hm : 0 ≤ many ∧ many ≤ 10) (hc : 2 ≤ cols ∧ cols ≤ 3) (hB : xB many num L mf) (ht : iR wtd) (hl : l0.length ≤ 59049) (hl0 : ∀ r ∈ l0, ∀ i, 1 ≤ i → i ≤ many → 0 ≤ r i ∧ r i ≤ 2) (hcc : ∀ i, 1 ≤ i → i ≤ many → (xco num mf) i ≤ cols - 1) (f : Nat) : ∀ (n : Int) (row : Int → Int) (ways far : Int) (hav fnd : Int → Int) (rest : List (Int → Int)), (1 ≤ n) → (n + (f : Nat) = many + 1) → (∀ i, -1 ≤ row i ∧ row i ≤ 2) → (0 ≤ far ∧ far ≤ many) → (lwI l0 (cmp (xkd num mf) (xco num mf) cols f n row ++ rest) many wtd ways hav fnd) → Cv l g yX0_goThrough (ws_ yX0_goThrough cX0_goThrough 3 (Option.none : Option Jvm.ClassFile.FieldType)) (rmL (8 + 2 * f)) [.ref o, .int (iI n)] (xW g o ax num kpt many cols chg brd old page pgM told enD row ways far hav wtd fnd mdT wnT sN sW sC sM drw kN kW kC kS kG kB hh L mf) (fun w => ∃ (row1 : Int → Int) (ways1 far1 : Int) (hav1 fnd1 : Int → Int), (∀ i, i < n ∨ many < i → row1 i = row i) ∧ (∀ i, -1 ≤ row1 i ∧ row1 i ≤ 2) ∧ lwI l0 rest many wtd ways1 hav1 fnd1 ∧ fpF (xkd num mf) (xco num mf) cols n many row far far1 ∧ w = xW g o ax num kpt many cols chg brd old page pgM told enD row1 ways1 far1 hav1 wtd fnd1 mdT wnT sN sW sC sM drw kN kW kC kS kG kB hh L mf) := by
  induction f with
  | zero => exact cx_goThrough_0 hm hc hB ht hl hl0
  | succ f ih => exact cx_goThrough_s hm hc hB ht hl hl0 hcc f (cx_goOn_of hm hc hB ht hl hl0 f ih)
theorem wl_in {kd co : Int → Int} {cols many : Int} (hc : cols ≤ 3) (hco : ∀ i, -1 ≤ co i ∧ co i ≤ 2) (hcc : ∀ i, 1 ≤ i → i ≤ many → co i ≤ cols - 1) (hm : 0 ≤ many) {r : Int → Int} : ∀ r' ∈ cmp kd co cols many.toNat 1 r, ∀ i, 1 ≤ i → i ≤ many → 0 ≤ r' i ∧ r' i ≤ 2 := by
  intro r' h i h1 h2
  have := WL_at hco hcc hm h i h1 h2
  omega
set_option maxHeartbeats 4000000 in
set_option maxRecDepth 100000 in
theorem cx_layWays {l : Launch} {g : tG} {o : Nat} {ax : Nat → Nat} {num kpt : Int → Option Nat} {many cols chg brd old : Int} {page : Int → Int} {pgM told enD : Int} {row : Int → Int} {ways far : Int} {hav : Int → Int} {wtd : Int} {fnd : Int → Int} {mdT wnT : Int} {sN sW sC : Int → Int} {sM drw : Int} {kN kW kC : Int → Int} {kS kG kB : Int} {hh : Int64} {L : List Nat} {mf : Nat → Nat × Int × Int × Int} {nb : Int} (hm : 0 ≤ many ∧ many ≤ 10) (hc : 2 ≤ cols ∧ cols ≤ 3) (hB : xB many num L mf) (hcc : ∀ i, 1 ≤ i → i ≤ many → (xco num mf) i ≤ cols - 1) (hrow : ∀ i, -1 ≤ row i ∧ row i ≤ 2) (hnb : iR nb) : Cv l g yX0_layWays (ws_ yX0_layWays cX0_layWays 3 (Option.none : Option Jvm.ClassFile.FieldType)) (rmL 30) [.ref o, .int (iI nb)] (xW g o ax num kpt many cols chg brd old page pgM told enD row ways far hav wtd fnd mdT wnT sN sW sC sM drw kN kW kC kS kG kB hh L mf) (fun w => ∃ (row1 : Int → Int) (hav1 fnd1 : Int → Int), (∀ i, -1 ≤ row1 i ∧ row1 i ≤ 2) ∧ cntOk (xkd num mf) (xco num mf) cols many hav1 ∧ wtOk (xkd num mf) (xco num mf) cols many nb fnd1 ∧ w = xW g o ax num kpt many cols chg brd old page pgM told enD row1 (((WL (xkd num mf) (xco num mf) cols many).length : Int)) (frN (xkd num mf) (xco num mf) cols many.toNat) hav1 nb fnd1 mdT wnT sN sW sC sM drw kN kW kC kS kG kB hh L mf) := by
  refine Ct.of (by decide) (Nat.le_of_ble_eq_true rfl) ?_
  intro Γ hl hg hf hrT
  subst hl hg
  have hf : Fx Γ RX0 cX0_layWays 3 := hf
  show T Γ (rmL 30) 3 0 0 (Qe Γ (rmL 30) _) _ 0 [(0, .ref o), (1, .int (iI nb))] []
  have lp : ∀ (N : Nat) (i : Int) (hv : Int → Int), (0 ≤ i ∧ i ≤ 33) → (hv = zF i hav) → (33 - i).toNat < N → T Γ (rmL 30) 3 0 0 (Qe Γ (rmL 30) (fun vv w => vv = none ∧ (∃ (row1 : Int → Int) (hav1 fnd1 : Int → Int), (∀ i, -1 ≤ row1 i ∧ row1 i ≤ 2) ∧ cntOk (xkd num mf) (xco num mf) cols many hav1 ∧ wtOk (xkd num mf) (xco num mf) cols many nb fnd1 ∧ w = xW (xg Γ) o ax num kpt many cols chg brd old page pgM told enD row1 (((WL (xkd num mf) (xco num mf) cols many).length : Int)) (frN (xkd num mf) (xco num mf) cols many.toNat) hav1 nb fnd1 mdT wnT sN sW sC sM drw kN kW kC kS kG kB hh L mf))) (xW (xg Γ) o ax num kpt many cols chg brd old page pgM told enD row ways far hv wtd fnd mdT wnT sN sW sC sM drw kN kW kC kS kG kB hh L mf) 2 [(0, .ref o), (1, .int (iI nb)), (2, .int (iI i))] [] := by
    intro N
    induction N with
    | zero => intro i hv hi hh hN; exact absurd hN (Nat.not_lt_zero _)
    | succ N ih =>
      intro i hv hi hh hN
      refine tt_iload_n hf 2 dX0_layWays_2 rfl ?_
      refine tt_aload_n hf 0 dX0_layWays_3 rfl ?_
      refine gx_hav hf dX0_layWays_4 ?_
      refine nx_hav hf dX0_layWays_7 ?_
      refine tt_icmp_ge (tgt := 24) hf dX0_layWays_8 (by decide) (by omega) (by omega) (fun c8 => ?_) (fun c8 => ?_)
      · refine tt_aload_n hf 0 dX0_layWays_24 rfl ?_
        refine tt_iconst hf dX0_layWays_25 ?_
        refine px_ways hf dX0_layWays_26 ?_
        refine tt_aload_n hf 0 dX0_layWays_29 rfl ?_
        refine tt_iconst hf dX0_layWays_30 ?_
        refine px_far hf dX0_layWays_31 ?_
        refine tt_aload_n hf 0 dX0_layWays_34 rfl ?_
        refine tt_iload_n hf 1 dX0_layWays_35 rfl ?_
        refine px_wtd hf dX0_layWays_36 ?_
        refine tt_aload_n hf 0 dX0_layWays_39 rfl ?_
        refine tt_iconst hf dX0_layWays_40 ?_
        refine tt_callV0 (As := [.int (iI 1)]) (rest := []) (q0 := 0) (ci := 0) hf (cx_goThrough (l0 := (cmp (xkd num mf) (xco num mf) cols many.toNat 1 row)) hm hc hB hnb (WL_le (by omega) (by omega) _) (wl_in (by omega) (xco_rng hB) hcc (by omega)) hcc many.toNat 1 row 0 0 hv fnd [] (by omega) (by omega) hrow (by omega) (by rw [List.append_nil, hh]; rw [show i = 33 by omega]; exact lwI_0 (by omega))) lk_X0_X0_goThrough hd_X0_goThrough rfl rfl rfl ⟨rfl, rfl⟩ (rmL_ok (by omega) (by decide)) ⟨Nat.zero_le _, Nat.zero_le _⟩ (Nat.le_of_ble_eq_true rfl) dX0_layWays_41 rfl (kk_v (fun w hp41 => ?_))
        obtain ⟨row41, ways41, far41, hav41, fnd41, p41, q41, l41, f41, rfl⟩ := hp41
        obtain ⟨z1, z2, z3⟩ := lwI_end (by omega) l41
        have z4 := fp_fr (by omega) f41
        exact tt_vretv hf hrT dX0_layWays_44 (Nat.le_refl _) (Nat.le_refl _) ⟨row41, hav41, fnd41, q41, z1, z2, by rw [z3, z4]⟩
      · refine tt_aload_n hf 0 dX0_layWays_11 rfl ?_
        refine gx_hav hf dX0_layWays_12 ?_
        refine tt_iload_n hf 2 dX0_layWays_15 rfl ?_
        refine tt_iconst hf dX0_layWays_16 ?_
        refine sx_hav hf (by omega) dX0_layWays_17 ?_
        refine tt_iinc (lv' := [(2, .int (iI (i + 1))), (0, .ref o), (1, .int (iI nb))]) hf 2 dX0_layWays_18 rfl (by decide) rfl ?_
        refine tt_goto (tgt := 2) hf dX0_layWays_21 (by decide) ?_
        refine tt_sub [1, 2, 0] rfl ?_
        exact ih (i + 1) (uI hv i 0) (by omega) (by rw [hh]; exact zF_s (by omega)) (by omega)
  refine tt_iconst hf dX0_layWays_0 ?_
  refine tt_istore_n (lv' := [(2, .int (iI 0)), (0, .ref o), (1, .int (iI nb))]) hf dX0_layWays_1 (by decide) rfl ?_
  refine tt_sub [1, 2, 0] rfl ?_
  exact lp _ 0 hav (by omega) zF_0.symm (Nat.lt_succ_self _)
