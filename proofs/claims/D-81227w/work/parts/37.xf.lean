theorem tt_ldcw {Γ : tX} {R : Room} {nL k n : Nat} {Q : State → Prop} {ws : va_W} {pc : Nat} {lv : List (Nat × Value)} {st : List Value} {own : String} {cc : ByteArray} (hf : Fx Γ own cc nL) {i : Nat} {v : Int32} (z : Int) (hc : Cond.constant own i v ∈ lw_all) (hv : v = iI z) (d : decode cc pc = .ok (.ldc_w i, 3)) (kk : T Γ R nL k n Q ws (pc + 3) lv (.int (iI z) :: st)) : T Γ R nL k n Q ws pc lv st :=
  fun H locs ls hP hD hS hl => lv_ldcw hf.x hf.b hf.own (hf.ts _ hc) d (hv ▸ kk H locs ls hP hD hS hl)
theorem tt_iushr {Γ : tX} {R : Room} {nL k n : Nat} {Q : State → Prop} {ws : va_W} {pc : Nat} {lv : List (Nat × Value)} {st : List Value} {own : String} {cc : ByteArray} (hf : Fx Γ own cc nL) {x y : Int32} {z : Int} (d : decode cc pc = .ok (.iushr, 1)) (hz : (x.toUInt32 >>> (y.toUInt32 &&& Int32.toUInt32 31)).toInt32 = iI z) (kk : T Γ R nL k n Q ws (pc + 1) lv (.int (iI z) :: st)) : T Γ R nL k n Q ws pc lv (.int y :: .int x :: st) :=
  fun H locs ls hP hD hS hl => lv_iushr hf.x hf.b d hz (kk H locs ls hP hD hS hl)
def pcn (z : Int) : Int := z % 2 + z / 2 % 2 + z / 4 % 2 + z / 8 % 2 + z / 16 % 2
theorem pcn_bv5 : ∀ a b c d e : Bool, pcn (bv5 a b c d e) = (if a = true then 1 else 0) + (if b = true then 1 else 0) + (if c = true then 1 else 0) + (if d = true then 1 else 0) + (if e = true then 1 else 0) := by decide
theorem bv5_and : ∀ a b c d e a' b' c' d' e' : Bool, iI (bv5 a b c d e) &&& iI (bv5 a' b' c' d' e') = iI (bv5 (a && a') (b && b') (c && c') (d && d') (e && e')) := by decide +kernel
theorem bv5_not : ∀ a b c d e : Bool, iI (bv5 a b c d e) ^^^ iI (-1) = iI (-1 - bv5 a b c d e) := by decide +kernel
theorem bv5_andn : ∀ a b c d e a' b' c' d' e' : Bool, iI (bv5 a b c d e) &&& iI (-1 - bv5 a' b' c' d' e') = iI (bv5 (a && !a') (b && !b') (c && !c') (d && !d') (e && !e')) := by decide +kernel
theorem bv_and (F G : Int → Bool) : iI (bv F) &&& iI (bv G) = iI (bv (fun k => F k && G k)) := bv5_and _ _ _ _ _ _ _ _ _ _
theorem bv_not (F : Int → Bool) : iI (bv F) ^^^ iI (-1) = iI (-1 - bv F) := bv5_not _ _ _ _ _
theorem bv_andn (F G : Int → Bool) : iI (bv F) &&& iI (-1 - bv G) = iI (bv (fun k => F k && !G k)) := bv5_andn _ _ _ _ _ _ _ _ _ _
theorem ib_and {F : Bool} {P : Prop} [Decidable P] : (if F = true ∧ P then (1 : Int) else 0) = if (F && decide P) = true then 1 else 0 := by
  by_cases h : P <;> cases F <;> simp [h]
theorem pcn_yc (F : Int → Bool) (w : Int) : pcn (bv (fun k => F k && decide (cd k w))) = yc F w 5 := by
  unfold bv
  rw [pcn_bv5]
  simp only [yc, ib_and, Int.zero_add]
  rfl
theorem yc_nc (F : Int → Bool) (w : Int) : ∀ k : Nat, yc F w k + nc F w k = (match k with | 0 => 0 | k + 1 => yc F w k + nc F w k + (if F k = true then 1 else 0))
  | 0 => rfl
  | k + 1 => by
    simp only [yc, nc]
    cases F k <;> by_cases h : cd (k : Int) w <;> simp [h] <;> omega
theorem pcn_n (F : Int → Bool) (w : Int) : pcn (bv F) = yc F w 5 + nc F w 5 := by
  have h0 := yc_nc F w 0; have h1 := yc_nc F w 1; have h2 := yc_nc F w 2; have h3 := yc_nc F w 3; have h4 := yc_nc F w 4; have h5 := yc_nc F w 5
  simp only at h0 h1 h2 h3 h4 h5
  rw [h5, h4, h3, h2, h1, h0]
  unfold bv
  rw [pcn_bv5]
  simp only [Int.zero_add]
  rfl
theorem pcn_rng (F : Int → Bool) : 0 ≤ pcn (bv F) ∧ pcn (bv F) ≤ 5 ∧ (pcn (bv F) = 0 ↔ bv F = 0) := by
  have : ∀ a b c d e : Bool, 0 ≤ pcn (bv5 a b c d e) ∧ pcn (bv5 a b c d e) ≤ 5 ∧ (pcn (bv5 a b c d e) = 0 ↔ bv5 a b c d e = 0) := by decide
  exact this _ _ _ _ _
theorem wst_of {F : Int → Bool} {w y n : Int} (hy : y = yc F w 5) (hn : n = yc F w 5 + nc F w 5) : (if n - y ≤ y then y else n - y) = wst F w := by
  unfold wst
  split <;> split <;> omega
theorem as_y {F : Int → Bool} {B w x y : Int} (hw : 0 ≤ w) (h : (x, y) = asN F B w.toNat) (q : wst F w < y) : (w, if y ≤ wst F w then y else wst F w) = asN F B (w + 1).toNat := by
  rw [asN_s hw, ← h, if_neg (by omega), if_pos (by dsimp only; omega)]
theorem as_n {F : Int → Bool} {B w x y : Int} (hw : 0 ≤ w) (h : (x, y) = asN F B w.toNat) (q : ¬ wst F w < y) : (x, if y ≤ wst F w then y else wst F w) = asN F B (w + 1).toNat := by
  rw [asN_s hw, ← h, if_pos (by omega), if_neg (by dsimp only; omega)]
set_option maxHeartbeats 4000000 in
set_option maxRecDepth 100000 in
theorem cj_bitCount {l : Launch} {g : tG} {ws : va_W} {z : Int} (hz : 0 ≤ z ∧ z ≤ 31) : Ce l g yJ1_bitCount (ws_ yJ1_bitCount cJ1_bitCount 1 (Option.some Jvm.ClassFile.FieldType.int)) (rmL 1) [.int (iI z)] (ws) (pcn z) (ws) := by
  refine Ct.ofF (by decide +kernel) (Nat.le_of_ble_eq_true rfl) ?_
  intro Γ hl hg hf hrT
  subst hl hg
  have hf : Fx Γ RJ1 cJ1_bitCount 1 := hf
  show T Γ (rmL 1) 1 0 0 (Qe Γ (rmL 1) _) _ 0 [(0, .int (iI z))] []
  rcases (show z = 0 ∨ z = 1 ∨ z = 2 ∨ z = 3 ∨ z = 4 ∨ z = 5 ∨ z = 6 ∨ z = 7 ∨ z = 8 ∨ z = 9 ∨ z = 10 ∨ z = 11 ∨ z = 12 ∨ z = 13 ∨ z = 14 ∨ z = 15 ∨ z = 16 ∨ z = 17 ∨ z = 18 ∨ z = 19 ∨ z = 20 ∨ z = 21 ∨ z = 22 ∨ z = 23 ∨ z = 24 ∨ z = 25 ∨ z = 26 ∨ z = 27 ∨ z = 28 ∨ z = 29 ∨ z = 30 ∨ z = 31 by omega) with e | e | e | e | e | e | e | e | e | e | e | e | e | e | e | e | e | e | e | e | e | e | e | e | e | e | e | e | e | e | e | e <;> subst e
  · refine tt_iload_n hf 0 dJ1_bitCount_0 rfl ?_
    refine tt_iload_n hf 0 dJ1_bitCount_1 rfl ?_
    refine tt_iconst hf dJ1_bitCount_2 ?_
    refine tt_iushr (z := 0) hf dJ1_bitCount_3 (by decide +kernel) ?_
    refine tt_ldcw hf (1431655765) q540 (by decide) dJ1_bitCount_4 ?_
    refine tt_iand (z := 0) hf dJ1_bitCount_7 (by decide +kernel) ?_
    refine tt_isub hf dJ1_bitCount_8 (tt_top (z' := 0) (by decide) ?_)
    refine tt_istore_n (lv' := [(0, .int (iI 0))]) hf dJ1_bitCount_9 (by decide) rfl ?_
    refine tt_iload_n hf 0 dJ1_bitCount_10 rfl ?_
    refine tt_ldcw hf (858993459) q541 (by decide) dJ1_bitCount_11 ?_
    refine tt_iand (z := 0) hf dJ1_bitCount_14 (by decide +kernel) ?_
    refine tt_iload_n hf 0 dJ1_bitCount_15 rfl ?_
    refine tt_iconst hf dJ1_bitCount_16 ?_
    refine tt_iushr (z := 0) hf dJ1_bitCount_17 (by decide +kernel) ?_
    refine tt_ldcw hf (858993459) q541 (by decide) dJ1_bitCount_18 ?_
    refine tt_iand (z := 0) hf dJ1_bitCount_21 (by decide +kernel) ?_
    refine tt_iadd hf dJ1_bitCount_22 (tt_top (z' := 0) (by decide) ?_)
    refine tt_istore_n (lv' := [(0, .int (iI 0))]) hf dJ1_bitCount_23 (by decide) rfl ?_
    refine tt_iload_n hf 0 dJ1_bitCount_24 rfl ?_
    refine tt_iload_n hf 0 dJ1_bitCount_25 rfl ?_
    refine tt_iconst hf dJ1_bitCount_26 ?_
    refine tt_iushr (z := 0) hf dJ1_bitCount_27 (by decide +kernel) ?_
    refine tt_iadd hf dJ1_bitCount_28 (tt_top (z' := 0) (by decide) ?_)
    refine tt_ldcw hf (252645135) q542 (by decide) dJ1_bitCount_29 ?_
    refine tt_iand (z := 0) hf dJ1_bitCount_32 (by decide +kernel) ?_
    refine tt_istore_n (lv' := [(0, .int (iI 0))]) hf dJ1_bitCount_33 (by decide) rfl ?_
    refine tt_iload_n hf 0 dJ1_bitCount_34 rfl ?_
    refine tt_iload_n hf 0 dJ1_bitCount_35 rfl ?_
    refine tt_bipush hf dJ1_bitCount_36 (by decide) ?_
    refine tt_iushr (z := 0) hf dJ1_bitCount_38 (by decide +kernel) ?_
    refine tt_iadd hf dJ1_bitCount_39 (tt_top (z' := 0) (by decide) ?_)
    refine tt_istore_n (lv' := [(0, .int (iI 0))]) hf dJ1_bitCount_40 (by decide) rfl ?_
    refine tt_iload_n hf 0 dJ1_bitCount_41 rfl ?_
    refine tt_iload_n hf 0 dJ1_bitCount_42 rfl ?_
    refine tt_bipush hf dJ1_bitCount_43 (by decide) ?_
    refine tt_iushr (z := 0) hf dJ1_bitCount_45 (by decide +kernel) ?_
    refine tt_iadd hf dJ1_bitCount_46 (tt_top (z' := 0) (by decide) ?_)
    refine tt_istore_n (lv' := [(0, .int (iI 0))]) hf dJ1_bitCount_47 (by decide) rfl ?_
    refine tt_iload_n hf 0 dJ1_bitCount_48 rfl ?_
    refine tt_bipush hf dJ1_bitCount_49 (by decide) ?_
    refine tt_iand (z := 0) hf dJ1_bitCount_51 (by decide +kernel) ?_
    exact tt_ireti hf hrT dJ1_bitCount_52 (Nat.le_refl _) (Nat.le_refl _) (by decide) ⟨by decide, rfl⟩
  · refine tt_iload_n hf 0 dJ1_bitCount_0 rfl ?_
    refine tt_iload_n hf 0 dJ1_bitCount_1 rfl ?_
    refine tt_iconst hf dJ1_bitCount_2 ?_
    refine tt_iushr (z := 0) hf dJ1_bitCount_3 (by decide +kernel) ?_
    refine tt_ldcw hf (1431655765) q540 (by decide) dJ1_bitCount_4 ?_
    refine tt_iand (z := 0) hf dJ1_bitCount_7 (by decide +kernel) ?_
    refine tt_isub hf dJ1_bitCount_8 (tt_top (z' := 1) (by decide) ?_)
    refine tt_istore_n (lv' := [(0, .int (iI 1))]) hf dJ1_bitCount_9 (by decide) rfl ?_
    refine tt_iload_n hf 0 dJ1_bitCount_10 rfl ?_
    refine tt_ldcw hf (858993459) q541 (by decide) dJ1_bitCount_11 ?_
    refine tt_iand (z := 1) hf dJ1_bitCount_14 (by decide +kernel) ?_
    refine tt_iload_n hf 0 dJ1_bitCount_15 rfl ?_
    refine tt_iconst hf dJ1_bitCount_16 ?_
    refine tt_iushr (z := 0) hf dJ1_bitCount_17 (by decide +kernel) ?_
    refine tt_ldcw hf (858993459) q541 (by decide) dJ1_bitCount_18 ?_
    refine tt_iand (z := 0) hf dJ1_bitCount_21 (by decide +kernel) ?_
    refine tt_iadd hf dJ1_bitCount_22 (tt_top (z' := 1) (by decide) ?_)
    refine tt_istore_n (lv' := [(0, .int (iI 1))]) hf dJ1_bitCount_23 (by decide) rfl ?_
    refine tt_iload_n hf 0 dJ1_bitCount_24 rfl ?_
    refine tt_iload_n hf 0 dJ1_bitCount_25 rfl ?_
    refine tt_iconst hf dJ1_bitCount_26 ?_
    refine tt_iushr (z := 0) hf dJ1_bitCount_27 (by decide +kernel) ?_
    refine tt_iadd hf dJ1_bitCount_28 (tt_top (z' := 1) (by decide) ?_)
    refine tt_ldcw hf (252645135) q542 (by decide) dJ1_bitCount_29 ?_
    refine tt_iand (z := 1) hf dJ1_bitCount_32 (by decide +kernel) ?_
    refine tt_istore_n (lv' := [(0, .int (iI 1))]) hf dJ1_bitCount_33 (by decide) rfl ?_
    refine tt_iload_n hf 0 dJ1_bitCount_34 rfl ?_
    refine tt_iload_n hf 0 dJ1_bitCount_35 rfl ?_
    refine tt_bipush hf dJ1_bitCount_36 (by decide) ?_
    refine tt_iushr (z := 0) hf dJ1_bitCount_38 (by decide +kernel) ?_
    refine tt_iadd hf dJ1_bitCount_39 (tt_top (z' := 1) (by decide) ?_)
    refine tt_istore_n (lv' := [(0, .int (iI 1))]) hf dJ1_bitCount_40 (by decide) rfl ?_
    refine tt_iload_n hf 0 dJ1_bitCount_41 rfl ?_
    refine tt_iload_n hf 0 dJ1_bitCount_42 rfl ?_
    refine tt_bipush hf dJ1_bitCount_43 (by decide) ?_
    refine tt_iushr (z := 0) hf dJ1_bitCount_45 (by decide +kernel) ?_
    refine tt_iadd hf dJ1_bitCount_46 (tt_top (z' := 1) (by decide) ?_)
    refine tt_istore_n (lv' := [(0, .int (iI 1))]) hf dJ1_bitCount_47 (by decide) rfl ?_
    refine tt_iload_n hf 0 dJ1_bitCount_48 rfl ?_
    refine tt_bipush hf dJ1_bitCount_49 (by decide) ?_
    refine tt_iand (z := 1) hf dJ1_bitCount_51 (by decide +kernel) ?_
    exact tt_ireti hf hrT dJ1_bitCount_52 (Nat.le_refl _) (Nat.le_refl _) (by decide) ⟨by decide, rfl⟩
  · refine tt_iload_n hf 0 dJ1_bitCount_0 rfl ?_
    refine tt_iload_n hf 0 dJ1_bitCount_1 rfl ?_
    refine tt_iconst hf dJ1_bitCount_2 ?_
    refine tt_iushr (z := 1) hf dJ1_bitCount_3 (by decide +kernel) ?_
    refine tt_ldcw hf (1431655765) q540 (by decide) dJ1_bitCount_4 ?_
    refine tt_iand (z := 1) hf dJ1_bitCount_7 (by decide +kernel) ?_
    refine tt_isub hf dJ1_bitCount_8 (tt_top (z' := 1) (by decide) ?_)
    refine tt_istore_n (lv' := [(0, .int (iI 1))]) hf dJ1_bitCount_9 (by decide) rfl ?_
    refine tt_iload_n hf 0 dJ1_bitCount_10 rfl ?_
    refine tt_ldcw hf (858993459) q541 (by decide) dJ1_bitCount_11 ?_
    refine tt_iand (z := 1) hf dJ1_bitCount_14 (by decide +kernel) ?_
    refine tt_iload_n hf 0 dJ1_bitCount_15 rfl ?_
    refine tt_iconst hf dJ1_bitCount_16 ?_
    refine tt_iushr (z := 0) hf dJ1_bitCount_17 (by decide +kernel) ?_
    refine tt_ldcw hf (858993459) q541 (by decide) dJ1_bitCount_18 ?_
    refine tt_iand (z := 0) hf dJ1_bitCount_21 (by decide +kernel) ?_
    refine tt_iadd hf dJ1_bitCount_22 (tt_top (z' := 1) (by decide) ?_)
    refine tt_istore_n (lv' := [(0, .int (iI 1))]) hf dJ1_bitCount_23 (by decide) rfl ?_
    refine tt_iload_n hf 0 dJ1_bitCount_24 rfl ?_
    refine tt_iload_n hf 0 dJ1_bitCount_25 rfl ?_
    refine tt_iconst hf dJ1_bitCount_26 ?_
    refine tt_iushr (z := 0) hf dJ1_bitCount_27 (by decide +kernel) ?_
    refine tt_iadd hf dJ1_bitCount_28 (tt_top (z' := 1) (by decide) ?_)
    refine tt_ldcw hf (252645135) q542 (by decide) dJ1_bitCount_29 ?_
    refine tt_iand (z := 1) hf dJ1_bitCount_32 (by decide +kernel) ?_
    refine tt_istore_n (lv' := [(0, .int (iI 1))]) hf dJ1_bitCount_33 (by decide) rfl ?_
    refine tt_iload_n hf 0 dJ1_bitCount_34 rfl ?_
    refine tt_iload_n hf 0 dJ1_bitCount_35 rfl ?_
    refine tt_bipush hf dJ1_bitCount_36 (by decide) ?_
    refine tt_iushr (z := 0) hf dJ1_bitCount_38 (by decide +kernel) ?_
    refine tt_iadd hf dJ1_bitCount_39 (tt_top (z' := 1) (by decide) ?_)
    refine tt_istore_n (lv' := [(0, .int (iI 1))]) hf dJ1_bitCount_40 (by decide) rfl ?_
    refine tt_iload_n hf 0 dJ1_bitCount_41 rfl ?_
    refine tt_iload_n hf 0 dJ1_bitCount_42 rfl ?_
    refine tt_bipush hf dJ1_bitCount_43 (by decide) ?_
    refine tt_iushr (z := 0) hf dJ1_bitCount_45 (by decide +kernel) ?_
    refine tt_iadd hf dJ1_bitCount_46 (tt_top (z' := 1) (by decide) ?_)
    refine tt_istore_n (lv' := [(0, .int (iI 1))]) hf dJ1_bitCount_47 (by decide) rfl ?_
    refine tt_iload_n hf 0 dJ1_bitCount_48 rfl ?_
    refine tt_bipush hf dJ1_bitCount_49 (by decide) ?_
    refine tt_iand (z := 1) hf dJ1_bitCount_51 (by decide +kernel) ?_
    exact tt_ireti hf hrT dJ1_bitCount_52 (Nat.le_refl _) (Nat.le_refl _) (by decide) ⟨by decide, rfl⟩
  · refine tt_iload_n hf 0 dJ1_bitCount_0 rfl ?_
    refine tt_iload_n hf 0 dJ1_bitCount_1 rfl ?_
    refine tt_iconst hf dJ1_bitCount_2 ?_
    refine tt_iushr (z := 1) hf dJ1_bitCount_3 (by decide +kernel) ?_
    refine tt_ldcw hf (1431655765) q540 (by decide) dJ1_bitCount_4 ?_
    refine tt_iand (z := 1) hf dJ1_bitCount_7 (by decide +kernel) ?_
    refine tt_isub hf dJ1_bitCount_8 (tt_top (z' := 2) (by decide) ?_)
    refine tt_istore_n (lv' := [(0, .int (iI 2))]) hf dJ1_bitCount_9 (by decide) rfl ?_
    refine tt_iload_n hf 0 dJ1_bitCount_10 rfl ?_
    refine tt_ldcw hf (858993459) q541 (by decide) dJ1_bitCount_11 ?_
    refine tt_iand (z := 2) hf dJ1_bitCount_14 (by decide +kernel) ?_
    refine tt_iload_n hf 0 dJ1_bitCount_15 rfl ?_
    refine tt_iconst hf dJ1_bitCount_16 ?_
    refine tt_iushr (z := 0) hf dJ1_bitCount_17 (by decide +kernel) ?_
    refine tt_ldcw hf (858993459) q541 (by decide) dJ1_bitCount_18 ?_
    refine tt_iand (z := 0) hf dJ1_bitCount_21 (by decide +kernel) ?_
    refine tt_iadd hf dJ1_bitCount_22 (tt_top (z' := 2) (by decide) ?_)
    refine tt_istore_n (lv' := [(0, .int (iI 2))]) hf dJ1_bitCount_23 (by decide) rfl ?_
    refine tt_iload_n hf 0 dJ1_bitCount_24 rfl ?_
    refine tt_iload_n hf 0 dJ1_bitCount_25 rfl ?_
    refine tt_iconst hf dJ1_bitCount_26 ?_
    refine tt_iushr (z := 0) hf dJ1_bitCount_27 (by decide +kernel) ?_
    refine tt_iadd hf dJ1_bitCount_28 (tt_top (z' := 2) (by decide) ?_)
    refine tt_ldcw hf (252645135) q542 (by decide) dJ1_bitCount_29 ?_
    refine tt_iand (z := 2) hf dJ1_bitCount_32 (by decide +kernel) ?_
    refine tt_istore_n (lv' := [(0, .int (iI 2))]) hf dJ1_bitCount_33 (by decide) rfl ?_
    refine tt_iload_n hf 0 dJ1_bitCount_34 rfl ?_
    refine tt_iload_n hf 0 dJ1_bitCount_35 rfl ?_
    refine tt_bipush hf dJ1_bitCount_36 (by decide) ?_
    refine tt_iushr (z := 0) hf dJ1_bitCount_38 (by decide +kernel) ?_
    refine tt_iadd hf dJ1_bitCount_39 (tt_top (z' := 2) (by decide) ?_)
    refine tt_istore_n (lv' := [(0, .int (iI 2))]) hf dJ1_bitCount_40 (by decide) rfl ?_
    refine tt_iload_n hf 0 dJ1_bitCount_41 rfl ?_
    refine tt_iload_n hf 0 dJ1_bitCount_42 rfl ?_
    refine tt_bipush hf dJ1_bitCount_43 (by decide) ?_
    refine tt_iushr (z := 0) hf dJ1_bitCount_45 (by decide +kernel) ?_
    refine tt_iadd hf dJ1_bitCount_46 (tt_top (z' := 2) (by decide) ?_)
    refine tt_istore_n (lv' := [(0, .int (iI 2))]) hf dJ1_bitCount_47 (by decide) rfl ?_
    refine tt_iload_n hf 0 dJ1_bitCount_48 rfl ?_
    refine tt_bipush hf dJ1_bitCount_49 (by decide) ?_
    refine tt_iand (z := 2) hf dJ1_bitCount_51 (by decide +kernel) ?_
    exact tt_ireti hf hrT dJ1_bitCount_52 (Nat.le_refl _) (Nat.le_refl _) (by decide) ⟨by decide, rfl⟩
  · refine tt_iload_n hf 0 dJ1_bitCount_0 rfl ?_
    refine tt_iload_n hf 0 dJ1_bitCount_1 rfl ?_
    refine tt_iconst hf dJ1_bitCount_2 ?_
    refine tt_iushr (z := 2) hf dJ1_bitCount_3 (by decide +kernel) ?_
    refine tt_ldcw hf (1431655765) q540 (by decide) dJ1_bitCount_4 ?_
    refine tt_iand (z := 0) hf dJ1_bitCount_7 (by decide +kernel) ?_
    refine tt_isub hf dJ1_bitCount_8 (tt_top (z' := 4) (by decide) ?_)
    refine tt_istore_n (lv' := [(0, .int (iI 4))]) hf dJ1_bitCount_9 (by decide) rfl ?_
    refine tt_iload_n hf 0 dJ1_bitCount_10 rfl ?_
    refine tt_ldcw hf (858993459) q541 (by decide) dJ1_bitCount_11 ?_
    refine tt_iand (z := 0) hf dJ1_bitCount_14 (by decide +kernel) ?_
    refine tt_iload_n hf 0 dJ1_bitCount_15 rfl ?_
    refine tt_iconst hf dJ1_bitCount_16 ?_
    refine tt_iushr (z := 1) hf dJ1_bitCount_17 (by decide +kernel) ?_
    refine tt_ldcw hf (858993459) q541 (by decide) dJ1_bitCount_18 ?_
    refine tt_iand (z := 1) hf dJ1_bitCount_21 (by decide +kernel) ?_
    refine tt_iadd hf dJ1_bitCount_22 (tt_top (z' := 1) (by decide) ?_)
    refine tt_istore_n (lv' := [(0, .int (iI 1))]) hf dJ1_bitCount_23 (by decide) rfl ?_
    refine tt_iload_n hf 0 dJ1_bitCount_24 rfl ?_
    refine tt_iload_n hf 0 dJ1_bitCount_25 rfl ?_
    refine tt_iconst hf dJ1_bitCount_26 ?_
    refine tt_iushr (z := 0) hf dJ1_bitCount_27 (by decide +kernel) ?_
    refine tt_iadd hf dJ1_bitCount_28 (tt_top (z' := 1) (by decide) ?_)
    refine tt_ldcw hf (252645135) q542 (by decide) dJ1_bitCount_29 ?_
    refine tt_iand (z := 1) hf dJ1_bitCount_32 (by decide +kernel) ?_
    refine tt_istore_n (lv' := [(0, .int (iI 1))]) hf dJ1_bitCount_33 (by decide) rfl ?_
    refine tt_iload_n hf 0 dJ1_bitCount_34 rfl ?_
    refine tt_iload_n hf 0 dJ1_bitCount_35 rfl ?_
    refine tt_bipush hf dJ1_bitCount_36 (by decide) ?_
    refine tt_iushr (z := 0) hf dJ1_bitCount_38 (by decide +kernel) ?_
    refine tt_iadd hf dJ1_bitCount_39 (tt_top (z' := 1) (by decide) ?_)
    refine tt_istore_n (lv' := [(0, .int (iI 1))]) hf dJ1_bitCount_40 (by decide) rfl ?_
    refine tt_iload_n hf 0 dJ1_bitCount_41 rfl ?_
    refine tt_iload_n hf 0 dJ1_bitCount_42 rfl ?_
    refine tt_bipush hf dJ1_bitCount_43 (by decide) ?_
    refine tt_iushr (z := 0) hf dJ1_bitCount_45 (by decide +kernel) ?_
    refine tt_iadd hf dJ1_bitCount_46 (tt_top (z' := 1) (by decide) ?_)
    refine tt_istore_n (lv' := [(0, .int (iI 1))]) hf dJ1_bitCount_47 (by decide) rfl ?_
    refine tt_iload_n hf 0 dJ1_bitCount_48 rfl ?_
    refine tt_bipush hf dJ1_bitCount_49 (by decide) ?_
    refine tt_iand (z := 1) hf dJ1_bitCount_51 (by decide +kernel) ?_
    exact tt_ireti hf hrT dJ1_bitCount_52 (Nat.le_refl _) (Nat.le_refl _) (by decide) ⟨by decide, rfl⟩
  · refine tt_iload_n hf 0 dJ1_bitCount_0 rfl ?_
    refine tt_iload_n hf 0 dJ1_bitCount_1 rfl ?_
    refine tt_iconst hf dJ1_bitCount_2 ?_
    refine tt_iushr (z := 2) hf dJ1_bitCount_3 (by decide +kernel) ?_
    refine tt_ldcw hf (1431655765) q540 (by decide) dJ1_bitCount_4 ?_
    refine tt_iand (z := 0) hf dJ1_bitCount_7 (by decide +kernel) ?_
    refine tt_isub hf dJ1_bitCount_8 (tt_top (z' := 5) (by decide) ?_)
    refine tt_istore_n (lv' := [(0, .int (iI 5))]) hf dJ1_bitCount_9 (by decide) rfl ?_
    refine tt_iload_n hf 0 dJ1_bitCount_10 rfl ?_
    refine tt_ldcw hf (858993459) q541 (by decide) dJ1_bitCount_11 ?_
    refine tt_iand (z := 1) hf dJ1_bitCount_14 (by decide +kernel) ?_
    refine tt_iload_n hf 0 dJ1_bitCount_15 rfl ?_
    refine tt_iconst hf dJ1_bitCount_16 ?_
    refine tt_iushr (z := 1) hf dJ1_bitCount_17 (by decide +kernel) ?_
    refine tt_ldcw hf (858993459) q541 (by decide) dJ1_bitCount_18 ?_
    refine tt_iand (z := 1) hf dJ1_bitCount_21 (by decide +kernel) ?_
    refine tt_iadd hf dJ1_bitCount_22 (tt_top (z' := 2) (by decide) ?_)
    refine tt_istore_n (lv' := [(0, .int (iI 2))]) hf dJ1_bitCount_23 (by decide) rfl ?_
    refine tt_iload_n hf 0 dJ1_bitCount_24 rfl ?_
    refine tt_iload_n hf 0 dJ1_bitCount_25 rfl ?_
    refine tt_iconst hf dJ1_bitCount_26 ?_
    refine tt_iushr (z := 0) hf dJ1_bitCount_27 (by decide +kernel) ?_
    refine tt_iadd hf dJ1_bitCount_28 (tt_top (z' := 2) (by decide) ?_)
    refine tt_ldcw hf (252645135) q542 (by decide) dJ1_bitCount_29 ?_
    refine tt_iand (z := 2) hf dJ1_bitCount_32 (by decide +kernel) ?_
    refine tt_istore_n (lv' := [(0, .int (iI 2))]) hf dJ1_bitCount_33 (by decide) rfl ?_
    refine tt_iload_n hf 0 dJ1_bitCount_34 rfl ?_
    refine tt_iload_n hf 0 dJ1_bitCount_35 rfl ?_
    refine tt_bipush hf dJ1_bitCount_36 (by decide) ?_
    refine tt_iushr (z := 0) hf dJ1_bitCount_38 (by decide +kernel) ?_
    refine tt_iadd hf dJ1_bitCount_39 (tt_top (z' := 2) (by decide) ?_)
    refine tt_istore_n (lv' := [(0, .int (iI 2))]) hf dJ1_bitCount_40 (by decide) rfl ?_
    refine tt_iload_n hf 0 dJ1_bitCount_41 rfl ?_
    refine tt_iload_n hf 0 dJ1_bitCount_42 rfl ?_
    refine tt_bipush hf dJ1_bitCount_43 (by decide) ?_
    refine tt_iushr (z := 0) hf dJ1_bitCount_45 (by decide +kernel) ?_
    refine tt_iadd hf dJ1_bitCount_46 (tt_top (z' := 2) (by decide) ?_)
    refine tt_istore_n (lv' := [(0, .int (iI 2))]) hf dJ1_bitCount_47 (by decide) rfl ?_
    refine tt_iload_n hf 0 dJ1_bitCount_48 rfl ?_
    refine tt_bipush hf dJ1_bitCount_49 (by decide) ?_
    refine tt_iand (z := 2) hf dJ1_bitCount_51 (by decide +kernel) ?_
    exact tt_ireti hf hrT dJ1_bitCount_52 (Nat.le_refl _) (Nat.le_refl _) (by decide) ⟨by decide, rfl⟩
  · refine tt_iload_n hf 0 dJ1_bitCount_0 rfl ?_
    refine tt_iload_n hf 0 dJ1_bitCount_1 rfl ?_
    refine tt_iconst hf dJ1_bitCount_2 ?_
    refine tt_iushr (z := 3) hf dJ1_bitCount_3 (by decide +kernel) ?_
    refine tt_ldcw hf (1431655765) q540 (by decide) dJ1_bitCount_4 ?_
    refine tt_iand (z := 1) hf dJ1_bitCount_7 (by decide +kernel) ?_
    refine tt_isub hf dJ1_bitCount_8 (tt_top (z' := 5) (by decide) ?_)
    refine tt_istore_n (lv' := [(0, .int (iI 5))]) hf dJ1_bitCount_9 (by decide) rfl ?_
    refine tt_iload_n hf 0 dJ1_bitCount_10 rfl ?_
    refine tt_ldcw hf (858993459) q541 (by decide) dJ1_bitCount_11 ?_
    refine tt_iand (z := 1) hf dJ1_bitCount_14 (by decide +kernel) ?_
    refine tt_iload_n hf 0 dJ1_bitCount_15 rfl ?_
    refine tt_iconst hf dJ1_bitCount_16 ?_
    refine tt_iushr (z := 1) hf dJ1_bitCount_17 (by decide +kernel) ?_
    refine tt_ldcw hf (858993459) q541 (by decide) dJ1_bitCount_18 ?_
    refine tt_iand (z := 1) hf dJ1_bitCount_21 (by decide +kernel) ?_
    refine tt_iadd hf dJ1_bitCount_22 (tt_top (z' := 2) (by decide) ?_)
    refine tt_istore_n (lv' := [(0, .int (iI 2))]) hf dJ1_bitCount_23 (by decide) rfl ?_
    refine tt_iload_n hf 0 dJ1_bitCount_24 rfl ?_
    refine tt_iload_n hf 0 dJ1_bitCount_25 rfl ?_
    refine tt_iconst hf dJ1_bitCount_26 ?_
    refine tt_iushr (z := 0) hf dJ1_bitCount_27 (by decide +kernel) ?_
    refine tt_iadd hf dJ1_bitCount_28 (tt_top (z' := 2) (by decide) ?_)
    refine tt_ldcw hf (252645135) q542 (by decide) dJ1_bitCount_29 ?_
    refine tt_iand (z := 2) hf dJ1_bitCount_32 (by decide +kernel) ?_
    refine tt_istore_n (lv' := [(0, .int (iI 2))]) hf dJ1_bitCount_33 (by decide) rfl ?_
    refine tt_iload_n hf 0 dJ1_bitCount_34 rfl ?_
    refine tt_iload_n hf 0 dJ1_bitCount_35 rfl ?_
    refine tt_bipush hf dJ1_bitCount_36 (by decide) ?_
    refine tt_iushr (z := 0) hf dJ1_bitCount_38 (by decide +kernel) ?_
    refine tt_iadd hf dJ1_bitCount_39 (tt_top (z' := 2) (by decide) ?_)
    refine tt_istore_n (lv' := [(0, .int (iI 2))]) hf dJ1_bitCount_40 (by decide) rfl ?_
    refine tt_iload_n hf 0 dJ1_bitCount_41 rfl ?_
    refine tt_iload_n hf 0 dJ1_bitCount_42 rfl ?_
    refine tt_bipush hf dJ1_bitCount_43 (by decide) ?_
    refine tt_iushr (z := 0) hf dJ1_bitCount_45 (by decide +kernel) ?_
    refine tt_iadd hf dJ1_bitCount_46 (tt_top (z' := 2) (by decide) ?_)
    refine tt_istore_n (lv' := [(0, .int (iI 2))]) hf dJ1_bitCount_47 (by decide) rfl ?_
    refine tt_iload_n hf 0 dJ1_bitCount_48 rfl ?_
    refine tt_bipush hf dJ1_bitCount_49 (by decide) ?_
    refine tt_iand (z := 2) hf dJ1_bitCount_51 (by decide +kernel) ?_
    exact tt_ireti hf hrT dJ1_bitCount_52 (Nat.le_refl _) (Nat.le_refl _) (by decide) ⟨by decide, rfl⟩
  · refine tt_iload_n hf 0 dJ1_bitCount_0 rfl ?_
    refine tt_iload_n hf 0 dJ1_bitCount_1 rfl ?_
    refine tt_iconst hf dJ1_bitCount_2 ?_
    refine tt_iushr (z := 3) hf dJ1_bitCount_3 (by decide +kernel) ?_
    refine tt_ldcw hf (1431655765) q540 (by decide) dJ1_bitCount_4 ?_
    refine tt_iand (z := 1) hf dJ1_bitCount_7 (by decide +kernel) ?_
    refine tt_isub hf dJ1_bitCount_8 (tt_top (z' := 6) (by decide) ?_)
    refine tt_istore_n (lv' := [(0, .int (iI 6))]) hf dJ1_bitCount_9 (by decide) rfl ?_
    refine tt_iload_n hf 0 dJ1_bitCount_10 rfl ?_
    refine tt_ldcw hf (858993459) q541 (by decide) dJ1_bitCount_11 ?_
    refine tt_iand (z := 2) hf dJ1_bitCount_14 (by decide +kernel) ?_
    refine tt_iload_n hf 0 dJ1_bitCount_15 rfl ?_
    refine tt_iconst hf dJ1_bitCount_16 ?_
    refine tt_iushr (z := 1) hf dJ1_bitCount_17 (by decide +kernel) ?_
    refine tt_ldcw hf (858993459) q541 (by decide) dJ1_bitCount_18 ?_
    refine tt_iand (z := 1) hf dJ1_bitCount_21 (by decide +kernel) ?_
    refine tt_iadd hf dJ1_bitCount_22 (tt_top (z' := 3) (by decide) ?_)
    refine tt_istore_n (lv' := [(0, .int (iI 3))]) hf dJ1_bitCount_23 (by decide) rfl ?_
    refine tt_iload_n hf 0 dJ1_bitCount_24 rfl ?_
    refine tt_iload_n hf 0 dJ1_bitCount_25 rfl ?_
    refine tt_iconst hf dJ1_bitCount_26 ?_
    refine tt_iushr (z := 0) hf dJ1_bitCount_27 (by decide +kernel) ?_
    refine tt_iadd hf dJ1_bitCount_28 (tt_top (z' := 3) (by decide) ?_)
    refine tt_ldcw hf (252645135) q542 (by decide) dJ1_bitCount_29 ?_
    refine tt_iand (z := 3) hf dJ1_bitCount_32 (by decide +kernel) ?_
    refine tt_istore_n (lv' := [(0, .int (iI 3))]) hf dJ1_bitCount_33 (by decide) rfl ?_
    refine tt_iload_n hf 0 dJ1_bitCount_34 rfl ?_
    refine tt_iload_n hf 0 dJ1_bitCount_35 rfl ?_
    refine tt_bipush hf dJ1_bitCount_36 (by decide) ?_
    refine tt_iushr (z := 0) hf dJ1_bitCount_38 (by decide +kernel) ?_
    refine tt_iadd hf dJ1_bitCount_39 (tt_top (z' := 3) (by decide) ?_)
    refine tt_istore_n (lv' := [(0, .int (iI 3))]) hf dJ1_bitCount_40 (by decide) rfl ?_
    refine tt_iload_n hf 0 dJ1_bitCount_41 rfl ?_
    refine tt_iload_n hf 0 dJ1_bitCount_42 rfl ?_
    refine tt_bipush hf dJ1_bitCount_43 (by decide) ?_
    refine tt_iushr (z := 0) hf dJ1_bitCount_45 (by decide +kernel) ?_
    refine tt_iadd hf dJ1_bitCount_46 (tt_top (z' := 3) (by decide) ?_)
    refine tt_istore_n (lv' := [(0, .int (iI 3))]) hf dJ1_bitCount_47 (by decide) rfl ?_
    refine tt_iload_n hf 0 dJ1_bitCount_48 rfl ?_
    refine tt_bipush hf dJ1_bitCount_49 (by decide) ?_
    refine tt_iand (z := 3) hf dJ1_bitCount_51 (by decide +kernel) ?_
    exact tt_ireti hf hrT dJ1_bitCount_52 (Nat.le_refl _) (Nat.le_refl _) (by decide) ⟨by decide, rfl⟩
  · refine tt_iload_n hf 0 dJ1_bitCount_0 rfl ?_
    refine tt_iload_n hf 0 dJ1_bitCount_1 rfl ?_
    refine tt_iconst hf dJ1_bitCount_2 ?_
    refine tt_iushr (z := 4) hf dJ1_bitCount_3 (by decide +kernel) ?_
    refine tt_ldcw hf (1431655765) q540 (by decide) dJ1_bitCount_4 ?_
    refine tt_iand (z := 4) hf dJ1_bitCount_7 (by decide +kernel) ?_
    refine tt_isub hf dJ1_bitCount_8 (tt_top (z' := 4) (by decide) ?_)
    refine tt_istore_n (lv' := [(0, .int (iI 4))]) hf dJ1_bitCount_9 (by decide) rfl ?_
    refine tt_iload_n hf 0 dJ1_bitCount_10 rfl ?_
    refine tt_ldcw hf (858993459) q541 (by decide) dJ1_bitCount_11 ?_
    refine tt_iand (z := 0) hf dJ1_bitCount_14 (by decide +kernel) ?_
    refine tt_iload_n hf 0 dJ1_bitCount_15 rfl ?_
    refine tt_iconst hf dJ1_bitCount_16 ?_
    refine tt_iushr (z := 1) hf dJ1_bitCount_17 (by decide +kernel) ?_
    refine tt_ldcw hf (858993459) q541 (by decide) dJ1_bitCount_18 ?_
    refine tt_iand (z := 1) hf dJ1_bitCount_21 (by decide +kernel) ?_
    refine tt_iadd hf dJ1_bitCount_22 (tt_top (z' := 1) (by decide) ?_)
    refine tt_istore_n (lv' := [(0, .int (iI 1))]) hf dJ1_bitCount_23 (by decide) rfl ?_
    refine tt_iload_n hf 0 dJ1_bitCount_24 rfl ?_
    refine tt_iload_n hf 0 dJ1_bitCount_25 rfl ?_
    refine tt_iconst hf dJ1_bitCount_26 ?_
    refine tt_iushr (z := 0) hf dJ1_bitCount_27 (by decide +kernel) ?_
    refine tt_iadd hf dJ1_bitCount_28 (tt_top (z' := 1) (by decide) ?_)
    refine tt_ldcw hf (252645135) q542 (by decide) dJ1_bitCount_29 ?_
    refine tt_iand (z := 1) hf dJ1_bitCount_32 (by decide +kernel) ?_
    refine tt_istore_n (lv' := [(0, .int (iI 1))]) hf dJ1_bitCount_33 (by decide) rfl ?_
    refine tt_iload_n hf 0 dJ1_bitCount_34 rfl ?_
    refine tt_iload_n hf 0 dJ1_bitCount_35 rfl ?_
    refine tt_bipush hf dJ1_bitCount_36 (by decide) ?_
    refine tt_iushr (z := 0) hf dJ1_bitCount_38 (by decide +kernel) ?_
    refine tt_iadd hf dJ1_bitCount_39 (tt_top (z' := 1) (by decide) ?_)
    refine tt_istore_n (lv' := [(0, .int (iI 1))]) hf dJ1_bitCount_40 (by decide) rfl ?_
    refine tt_iload_n hf 0 dJ1_bitCount_41 rfl ?_
    refine tt_iload_n hf 0 dJ1_bitCount_42 rfl ?_
    refine tt_bipush hf dJ1_bitCount_43 (by decide) ?_
    refine tt_iushr (z := 0) hf dJ1_bitCount_45 (by decide +kernel) ?_
    refine tt_iadd hf dJ1_bitCount_46 (tt_top (z' := 1) (by decide) ?_)
    refine tt_istore_n (lv' := [(0, .int (iI 1))]) hf dJ1_bitCount_47 (by decide) rfl ?_
    refine tt_iload_n hf 0 dJ1_bitCount_48 rfl ?_
    refine tt_bipush hf dJ1_bitCount_49 (by decide) ?_
    refine tt_iand (z := 1) hf dJ1_bitCount_51 (by decide +kernel) ?_
    exact tt_ireti hf hrT dJ1_bitCount_52 (Nat.le_refl _) (Nat.le_refl _) (by decide) ⟨by decide, rfl⟩
  · refine tt_iload_n hf 0 dJ1_bitCount_0 rfl ?_
    refine tt_iload_n hf 0 dJ1_bitCount_1 rfl ?_
    refine tt_iconst hf dJ1_bitCount_2 ?_
    refine tt_iushr (z := 4) hf dJ1_bitCount_3 (by decide +kernel) ?_
    refine tt_ldcw hf (1431655765) q540 (by decide) dJ1_bitCount_4 ?_
    refine tt_iand (z := 4) hf dJ1_bitCount_7 (by decide +kernel) ?_
    refine tt_isub hf dJ1_bitCount_8 (tt_top (z' := 5) (by decide) ?_)
    refine tt_istore_n (lv' := [(0, .int (iI 5))]) hf dJ1_bitCount_9 (by decide) rfl ?_
    refine tt_iload_n hf 0 dJ1_bitCount_10 rfl ?_
    refine tt_ldcw hf (858993459) q541 (by decide) dJ1_bitCount_11 ?_
    refine tt_iand (z := 1) hf dJ1_bitCount_14 (by decide +kernel) ?_
    refine tt_iload_n hf 0 dJ1_bitCount_15 rfl ?_
    refine tt_iconst hf dJ1_bitCount_16 ?_
    refine tt_iushr (z := 1) hf dJ1_bitCount_17 (by decide +kernel) ?_
    refine tt_ldcw hf (858993459) q541 (by decide) dJ1_bitCount_18 ?_
    refine tt_iand (z := 1) hf dJ1_bitCount_21 (by decide +kernel) ?_
    refine tt_iadd hf dJ1_bitCount_22 (tt_top (z' := 2) (by decide) ?_)
    refine tt_istore_n (lv' := [(0, .int (iI 2))]) hf dJ1_bitCount_23 (by decide) rfl ?_
    refine tt_iload_n hf 0 dJ1_bitCount_24 rfl ?_
    refine tt_iload_n hf 0 dJ1_bitCount_25 rfl ?_
    refine tt_iconst hf dJ1_bitCount_26 ?_
    refine tt_iushr (z := 0) hf dJ1_bitCount_27 (by decide +kernel) ?_
    refine tt_iadd hf dJ1_bitCount_28 (tt_top (z' := 2) (by decide) ?_)
    refine tt_ldcw hf (252645135) q542 (by decide) dJ1_bitCount_29 ?_
    refine tt_iand (z := 2) hf dJ1_bitCount_32 (by decide +kernel) ?_
    refine tt_istore_n (lv' := [(0, .int (iI 2))]) hf dJ1_bitCount_33 (by decide) rfl ?_
    refine tt_iload_n hf 0 dJ1_bitCount_34 rfl ?_
    refine tt_iload_n hf 0 dJ1_bitCount_35 rfl ?_
    refine tt_bipush hf dJ1_bitCount_36 (by decide) ?_
    refine tt_iushr (z := 0) hf dJ1_bitCount_38 (by decide +kernel) ?_
    refine tt_iadd hf dJ1_bitCount_39 (tt_top (z' := 2) (by decide) ?_)
    refine tt_istore_n (lv' := [(0, .int (iI 2))]) hf dJ1_bitCount_40 (by decide) rfl ?_
    refine tt_iload_n hf 0 dJ1_bitCount_41 rfl ?_
    refine tt_iload_n hf 0 dJ1_bitCount_42 rfl ?_
    refine tt_bipush hf dJ1_bitCount_43 (by decide) ?_
    refine tt_iushr (z := 0) hf dJ1_bitCount_45 (by decide +kernel) ?_
    refine tt_iadd hf dJ1_bitCount_46 (tt_top (z' := 2) (by decide) ?_)
    refine tt_istore_n (lv' := [(0, .int (iI 2))]) hf dJ1_bitCount_47 (by decide) rfl ?_
    refine tt_iload_n hf 0 dJ1_bitCount_48 rfl ?_
    refine tt_bipush hf dJ1_bitCount_49 (by decide) ?_
    refine tt_iand (z := 2) hf dJ1_bitCount_51 (by decide +kernel) ?_
    exact tt_ireti hf hrT dJ1_bitCount_52 (Nat.le_refl _) (Nat.le_refl _) (by decide) ⟨by decide, rfl⟩
  · refine tt_iload_n hf 0 dJ1_bitCount_0 rfl ?_
    refine tt_iload_n hf 0 dJ1_bitCount_1 rfl ?_
    refine tt_iconst hf dJ1_bitCount_2 ?_
    refine tt_iushr (z := 5) hf dJ1_bitCount_3 (by decide +kernel) ?_
    refine tt_ldcw hf (1431655765) q540 (by decide) dJ1_bitCount_4 ?_
    refine tt_iand (z := 5) hf dJ1_bitCount_7 (by decide +kernel) ?_
    refine tt_isub hf dJ1_bitCount_8 (tt_top (z' := 5) (by decide) ?_)
    refine tt_istore_n (lv' := [(0, .int (iI 5))]) hf dJ1_bitCount_9 (by decide) rfl ?_
    refine tt_iload_n hf 0 dJ1_bitCount_10 rfl ?_
    refine tt_ldcw hf (858993459) q541 (by decide) dJ1_bitCount_11 ?_
    refine tt_iand (z := 1) hf dJ1_bitCount_14 (by decide +kernel) ?_
    refine tt_iload_n hf 0 dJ1_bitCount_15 rfl ?_
    refine tt_iconst hf dJ1_bitCount_16 ?_
    refine tt_iushr (z := 1) hf dJ1_bitCount_17 (by decide +kernel) ?_
    refine tt_ldcw hf (858993459) q541 (by decide) dJ1_bitCount_18 ?_
    refine tt_iand (z := 1) hf dJ1_bitCount_21 (by decide +kernel) ?_
    refine tt_iadd hf dJ1_bitCount_22 (tt_top (z' := 2) (by decide) ?_)
    refine tt_istore_n (lv' := [(0, .int (iI 2))]) hf dJ1_bitCount_23 (by decide) rfl ?_
    refine tt_iload_n hf 0 dJ1_bitCount_24 rfl ?_
    refine tt_iload_n hf 0 dJ1_bitCount_25 rfl ?_
    refine tt_iconst hf dJ1_bitCount_26 ?_
    refine tt_iushr (z := 0) hf dJ1_bitCount_27 (by decide +kernel) ?_
    refine tt_iadd hf dJ1_bitCount_28 (tt_top (z' := 2) (by decide) ?_)
    refine tt_ldcw hf (252645135) q542 (by decide) dJ1_bitCount_29 ?_
    refine tt_iand (z := 2) hf dJ1_bitCount_32 (by decide +kernel) ?_
    refine tt_istore_n (lv' := [(0, .int (iI 2))]) hf dJ1_bitCount_33 (by decide) rfl ?_
    refine tt_iload_n hf 0 dJ1_bitCount_34 rfl ?_
    refine tt_iload_n hf 0 dJ1_bitCount_35 rfl ?_
    refine tt_bipush hf dJ1_bitCount_36 (by decide) ?_
    refine tt_iushr (z := 0) hf dJ1_bitCount_38 (by decide +kernel) ?_
    refine tt_iadd hf dJ1_bitCount_39 (tt_top (z' := 2) (by decide) ?_)
    refine tt_istore_n (lv' := [(0, .int (iI 2))]) hf dJ1_bitCount_40 (by decide) rfl ?_
    refine tt_iload_n hf 0 dJ1_bitCount_41 rfl ?_
    refine tt_iload_n hf 0 dJ1_bitCount_42 rfl ?_
    refine tt_bipush hf dJ1_bitCount_43 (by decide) ?_
    refine tt_iushr (z := 0) hf dJ1_bitCount_45 (by decide +kernel) ?_
    refine tt_iadd hf dJ1_bitCount_46 (tt_top (z' := 2) (by decide) ?_)
    refine tt_istore_n (lv' := [(0, .int (iI 2))]) hf dJ1_bitCount_47 (by decide) rfl ?_
    refine tt_iload_n hf 0 dJ1_bitCount_48 rfl ?_
    refine tt_bipush hf dJ1_bitCount_49 (by decide) ?_
    refine tt_iand (z := 2) hf dJ1_bitCount_51 (by decide +kernel) ?_
    exact tt_ireti hf hrT dJ1_bitCount_52 (Nat.le_refl _) (Nat.le_refl _) (by decide) ⟨by decide, rfl⟩
  · refine tt_iload_n hf 0 dJ1_bitCount_0 rfl ?_
    refine tt_iload_n hf 0 dJ1_bitCount_1 rfl ?_
    refine tt_iconst hf dJ1_bitCount_2 ?_
    refine tt_iushr (z := 5) hf dJ1_bitCount_3 (by decide +kernel) ?_
    refine tt_ldcw hf (1431655765) q540 (by decide) dJ1_bitCount_4 ?_
    refine tt_iand (z := 5) hf dJ1_bitCount_7 (by decide +kernel) ?_
    refine tt_isub hf dJ1_bitCount_8 (tt_top (z' := 6) (by decide) ?_)
    refine tt_istore_n (lv' := [(0, .int (iI 6))]) hf dJ1_bitCount_9 (by decide) rfl ?_
    refine tt_iload_n hf 0 dJ1_bitCount_10 rfl ?_
    refine tt_ldcw hf (858993459) q541 (by decide) dJ1_bitCount_11 ?_
    refine tt_iand (z := 2) hf dJ1_bitCount_14 (by decide +kernel) ?_
    refine tt_iload_n hf 0 dJ1_bitCount_15 rfl ?_
    refine tt_iconst hf dJ1_bitCount_16 ?_
    refine tt_iushr (z := 1) hf dJ1_bitCount_17 (by decide +kernel) ?_
    refine tt_ldcw hf (858993459) q541 (by decide) dJ1_bitCount_18 ?_
    refine tt_iand (z := 1) hf dJ1_bitCount_21 (by decide +kernel) ?_
    refine tt_iadd hf dJ1_bitCount_22 (tt_top (z' := 3) (by decide) ?_)
    refine tt_istore_n (lv' := [(0, .int (iI 3))]) hf dJ1_bitCount_23 (by decide) rfl ?_
    refine tt_iload_n hf 0 dJ1_bitCount_24 rfl ?_
    refine tt_iload_n hf 0 dJ1_bitCount_25 rfl ?_
    refine tt_iconst hf dJ1_bitCount_26 ?_
    refine tt_iushr (z := 0) hf dJ1_bitCount_27 (by decide +kernel) ?_
    refine tt_iadd hf dJ1_bitCount_28 (tt_top (z' := 3) (by decide) ?_)
    refine tt_ldcw hf (252645135) q542 (by decide) dJ1_bitCount_29 ?_
    refine tt_iand (z := 3) hf dJ1_bitCount_32 (by decide +kernel) ?_
    refine tt_istore_n (lv' := [(0, .int (iI 3))]) hf dJ1_bitCount_33 (by decide) rfl ?_
    refine tt_iload_n hf 0 dJ1_bitCount_34 rfl ?_
    refine tt_iload_n hf 0 dJ1_bitCount_35 rfl ?_
    refine tt_bipush hf dJ1_bitCount_36 (by decide) ?_
    refine tt_iushr (z := 0) hf dJ1_bitCount_38 (by decide +kernel) ?_
    refine tt_iadd hf dJ1_bitCount_39 (tt_top (z' := 3) (by decide) ?_)
    refine tt_istore_n (lv' := [(0, .int (iI 3))]) hf dJ1_bitCount_40 (by decide) rfl ?_
    refine tt_iload_n hf 0 dJ1_bitCount_41 rfl ?_
    refine tt_iload_n hf 0 dJ1_bitCount_42 rfl ?_
    refine tt_bipush hf dJ1_bitCount_43 (by decide) ?_
    refine tt_iushr (z := 0) hf dJ1_bitCount_45 (by decide +kernel) ?_
    refine tt_iadd hf dJ1_bitCount_46 (tt_top (z' := 3) (by decide) ?_)
    refine tt_istore_n (lv' := [(0, .int (iI 3))]) hf dJ1_bitCount_47 (by decide) rfl ?_
    refine tt_iload_n hf 0 dJ1_bitCount_48 rfl ?_
    refine tt_bipush hf dJ1_bitCount_49 (by decide) ?_
    refine tt_iand (z := 3) hf dJ1_bitCount_51 (by decide +kernel) ?_
    exact tt_ireti hf hrT dJ1_bitCount_52 (Nat.le_refl _) (Nat.le_refl _) (by decide) ⟨by decide, rfl⟩
  · refine tt_iload_n hf 0 dJ1_bitCount_0 rfl ?_
    refine tt_iload_n hf 0 dJ1_bitCount_1 rfl ?_
    refine tt_iconst hf dJ1_bitCount_2 ?_
    refine tt_iushr (z := 6) hf dJ1_bitCount_3 (by decide +kernel) ?_
    refine tt_ldcw hf (1431655765) q540 (by decide) dJ1_bitCount_4 ?_
    refine tt_iand (z := 4) hf dJ1_bitCount_7 (by decide +kernel) ?_
    refine tt_isub hf dJ1_bitCount_8 (tt_top (z' := 8) (by decide) ?_)
    refine tt_istore_n (lv' := [(0, .int (iI 8))]) hf dJ1_bitCount_9 (by decide) rfl ?_
    refine tt_iload_n hf 0 dJ1_bitCount_10 rfl ?_
    refine tt_ldcw hf (858993459) q541 (by decide) dJ1_bitCount_11 ?_
    refine tt_iand (z := 0) hf dJ1_bitCount_14 (by decide +kernel) ?_
    refine tt_iload_n hf 0 dJ1_bitCount_15 rfl ?_
    refine tt_iconst hf dJ1_bitCount_16 ?_
    refine tt_iushr (z := 2) hf dJ1_bitCount_17 (by decide +kernel) ?_
    refine tt_ldcw hf (858993459) q541 (by decide) dJ1_bitCount_18 ?_
    refine tt_iand (z := 2) hf dJ1_bitCount_21 (by decide +kernel) ?_
    refine tt_iadd hf dJ1_bitCount_22 (tt_top (z' := 2) (by decide) ?_)
    refine tt_istore_n (lv' := [(0, .int (iI 2))]) hf dJ1_bitCount_23 (by decide) rfl ?_
    refine tt_iload_n hf 0 dJ1_bitCount_24 rfl ?_
    refine tt_iload_n hf 0 dJ1_bitCount_25 rfl ?_
    refine tt_iconst hf dJ1_bitCount_26 ?_
    refine tt_iushr (z := 0) hf dJ1_bitCount_27 (by decide +kernel) ?_
    refine tt_iadd hf dJ1_bitCount_28 (tt_top (z' := 2) (by decide) ?_)
    refine tt_ldcw hf (252645135) q542 (by decide) dJ1_bitCount_29 ?_
    refine tt_iand (z := 2) hf dJ1_bitCount_32 (by decide +kernel) ?_
    refine tt_istore_n (lv' := [(0, .int (iI 2))]) hf dJ1_bitCount_33 (by decide) rfl ?_
    refine tt_iload_n hf 0 dJ1_bitCount_34 rfl ?_
    refine tt_iload_n hf 0 dJ1_bitCount_35 rfl ?_
    refine tt_bipush hf dJ1_bitCount_36 (by decide) ?_
    refine tt_iushr (z := 0) hf dJ1_bitCount_38 (by decide +kernel) ?_
    refine tt_iadd hf dJ1_bitCount_39 (tt_top (z' := 2) (by decide) ?_)
    refine tt_istore_n (lv' := [(0, .int (iI 2))]) hf dJ1_bitCount_40 (by decide) rfl ?_
    refine tt_iload_n hf 0 dJ1_bitCount_41 rfl ?_
    refine tt_iload_n hf 0 dJ1_bitCount_42 rfl ?_
    refine tt_bipush hf dJ1_bitCount_43 (by decide) ?_
    refine tt_iushr (z := 0) hf dJ1_bitCount_45 (by decide +kernel) ?_
    refine tt_iadd hf dJ1_bitCount_46 (tt_top (z' := 2) (by decide) ?_)
    refine tt_istore_n (lv' := [(0, .int (iI 2))]) hf dJ1_bitCount_47 (by decide) rfl ?_
    refine tt_iload_n hf 0 dJ1_bitCount_48 rfl ?_
    refine tt_bipush hf dJ1_bitCount_49 (by decide) ?_
    refine tt_iand (z := 2) hf dJ1_bitCount_51 (by decide +kernel) ?_
    exact tt_ireti hf hrT dJ1_bitCount_52 (Nat.le_refl _) (Nat.le_refl _) (by decide) ⟨by decide, rfl⟩
  · refine tt_iload_n hf 0 dJ1_bitCount_0 rfl ?_
    refine tt_iload_n hf 0 dJ1_bitCount_1 rfl ?_
    refine tt_iconst hf dJ1_bitCount_2 ?_
    refine tt_iushr (z := 6) hf dJ1_bitCount_3 (by decide +kernel) ?_
    refine tt_ldcw hf (1431655765) q540 (by decide) dJ1_bitCount_4 ?_
    refine tt_iand (z := 4) hf dJ1_bitCount_7 (by decide +kernel) ?_
    refine tt_isub hf dJ1_bitCount_8 (tt_top (z' := 9) (by decide) ?_)
    refine tt_istore_n (lv' := [(0, .int (iI 9))]) hf dJ1_bitCount_9 (by decide) rfl ?_
    refine tt_iload_n hf 0 dJ1_bitCount_10 rfl ?_
    refine tt_ldcw hf (858993459) q541 (by decide) dJ1_bitCount_11 ?_
    refine tt_iand (z := 1) hf dJ1_bitCount_14 (by decide +kernel) ?_
    refine tt_iload_n hf 0 dJ1_bitCount_15 rfl ?_
    refine tt_iconst hf dJ1_bitCount_16 ?_
    refine tt_iushr (z := 2) hf dJ1_bitCount_17 (by decide +kernel) ?_
    refine tt_ldcw hf (858993459) q541 (by decide) dJ1_bitCount_18 ?_
    refine tt_iand (z := 2) hf dJ1_bitCount_21 (by decide +kernel) ?_
    refine tt_iadd hf dJ1_bitCount_22 (tt_top (z' := 3) (by decide) ?_)
    refine tt_istore_n (lv' := [(0, .int (iI 3))]) hf dJ1_bitCount_23 (by decide) rfl ?_
    refine tt_iload_n hf 0 dJ1_bitCount_24 rfl ?_
    refine tt_iload_n hf 0 dJ1_bitCount_25 rfl ?_
    refine tt_iconst hf dJ1_bitCount_26 ?_
    refine tt_iushr (z := 0) hf dJ1_bitCount_27 (by decide +kernel) ?_
    refine tt_iadd hf dJ1_bitCount_28 (tt_top (z' := 3) (by decide) ?_)
    refine tt_ldcw hf (252645135) q542 (by decide) dJ1_bitCount_29 ?_
    refine tt_iand (z := 3) hf dJ1_bitCount_32 (by decide +kernel) ?_
    refine tt_istore_n (lv' := [(0, .int (iI 3))]) hf dJ1_bitCount_33 (by decide) rfl ?_
    refine tt_iload_n hf 0 dJ1_bitCount_34 rfl ?_
    refine tt_iload_n hf 0 dJ1_bitCount_35 rfl ?_
    refine tt_bipush hf dJ1_bitCount_36 (by decide) ?_
    refine tt_iushr (z := 0) hf dJ1_bitCount_38 (by decide +kernel) ?_
    refine tt_iadd hf dJ1_bitCount_39 (tt_top (z' := 3) (by decide) ?_)
    refine tt_istore_n (lv' := [(0, .int (iI 3))]) hf dJ1_bitCount_40 (by decide) rfl ?_
    refine tt_iload_n hf 0 dJ1_bitCount_41 rfl ?_
    refine tt_iload_n hf 0 dJ1_bitCount_42 rfl ?_
    refine tt_bipush hf dJ1_bitCount_43 (by decide) ?_
    refine tt_iushr (z := 0) hf dJ1_bitCount_45 (by decide +kernel) ?_
    refine tt_iadd hf dJ1_bitCount_46 (tt_top (z' := 3) (by decide) ?_)
    refine tt_istore_n (lv' := [(0, .int (iI 3))]) hf dJ1_bitCount_47 (by decide) rfl ?_
    refine tt_iload_n hf 0 dJ1_bitCount_48 rfl ?_
    refine tt_bipush hf dJ1_bitCount_49 (by decide) ?_
    refine tt_iand (z := 3) hf dJ1_bitCount_51 (by decide +kernel) ?_
    exact tt_ireti hf hrT dJ1_bitCount_52 (Nat.le_refl _) (Nat.le_refl _) (by decide) ⟨by decide, rfl⟩
  · refine tt_iload_n hf 0 dJ1_bitCount_0 rfl ?_
    refine tt_iload_n hf 0 dJ1_bitCount_1 rfl ?_
    refine tt_iconst hf dJ1_bitCount_2 ?_
    refine tt_iushr (z := 7) hf dJ1_bitCount_3 (by decide +kernel) ?_
    refine tt_ldcw hf (1431655765) q540 (by decide) dJ1_bitCount_4 ?_
    refine tt_iand (z := 5) hf dJ1_bitCount_7 (by decide +kernel) ?_
    refine tt_isub hf dJ1_bitCount_8 (tt_top (z' := 9) (by decide) ?_)
    refine tt_istore_n (lv' := [(0, .int (iI 9))]) hf dJ1_bitCount_9 (by decide) rfl ?_
    refine tt_iload_n hf 0 dJ1_bitCount_10 rfl ?_
    refine tt_ldcw hf (858993459) q541 (by decide) dJ1_bitCount_11 ?_
    refine tt_iand (z := 1) hf dJ1_bitCount_14 (by decide +kernel) ?_
    refine tt_iload_n hf 0 dJ1_bitCount_15 rfl ?_
    refine tt_iconst hf dJ1_bitCount_16 ?_
    refine tt_iushr (z := 2) hf dJ1_bitCount_17 (by decide +kernel) ?_
    refine tt_ldcw hf (858993459) q541 (by decide) dJ1_bitCount_18 ?_
    refine tt_iand (z := 2) hf dJ1_bitCount_21 (by decide +kernel) ?_
    refine tt_iadd hf dJ1_bitCount_22 (tt_top (z' := 3) (by decide) ?_)
    refine tt_istore_n (lv' := [(0, .int (iI 3))]) hf dJ1_bitCount_23 (by decide) rfl ?_
    refine tt_iload_n hf 0 dJ1_bitCount_24 rfl ?_
    refine tt_iload_n hf 0 dJ1_bitCount_25 rfl ?_
    refine tt_iconst hf dJ1_bitCount_26 ?_
    refine tt_iushr (z := 0) hf dJ1_bitCount_27 (by decide +kernel) ?_
    refine tt_iadd hf dJ1_bitCount_28 (tt_top (z' := 3) (by decide) ?_)
    refine tt_ldcw hf (252645135) q542 (by decide) dJ1_bitCount_29 ?_
    refine tt_iand (z := 3) hf dJ1_bitCount_32 (by decide +kernel) ?_
    refine tt_istore_n (lv' := [(0, .int (iI 3))]) hf dJ1_bitCount_33 (by decide) rfl ?_
    refine tt_iload_n hf 0 dJ1_bitCount_34 rfl ?_
    refine tt_iload_n hf 0 dJ1_bitCount_35 rfl ?_
    refine tt_bipush hf dJ1_bitCount_36 (by decide) ?_
    refine tt_iushr (z := 0) hf dJ1_bitCount_38 (by decide +kernel) ?_
    refine tt_iadd hf dJ1_bitCount_39 (tt_top (z' := 3) (by decide) ?_)
    refine tt_istore_n (lv' := [(0, .int (iI 3))]) hf dJ1_bitCount_40 (by decide) rfl ?_
    refine tt_iload_n hf 0 dJ1_bitCount_41 rfl ?_
    refine tt_iload_n hf 0 dJ1_bitCount_42 rfl ?_
    refine tt_bipush hf dJ1_bitCount_43 (by decide) ?_
    refine tt_iushr (z := 0) hf dJ1_bitCount_45 (by decide +kernel) ?_
    refine tt_iadd hf dJ1_bitCount_46 (tt_top (z' := 3) (by decide) ?_)
    refine tt_istore_n (lv' := [(0, .int (iI 3))]) hf dJ1_bitCount_47 (by decide) rfl ?_
    refine tt_iload_n hf 0 dJ1_bitCount_48 rfl ?_
    refine tt_bipush hf dJ1_bitCount_49 (by decide) ?_
    refine tt_iand (z := 3) hf dJ1_bitCount_51 (by decide +kernel) ?_
    exact tt_ireti hf hrT dJ1_bitCount_52 (Nat.le_refl _) (Nat.le_refl _) (by decide) ⟨by decide, rfl⟩
  · refine tt_iload_n hf 0 dJ1_bitCount_0 rfl ?_
    refine tt_iload_n hf 0 dJ1_bitCount_1 rfl ?_
    refine tt_iconst hf dJ1_bitCount_2 ?_
    refine tt_iushr (z := 7) hf dJ1_bitCount_3 (by decide +kernel) ?_
    refine tt_ldcw hf (1431655765) q540 (by decide) dJ1_bitCount_4 ?_
    refine tt_iand (z := 5) hf dJ1_bitCount_7 (by decide +kernel) ?_
    refine tt_isub hf dJ1_bitCount_8 (tt_top (z' := 10) (by decide) ?_)
    refine tt_istore_n (lv' := [(0, .int (iI 10))]) hf dJ1_bitCount_9 (by decide) rfl ?_
    refine tt_iload_n hf 0 dJ1_bitCount_10 rfl ?_
    refine tt_ldcw hf (858993459) q541 (by decide) dJ1_bitCount_11 ?_
    refine tt_iand (z := 2) hf dJ1_bitCount_14 (by decide +kernel) ?_
    refine tt_iload_n hf 0 dJ1_bitCount_15 rfl ?_
    refine tt_iconst hf dJ1_bitCount_16 ?_
    refine tt_iushr (z := 2) hf dJ1_bitCount_17 (by decide +kernel) ?_
    refine tt_ldcw hf (858993459) q541 (by decide) dJ1_bitCount_18 ?_
    refine tt_iand (z := 2) hf dJ1_bitCount_21 (by decide +kernel) ?_
    refine tt_iadd hf dJ1_bitCount_22 (tt_top (z' := 4) (by decide) ?_)
    refine tt_istore_n (lv' := [(0, .int (iI 4))]) hf dJ1_bitCount_23 (by decide) rfl ?_
    refine tt_iload_n hf 0 dJ1_bitCount_24 rfl ?_
    refine tt_iload_n hf 0 dJ1_bitCount_25 rfl ?_
    refine tt_iconst hf dJ1_bitCount_26 ?_
    refine tt_iushr (z := 0) hf dJ1_bitCount_27 (by decide +kernel) ?_
    refine tt_iadd hf dJ1_bitCount_28 (tt_top (z' := 4) (by decide) ?_)
    refine tt_ldcw hf (252645135) q542 (by decide) dJ1_bitCount_29 ?_
    refine tt_iand (z := 4) hf dJ1_bitCount_32 (by decide +kernel) ?_
    refine tt_istore_n (lv' := [(0, .int (iI 4))]) hf dJ1_bitCount_33 (by decide) rfl ?_
    refine tt_iload_n hf 0 dJ1_bitCount_34 rfl ?_
    refine tt_iload_n hf 0 dJ1_bitCount_35 rfl ?_
    refine tt_bipush hf dJ1_bitCount_36 (by decide) ?_
    refine tt_iushr (z := 0) hf dJ1_bitCount_38 (by decide +kernel) ?_
    refine tt_iadd hf dJ1_bitCount_39 (tt_top (z' := 4) (by decide) ?_)
    refine tt_istore_n (lv' := [(0, .int (iI 4))]) hf dJ1_bitCount_40 (by decide) rfl ?_
    refine tt_iload_n hf 0 dJ1_bitCount_41 rfl ?_
    refine tt_iload_n hf 0 dJ1_bitCount_42 rfl ?_
    refine tt_bipush hf dJ1_bitCount_43 (by decide) ?_
    refine tt_iushr (z := 0) hf dJ1_bitCount_45 (by decide +kernel) ?_
    refine tt_iadd hf dJ1_bitCount_46 (tt_top (z' := 4) (by decide) ?_)
    refine tt_istore_n (lv' := [(0, .int (iI 4))]) hf dJ1_bitCount_47 (by decide) rfl ?_
    refine tt_iload_n hf 0 dJ1_bitCount_48 rfl ?_
    refine tt_bipush hf dJ1_bitCount_49 (by decide) ?_
    refine tt_iand (z := 4) hf dJ1_bitCount_51 (by decide +kernel) ?_
    exact tt_ireti hf hrT dJ1_bitCount_52 (Nat.le_refl _) (Nat.le_refl _) (by decide) ⟨by decide, rfl⟩
  · refine tt_iload_n hf 0 dJ1_bitCount_0 rfl ?_
    refine tt_iload_n hf 0 dJ1_bitCount_1 rfl ?_
    refine tt_iconst hf dJ1_bitCount_2 ?_
    refine tt_iushr (z := 8) hf dJ1_bitCount_3 (by decide +kernel) ?_
    refine tt_ldcw hf (1431655765) q540 (by decide) dJ1_bitCount_4 ?_
    refine tt_iand (z := 0) hf dJ1_bitCount_7 (by decide +kernel) ?_
    refine tt_isub hf dJ1_bitCount_8 (tt_top (z' := 16) (by decide) ?_)
    refine tt_istore_n (lv' := [(0, .int (iI 16))]) hf dJ1_bitCount_9 (by decide) rfl ?_
    refine tt_iload_n hf 0 dJ1_bitCount_10 rfl ?_
    refine tt_ldcw hf (858993459) q541 (by decide) dJ1_bitCount_11 ?_
    refine tt_iand (z := 16) hf dJ1_bitCount_14 (by decide +kernel) ?_
    refine tt_iload_n hf 0 dJ1_bitCount_15 rfl ?_
    refine tt_iconst hf dJ1_bitCount_16 ?_
    refine tt_iushr (z := 4) hf dJ1_bitCount_17 (by decide +kernel) ?_
    refine tt_ldcw hf (858993459) q541 (by decide) dJ1_bitCount_18 ?_
    refine tt_iand (z := 0) hf dJ1_bitCount_21 (by decide +kernel) ?_
    refine tt_iadd hf dJ1_bitCount_22 (tt_top (z' := 16) (by decide) ?_)
    refine tt_istore_n (lv' := [(0, .int (iI 16))]) hf dJ1_bitCount_23 (by decide) rfl ?_
    refine tt_iload_n hf 0 dJ1_bitCount_24 rfl ?_
    refine tt_iload_n hf 0 dJ1_bitCount_25 rfl ?_
    refine tt_iconst hf dJ1_bitCount_26 ?_
    refine tt_iushr (z := 1) hf dJ1_bitCount_27 (by decide +kernel) ?_
    refine tt_iadd hf dJ1_bitCount_28 (tt_top (z' := 17) (by decide) ?_)
    refine tt_ldcw hf (252645135) q542 (by decide) dJ1_bitCount_29 ?_
    refine tt_iand (z := 1) hf dJ1_bitCount_32 (by decide +kernel) ?_
    refine tt_istore_n (lv' := [(0, .int (iI 1))]) hf dJ1_bitCount_33 (by decide) rfl ?_
    refine tt_iload_n hf 0 dJ1_bitCount_34 rfl ?_
    refine tt_iload_n hf 0 dJ1_bitCount_35 rfl ?_
    refine tt_bipush hf dJ1_bitCount_36 (by decide) ?_
    refine tt_iushr (z := 0) hf dJ1_bitCount_38 (by decide +kernel) ?_
    refine tt_iadd hf dJ1_bitCount_39 (tt_top (z' := 1) (by decide) ?_)
    refine tt_istore_n (lv' := [(0, .int (iI 1))]) hf dJ1_bitCount_40 (by decide) rfl ?_
    refine tt_iload_n hf 0 dJ1_bitCount_41 rfl ?_
    refine tt_iload_n hf 0 dJ1_bitCount_42 rfl ?_
    refine tt_bipush hf dJ1_bitCount_43 (by decide) ?_
    refine tt_iushr (z := 0) hf dJ1_bitCount_45 (by decide +kernel) ?_
    refine tt_iadd hf dJ1_bitCount_46 (tt_top (z' := 1) (by decide) ?_)
    refine tt_istore_n (lv' := [(0, .int (iI 1))]) hf dJ1_bitCount_47 (by decide) rfl ?_
    refine tt_iload_n hf 0 dJ1_bitCount_48 rfl ?_
    refine tt_bipush hf dJ1_bitCount_49 (by decide) ?_
    refine tt_iand (z := 1) hf dJ1_bitCount_51 (by decide +kernel) ?_
    exact tt_ireti hf hrT dJ1_bitCount_52 (Nat.le_refl _) (Nat.le_refl _) (by decide) ⟨by decide, rfl⟩
  · refine tt_iload_n hf 0 dJ1_bitCount_0 rfl ?_
    refine tt_iload_n hf 0 dJ1_bitCount_1 rfl ?_
    refine tt_iconst hf dJ1_bitCount_2 ?_
    refine tt_iushr (z := 8) hf dJ1_bitCount_3 (by decide +kernel) ?_
    refine tt_ldcw hf (1431655765) q540 (by decide) dJ1_bitCount_4 ?_
    refine tt_iand (z := 0) hf dJ1_bitCount_7 (by decide +kernel) ?_
    refine tt_isub hf dJ1_bitCount_8 (tt_top (z' := 17) (by decide) ?_)
    refine tt_istore_n (lv' := [(0, .int (iI 17))]) hf dJ1_bitCount_9 (by decide) rfl ?_
    refine tt_iload_n hf 0 dJ1_bitCount_10 rfl ?_
    refine tt_ldcw hf (858993459) q541 (by decide) dJ1_bitCount_11 ?_
    refine tt_iand (z := 17) hf dJ1_bitCount_14 (by decide +kernel) ?_
    refine tt_iload_n hf 0 dJ1_bitCount_15 rfl ?_
    refine tt_iconst hf dJ1_bitCount_16 ?_
    refine tt_iushr (z := 4) hf dJ1_bitCount_17 (by decide +kernel) ?_
    refine tt_ldcw hf (858993459) q541 (by decide) dJ1_bitCount_18 ?_
    refine tt_iand (z := 0) hf dJ1_bitCount_21 (by decide +kernel) ?_
    refine tt_iadd hf dJ1_bitCount_22 (tt_top (z' := 17) (by decide) ?_)
    refine tt_istore_n (lv' := [(0, .int (iI 17))]) hf dJ1_bitCount_23 (by decide) rfl ?_
    refine tt_iload_n hf 0 dJ1_bitCount_24 rfl ?_
    refine tt_iload_n hf 0 dJ1_bitCount_25 rfl ?_
    refine tt_iconst hf dJ1_bitCount_26 ?_
    refine tt_iushr (z := 1) hf dJ1_bitCount_27 (by decide +kernel) ?_
    refine tt_iadd hf dJ1_bitCount_28 (tt_top (z' := 18) (by decide) ?_)
    refine tt_ldcw hf (252645135) q542 (by decide) dJ1_bitCount_29 ?_
    refine tt_iand (z := 2) hf dJ1_bitCount_32 (by decide +kernel) ?_
    refine tt_istore_n (lv' := [(0, .int (iI 2))]) hf dJ1_bitCount_33 (by decide) rfl ?_
    refine tt_iload_n hf 0 dJ1_bitCount_34 rfl ?_
    refine tt_iload_n hf 0 dJ1_bitCount_35 rfl ?_
    refine tt_bipush hf dJ1_bitCount_36 (by decide) ?_
    refine tt_iushr (z := 0) hf dJ1_bitCount_38 (by decide +kernel) ?_
    refine tt_iadd hf dJ1_bitCount_39 (tt_top (z' := 2) (by decide) ?_)
    refine tt_istore_n (lv' := [(0, .int (iI 2))]) hf dJ1_bitCount_40 (by decide) rfl ?_
    refine tt_iload_n hf 0 dJ1_bitCount_41 rfl ?_
    refine tt_iload_n hf 0 dJ1_bitCount_42 rfl ?_
    refine tt_bipush hf dJ1_bitCount_43 (by decide) ?_
    refine tt_iushr (z := 0) hf dJ1_bitCount_45 (by decide +kernel) ?_
    refine tt_iadd hf dJ1_bitCount_46 (tt_top (z' := 2) (by decide) ?_)
    refine tt_istore_n (lv' := [(0, .int (iI 2))]) hf dJ1_bitCount_47 (by decide) rfl ?_
    refine tt_iload_n hf 0 dJ1_bitCount_48 rfl ?_
    refine tt_bipush hf dJ1_bitCount_49 (by decide) ?_
    refine tt_iand (z := 2) hf dJ1_bitCount_51 (by decide +kernel) ?_
    exact tt_ireti hf hrT dJ1_bitCount_52 (Nat.le_refl _) (Nat.le_refl _) (by decide) ⟨by decide, rfl⟩
  · refine tt_iload_n hf 0 dJ1_bitCount_0 rfl ?_
    refine tt_iload_n hf 0 dJ1_bitCount_1 rfl ?_
    refine tt_iconst hf dJ1_bitCount_2 ?_
    refine tt_iushr (z := 9) hf dJ1_bitCount_3 (by decide +kernel) ?_
    refine tt_ldcw hf (1431655765) q540 (by decide) dJ1_bitCount_4 ?_
    refine tt_iand (z := 1) hf dJ1_bitCount_7 (by decide +kernel) ?_
    refine tt_isub hf dJ1_bitCount_8 (tt_top (z' := 17) (by decide) ?_)
    refine tt_istore_n (lv' := [(0, .int (iI 17))]) hf dJ1_bitCount_9 (by decide) rfl ?_
    refine tt_iload_n hf 0 dJ1_bitCount_10 rfl ?_
    refine tt_ldcw hf (858993459) q541 (by decide) dJ1_bitCount_11 ?_
    refine tt_iand (z := 17) hf dJ1_bitCount_14 (by decide +kernel) ?_
    refine tt_iload_n hf 0 dJ1_bitCount_15 rfl ?_
    refine tt_iconst hf dJ1_bitCount_16 ?_
    refine tt_iushr (z := 4) hf dJ1_bitCount_17 (by decide +kernel) ?_
    refine tt_ldcw hf (858993459) q541 (by decide) dJ1_bitCount_18 ?_
    refine tt_iand (z := 0) hf dJ1_bitCount_21 (by decide +kernel) ?_
    refine tt_iadd hf dJ1_bitCount_22 (tt_top (z' := 17) (by decide) ?_)
    refine tt_istore_n (lv' := [(0, .int (iI 17))]) hf dJ1_bitCount_23 (by decide) rfl ?_
    refine tt_iload_n hf 0 dJ1_bitCount_24 rfl ?_
    refine tt_iload_n hf 0 dJ1_bitCount_25 rfl ?_
    refine tt_iconst hf dJ1_bitCount_26 ?_
    refine tt_iushr (z := 1) hf dJ1_bitCount_27 (by decide +kernel) ?_
    refine tt_iadd hf dJ1_bitCount_28 (tt_top (z' := 18) (by decide) ?_)
    refine tt_ldcw hf (252645135) q542 (by decide) dJ1_bitCount_29 ?_
    refine tt_iand (z := 2) hf dJ1_bitCount_32 (by decide +kernel) ?_
    refine tt_istore_n (lv' := [(0, .int (iI 2))]) hf dJ1_bitCount_33 (by decide) rfl ?_
    refine tt_iload_n hf 0 dJ1_bitCount_34 rfl ?_
    refine tt_iload_n hf 0 dJ1_bitCount_35 rfl ?_
    refine tt_bipush hf dJ1_bitCount_36 (by decide) ?_
    refine tt_iushr (z := 0) hf dJ1_bitCount_38 (by decide +kernel) ?_
    refine tt_iadd hf dJ1_bitCount_39 (tt_top (z' := 2) (by decide) ?_)
    refine tt_istore_n (lv' := [(0, .int (iI 2))]) hf dJ1_bitCount_40 (by decide) rfl ?_
    refine tt_iload_n hf 0 dJ1_bitCount_41 rfl ?_
    refine tt_iload_n hf 0 dJ1_bitCount_42 rfl ?_
    refine tt_bipush hf dJ1_bitCount_43 (by decide) ?_
    refine tt_iushr (z := 0) hf dJ1_bitCount_45 (by decide +kernel) ?_
    refine tt_iadd hf dJ1_bitCount_46 (tt_top (z' := 2) (by decide) ?_)
    refine tt_istore_n (lv' := [(0, .int (iI 2))]) hf dJ1_bitCount_47 (by decide) rfl ?_
    refine tt_iload_n hf 0 dJ1_bitCount_48 rfl ?_
    refine tt_bipush hf dJ1_bitCount_49 (by decide) ?_
    refine tt_iand (z := 2) hf dJ1_bitCount_51 (by decide +kernel) ?_
    exact tt_ireti hf hrT dJ1_bitCount_52 (Nat.le_refl _) (Nat.le_refl _) (by decide) ⟨by decide, rfl⟩
  · refine tt_iload_n hf 0 dJ1_bitCount_0 rfl ?_
    refine tt_iload_n hf 0 dJ1_bitCount_1 rfl ?_
    refine tt_iconst hf dJ1_bitCount_2 ?_
    refine tt_iushr (z := 9) hf dJ1_bitCount_3 (by decide +kernel) ?_
    refine tt_ldcw hf (1431655765) q540 (by decide) dJ1_bitCount_4 ?_
    refine tt_iand (z := 1) hf dJ1_bitCount_7 (by decide +kernel) ?_
    refine tt_isub hf dJ1_bitCount_8 (tt_top (z' := 18) (by decide) ?_)
    refine tt_istore_n (lv' := [(0, .int (iI 18))]) hf dJ1_bitCount_9 (by decide) rfl ?_
    refine tt_iload_n hf 0 dJ1_bitCount_10 rfl ?_
    refine tt_ldcw hf (858993459) q541 (by decide) dJ1_bitCount_11 ?_
    refine tt_iand (z := 18) hf dJ1_bitCount_14 (by decide +kernel) ?_
    refine tt_iload_n hf 0 dJ1_bitCount_15 rfl ?_
    refine tt_iconst hf dJ1_bitCount_16 ?_
    refine tt_iushr (z := 4) hf dJ1_bitCount_17 (by decide +kernel) ?_
    refine tt_ldcw hf (858993459) q541 (by decide) dJ1_bitCount_18 ?_
    refine tt_iand (z := 0) hf dJ1_bitCount_21 (by decide +kernel) ?_
    refine tt_iadd hf dJ1_bitCount_22 (tt_top (z' := 18) (by decide) ?_)
    refine tt_istore_n (lv' := [(0, .int (iI 18))]) hf dJ1_bitCount_23 (by decide) rfl ?_
    refine tt_iload_n hf 0 dJ1_bitCount_24 rfl ?_
    refine tt_iload_n hf 0 dJ1_bitCount_25 rfl ?_
    refine tt_iconst hf dJ1_bitCount_26 ?_
    refine tt_iushr (z := 1) hf dJ1_bitCount_27 (by decide +kernel) ?_
    refine tt_iadd hf dJ1_bitCount_28 (tt_top (z' := 19) (by decide) ?_)
    refine tt_ldcw hf (252645135) q542 (by decide) dJ1_bitCount_29 ?_
    refine tt_iand (z := 3) hf dJ1_bitCount_32 (by decide +kernel) ?_
    refine tt_istore_n (lv' := [(0, .int (iI 3))]) hf dJ1_bitCount_33 (by decide) rfl ?_
    refine tt_iload_n hf 0 dJ1_bitCount_34 rfl ?_
    refine tt_iload_n hf 0 dJ1_bitCount_35 rfl ?_
    refine tt_bipush hf dJ1_bitCount_36 (by decide) ?_
    refine tt_iushr (z := 0) hf dJ1_bitCount_38 (by decide +kernel) ?_
    refine tt_iadd hf dJ1_bitCount_39 (tt_top (z' := 3) (by decide) ?_)
    refine tt_istore_n (lv' := [(0, .int (iI 3))]) hf dJ1_bitCount_40 (by decide) rfl ?_
    refine tt_iload_n hf 0 dJ1_bitCount_41 rfl ?_
    refine tt_iload_n hf 0 dJ1_bitCount_42 rfl ?_
    refine tt_bipush hf dJ1_bitCount_43 (by decide) ?_
    refine tt_iushr (z := 0) hf dJ1_bitCount_45 (by decide +kernel) ?_
    refine tt_iadd hf dJ1_bitCount_46 (tt_top (z' := 3) (by decide) ?_)
    refine tt_istore_n (lv' := [(0, .int (iI 3))]) hf dJ1_bitCount_47 (by decide) rfl ?_
    refine tt_iload_n hf 0 dJ1_bitCount_48 rfl ?_
    refine tt_bipush hf dJ1_bitCount_49 (by decide) ?_
    refine tt_iand (z := 3) hf dJ1_bitCount_51 (by decide +kernel) ?_
    exact tt_ireti hf hrT dJ1_bitCount_52 (Nat.le_refl _) (Nat.le_refl _) (by decide) ⟨by decide, rfl⟩
  · refine tt_iload_n hf 0 dJ1_bitCount_0 rfl ?_
    refine tt_iload_n hf 0 dJ1_bitCount_1 rfl ?_
    refine tt_iconst hf dJ1_bitCount_2 ?_
    refine tt_iushr (z := 10) hf dJ1_bitCount_3 (by decide +kernel) ?_
    refine tt_ldcw hf (1431655765) q540 (by decide) dJ1_bitCount_4 ?_
    refine tt_iand (z := 0) hf dJ1_bitCount_7 (by decide +kernel) ?_
    refine tt_isub hf dJ1_bitCount_8 (tt_top (z' := 20) (by decide) ?_)
    refine tt_istore_n (lv' := [(0, .int (iI 20))]) hf dJ1_bitCount_9 (by decide) rfl ?_
    refine tt_iload_n hf 0 dJ1_bitCount_10 rfl ?_
    refine tt_ldcw hf (858993459) q541 (by decide) dJ1_bitCount_11 ?_
    refine tt_iand (z := 16) hf dJ1_bitCount_14 (by decide +kernel) ?_
    refine tt_iload_n hf 0 dJ1_bitCount_15 rfl ?_
    refine tt_iconst hf dJ1_bitCount_16 ?_
    refine tt_iushr (z := 5) hf dJ1_bitCount_17 (by decide +kernel) ?_
    refine tt_ldcw hf (858993459) q541 (by decide) dJ1_bitCount_18 ?_
    refine tt_iand (z := 1) hf dJ1_bitCount_21 (by decide +kernel) ?_
    refine tt_iadd hf dJ1_bitCount_22 (tt_top (z' := 17) (by decide) ?_)
    refine tt_istore_n (lv' := [(0, .int (iI 17))]) hf dJ1_bitCount_23 (by decide) rfl ?_
    refine tt_iload_n hf 0 dJ1_bitCount_24 rfl ?_
    refine tt_iload_n hf 0 dJ1_bitCount_25 rfl ?_
    refine tt_iconst hf dJ1_bitCount_26 ?_
    refine tt_iushr (z := 1) hf dJ1_bitCount_27 (by decide +kernel) ?_
    refine tt_iadd hf dJ1_bitCount_28 (tt_top (z' := 18) (by decide) ?_)
    refine tt_ldcw hf (252645135) q542 (by decide) dJ1_bitCount_29 ?_
    refine tt_iand (z := 2) hf dJ1_bitCount_32 (by decide +kernel) ?_
    refine tt_istore_n (lv' := [(0, .int (iI 2))]) hf dJ1_bitCount_33 (by decide) rfl ?_
    refine tt_iload_n hf 0 dJ1_bitCount_34 rfl ?_
    refine tt_iload_n hf 0 dJ1_bitCount_35 rfl ?_
    refine tt_bipush hf dJ1_bitCount_36 (by decide) ?_
    refine tt_iushr (z := 0) hf dJ1_bitCount_38 (by decide +kernel) ?_
    refine tt_iadd hf dJ1_bitCount_39 (tt_top (z' := 2) (by decide) ?_)
    refine tt_istore_n (lv' := [(0, .int (iI 2))]) hf dJ1_bitCount_40 (by decide) rfl ?_
    refine tt_iload_n hf 0 dJ1_bitCount_41 rfl ?_
    refine tt_iload_n hf 0 dJ1_bitCount_42 rfl ?_
    refine tt_bipush hf dJ1_bitCount_43 (by decide) ?_
    refine tt_iushr (z := 0) hf dJ1_bitCount_45 (by decide +kernel) ?_
    refine tt_iadd hf dJ1_bitCount_46 (tt_top (z' := 2) (by decide) ?_)
    refine tt_istore_n (lv' := [(0, .int (iI 2))]) hf dJ1_bitCount_47 (by decide) rfl ?_
    refine tt_iload_n hf 0 dJ1_bitCount_48 rfl ?_
    refine tt_bipush hf dJ1_bitCount_49 (by decide) ?_
    refine tt_iand (z := 2) hf dJ1_bitCount_51 (by decide +kernel) ?_
    exact tt_ireti hf hrT dJ1_bitCount_52 (Nat.le_refl _) (Nat.le_refl _) (by decide) ⟨by decide, rfl⟩
  · refine tt_iload_n hf 0 dJ1_bitCount_0 rfl ?_
    refine tt_iload_n hf 0 dJ1_bitCount_1 rfl ?_
    refine tt_iconst hf dJ1_bitCount_2 ?_
    refine tt_iushr (z := 10) hf dJ1_bitCount_3 (by decide +kernel) ?_
    refine tt_ldcw hf (1431655765) q540 (by decide) dJ1_bitCount_4 ?_
    refine tt_iand (z := 0) hf dJ1_bitCount_7 (by decide +kernel) ?_
    refine tt_isub hf dJ1_bitCount_8 (tt_top (z' := 21) (by decide) ?_)
    refine tt_istore_n (lv' := [(0, .int (iI 21))]) hf dJ1_bitCount_9 (by decide) rfl ?_
    refine tt_iload_n hf 0 dJ1_bitCount_10 rfl ?_
    refine tt_ldcw hf (858993459) q541 (by decide) dJ1_bitCount_11 ?_
    refine tt_iand (z := 17) hf dJ1_bitCount_14 (by decide +kernel) ?_
    refine tt_iload_n hf 0 dJ1_bitCount_15 rfl ?_
    refine tt_iconst hf dJ1_bitCount_16 ?_
    refine tt_iushr (z := 5) hf dJ1_bitCount_17 (by decide +kernel) ?_
    refine tt_ldcw hf (858993459) q541 (by decide) dJ1_bitCount_18 ?_
    refine tt_iand (z := 1) hf dJ1_bitCount_21 (by decide +kernel) ?_
    refine tt_iadd hf dJ1_bitCount_22 (tt_top (z' := 18) (by decide) ?_)
    refine tt_istore_n (lv' := [(0, .int (iI 18))]) hf dJ1_bitCount_23 (by decide) rfl ?_
    refine tt_iload_n hf 0 dJ1_bitCount_24 rfl ?_
    refine tt_iload_n hf 0 dJ1_bitCount_25 rfl ?_
    refine tt_iconst hf dJ1_bitCount_26 ?_
    refine tt_iushr (z := 1) hf dJ1_bitCount_27 (by decide +kernel) ?_
    refine tt_iadd hf dJ1_bitCount_28 (tt_top (z' := 19) (by decide) ?_)
    refine tt_ldcw hf (252645135) q542 (by decide) dJ1_bitCount_29 ?_
    refine tt_iand (z := 3) hf dJ1_bitCount_32 (by decide +kernel) ?_
    refine tt_istore_n (lv' := [(0, .int (iI 3))]) hf dJ1_bitCount_33 (by decide) rfl ?_
    refine tt_iload_n hf 0 dJ1_bitCount_34 rfl ?_
    refine tt_iload_n hf 0 dJ1_bitCount_35 rfl ?_
    refine tt_bipush hf dJ1_bitCount_36 (by decide) ?_
    refine tt_iushr (z := 0) hf dJ1_bitCount_38 (by decide +kernel) ?_
    refine tt_iadd hf dJ1_bitCount_39 (tt_top (z' := 3) (by decide) ?_)
    refine tt_istore_n (lv' := [(0, .int (iI 3))]) hf dJ1_bitCount_40 (by decide) rfl ?_
    refine tt_iload_n hf 0 dJ1_bitCount_41 rfl ?_
    refine tt_iload_n hf 0 dJ1_bitCount_42 rfl ?_
    refine tt_bipush hf dJ1_bitCount_43 (by decide) ?_
    refine tt_iushr (z := 0) hf dJ1_bitCount_45 (by decide +kernel) ?_
    refine tt_iadd hf dJ1_bitCount_46 (tt_top (z' := 3) (by decide) ?_)
    refine tt_istore_n (lv' := [(0, .int (iI 3))]) hf dJ1_bitCount_47 (by decide) rfl ?_
    refine tt_iload_n hf 0 dJ1_bitCount_48 rfl ?_
    refine tt_bipush hf dJ1_bitCount_49 (by decide) ?_
    refine tt_iand (z := 3) hf dJ1_bitCount_51 (by decide +kernel) ?_
    exact tt_ireti hf hrT dJ1_bitCount_52 (Nat.le_refl _) (Nat.le_refl _) (by decide) ⟨by decide, rfl⟩
  · refine tt_iload_n hf 0 dJ1_bitCount_0 rfl ?_
    refine tt_iload_n hf 0 dJ1_bitCount_1 rfl ?_
    refine tt_iconst hf dJ1_bitCount_2 ?_
    refine tt_iushr (z := 11) hf dJ1_bitCount_3 (by decide +kernel) ?_
    refine tt_ldcw hf (1431655765) q540 (by decide) dJ1_bitCount_4 ?_
    refine tt_iand (z := 1) hf dJ1_bitCount_7 (by decide +kernel) ?_
    refine tt_isub hf dJ1_bitCount_8 (tt_top (z' := 21) (by decide) ?_)
    refine tt_istore_n (lv' := [(0, .int (iI 21))]) hf dJ1_bitCount_9 (by decide) rfl ?_
    refine tt_iload_n hf 0 dJ1_bitCount_10 rfl ?_
    refine tt_ldcw hf (858993459) q541 (by decide) dJ1_bitCount_11 ?_
    refine tt_iand (z := 17) hf dJ1_bitCount_14 (by decide +kernel) ?_
    refine tt_iload_n hf 0 dJ1_bitCount_15 rfl ?_
    refine tt_iconst hf dJ1_bitCount_16 ?_
    refine tt_iushr (z := 5) hf dJ1_bitCount_17 (by decide +kernel) ?_
    refine tt_ldcw hf (858993459) q541 (by decide) dJ1_bitCount_18 ?_
    refine tt_iand (z := 1) hf dJ1_bitCount_21 (by decide +kernel) ?_
    refine tt_iadd hf dJ1_bitCount_22 (tt_top (z' := 18) (by decide) ?_)
    refine tt_istore_n (lv' := [(0, .int (iI 18))]) hf dJ1_bitCount_23 (by decide) rfl ?_
    refine tt_iload_n hf 0 dJ1_bitCount_24 rfl ?_
    refine tt_iload_n hf 0 dJ1_bitCount_25 rfl ?_
    refine tt_iconst hf dJ1_bitCount_26 ?_
    refine tt_iushr (z := 1) hf dJ1_bitCount_27 (by decide +kernel) ?_
    refine tt_iadd hf dJ1_bitCount_28 (tt_top (z' := 19) (by decide) ?_)
    refine tt_ldcw hf (252645135) q542 (by decide) dJ1_bitCount_29 ?_
    refine tt_iand (z := 3) hf dJ1_bitCount_32 (by decide +kernel) ?_
    refine tt_istore_n (lv' := [(0, .int (iI 3))]) hf dJ1_bitCount_33 (by decide) rfl ?_
    refine tt_iload_n hf 0 dJ1_bitCount_34 rfl ?_
    refine tt_iload_n hf 0 dJ1_bitCount_35 rfl ?_
    refine tt_bipush hf dJ1_bitCount_36 (by decide) ?_
    refine tt_iushr (z := 0) hf dJ1_bitCount_38 (by decide +kernel) ?_
    refine tt_iadd hf dJ1_bitCount_39 (tt_top (z' := 3) (by decide) ?_)
    refine tt_istore_n (lv' := [(0, .int (iI 3))]) hf dJ1_bitCount_40 (by decide) rfl ?_
    refine tt_iload_n hf 0 dJ1_bitCount_41 rfl ?_
    refine tt_iload_n hf 0 dJ1_bitCount_42 rfl ?_
    refine tt_bipush hf dJ1_bitCount_43 (by decide) ?_
    refine tt_iushr (z := 0) hf dJ1_bitCount_45 (by decide +kernel) ?_
    refine tt_iadd hf dJ1_bitCount_46 (tt_top (z' := 3) (by decide) ?_)
    refine tt_istore_n (lv' := [(0, .int (iI 3))]) hf dJ1_bitCount_47 (by decide) rfl ?_
    refine tt_iload_n hf 0 dJ1_bitCount_48 rfl ?_
    refine tt_bipush hf dJ1_bitCount_49 (by decide) ?_
    refine tt_iand (z := 3) hf dJ1_bitCount_51 (by decide +kernel) ?_
    exact tt_ireti hf hrT dJ1_bitCount_52 (Nat.le_refl _) (Nat.le_refl _) (by decide) ⟨by decide, rfl⟩
  · refine tt_iload_n hf 0 dJ1_bitCount_0 rfl ?_
    refine tt_iload_n hf 0 dJ1_bitCount_1 rfl ?_
    refine tt_iconst hf dJ1_bitCount_2 ?_
    refine tt_iushr (z := 11) hf dJ1_bitCount_3 (by decide +kernel) ?_
    refine tt_ldcw hf (1431655765) q540 (by decide) dJ1_bitCount_4 ?_
    refine tt_iand (z := 1) hf dJ1_bitCount_7 (by decide +kernel) ?_
    refine tt_isub hf dJ1_bitCount_8 (tt_top (z' := 22) (by decide) ?_)
    refine tt_istore_n (lv' := [(0, .int (iI 22))]) hf dJ1_bitCount_9 (by decide) rfl ?_
    refine tt_iload_n hf 0 dJ1_bitCount_10 rfl ?_
    refine tt_ldcw hf (858993459) q541 (by decide) dJ1_bitCount_11 ?_
    refine tt_iand (z := 18) hf dJ1_bitCount_14 (by decide +kernel) ?_
    refine tt_iload_n hf 0 dJ1_bitCount_15 rfl ?_
    refine tt_iconst hf dJ1_bitCount_16 ?_
    refine tt_iushr (z := 5) hf dJ1_bitCount_17 (by decide +kernel) ?_
    refine tt_ldcw hf (858993459) q541 (by decide) dJ1_bitCount_18 ?_
    refine tt_iand (z := 1) hf dJ1_bitCount_21 (by decide +kernel) ?_
    refine tt_iadd hf dJ1_bitCount_22 (tt_top (z' := 19) (by decide) ?_)
    refine tt_istore_n (lv' := [(0, .int (iI 19))]) hf dJ1_bitCount_23 (by decide) rfl ?_
    refine tt_iload_n hf 0 dJ1_bitCount_24 rfl ?_
    refine tt_iload_n hf 0 dJ1_bitCount_25 rfl ?_
    refine tt_iconst hf dJ1_bitCount_26 ?_
    refine tt_iushr (z := 1) hf dJ1_bitCount_27 (by decide +kernel) ?_
    refine tt_iadd hf dJ1_bitCount_28 (tt_top (z' := 20) (by decide) ?_)
    refine tt_ldcw hf (252645135) q542 (by decide) dJ1_bitCount_29 ?_
    refine tt_iand (z := 4) hf dJ1_bitCount_32 (by decide +kernel) ?_
    refine tt_istore_n (lv' := [(0, .int (iI 4))]) hf dJ1_bitCount_33 (by decide) rfl ?_
    refine tt_iload_n hf 0 dJ1_bitCount_34 rfl ?_
    refine tt_iload_n hf 0 dJ1_bitCount_35 rfl ?_
    refine tt_bipush hf dJ1_bitCount_36 (by decide) ?_
    refine tt_iushr (z := 0) hf dJ1_bitCount_38 (by decide +kernel) ?_
    refine tt_iadd hf dJ1_bitCount_39 (tt_top (z' := 4) (by decide) ?_)
    refine tt_istore_n (lv' := [(0, .int (iI 4))]) hf dJ1_bitCount_40 (by decide) rfl ?_
    refine tt_iload_n hf 0 dJ1_bitCount_41 rfl ?_
    refine tt_iload_n hf 0 dJ1_bitCount_42 rfl ?_
    refine tt_bipush hf dJ1_bitCount_43 (by decide) ?_
    refine tt_iushr (z := 0) hf dJ1_bitCount_45 (by decide +kernel) ?_
    refine tt_iadd hf dJ1_bitCount_46 (tt_top (z' := 4) (by decide) ?_)
    refine tt_istore_n (lv' := [(0, .int (iI 4))]) hf dJ1_bitCount_47 (by decide) rfl ?_
    refine tt_iload_n hf 0 dJ1_bitCount_48 rfl ?_
    refine tt_bipush hf dJ1_bitCount_49 (by decide) ?_
    refine tt_iand (z := 4) hf dJ1_bitCount_51 (by decide +kernel) ?_
    exact tt_ireti hf hrT dJ1_bitCount_52 (Nat.le_refl _) (Nat.le_refl _) (by decide) ⟨by decide, rfl⟩
  · refine tt_iload_n hf 0 dJ1_bitCount_0 rfl ?_
    refine tt_iload_n hf 0 dJ1_bitCount_1 rfl ?_
    refine tt_iconst hf dJ1_bitCount_2 ?_
    refine tt_iushr (z := 12) hf dJ1_bitCount_3 (by decide +kernel) ?_
    refine tt_ldcw hf (1431655765) q540 (by decide) dJ1_bitCount_4 ?_
    refine tt_iand (z := 4) hf dJ1_bitCount_7 (by decide +kernel) ?_
    refine tt_isub hf dJ1_bitCount_8 (tt_top (z' := 20) (by decide) ?_)
    refine tt_istore_n (lv' := [(0, .int (iI 20))]) hf dJ1_bitCount_9 (by decide) rfl ?_
    refine tt_iload_n hf 0 dJ1_bitCount_10 rfl ?_
    refine tt_ldcw hf (858993459) q541 (by decide) dJ1_bitCount_11 ?_
    refine tt_iand (z := 16) hf dJ1_bitCount_14 (by decide +kernel) ?_
    refine tt_iload_n hf 0 dJ1_bitCount_15 rfl ?_
    refine tt_iconst hf dJ1_bitCount_16 ?_
    refine tt_iushr (z := 5) hf dJ1_bitCount_17 (by decide +kernel) ?_
    refine tt_ldcw hf (858993459) q541 (by decide) dJ1_bitCount_18 ?_
    refine tt_iand (z := 1) hf dJ1_bitCount_21 (by decide +kernel) ?_
    refine tt_iadd hf dJ1_bitCount_22 (tt_top (z' := 17) (by decide) ?_)
    refine tt_istore_n (lv' := [(0, .int (iI 17))]) hf dJ1_bitCount_23 (by decide) rfl ?_
    refine tt_iload_n hf 0 dJ1_bitCount_24 rfl ?_
    refine tt_iload_n hf 0 dJ1_bitCount_25 rfl ?_
    refine tt_iconst hf dJ1_bitCount_26 ?_
    refine tt_iushr (z := 1) hf dJ1_bitCount_27 (by decide +kernel) ?_
    refine tt_iadd hf dJ1_bitCount_28 (tt_top (z' := 18) (by decide) ?_)
    refine tt_ldcw hf (252645135) q542 (by decide) dJ1_bitCount_29 ?_
    refine tt_iand (z := 2) hf dJ1_bitCount_32 (by decide +kernel) ?_
    refine tt_istore_n (lv' := [(0, .int (iI 2))]) hf dJ1_bitCount_33 (by decide) rfl ?_
    refine tt_iload_n hf 0 dJ1_bitCount_34 rfl ?_
    refine tt_iload_n hf 0 dJ1_bitCount_35 rfl ?_
    refine tt_bipush hf dJ1_bitCount_36 (by decide) ?_
    refine tt_iushr (z := 0) hf dJ1_bitCount_38 (by decide +kernel) ?_
    refine tt_iadd hf dJ1_bitCount_39 (tt_top (z' := 2) (by decide) ?_)
    refine tt_istore_n (lv' := [(0, .int (iI 2))]) hf dJ1_bitCount_40 (by decide) rfl ?_
    refine tt_iload_n hf 0 dJ1_bitCount_41 rfl ?_
    refine tt_iload_n hf 0 dJ1_bitCount_42 rfl ?_
    refine tt_bipush hf dJ1_bitCount_43 (by decide) ?_
    refine tt_iushr (z := 0) hf dJ1_bitCount_45 (by decide +kernel) ?_
    refine tt_iadd hf dJ1_bitCount_46 (tt_top (z' := 2) (by decide) ?_)
    refine tt_istore_n (lv' := [(0, .int (iI 2))]) hf dJ1_bitCount_47 (by decide) rfl ?_
    refine tt_iload_n hf 0 dJ1_bitCount_48 rfl ?_
    refine tt_bipush hf dJ1_bitCount_49 (by decide) ?_
    refine tt_iand (z := 2) hf dJ1_bitCount_51 (by decide +kernel) ?_
    exact tt_ireti hf hrT dJ1_bitCount_52 (Nat.le_refl _) (Nat.le_refl _) (by decide) ⟨by decide, rfl⟩
  · refine tt_iload_n hf 0 dJ1_bitCount_0 rfl ?_
    refine tt_iload_n hf 0 dJ1_bitCount_1 rfl ?_
    refine tt_iconst hf dJ1_bitCount_2 ?_
    refine tt_iushr (z := 12) hf dJ1_bitCount_3 (by decide +kernel) ?_
    refine tt_ldcw hf (1431655765) q540 (by decide) dJ1_bitCount_4 ?_
    refine tt_iand (z := 4) hf dJ1_bitCount_7 (by decide +kernel) ?_
    refine tt_isub hf dJ1_bitCount_8 (tt_top (z' := 21) (by decide) ?_)
    refine tt_istore_n (lv' := [(0, .int (iI 21))]) hf dJ1_bitCount_9 (by decide) rfl ?_
    refine tt_iload_n hf 0 dJ1_bitCount_10 rfl ?_
    refine tt_ldcw hf (858993459) q541 (by decide) dJ1_bitCount_11 ?_
    refine tt_iand (z := 17) hf dJ1_bitCount_14 (by decide +kernel) ?_
    refine tt_iload_n hf 0 dJ1_bitCount_15 rfl ?_
    refine tt_iconst hf dJ1_bitCount_16 ?_
    refine tt_iushr (z := 5) hf dJ1_bitCount_17 (by decide +kernel) ?_
    refine tt_ldcw hf (858993459) q541 (by decide) dJ1_bitCount_18 ?_
    refine tt_iand (z := 1) hf dJ1_bitCount_21 (by decide +kernel) ?_
    refine tt_iadd hf dJ1_bitCount_22 (tt_top (z' := 18) (by decide) ?_)
    refine tt_istore_n (lv' := [(0, .int (iI 18))]) hf dJ1_bitCount_23 (by decide) rfl ?_
    refine tt_iload_n hf 0 dJ1_bitCount_24 rfl ?_
    refine tt_iload_n hf 0 dJ1_bitCount_25 rfl ?_
    refine tt_iconst hf dJ1_bitCount_26 ?_
    refine tt_iushr (z := 1) hf dJ1_bitCount_27 (by decide +kernel) ?_
    refine tt_iadd hf dJ1_bitCount_28 (tt_top (z' := 19) (by decide) ?_)
    refine tt_ldcw hf (252645135) q542 (by decide) dJ1_bitCount_29 ?_
    refine tt_iand (z := 3) hf dJ1_bitCount_32 (by decide +kernel) ?_
    refine tt_istore_n (lv' := [(0, .int (iI 3))]) hf dJ1_bitCount_33 (by decide) rfl ?_
    refine tt_iload_n hf 0 dJ1_bitCount_34 rfl ?_
    refine tt_iload_n hf 0 dJ1_bitCount_35 rfl ?_
    refine tt_bipush hf dJ1_bitCount_36 (by decide) ?_
    refine tt_iushr (z := 0) hf dJ1_bitCount_38 (by decide +kernel) ?_
    refine tt_iadd hf dJ1_bitCount_39 (tt_top (z' := 3) (by decide) ?_)
    refine tt_istore_n (lv' := [(0, .int (iI 3))]) hf dJ1_bitCount_40 (by decide) rfl ?_
    refine tt_iload_n hf 0 dJ1_bitCount_41 rfl ?_
    refine tt_iload_n hf 0 dJ1_bitCount_42 rfl ?_
    refine tt_bipush hf dJ1_bitCount_43 (by decide) ?_
    refine tt_iushr (z := 0) hf dJ1_bitCount_45 (by decide +kernel) ?_
    refine tt_iadd hf dJ1_bitCount_46 (tt_top (z' := 3) (by decide) ?_)
    refine tt_istore_n (lv' := [(0, .int (iI 3))]) hf dJ1_bitCount_47 (by decide) rfl ?_
    refine tt_iload_n hf 0 dJ1_bitCount_48 rfl ?_
    refine tt_bipush hf dJ1_bitCount_49 (by decide) ?_
    refine tt_iand (z := 3) hf dJ1_bitCount_51 (by decide +kernel) ?_
    exact tt_ireti hf hrT dJ1_bitCount_52 (Nat.le_refl _) (Nat.le_refl _) (by decide) ⟨by decide, rfl⟩
  · refine tt_iload_n hf 0 dJ1_bitCount_0 rfl ?_
    refine tt_iload_n hf 0 dJ1_bitCount_1 rfl ?_
    refine tt_iconst hf dJ1_bitCount_2 ?_
    refine tt_iushr (z := 13) hf dJ1_bitCount_3 (by decide +kernel) ?_
    refine tt_ldcw hf (1431655765) q540 (by decide) dJ1_bitCount_4 ?_
    refine tt_iand (z := 5) hf dJ1_bitCount_7 (by decide +kernel) ?_
    refine tt_isub hf dJ1_bitCount_8 (tt_top (z' := 21) (by decide) ?_)
    refine tt_istore_n (lv' := [(0, .int (iI 21))]) hf dJ1_bitCount_9 (by decide) rfl ?_
    refine tt_iload_n hf 0 dJ1_bitCount_10 rfl ?_
    refine tt_ldcw hf (858993459) q541 (by decide) dJ1_bitCount_11 ?_
    refine tt_iand (z := 17) hf dJ1_bitCount_14 (by decide +kernel) ?_
    refine tt_iload_n hf 0 dJ1_bitCount_15 rfl ?_
    refine tt_iconst hf dJ1_bitCount_16 ?_
    refine tt_iushr (z := 5) hf dJ1_bitCount_17 (by decide +kernel) ?_
    refine tt_ldcw hf (858993459) q541 (by decide) dJ1_bitCount_18 ?_
    refine tt_iand (z := 1) hf dJ1_bitCount_21 (by decide +kernel) ?_
    refine tt_iadd hf dJ1_bitCount_22 (tt_top (z' := 18) (by decide) ?_)
    refine tt_istore_n (lv' := [(0, .int (iI 18))]) hf dJ1_bitCount_23 (by decide) rfl ?_
    refine tt_iload_n hf 0 dJ1_bitCount_24 rfl ?_
    refine tt_iload_n hf 0 dJ1_bitCount_25 rfl ?_
    refine tt_iconst hf dJ1_bitCount_26 ?_
    refine tt_iushr (z := 1) hf dJ1_bitCount_27 (by decide +kernel) ?_
    refine tt_iadd hf dJ1_bitCount_28 (tt_top (z' := 19) (by decide) ?_)
    refine tt_ldcw hf (252645135) q542 (by decide) dJ1_bitCount_29 ?_
    refine tt_iand (z := 3) hf dJ1_bitCount_32 (by decide +kernel) ?_
    refine tt_istore_n (lv' := [(0, .int (iI 3))]) hf dJ1_bitCount_33 (by decide) rfl ?_
    refine tt_iload_n hf 0 dJ1_bitCount_34 rfl ?_
    refine tt_iload_n hf 0 dJ1_bitCount_35 rfl ?_
    refine tt_bipush hf dJ1_bitCount_36 (by decide) ?_
    refine tt_iushr (z := 0) hf dJ1_bitCount_38 (by decide +kernel) ?_
    refine tt_iadd hf dJ1_bitCount_39 (tt_top (z' := 3) (by decide) ?_)
    refine tt_istore_n (lv' := [(0, .int (iI 3))]) hf dJ1_bitCount_40 (by decide) rfl ?_
    refine tt_iload_n hf 0 dJ1_bitCount_41 rfl ?_
    refine tt_iload_n hf 0 dJ1_bitCount_42 rfl ?_
    refine tt_bipush hf dJ1_bitCount_43 (by decide) ?_
    refine tt_iushr (z := 0) hf dJ1_bitCount_45 (by decide +kernel) ?_
    refine tt_iadd hf dJ1_bitCount_46 (tt_top (z' := 3) (by decide) ?_)
    refine tt_istore_n (lv' := [(0, .int (iI 3))]) hf dJ1_bitCount_47 (by decide) rfl ?_
    refine tt_iload_n hf 0 dJ1_bitCount_48 rfl ?_
    refine tt_bipush hf dJ1_bitCount_49 (by decide) ?_
    refine tt_iand (z := 3) hf dJ1_bitCount_51 (by decide +kernel) ?_
    exact tt_ireti hf hrT dJ1_bitCount_52 (Nat.le_refl _) (Nat.le_refl _) (by decide) ⟨by decide, rfl⟩
  · refine tt_iload_n hf 0 dJ1_bitCount_0 rfl ?_
    refine tt_iload_n hf 0 dJ1_bitCount_1 rfl ?_
    refine tt_iconst hf dJ1_bitCount_2 ?_
    refine tt_iushr (z := 13) hf dJ1_bitCount_3 (by decide +kernel) ?_
    refine tt_ldcw hf (1431655765) q540 (by decide) dJ1_bitCount_4 ?_
    refine tt_iand (z := 5) hf dJ1_bitCount_7 (by decide +kernel) ?_
    refine tt_isub hf dJ1_bitCount_8 (tt_top (z' := 22) (by decide) ?_)
    refine tt_istore_n (lv' := [(0, .int (iI 22))]) hf dJ1_bitCount_9 (by decide) rfl ?_
    refine tt_iload_n hf 0 dJ1_bitCount_10 rfl ?_
    refine tt_ldcw hf (858993459) q541 (by decide) dJ1_bitCount_11 ?_
    refine tt_iand (z := 18) hf dJ1_bitCount_14 (by decide +kernel) ?_
    refine tt_iload_n hf 0 dJ1_bitCount_15 rfl ?_
    refine tt_iconst hf dJ1_bitCount_16 ?_
    refine tt_iushr (z := 5) hf dJ1_bitCount_17 (by decide +kernel) ?_
    refine tt_ldcw hf (858993459) q541 (by decide) dJ1_bitCount_18 ?_
    refine tt_iand (z := 1) hf dJ1_bitCount_21 (by decide +kernel) ?_
    refine tt_iadd hf dJ1_bitCount_22 (tt_top (z' := 19) (by decide) ?_)
    refine tt_istore_n (lv' := [(0, .int (iI 19))]) hf dJ1_bitCount_23 (by decide) rfl ?_
    refine tt_iload_n hf 0 dJ1_bitCount_24 rfl ?_
    refine tt_iload_n hf 0 dJ1_bitCount_25 rfl ?_
    refine tt_iconst hf dJ1_bitCount_26 ?_
    refine tt_iushr (z := 1) hf dJ1_bitCount_27 (by decide +kernel) ?_
    refine tt_iadd hf dJ1_bitCount_28 (tt_top (z' := 20) (by decide) ?_)
    refine tt_ldcw hf (252645135) q542 (by decide) dJ1_bitCount_29 ?_
    refine tt_iand (z := 4) hf dJ1_bitCount_32 (by decide +kernel) ?_
    refine tt_istore_n (lv' := [(0, .int (iI 4))]) hf dJ1_bitCount_33 (by decide) rfl ?_
    refine tt_iload_n hf 0 dJ1_bitCount_34 rfl ?_
    refine tt_iload_n hf 0 dJ1_bitCount_35 rfl ?_
    refine tt_bipush hf dJ1_bitCount_36 (by decide) ?_
    refine tt_iushr (z := 0) hf dJ1_bitCount_38 (by decide +kernel) ?_
    refine tt_iadd hf dJ1_bitCount_39 (tt_top (z' := 4) (by decide) ?_)
    refine tt_istore_n (lv' := [(0, .int (iI 4))]) hf dJ1_bitCount_40 (by decide) rfl ?_
    refine tt_iload_n hf 0 dJ1_bitCount_41 rfl ?_
    refine tt_iload_n hf 0 dJ1_bitCount_42 rfl ?_
    refine tt_bipush hf dJ1_bitCount_43 (by decide) ?_
    refine tt_iushr (z := 0) hf dJ1_bitCount_45 (by decide +kernel) ?_
    refine tt_iadd hf dJ1_bitCount_46 (tt_top (z' := 4) (by decide) ?_)
    refine tt_istore_n (lv' := [(0, .int (iI 4))]) hf dJ1_bitCount_47 (by decide) rfl ?_
    refine tt_iload_n hf 0 dJ1_bitCount_48 rfl ?_
    refine tt_bipush hf dJ1_bitCount_49 (by decide) ?_
    refine tt_iand (z := 4) hf dJ1_bitCount_51 (by decide +kernel) ?_
    exact tt_ireti hf hrT dJ1_bitCount_52 (Nat.le_refl _) (Nat.le_refl _) (by decide) ⟨by decide, rfl⟩
  · refine tt_iload_n hf 0 dJ1_bitCount_0 rfl ?_
    refine tt_iload_n hf 0 dJ1_bitCount_1 rfl ?_
    refine tt_iconst hf dJ1_bitCount_2 ?_
    refine tt_iushr (z := 14) hf dJ1_bitCount_3 (by decide +kernel) ?_
    refine tt_ldcw hf (1431655765) q540 (by decide) dJ1_bitCount_4 ?_
    refine tt_iand (z := 4) hf dJ1_bitCount_7 (by decide +kernel) ?_
    refine tt_isub hf dJ1_bitCount_8 (tt_top (z' := 24) (by decide) ?_)
    refine tt_istore_n (lv' := [(0, .int (iI 24))]) hf dJ1_bitCount_9 (by decide) rfl ?_
    refine tt_iload_n hf 0 dJ1_bitCount_10 rfl ?_
    refine tt_ldcw hf (858993459) q541 (by decide) dJ1_bitCount_11 ?_
    refine tt_iand (z := 16) hf dJ1_bitCount_14 (by decide +kernel) ?_
    refine tt_iload_n hf 0 dJ1_bitCount_15 rfl ?_
    refine tt_iconst hf dJ1_bitCount_16 ?_
    refine tt_iushr (z := 6) hf dJ1_bitCount_17 (by decide +kernel) ?_
    refine tt_ldcw hf (858993459) q541 (by decide) dJ1_bitCount_18 ?_
    refine tt_iand (z := 2) hf dJ1_bitCount_21 (by decide +kernel) ?_
    refine tt_iadd hf dJ1_bitCount_22 (tt_top (z' := 18) (by decide) ?_)
    refine tt_istore_n (lv' := [(0, .int (iI 18))]) hf dJ1_bitCount_23 (by decide) rfl ?_
    refine tt_iload_n hf 0 dJ1_bitCount_24 rfl ?_
    refine tt_iload_n hf 0 dJ1_bitCount_25 rfl ?_
    refine tt_iconst hf dJ1_bitCount_26 ?_
    refine tt_iushr (z := 1) hf dJ1_bitCount_27 (by decide +kernel) ?_
    refine tt_iadd hf dJ1_bitCount_28 (tt_top (z' := 19) (by decide) ?_)
    refine tt_ldcw hf (252645135) q542 (by decide) dJ1_bitCount_29 ?_
    refine tt_iand (z := 3) hf dJ1_bitCount_32 (by decide +kernel) ?_
    refine tt_istore_n (lv' := [(0, .int (iI 3))]) hf dJ1_bitCount_33 (by decide) rfl ?_
    refine tt_iload_n hf 0 dJ1_bitCount_34 rfl ?_
    refine tt_iload_n hf 0 dJ1_bitCount_35 rfl ?_
    refine tt_bipush hf dJ1_bitCount_36 (by decide) ?_
    refine tt_iushr (z := 0) hf dJ1_bitCount_38 (by decide +kernel) ?_
    refine tt_iadd hf dJ1_bitCount_39 (tt_top (z' := 3) (by decide) ?_)
    refine tt_istore_n (lv' := [(0, .int (iI 3))]) hf dJ1_bitCount_40 (by decide) rfl ?_
    refine tt_iload_n hf 0 dJ1_bitCount_41 rfl ?_
    refine tt_iload_n hf 0 dJ1_bitCount_42 rfl ?_
    refine tt_bipush hf dJ1_bitCount_43 (by decide) ?_
    refine tt_iushr (z := 0) hf dJ1_bitCount_45 (by decide +kernel) ?_
    refine tt_iadd hf dJ1_bitCount_46 (tt_top (z' := 3) (by decide) ?_)
    refine tt_istore_n (lv' := [(0, .int (iI 3))]) hf dJ1_bitCount_47 (by decide) rfl ?_
    refine tt_iload_n hf 0 dJ1_bitCount_48 rfl ?_
    refine tt_bipush hf dJ1_bitCount_49 (by decide) ?_
    refine tt_iand (z := 3) hf dJ1_bitCount_51 (by decide +kernel) ?_
    exact tt_ireti hf hrT dJ1_bitCount_52 (Nat.le_refl _) (Nat.le_refl _) (by decide) ⟨by decide, rfl⟩
  · refine tt_iload_n hf 0 dJ1_bitCount_0 rfl ?_
    refine tt_iload_n hf 0 dJ1_bitCount_1 rfl ?_
    refine tt_iconst hf dJ1_bitCount_2 ?_
    refine tt_iushr (z := 14) hf dJ1_bitCount_3 (by decide +kernel) ?_
    refine tt_ldcw hf (1431655765) q540 (by decide) dJ1_bitCount_4 ?_
    refine tt_iand (z := 4) hf dJ1_bitCount_7 (by decide +kernel) ?_
    refine tt_isub hf dJ1_bitCount_8 (tt_top (z' := 25) (by decide) ?_)
    refine tt_istore_n (lv' := [(0, .int (iI 25))]) hf dJ1_bitCount_9 (by decide) rfl ?_
    refine tt_iload_n hf 0 dJ1_bitCount_10 rfl ?_
    refine tt_ldcw hf (858993459) q541 (by decide) dJ1_bitCount_11 ?_
    refine tt_iand (z := 17) hf dJ1_bitCount_14 (by decide +kernel) ?_
    refine tt_iload_n hf 0 dJ1_bitCount_15 rfl ?_
    refine tt_iconst hf dJ1_bitCount_16 ?_
    refine tt_iushr (z := 6) hf dJ1_bitCount_17 (by decide +kernel) ?_
    refine tt_ldcw hf (858993459) q541 (by decide) dJ1_bitCount_18 ?_
    refine tt_iand (z := 2) hf dJ1_bitCount_21 (by decide +kernel) ?_
    refine tt_iadd hf dJ1_bitCount_22 (tt_top (z' := 19) (by decide) ?_)
    refine tt_istore_n (lv' := [(0, .int (iI 19))]) hf dJ1_bitCount_23 (by decide) rfl ?_
    refine tt_iload_n hf 0 dJ1_bitCount_24 rfl ?_
    refine tt_iload_n hf 0 dJ1_bitCount_25 rfl ?_
    refine tt_iconst hf dJ1_bitCount_26 ?_
    refine tt_iushr (z := 1) hf dJ1_bitCount_27 (by decide +kernel) ?_
    refine tt_iadd hf dJ1_bitCount_28 (tt_top (z' := 20) (by decide) ?_)
    refine tt_ldcw hf (252645135) q542 (by decide) dJ1_bitCount_29 ?_
    refine tt_iand (z := 4) hf dJ1_bitCount_32 (by decide +kernel) ?_
    refine tt_istore_n (lv' := [(0, .int (iI 4))]) hf dJ1_bitCount_33 (by decide) rfl ?_
    refine tt_iload_n hf 0 dJ1_bitCount_34 rfl ?_
    refine tt_iload_n hf 0 dJ1_bitCount_35 rfl ?_
    refine tt_bipush hf dJ1_bitCount_36 (by decide) ?_
    refine tt_iushr (z := 0) hf dJ1_bitCount_38 (by decide +kernel) ?_
    refine tt_iadd hf dJ1_bitCount_39 (tt_top (z' := 4) (by decide) ?_)
    refine tt_istore_n (lv' := [(0, .int (iI 4))]) hf dJ1_bitCount_40 (by decide) rfl ?_
    refine tt_iload_n hf 0 dJ1_bitCount_41 rfl ?_
    refine tt_iload_n hf 0 dJ1_bitCount_42 rfl ?_
    refine tt_bipush hf dJ1_bitCount_43 (by decide) ?_
    refine tt_iushr (z := 0) hf dJ1_bitCount_45 (by decide +kernel) ?_
    refine tt_iadd hf dJ1_bitCount_46 (tt_top (z' := 4) (by decide) ?_)
    refine tt_istore_n (lv' := [(0, .int (iI 4))]) hf dJ1_bitCount_47 (by decide) rfl ?_
    refine tt_iload_n hf 0 dJ1_bitCount_48 rfl ?_
    refine tt_bipush hf dJ1_bitCount_49 (by decide) ?_
    refine tt_iand (z := 4) hf dJ1_bitCount_51 (by decide +kernel) ?_
    exact tt_ireti hf hrT dJ1_bitCount_52 (Nat.le_refl _) (Nat.le_refl _) (by decide) ⟨by decide, rfl⟩
  · refine tt_iload_n hf 0 dJ1_bitCount_0 rfl ?_
    refine tt_iload_n hf 0 dJ1_bitCount_1 rfl ?_
    refine tt_iconst hf dJ1_bitCount_2 ?_
    refine tt_iushr (z := 15) hf dJ1_bitCount_3 (by decide +kernel) ?_
    refine tt_ldcw hf (1431655765) q540 (by decide) dJ1_bitCount_4 ?_
    refine tt_iand (z := 5) hf dJ1_bitCount_7 (by decide +kernel) ?_
    refine tt_isub hf dJ1_bitCount_8 (tt_top (z' := 25) (by decide) ?_)
    refine tt_istore_n (lv' := [(0, .int (iI 25))]) hf dJ1_bitCount_9 (by decide) rfl ?_
    refine tt_iload_n hf 0 dJ1_bitCount_10 rfl ?_
    refine tt_ldcw hf (858993459) q541 (by decide) dJ1_bitCount_11 ?_
    refine tt_iand (z := 17) hf dJ1_bitCount_14 (by decide +kernel) ?_
    refine tt_iload_n hf 0 dJ1_bitCount_15 rfl ?_
    refine tt_iconst hf dJ1_bitCount_16 ?_
    refine tt_iushr (z := 6) hf dJ1_bitCount_17 (by decide +kernel) ?_
    refine tt_ldcw hf (858993459) q541 (by decide) dJ1_bitCount_18 ?_
    refine tt_iand (z := 2) hf dJ1_bitCount_21 (by decide +kernel) ?_
    refine tt_iadd hf dJ1_bitCount_22 (tt_top (z' := 19) (by decide) ?_)
    refine tt_istore_n (lv' := [(0, .int (iI 19))]) hf dJ1_bitCount_23 (by decide) rfl ?_
    refine tt_iload_n hf 0 dJ1_bitCount_24 rfl ?_
    refine tt_iload_n hf 0 dJ1_bitCount_25 rfl ?_
    refine tt_iconst hf dJ1_bitCount_26 ?_
    refine tt_iushr (z := 1) hf dJ1_bitCount_27 (by decide +kernel) ?_
    refine tt_iadd hf dJ1_bitCount_28 (tt_top (z' := 20) (by decide) ?_)
    refine tt_ldcw hf (252645135) q542 (by decide) dJ1_bitCount_29 ?_
    refine tt_iand (z := 4) hf dJ1_bitCount_32 (by decide +kernel) ?_
    refine tt_istore_n (lv' := [(0, .int (iI 4))]) hf dJ1_bitCount_33 (by decide) rfl ?_
    refine tt_iload_n hf 0 dJ1_bitCount_34 rfl ?_
    refine tt_iload_n hf 0 dJ1_bitCount_35 rfl ?_
    refine tt_bipush hf dJ1_bitCount_36 (by decide) ?_
    refine tt_iushr (z := 0) hf dJ1_bitCount_38 (by decide +kernel) ?_
    refine tt_iadd hf dJ1_bitCount_39 (tt_top (z' := 4) (by decide) ?_)
    refine tt_istore_n (lv' := [(0, .int (iI 4))]) hf dJ1_bitCount_40 (by decide) rfl ?_
    refine tt_iload_n hf 0 dJ1_bitCount_41 rfl ?_
    refine tt_iload_n hf 0 dJ1_bitCount_42 rfl ?_
    refine tt_bipush hf dJ1_bitCount_43 (by decide) ?_
    refine tt_iushr (z := 0) hf dJ1_bitCount_45 (by decide +kernel) ?_
    refine tt_iadd hf dJ1_bitCount_46 (tt_top (z' := 4) (by decide) ?_)
    refine tt_istore_n (lv' := [(0, .int (iI 4))]) hf dJ1_bitCount_47 (by decide) rfl ?_
    refine tt_iload_n hf 0 dJ1_bitCount_48 rfl ?_
    refine tt_bipush hf dJ1_bitCount_49 (by decide) ?_
    refine tt_iand (z := 4) hf dJ1_bitCount_51 (by decide +kernel) ?_
    exact tt_ireti hf hrT dJ1_bitCount_52 (Nat.le_refl _) (Nat.le_refl _) (by decide) ⟨by decide, rfl⟩
  · refine tt_iload_n hf 0 dJ1_bitCount_0 rfl ?_
    refine tt_iload_n hf 0 dJ1_bitCount_1 rfl ?_
    refine tt_iconst hf dJ1_bitCount_2 ?_
    refine tt_iushr (z := 15) hf dJ1_bitCount_3 (by decide +kernel) ?_
    refine tt_ldcw hf (1431655765) q540 (by decide) dJ1_bitCount_4 ?_
    refine tt_iand (z := 5) hf dJ1_bitCount_7 (by decide +kernel) ?_
    refine tt_isub hf dJ1_bitCount_8 (tt_top (z' := 26) (by decide) ?_)
    refine tt_istore_n (lv' := [(0, .int (iI 26))]) hf dJ1_bitCount_9 (by decide) rfl ?_
    refine tt_iload_n hf 0 dJ1_bitCount_10 rfl ?_
    refine tt_ldcw hf (858993459) q541 (by decide) dJ1_bitCount_11 ?_
    refine tt_iand (z := 18) hf dJ1_bitCount_14 (by decide +kernel) ?_
    refine tt_iload_n hf 0 dJ1_bitCount_15 rfl ?_
    refine tt_iconst hf dJ1_bitCount_16 ?_
    refine tt_iushr (z := 6) hf dJ1_bitCount_17 (by decide +kernel) ?_
    refine tt_ldcw hf (858993459) q541 (by decide) dJ1_bitCount_18 ?_
    refine tt_iand (z := 2) hf dJ1_bitCount_21 (by decide +kernel) ?_
    refine tt_iadd hf dJ1_bitCount_22 (tt_top (z' := 20) (by decide) ?_)
    refine tt_istore_n (lv' := [(0, .int (iI 20))]) hf dJ1_bitCount_23 (by decide) rfl ?_
    refine tt_iload_n hf 0 dJ1_bitCount_24 rfl ?_
    refine tt_iload_n hf 0 dJ1_bitCount_25 rfl ?_
    refine tt_iconst hf dJ1_bitCount_26 ?_
    refine tt_iushr (z := 1) hf dJ1_bitCount_27 (by decide +kernel) ?_
    refine tt_iadd hf dJ1_bitCount_28 (tt_top (z' := 21) (by decide) ?_)
    refine tt_ldcw hf (252645135) q542 (by decide) dJ1_bitCount_29 ?_
    refine tt_iand (z := 5) hf dJ1_bitCount_32 (by decide +kernel) ?_
    refine tt_istore_n (lv' := [(0, .int (iI 5))]) hf dJ1_bitCount_33 (by decide) rfl ?_
    refine tt_iload_n hf 0 dJ1_bitCount_34 rfl ?_
    refine tt_iload_n hf 0 dJ1_bitCount_35 rfl ?_
    refine tt_bipush hf dJ1_bitCount_36 (by decide) ?_
    refine tt_iushr (z := 0) hf dJ1_bitCount_38 (by decide +kernel) ?_
    refine tt_iadd hf dJ1_bitCount_39 (tt_top (z' := 5) (by decide) ?_)
    refine tt_istore_n (lv' := [(0, .int (iI 5))]) hf dJ1_bitCount_40 (by decide) rfl ?_
    refine tt_iload_n hf 0 dJ1_bitCount_41 rfl ?_
    refine tt_iload_n hf 0 dJ1_bitCount_42 rfl ?_
    refine tt_bipush hf dJ1_bitCount_43 (by decide) ?_
    refine tt_iushr (z := 0) hf dJ1_bitCount_45 (by decide +kernel) ?_
    refine tt_iadd hf dJ1_bitCount_46 (tt_top (z' := 5) (by decide) ?_)
    refine tt_istore_n (lv' := [(0, .int (iI 5))]) hf dJ1_bitCount_47 (by decide) rfl ?_
    refine tt_iload_n hf 0 dJ1_bitCount_48 rfl ?_
    refine tt_bipush hf dJ1_bitCount_49 (by decide) ?_
    refine tt_iand (z := 5) hf dJ1_bitCount_51 (by decide +kernel) ?_
    exact tt_ireti hf hrT dJ1_bitCount_52 (Nat.le_refl _) (Nat.le_refl _) (by decide) ⟨by decide, rfl⟩
theorem xs_isSo {Γ : tX} {R : Room} {nL k n : Nat} {Q : State → Prop} {pc : Nat} {lv : List (Nat × Value)} {st : List Value} {cc : ByteArray} {o : Nat} {ax : Nat → Nat} {num kpt : Int → Option Nat} {many cols chg brd old : Int} {page : Int → Int} {pgM told enD : Int} {row : Int → Int} {ways far : Int} {hav : Int → Int} {wtd : Int} {fnd : Int → Int} {mdT wnT : Int} {sN sW sC : Int → Int} {sM drw : Int} {kN kW kC : Int → Int} {kS kG kB : Int} {hh : Int64} {L : List Nat} {mf : Nat → Nat × Int × Int × Int} (hf : Fx Γ RX0 cc nL) {z u : Int} (hz : 0 ≤ z ∧ z < 5) (hu : 0 ≤ u ∧ u ≤ 2) (hR : 5 ≤ R.frames ∧ 200 ≤ R.locals) (hroom : k ≤ R.cells ∧ n ≤ R.slots) (hcat : (st.map fun v => v.category).sum ≤ 8) (d : decode cc pc = .ok (.invokevirtual 273, 3)) (kk : T Γ R nL k n Q (xW (xg Γ) o ax num kpt many cols chg brd old page pgM told enD row ways far hav wtd fnd mdT wnT sN sW sC sM drw kN kW kC kS kG kB hh L mf) (pc + 3) lv (.int (iI (if cd z u then 1 else 0)) :: st)) : T Γ R nL k n Q (xW (xg Γ) o ax num kpt many cols chg brd old page pgM told enD row ways far hav wtd fnd mdT wnT sN sW sC sM drw kN kW kC kS kG kB hh L mf) pc lv (.int (iI u) :: .ref (ax (100 + z.toNat)) :: st) := by
  rcases (show z = 0 ∨ z = 1 ∨ z = 2 ∨ z = 3 ∨ z = 4 by omega) with e | e | e | e | e <;> subst e
  · exact tm_isSo hf (j := 14) (m := (0, 0, 0, 0)) rfl (by decide) hu hR hroom hcat d kk
  · exact tm_isSo hf (j := 15) (m := (1, 0, 0, 0)) rfl (by decide) hu hR hroom hcat d kk
  · exact tm_isSo hf (j := 16) (m := (2, 0, 0, 0)) rfl (by decide) hu hR hroom hcat d kk
  · exact tm_isSo hf (j := 17) (m := (3, 0, 0, 0)) rfl (by decide) hu hR hroom hcat d kk
  · exact tm_isSo hf (j := 18) (m := (4, 0, 0, 0)) rfl (by decide) hu hR hroom hcat d kk
set_option maxHeartbeats 4000000 in
set_option maxRecDepth 100000 in
theorem cx_sortsBy {l : Launch} {g : tG} {o : Nat} {ax : Nat → Nat} {num kpt : Int → Option Nat} {many cols chg brd old : Int} {page : Int → Int} {pgM told enD : Int} {row : Int → Int} {ways far : Int} {hav : Int → Int} {wtd : Int} {fnd : Int → Int} {mdT wnT : Int} {sN sW sC : Int → Int} {sM drw : Int} {kN kW kC : Int → Int} {kS kG kB : Int} {hh : Int64} {L : List Nat} {mf : Nat → Nat × Int × Int × Int} {u : Int} (hu : 0 ≤ u ∧ u ≤ 2) : Ce l g yX0_sortsBy (ws_ yX0_sortsBy cX0_sortsBy 4 (Option.some Jvm.ClassFile.FieldType.int)) (rmL 6) [.ref o, .int (iI u)] (xW g o ax num kpt many cols chg brd old page pgM told enD row ways far hav wtd fnd mdT wnT sN sW sC sM drw kN kW kC kS kG kB hh L mf) (bv (fun k => decide (cd k u))) (xW g o ax num kpt many cols chg brd old page pgM told enD row ways far hav wtd fnd mdT wnT sN sW sC sM drw kN kW kC kS kG kB hh L mf) := by
  refine Ct.of (by decide) (Nat.le_of_ble_eq_true rfl) ?_
  intro Γ hl hg hf hrT
  subst hl hg
  have hf : Fx Γ RX0 cX0_sortsBy 4 := hf
  show T Γ (rmL 6) 4 0 0 (Qe Γ (rmL 6) _) _ 0 [(0, .ref o), (1, .int (iI u))] []
  have lp : ∀ (N : Nat) (b : Int) (k : Int), (0 ≤ k ∧ k ≤ 5) → (b = bv (fun z => decide (z < k) && (fun k => decide (cd k u)) z)) → (6 - k).toNat < N → T Γ (rmL 6) 4 0 0 (Qe Γ (rmL 6) (fun vv w => ∃ r : Int, vv = some (.int (iI r)) ∧ iR r ∧ r = (bv (fun k => decide (cd k u))) ∧ w = xW (xg Γ) o ax num kpt many cols chg brd old page pgM told enD row ways far hav wtd fnd mdT wnT sN sW sC sM drw kN kW kC kS kG kB hh L mf)) (xW (xg Γ) o ax num kpt many cols chg brd old page pgM told enD row ways far hav wtd fnd mdT wnT sN sW sC sM drw kN kW kC kS kG kB hh L mf) 4 [(0, .ref o), (1, .int (iI u)), (2, .int (iI b)), (3, .int (iI k))] [] := by
    intro N
    induction N with
    | zero => intro b k hk hb hN; exact absurd hN (Nat.not_lt_zero _)
    | succ N ih =>
      intro b k hk hb hN
      refine tt_iload_n hf 3 dX0_sortsBy_4 rfl ?_
      refine tt_iconst hf dX0_sortsBy_5 ?_
      refine tt_icmp_ge (tgt := 38) hf dX0_sortsBy_6 (by decide) (by omega) (by omega) (fun c6 => ?_) (fun c6 => ?_)
      · refine tt_iload_n hf 2 dX0_sortsBy_38 rfl ?_
        exact tt_ireti hf hrT dX0_sortsBy_39 (Nat.le_refl _) (Nat.le_refl _) (by have := bv_rng (fun z => decide (z < k) && (fun k => decide (cd k u)) z); omega) ⟨(by rw [hb, show k = 5 by omega, bv_5]), rfl⟩
      · refine tt_iload_n hf 2 dX0_sortsBy_9 rfl ?_
        refine tt_aload_n hf 0 dX0_sortsBy_10 rfl ?_
        refine gx_sorts hf dX0_sortsBy_11 ?_
        refine tt_iload_n hf 3 dX0_sortsBy_14 rfl ?_
        refine lx_sorts hf (by omega) dX0_sortsBy_15 ?_
        refine tt_iload_n hf 1 dX0_sortsBy_16 rfl ?_
        refine xs_isSo hf (z := k) (by omega) hu (by decide) (by decide) (Nat.le_of_ble_eq_true rfl) dX0_sortsBy_17 ?_
        refine tt_ifb_eq (tgt := 29) hf dX0_sortsBy_20 (by decide) (fun c20 => ?_) (fun c20 => ?_)
        · refine tt_iconst hf dX0_sortsBy_29 ?_
          refine tt_ior (z := bv (fun z => decide (z < k + 1) && (fun k => decide (cd k u)) z)) hf dX0_sortsBy_30 (by rw [hb]; exact bv_or0 (f := (fun k => decide (cd k u))) (by omega) (decide_eq_false c20)) ?_
          refine tt_istore_n (lv' := [(2, .int (iI (bv (fun z => decide (z < k + 1) && (fun k => decide (cd k u)) z)))), (0, .ref o), (1, .int (iI u)), (3, .int (iI k))]) hf dX0_sortsBy_31 (by decide) rfl ?_
          refine tt_iinc (lv' := [(3, .int (iI (k + 1))), (2, .int (iI (bv (fun z => decide (z < k + 1) && (fun k => decide (cd k u)) z)))), (0, .ref o), (1, .int (iI u))]) hf 3 dX0_sortsBy_32 rfl (by decide) rfl ?_
          refine tt_goto (tgt := 4) hf dX0_sortsBy_35 (by decide) ?_
          refine tt_sub [2, 3, 1, 0] rfl ?_
          exact ih (bv (fun z => decide (z < k + 1) && (fun k => decide (cd k u)) z)) (k + 1) (by omega) rfl (by omega)
        · refine tt_iconst hf dX0_sortsBy_23 ?_
          refine tt_iload_n hf 3 dX0_sortsBy_24 rfl ?_
          refine tt_ishl (z := p2 k) hf dX0_sortsBy_25 (p2_shl (by omega)) ?_
          refine tt_goto (tgt := 30) hf dX0_sortsBy_26 (by decide) ?_
          refine tt_ior (z := bv (fun z => decide (z < k + 1) && (fun k => decide (cd k u)) z)) hf dX0_sortsBy_30 (by rw [hb]; exact bv_or (f := (fun k => decide (cd k u))) (by omega) (decide_eq_true c20)) ?_
          refine tt_istore_n (lv' := [(2, .int (iI (bv (fun z => decide (z < k + 1) && (fun k => decide (cd k u)) z)))), (0, .ref o), (1, .int (iI u)), (3, .int (iI k))]) hf dX0_sortsBy_31 (by decide) rfl ?_
          refine tt_iinc (lv' := [(3, .int (iI (k + 1))), (2, .int (iI (bv (fun z => decide (z < k + 1) && (fun k => decide (cd k u)) z)))), (0, .ref o), (1, .int (iI u))]) hf 3 dX0_sortsBy_32 rfl (by decide) rfl ?_
          refine tt_goto (tgt := 4) hf dX0_sortsBy_35 (by decide) ?_
          refine tt_sub [2, 3, 1, 0] rfl ?_
          exact ih (bv (fun z => decide (z < k + 1) && (fun k => decide (cd k u)) z)) (k + 1) (by omega) rfl (by omega)
  refine tt_iconst hf dX0_sortsBy_0 ?_
  refine tt_istore_n (lv' := [(2, .int (iI 0)), (0, .ref o), (1, .int (iI u))]) hf dX0_sortsBy_1 (by decide) rfl ?_
  refine tt_iconst hf dX0_sortsBy_2 ?_
  refine tt_istore_n (lv' := [(3, .int (iI 0)), (2, .int (iI 0)), (0, .ref o), (1, .int (iI u))]) hf dX0_sortsBy_3 (by decide) rfl ?_
  refine tt_sub [2, 3, 1, 0] rfl ?_
  exact lp _ 0 0 (by omega) bv_0.symm (Nat.lt_succ_self _)
set_option maxHeartbeats 4000000 in
set_option maxRecDepth 100000 in
theorem cx_sortsOf {l : Launch} {g : tG} {o : Nat} {ax : Nat → Nat} {num kpt : Int → Option Nat} {many cols chg brd old : Int} {page : Int → Int} {pgM told enD : Int} {row : Int → Int} {ways far : Int} {hav : Int → Int} {wtd : Int} {fnd : Int → Int} {mdT wnT : Int} {sN sW sC : Int → Int} {sM drw : Int} {kN kW kC : Int → Int} {kS kG kB : Int} {hh : Int64} {L : List Nat} {mf : Nat → Nat × Int × Int × Int} {v : Int} (hsM : 0 ≤ sM ∧ sM ≤ 6) (hsN : ∀ i, 0 ≤ sN i ∧ sN i ≤ 10) (hsW : ∀ i, 0 ≤ sW i ∧ sW i ≤ 2) (hsC : ∀ i, 0 ≤ sC i ∧ sC i ≤ 1) (hv : 1 ≤ v ∧ v ≤ 10) : Ce l g yX0_sortsOf (ws_ yX0_sortsOf cX0_sortsOf 5 (Option.some Jvm.ClassFile.FieldType.int)) (rmL 7) [.ref o, .int (iI v)] (xW g o ax num kpt many cols chg brd old page pgM told enD row ways far hav wtd fnd mdT wnT sN sW sC sM drw kN kW kC kS kG kB hh L mf) (bv (soF sN sW sC v sM.toNat)) (xW g o ax num kpt many cols chg brd old page pgM told enD row ways far hav wtd fnd mdT wnT sN sW sC sM drw kN kW kC kS kG kB hh L mf) := by
  refine Ct.of (by decide) (Nat.le_of_ble_eq_true rfl) ?_
  intro Γ hl hg hf hrT
  subst hl hg
  have hf : Fx Γ RX0 cX0_sortsOf 5 := hf
  show T Γ (rmL 7) 5 0 0 (Qe Γ (rmL 7) _) _ 0 [(0, .ref o), (1, .int (iI v))] []
  have lp : ∀ (N : Nat) (b : Int) (j : Int), (0 ≤ j ∧ j ≤ sM) → (b = bv (soF sN sW sC v j.toNat)) → (7 - j).toNat < N → T Γ (rmL 7) 5 0 0 (Qe Γ (rmL 7) (fun vv w => ∃ r : Int, vv = some (.int (iI r)) ∧ iR r ∧ r = (bv (soF sN sW sC v sM.toNat)) ∧ w = xW (xg Γ) o ax num kpt many cols chg brd old page pgM told enD row ways far hav wtd fnd mdT wnT sN sW sC sM drw kN kW kC kS kG kB hh L mf)) (xW (xg Γ) o ax num kpt many cols chg brd old page pgM told enD row ways far hav wtd fnd mdT wnT sN sW sC sM drw kN kW kC kS kG kB hh L mf) 5 [(0, .ref o), (1, .int (iI v)), (2, .int (iI b)), (3, .int (iI j))] [] := by
    intro N
    induction N with
    | zero => intro b j hj hb hN; exact absurd hN (Nat.not_lt_zero _)
    | succ N ih =>
      intro b j hj hb hN
      refine tt_iload_n hf 3 dX0_sortsOf_5 rfl ?_
      refine tt_aload_n hf 0 dX0_sortsOf_6 rfl ?_
      refine gx_sM hf dX0_sortsOf_7 ?_
      refine tt_icmp_ge (tgt := 66) hf dX0_sortsOf_10 (by decide) (by omega) (by omega) (fun c10 => ?_) (fun c10 => ?_)
      · refine tt_iload_n hf 2 dX0_sortsOf_66 rfl ?_
        exact tt_ireti hf hrT dX0_sortsOf_67 (Nat.le_refl _) (Nat.le_refl _) (by have := bv_rng (soF sN sW sC v j.toNat); omega) ⟨(by rw [hb, show j = sM by omega]), rfl⟩
      · have q1 := hsN j
        have q2 := hsW j
        have q3 := hsC j
        refine tt_aload_n hf 0 dX0_sortsOf_13 rfl ?_
        refine tt_aload_n hf 0 dX0_sortsOf_14 rfl ?_
        refine gx_sW hf dX0_sortsOf_15 ?_
        refine tt_iload_n hf 3 dX0_sortsOf_18 rfl ?_
        refine lx_sW hf (by omega) dX0_sortsOf_19 ?_
        refine tt_callV0 (As := [.int (iI (sW j))]) (rest := []) (q0 := 0) (ci := 0) hf (cx_sortsBy (by omega)) lk_X0_X0_sortsBy hd_X0_sortsBy rfl rfl rfl ⟨rfl, rfl⟩ (by decide) (by decide) (Nat.le_of_ble_eq_true rfl) dX0_sortsOf_20 rfl (kk_e (fun r20 => ?_))
        refine tt_istore (lv' := [(4, .int (iI (bv (fun k => decide (cd k (sW j)))))), (0, .ref o), (1, .int (iI v)), (2, .int (iI b)), (3, .int (iI j))]) hf dX0_sortsOf_23 (by decide) rfl ?_
        refine tt_iload_n hf 3 dX0_sortsOf_25 rfl ?_
        refine tt_aload_n hf 1 dX0_sortsOf_26 rfl ?_
        refine gx_sN hf dX0_sortsOf_27 ?_
        refine tt_iload_n hf 4 dX0_sortsOf_30 rfl ?_
        refine lx_sN hf (by omega) dX0_sortsOf_31 ?_
        refine tt_iload_n hf 2 dX0_sortsOf_32 rfl ?_
        refine tt_icmp_eq (tgt := 40) hf dX0_sortsOf_33 (by decide) (by omega) (by omega) (fun c33 => ?_) (fun c33 => ?_)
        · refine tt_aload_n hf 1 dX0_sortsOf_40 rfl ?_
          refine gx_sC hf dX0_sortsOf_41 ?_
          refine tt_iload_n hf 4 dX0_sortsOf_44 rfl ?_
          refine lx_sC hf (by omega) dX0_sortsOf_45 ?_
          refine tt_if_eq (tgt := 54) hf dX0_sortsOf_46 (by decide) (by omega) (fun c46 => ?_) (fun c46 => ?_)
          · refine tt_iload hf 0 dX0_sortsOf_54 rfl ?_
            refine tt_iconst hf dX0_sortsOf_56 ?_
            refine tt_ixor (z := -1 - bv (fun k => decide (cd k (sW j)))) hf dX0_sortsOf_57 (bv_not _) ?_
            refine tt_iand (z := bv (soF sN sW sC v (j + 1).toNat)) hf dX0_sortsOf_58 (by rw [hb, bv_andn]; congr 1; exact bv_cg (fun k _ _ => by rw [soF_s (by omega), decide_eq_false (show ¬ (sN j ≠ v) from fun q => q c33), Bool.false_or, decide_eq_false (show ¬ sC j = 1 by omega)]; cases decide (cd k (sW j)) <;> rfl)) ?_
            refine tt_istore_n (lv' := [(2, .int (iI (bv (soF sN sW sC v (j + 1).toNat)))), (4, .int (iI (bv (fun k => decide (cd k (sW j)))))), (0, .ref o), (1, .int (iI v)), (3, .int (iI j))]) hf dX0_sortsOf_59 (by decide) rfl ?_
            refine tt_iinc (lv' := [(3, .int (iI (j + 1))), (2, .int (iI (bv (soF sN sW sC v (j + 1).toNat)))), (4, .int (iI (bv (fun k => decide (cd k (sW j)))))), (0, .ref o), (1, .int (iI v))]) hf 4 dX0_sortsOf_60 rfl (by decide) rfl ?_
            refine tt_goto (tgt := 5) hf dX0_sortsOf_63 (by decide) ?_
            refine tt_sub [3, 4, 1, 0] rfl ?_
            exact ih (bv (soF sN sW sC v (j + 1).toNat)) (j + 1) (by omega) rfl (by omega)
          · refine tt_iload hf 0 dX0_sortsOf_49 rfl ?_
            refine tt_goto (tgt := 58) hf dX0_sortsOf_51 (by decide) ?_
            refine tt_iand (z := bv (soF sN sW sC v (j + 1).toNat)) hf dX0_sortsOf_58 (by rw [hb, bv_and]; congr 1; exact bv_cg (fun k _ _ => by rw [soF_s (by omega), decide_eq_false (show ¬ (sN j ≠ v) from fun q => q c33), Bool.false_or, decide_eq_true (show sC j = 1 by omega)]; cases decide (cd k (sW j)) <;> rfl)) ?_
            refine tt_istore_n (lv' := [(2, .int (iI (bv (soF sN sW sC v (j + 1).toNat)))), (4, .int (iI (bv (fun k => decide (cd k (sW j)))))), (0, .ref o), (1, .int (iI v)), (3, .int (iI j))]) hf dX0_sortsOf_59 (by decide) rfl ?_
            refine tt_iinc (lv' := [(3, .int (iI (j + 1))), (2, .int (iI (bv (soF sN sW sC v (j + 1).toNat)))), (4, .int (iI (bv (fun k => decide (cd k (sW j)))))), (0, .ref o), (1, .int (iI v))]) hf 4 dX0_sortsOf_60 rfl (by decide) rfl ?_
            refine tt_goto (tgt := 5) hf dX0_sortsOf_63 (by decide) ?_
            refine tt_sub [3, 4, 1, 0] rfl ?_
            exact ih (bv (soF sN sW sC v (j + 1).toNat)) (j + 1) (by omega) rfl (by omega)
        · refine tt_iload_n hf 3 dX0_sortsOf_36 rfl ?_
          refine tt_goto (tgt := 58) hf dX0_sortsOf_37 (by decide) ?_
          refine tt_iand (z := bv (soF sN sW sC v (j + 1).toNat)) hf dX0_sortsOf_58 (by rw [hb, bv_and]; congr 1; exact bv_cg (fun k _ _ => by rw [soF_s (by omega), decide_eq_true (show sN j ≠ v from c33), Bool.and_self, Bool.true_or, Bool.and_true])) ?_
          refine tt_istore_n (lv' := [(2, .int (iI (bv (soF sN sW sC v (j + 1).toNat)))), (4, .int (iI (bv (fun k => decide (cd k (sW j)))))), (0, .ref o), (1, .int (iI v)), (3, .int (iI j))]) hf dX0_sortsOf_59 (by decide) rfl ?_
          refine tt_iinc (lv' := [(3, .int (iI (j + 1))), (2, .int (iI (bv (soF sN sW sC v (j + 1).toNat)))), (4, .int (iI (bv (fun k => decide (cd k (sW j)))))), (0, .ref o), (1, .int (iI v))]) hf 4 dX0_sortsOf_60 rfl (by decide) rfl ?_
          refine tt_goto (tgt := 5) hf dX0_sortsOf_63 (by decide) ?_
          refine tt_sub [3, 4, 1, 0] rfl ?_
          exact ih (bv (soF sN sW sC v (j + 1).toNat)) (j + 1) (by omega) rfl (by omega)
  refine tt_bipush hf dX0_sortsOf_0 (by decide) ?_
  refine tt_istore_n (lv' := [(2, .int (iI 31)), (0, .ref o), (1, .int (iI v))]) hf dX0_sortsOf_2 (by decide) rfl ?_
  refine tt_iconst hf dX0_sortsOf_3 ?_
  refine tt_istore_n (lv' := [(3, .int (iI 0)), (2, .int (iI 31)), (0, .ref o), (1, .int (iI v))]) hf dX0_sortsOf_4 (by decide) rfl ?_
  refine tt_sub [2, 3, 1, 0] rfl ?_
  exact lp _ 31 0 (by omega) rfl (Nat.lt_succ_self _)
set_option maxHeartbeats 4000000 in
set_option maxRecDepth 100000 in
theorem cx_toAsk {l : Launch} {g : tG} {o : Nat} {ax : Nat → Nat} {num kpt : Int → Option Nat} {many cols chg brd old : Int} {page : Int → Int} {pgM told enD : Int} {row : Int → Int} {ways far : Int} {hav : Int → Int} {wtd : Int} {fnd : Int → Int} {mdT wnT : Int} {sN sW sC : Int → Int} {sM drw : Int} {kN kW kC : Int → Int} {kS kG kB : Int} {hh : Int64} {L : List Nat} {mf : Nat → Nat × Int × Int × Int} {v : Int} (hsM : 0 ≤ sM ∧ sM ≤ 6) (hsN : ∀ i, 0 ≤ sN i ∧ sN i ≤ 10) (hsW : ∀ i, 0 ≤ sW i ∧ sW i ≤ 2) (hsC : ∀ i, 0 ≤ sC i ∧ sC i ≤ 1) (hv : 1 ≤ v ∧ v ≤ 10) : Ce l g yX0_toAsk (ws_ yX0_toAsk cX0_toAsk 9 (Option.some Jvm.ClassFile.FieldType.int)) (rmL 8) [.ref o, .int (iI v)] (xW g o ax num kpt many cols chg brd old page pgM told enD row ways far hav wtd fnd mdT wnT sN sW sC sM drw kN kW kC kS kG kB hh L mf) (askE (soF sN sW sC v sM.toNat)) (xW g o ax num kpt many cols chg brd old page pgM told enD row ways far hav wtd fnd mdT wnT sN sW sC sM drw kN kW kC kS kG kB hh L mf) := by
  refine Ct.of (by decide) (Nat.le_of_ble_eq_true rfl) ?_
  intro Γ hl hg hf hrT
  subst hl hg
  have hf : Fx Γ RX0 cX0_toAsk 9 := hf
  show T Γ (rmL 8) 9 0 0 (Qe Γ (rmL 8) _) _ 0 [(0, .ref o), (1, .int (iI v))] []
  have hp := pcn_rng (soF sN sW sC v sM.toNat)
  refine tt_aload_n hf 0 dX0_toAsk_0 rfl ?_
  refine tt_iload_n hf 1 dX0_toAsk_1 rfl ?_
  refine tt_callV0 (As := [.int (iI v)]) (rest := []) (q0 := 0) (ci := 0) hf (cx_sortsOf hsM hsN hsW hsC (by omega)) lk_X0_X0_sortsOf hd_X0_sortsOf rfl rfl rfl ⟨rfl, rfl⟩ (by decide) (by decide) (Nat.le_of_ble_eq_true rfl) dX0_toAsk_2 rfl (kk_e (fun r2 => ?_))
  refine tt_istore_n (lv' := [(2, .int (iI (bv (soF sN sW sC v sM.toNat)))), (0, .ref o), (1, .int (iI v))]) hf dX0_toAsk_5 (by decide) rfl ?_
  refine tt_iload_n hf 0 dX0_toAsk_6 rfl ?_
  refine tt_callS0 (As := [.int (iI (bv (soF sN sW sC v sM.toNat)))]) (rest := []) hf (cj_bitCount (by have := bv_rng (soF sN sW sC v sM.toNat); omega)) lk_X0_J1_bitCount hd_J1_bitCount rfl ⟨rfl, rfl⟩ (by decide) (by decide) (Nat.le_of_ble_eq_true rfl) dX0_toAsk_7 rfl (kk_e (fun r7 => ?_))
  refine tt_istore_n (lv' := [(3, .int (iI (pcn (bv (soF sN sW sC v sM.toNat))))), (2, .int (iI (bv (soF sN sW sC v sM.toNat)))), (0, .ref o), (1, .int (iI v))]) hf dX0_toAsk_10 (by decide) rfl ?_
  refine tt_iconst hf dX0_toAsk_11 ?_
  refine tt_istore (lv' := [(4, .int (iI (-1))), (3, .int (iI (pcn (bv (soF sN sW sC v sM.toNat))))), (2, .int (iI (bv (soF sN sW sC v sM.toNat)))), (0, .ref o), (1, .int (iI v))]) hf dX0_toAsk_12 (by decide) rfl ?_
  refine tt_ldc hf (99999) q380 (by decide) dX0_toAsk_14 ?_
  refine tt_istore (lv' := [(5, .int (iI 99999)), (4, .int (iI (-1))), (3, .int (iI (pcn (bv (soF sN sW sC v sM.toNat))))), (2, .int (iI (bv (soF sN sW sC v sM.toNat)))), (0, .ref o), (1, .int (iI v))]) hf dX0_toAsk_16 (by decide) rfl ?_
  refine tt_iconst hf dX0_toAsk_18 ?_
  refine tt_istore (lv' := [(6, .int (iI 0)), (5, .int (iI 99999)), (4, .int (iI (-1))), (3, .int (iI (pcn (bv (soF sN sW sC v sM.toNat))))), (2, .int (iI (bv (soF sN sW sC v sM.toNat)))), (0, .ref o), (1, .int (iI v))]) hf dX0_toAsk_19 (by decide) rfl ?_
  have lp : ∀ (N : Nat) (x : Int) (y : Int) (u : Int), (0 ≤ u ∧ u ≤ 3) → (-1 ≤ x ∧ x ≤ 3) → (0 ≤ y ∧ y ≤ 99999) → (bv (soF sN sW sC v sM.toNat) = 0 → x = -1) → ((x, y) = asN (soF sN sW sC v sM.toNat) 99999 u.toNat) → (4 - u).toNat < N → T Γ (rmL 8) 9 0 0 (Qe Γ (rmL 8) (fun vv w => ∃ r : Int, vv = some (.int (iI r)) ∧ iR r ∧ r = (askE (soF sN sW sC v sM.toNat)) ∧ w = xW (xg Γ) o ax num kpt many cols chg brd old page pgM told enD row ways far hav wtd fnd mdT wnT sN sW sC sM drw kN kW kC kS kG kB hh L mf)) (xW (xg Γ) o ax num kpt many cols chg brd old page pgM told enD row ways far hav wtd fnd mdT wnT sN sW sC sM drw kN kW kC kS kG kB hh L mf) 21 [(0, .ref o), (1, .int (iI v)), (2, .int (iI (bv (soF sN sW sC v sM.toNat)))), (3, .int (iI (pcn (bv (soF sN sW sC v sM.toNat))))), (4, .int (iI x)), (5, .int (iI y)), (6, .int (iI u))] [] := by
    intro N
    induction N with
    | zero => intro x y u hu hx hy h0 hxy hN; exact absurd hN (Nat.not_lt_zero _)
    | succ N ih =>
      intro x y u hu hx hy h0 hxy hN
      refine tt_iload hf 6 dX0_toAsk_21 rfl ?_
      refine tt_iconst hf dX0_toAsk_23 ?_
      refine tt_icmp_ge (tgt := 86) hf dX0_toAsk_24 (by decide) (by omega) (by omega) (fun c24 => ?_) (fun c24 => ?_)
      · refine tt_iload hf 4 dX0_toAsk_86 rfl ?_
        exact tt_ireti hf hrT dX0_toAsk_88 (Nat.le_refl _) (Nat.le_refl _) (by omega) ⟨(by unfold askE; by_cases q : bv (soF sN sW sC v sM.toNat) = 0; rw [if_pos q]; exact h0 q; rw [if_neg q, asN_B (C := 99999) (by omega) (by omega)]; have e : u.toNat = 3 := (by omega); rw [e] at hxy; rw [← hxy]), rfl⟩
      · refine tt_iload_n hf 3 dX0_toAsk_27 rfl ?_
        refine tt_if_le (tgt := 86) hf dX0_toAsk_28 (by decide) (by omega) (fun c28 => ?_) (fun c28 => ?_)
        · refine tt_iload hf 4 dX0_toAsk_86 rfl ?_
          exact tt_ireti hf hrT dX0_toAsk_88 (Nat.le_refl _) (Nat.le_refl _) (by omega) ⟨(by unfold askE; rw [if_pos (by omega)]; exact h0 (by omega)), rfl⟩
        · refine tt_iload_n hf 2 dX0_toAsk_31 rfl ?_
          refine tt_aload_n hf 0 dX0_toAsk_32 rfl ?_
          refine tt_iload hf 6 dX0_toAsk_33 rfl ?_
          refine tt_callV0 (As := [.int (iI u)]) (rest := [.int (iI (bv (soF sN sW sC v sM.toNat)))]) (q0 := 0) (ci := 0) hf (cx_sortsBy (by omega)) lk_X0_X0_sortsBy hd_X0_sortsBy rfl rfl rfl ⟨rfl, rfl⟩ (by decide) (by decide) (Nat.le_of_ble_eq_true rfl) dX0_toAsk_35 rfl (kk_e (fun r35 => ?_))
          refine tt_iand (z := bv (fun k => (soF sN sW sC v sM.toNat) k && decide (cd k u))) hf dX0_toAsk_38 (bv_and _ _) ?_
          refine tt_callS0 (As := [.int (iI (bv (fun k => (soF sN sW sC v sM.toNat) k && decide (cd k u))))]) (rest := []) hf (cj_bitCount (by have := bv_rng (fun k => (soF sN sW sC v sM.toNat) k && decide (cd k u)); omega)) lk_X0_J1_bitCount hd_J1_bitCount rfl ⟨rfl, rfl⟩ (by decide) (by decide) (Nat.le_of_ble_eq_true rfl) dX0_toAsk_39 rfl (kk_e (fun r39 => ?_))
          have hp2 := pcn_rng (fun k => (soF sN sW sC v sM.toNat) k && decide (cd k u))
          refine tt_istore (lv' := [(7, .int (iI (pcn (bv (fun k => (soF sN sW sC v sM.toNat) k && decide (cd k u)))))), (0, .ref o), (1, .int (iI v)), (2, .int (iI (bv (soF sN sW sC v sM.toNat)))), (3, .int (iI (pcn (bv (soF sN sW sC v sM.toNat))))), (4, .int (iI x)), (5, .int (iI y)), (6, .int (iI u))]) hf dX0_toAsk_42 (by decide) rfl ?_
          refine tt_iload hf 0 dX0_toAsk_44 rfl ?_
          refine tt_iload_n hf 4 dX0_toAsk_46 rfl ?_
          refine tt_iload hf 0 dX0_toAsk_47 rfl ?_
          refine tt_isub hf dX0_toAsk_49 ?_
          refine tt_callS0 (As := [.int (iI (pcn (bv (fun k => (soF sN sW sC v sM.toNat) k && decide (cd k u))))), .int (iI ((pcn (bv (soF sN sW sC v sM.toNat))) - (pcn (bv (fun k => (soF sN sW sC v sM.toNat) k && decide (cd k u))))))]) (rest := []) hf (cj_max (by omega) (by omega)) lk_X0_J0_max hd_J0_max rfl ⟨rfl, rfl⟩ (by decide) (by decide) (Nat.le_of_ble_eq_true rfl) dX0_toAsk_50 rfl (kk_e (fun r50 => ?_))
          refine tt_top (z' := wst (soF sN sW sC v sM.toNat) u) (wst_of (pcn_yc _ _) (pcn_n _ _)) ?_
          have hws := wst_rng (soF sN sW sC v sM.toNat) u
          refine tt_istore (lv' := [(8, .int (iI (wst (soF sN sW sC v sM.toNat) u))), (7, .int (iI (pcn (bv (fun k => (soF sN sW sC v sM.toNat) k && decide (cd k u)))))), (0, .ref o), (1, .int (iI v)), (2, .int (iI (bv (soF sN sW sC v sM.toNat)))), (3, .int (iI (pcn (bv (soF sN sW sC v sM.toNat))))), (4, .int (iI x)), (5, .int (iI y)), (6, .int (iI u))]) hf dX0_toAsk_53 (by decide) rfl ?_
          refine tt_iload hf 0 dX0_toAsk_55 rfl ?_
          refine tt_iload hf 7 dX0_toAsk_57 rfl ?_
          refine tt_icmp_ge (tgt := 67) hf dX0_toAsk_59 (by decide) (by omega) (by omega) (fun c59 => ?_) (fun c59 => ?_)
          · refine tt_iload hf 6 dX0_toAsk_67 rfl ?_
            refine tt_istore (lv' := [(4, .int (iI x)), (8, .int (iI (wst (soF sN sW sC v sM.toNat) u))), (7, .int (iI (pcn (bv (fun k => (soF sN sW sC v sM.toNat) k && decide (cd k u)))))), (0, .ref o), (1, .int (iI v)), (2, .int (iI (bv (soF sN sW sC v sM.toNat)))), (3, .int (iI (pcn (bv (soF sN sW sC v sM.toNat))))), (5, .int (iI y)), (6, .int (iI u))]) hf dX0_toAsk_69 (by decide) rfl ?_
            refine tt_iload hf 7 dX0_toAsk_71 rfl ?_
            refine tt_iload hf 1 dX0_toAsk_73 rfl ?_
            refine tt_callS0 (As := [.int (iI y), .int (iI (wst (soF sN sW sC v sM.toNat) u))]) (rest := []) hf (cj_min (by omega) (by omega)) lk_X0_J0_min hd_J0_min rfl ⟨rfl, rfl⟩ (by decide) (by decide) (Nat.le_of_ble_eq_true rfl) dX0_toAsk_75 rfl (kk_e (fun r75 => ?_))
            refine tt_istore (lv' := [(5, .int (iI (if y ≤ (wst (soF sN sW sC v sM.toNat) u) then y else (wst (soF sN sW sC v sM.toNat) u)))), (4, .int (iI x)), (8, .int (iI (wst (soF sN sW sC v sM.toNat) u))), (7, .int (iI (pcn (bv (fun k => (soF sN sW sC v sM.toNat) k && decide (cd k u)))))), (0, .ref o), (1, .int (iI v)), (2, .int (iI (bv (soF sN sW sC v sM.toNat)))), (3, .int (iI (pcn (bv (soF sN sW sC v sM.toNat))))), (6, .int (iI u))]) hf dX0_toAsk_78 (by decide) rfl ?_
            refine tt_iinc (lv' := [(6, .int (iI (u + 1))), (5, .int (iI (if y ≤ (wst (soF sN sW sC v sM.toNat) u) then y else (wst (soF sN sW sC v sM.toNat) u)))), (4, .int (iI x)), (8, .int (iI (wst (soF sN sW sC v sM.toNat) u))), (7, .int (iI (pcn (bv (fun k => (soF sN sW sC v sM.toNat) k && decide (cd k u)))))), (0, .ref o), (1, .int (iI v)), (2, .int (iI (bv (soF sN sW sC v sM.toNat)))), (3, .int (iI (pcn (bv (soF sN sW sC v sM.toNat)))))]) hf 8 dX0_toAsk_80 rfl (by decide) rfl ?_
            refine tt_goto (tgt := 21) hf dX0_toAsk_83 (by decide) ?_
            refine tt_sub [5, 6, 7, 8, 2, 1, 0] rfl ?_
            exact ih x (if y ≤ (wst (soF sN sW sC v sM.toNat) u) then y else (wst (soF sN sW sC v sM.toNat) u)) (u + 1) (by omega) (by omega) (by split <;> omega) (fun q => absurd q (by omega)) (as_n (by omega) hxy (by omega)) (by omega)
          · refine tt_iload hf 8 dX0_toAsk_62 rfl ?_
            refine tt_goto (tgt := 69) hf dX0_toAsk_64 (by decide) ?_
            refine tt_istore (lv' := [(4, .int (iI u)), (8, .int (iI (wst (soF sN sW sC v sM.toNat) u))), (7, .int (iI (pcn (bv (fun k => (soF sN sW sC v sM.toNat) k && decide (cd k u)))))), (0, .ref o), (1, .int (iI v)), (2, .int (iI (bv (soF sN sW sC v sM.toNat)))), (3, .int (iI (pcn (bv (soF sN sW sC v sM.toNat))))), (5, .int (iI y)), (6, .int (iI u))]) hf dX0_toAsk_69 (by decide) rfl ?_
            refine tt_iload hf 7 dX0_toAsk_71 rfl ?_
            refine tt_iload hf 1 dX0_toAsk_73 rfl ?_
            refine tt_callS0 (As := [.int (iI y), .int (iI (wst (soF sN sW sC v sM.toNat) u))]) (rest := []) hf (cj_min (by omega) (by omega)) lk_X0_J0_min hd_J0_min rfl ⟨rfl, rfl⟩ (by decide) (by decide) (Nat.le_of_ble_eq_true rfl) dX0_toAsk_75 rfl (kk_e (fun r75 => ?_))
            refine tt_istore (lv' := [(5, .int (iI (if y ≤ (wst (soF sN sW sC v sM.toNat) u) then y else (wst (soF sN sW sC v sM.toNat) u)))), (4, .int (iI u)), (8, .int (iI (wst (soF sN sW sC v sM.toNat) u))), (7, .int (iI (pcn (bv (fun k => (soF sN sW sC v sM.toNat) k && decide (cd k u)))))), (0, .ref o), (1, .int (iI v)), (2, .int (iI (bv (soF sN sW sC v sM.toNat)))), (3, .int (iI (pcn (bv (soF sN sW sC v sM.toNat))))), (6, .int (iI u))]) hf dX0_toAsk_78 (by decide) rfl ?_
            refine tt_iinc (lv' := [(6, .int (iI (u + 1))), (5, .int (iI (if y ≤ (wst (soF sN sW sC v sM.toNat) u) then y else (wst (soF sN sW sC v sM.toNat) u)))), (4, .int (iI u)), (8, .int (iI (wst (soF sN sW sC v sM.toNat) u))), (7, .int (iI (pcn (bv (fun k => (soF sN sW sC v sM.toNat) k && decide (cd k u)))))), (0, .ref o), (1, .int (iI v)), (2, .int (iI (bv (soF sN sW sC v sM.toNat)))), (3, .int (iI (pcn (bv (soF sN sW sC v sM.toNat)))))]) hf 8 dX0_toAsk_80 rfl (by decide) rfl ?_
            refine tt_goto (tgt := 21) hf dX0_toAsk_83 (by decide) ?_
            refine tt_sub [5, 6, 7, 8, 2, 1, 0] rfl ?_
            exact ih u (if y ≤ (wst (soF sN sW sC v sM.toNat) u) then y else (wst (soF sN sW sC v sM.toNat) u)) (u + 1) (by omega) (by omega) (by split <;> omega) (fun q => absurd q (by omega)) (as_y (by omega) hxy (by omega)) (by omega)
  refine tt_sub [5, 6, 4, 3, 2, 1, 0] rfl ?_
  exact lp _ (-1) 99999 0 (by omega) (by omega) (by omega) (fun _ => rfl) rfl (Nat.lt_succ_self _)
theorem xC_keep {kd co : Int → Int} {cols many old ways far : Int} {hav : Int → Int} {mdT wnT : Int} (h : xC kd co cols many old ways far hav mdT wnT) : xC kd co cols many old ways far hav mdT wnT := h
set_option maxHeartbeats 4000000 in
set_option maxRecDepth 100000 in
theorem cx_tellNumber {l : Launch} {g : tG} {o : Nat} {ax : Nat → Nat} {num kpt : Int → Option Nat} {many cols chg brd old : Int} {page : Int → Int} {pgM told enD : Int} {row : Int → Int} {ways far : Int} {hav : Int → Int} {wtd : Int} {fnd : Int → Int} {mdT wnT : Int} {sN sW sC : Int → Int} {sM drw : Int} {kN kW kC : Int → Int} {kS kG kB : Int} {hh : Int64} {L : List Nat} {mf : Nat → Nat × Int × Int × Int} {v wh : Int} {a : Nat} (hm : 0 ≤ many ∧ many ≤ 10) (hc : 2 ≤ cols ∧ cols ≤ 3) (hB : xB many num L mf) (hcc : ∀ i, 1 ≤ i → i ≤ many → (xco num mf) i ≤ cols - 1) (hrow : ∀ i, -1 ≤ row i ∧ row i ≤ 2) (ho : old = 0 ∨ old = 1) (hC : xC (xkd num mf) (xco num mf) cols many old ways far hav mdT wnT) (hsM : 0 ≤ sM ∧ sM ≤ 6) (hsN : ∀ i, 0 ≤ sN i ∧ sN i ≤ 10) (hsW : ∀ i, 0 ≤ sW i ∧ sW i ≤ 2) (hsC : ∀ i, 0 ≤ sC i ∧ sC i ≤ 1) (hv : 1 ≤ v ∧ v ≤ many) (ha : num v = some a) (hwh : iR wh) : Ci l g yX0_tellNumber (ws_ yX0_tellNumber cX0_tellNumber 3 (Option.some Jvm.ClassFile.FieldType.int)) (rmL 34) [.ref o, .ref a, .int (iI wh)] (xW g o ax num kpt many cols chg brd old page pgM told enD row ways far hav wtd fnd mdT wnT sN sW sC sM drw kN kW kC kS kG kB hh L mf) (fun r w => ∃ (old1 : Int) (row1 : Int → Int) (ways1 far1 : Int) (hav1 : Int → Int) (wtd1 : Int) (fnd1 : Int → Int) (mdT1 wnT1 : Int), (∀ i, -1 ≤ row1 i ∧ row1 i ≤ 2) ∧ (old1 = 0 ∨ old1 = 1) ∧ xC (xkd num mf) (xco num mf) cols many old1 ways1 far1 hav1 mdT1 wnT1 ∧ r = (if 0 ≤ wh ∧ wh ≤ 5 then nmE (xkd num mf) (xco num mf) cols many sN sW sC sM v wh else -102) ∧ w = xW g o ax num kpt many cols chg brd old1 page pgM told enD row1 ways1 far1 hav1 wtd1 fnd1 mdT1 wnT1 sN sW sC sM drw kN kW kC kS kG kB hh L mf) := by
  refine Ct.of (by decide) (Nat.le_of_ble_eq_true rfl) ?_
  intro Γ hl hg hf hrT
  subst hl hg
  have hf : Fx Γ RX0 cX0_tellNumber 3 := hf
  show T Γ (rmL 34) 3 0 0 (Qe Γ (rmL 34) _) _ 0 [(0, .ref o), (1, .ref a), (2, .int (iI wh))] []
  obtain ⟨ma, ka, na, ca⟩ := hB.1 v a ha
  have x1 := xkd_at (mf := mf) ha
  have x2 := xco_at (mf := mf) ha
  have hpx := xC_keep hC
  refine tt_iload_n hf 2 dX0_tellNumber_0 rfl ?_
  by_cases s1_0 : wh = 0
  · refine tt_tableIn (off := 39) (tgt := 40) hf dX0_tellNumber_1 (by omega) (by omega) (by omega) (by rw [s1_0]; rfl) (by decide) ?_
    refine tt_aload_n hf 1 dX0_tellNumber_40 rfl ?_
    refine xm_kind hf ma ka (by decide) (by decide) (Nat.le_of_ble_eq_true rfl) dX0_tellNumber_41 ?_
    exact tt_ireti hf hrT dX0_tellNumber_44 (Nat.le_refl _) (Nat.le_refl _) (by omega) ⟨old, row, ways, far, hav, wtd, fnd, mdT, wnT, hrow, ho, hC, by rw [if_pos (by omega)]; unfold nmE; rw [if_pos (by omega)]; exact x1.symm, rfl⟩
  by_cases s1_1 : wh = 1
  · refine tt_tableIn (off := 44) (tgt := 45) hf dX0_tellNumber_1 (by omega) (by omega) (by omega) (by rw [s1_1]; rfl) (by decide) ?_
    refine tt_aload_n hf 1 dX0_tellNumber_45 rfl ?_
    refine gm_colour hf ma ka dX0_tellNumber_46 ?_
    exact tt_ireti hf hrT dX0_tellNumber_49 (Nat.le_refl _) (Nat.le_refl _) (by omega) ⟨old, row, ways, far, hav, wtd, fnd, mdT, wnT, hrow, ho, hC, by rw [if_pos (by omega)]; unfold nmE; rw [if_neg (by omega), if_pos (by omega)]; exact x2.symm, rfl⟩
  by_cases s1_2 : wh = 2
  · refine tt_tableIn (off := 49) (tgt := 50) hf dX0_tellNumber_1 (by omega) (by omega) (by omega) (by rw [s1_2]; rfl) (by decide) ?_
    refine tt_aload_n hf 0 dX0_tellNumber_50 rfl ?_
    refine tt_aload_n hf 1 dX0_tellNumber_51 rfl ?_
    refine gm_name hf ma ka dX0_tellNumber_52 ?_
    refine tt_top (z' := v) na ?_
    refine tt_callV0 (As := [.int (iI v)]) (rest := []) (q0 := 0) (ci := 0) hf (cx_sureOf hm hc hB hcc hrow ho hC (by omega)) lk_X0_X0_sureOf hd_X0_sureOf rfl rfl rfl ⟨rfl, rfl⟩ (by decide) (by decide) (Nat.le_of_ble_eq_true rfl) dX0_tellNumber_55 rfl (kk_i (fun r55 w hr55 hp55 => ?_))
    obtain ⟨row55, hav55, wtd55, fnd55, q55, o55, e55, rfl⟩ := hp55
    exact tt_ireti hf hrT dX0_tellNumber_58 (Nat.le_refl _) (Nat.le_refl _) hr55 ⟨0, row55, _, _, hav55, wtd55, fnd55, _, _, q55, Or.inl rfl, fun _ => ⟨rfl, rfl, o55, rfl, rfl⟩, by rw [if_pos (by omega)]; unfold nmE; rw [if_neg (by omega), if_neg (by omega), if_pos (by omega)]; exact e55, rfl⟩
  by_cases s1_3 : wh = 3
  · refine tt_tableIn (off := 58) (tgt := 59) hf dX0_tellNumber_1 (by omega) (by omega) (by omega) (by rw [s1_3]; rfl) (by decide) ?_
    refine tt_aload_n hf 0 dX0_tellNumber_59 rfl ?_
    refine tt_aload_n hf 1 dX0_tellNumber_60 rfl ?_
    refine gm_name hf ma ka dX0_tellNumber_61 ?_
    refine tt_top (z' := v) na ?_
    refine tt_callV0 (As := [.int (iI v)]) (rest := []) (q0 := 0) (ci := 0) hf (cx_sortsOf hsM hsN hsW hsC (by omega)) lk_X0_X0_sortsOf hd_X0_sortsOf rfl rfl rfl ⟨rfl, rfl⟩ (by decide) (by decide) (Nat.le_of_ble_eq_true rfl) dX0_tellNumber_64 rfl (kk_e (fun r64 => ?_))
    exact tt_ireti hf hrT dX0_tellNumber_67 (Nat.le_refl _) (Nat.le_refl _) r64 ⟨old, row, ways, far, hav, wtd, fnd, mdT, wnT, hrow, ho, hC, by rw [if_pos (by omega)]; unfold nmE; rw [if_neg (by omega), if_neg (by omega), if_neg (by omega), if_pos (by omega)], rfl⟩
  by_cases s1_4 : wh = 4
  · refine tt_tableIn (off := 67) (tgt := 68) hf dX0_tellNumber_1 (by omega) (by omega) (by omega) (by rw [s1_4]; rfl) (by decide) ?_
    refine tt_aload_n hf 0 dX0_tellNumber_68 rfl ?_
    refine tt_aload_n hf 1 dX0_tellNumber_69 rfl ?_
    refine gm_name hf ma ka dX0_tellNumber_70 ?_
    refine tt_top (z' := v) na ?_
    refine tt_callV0 (As := [.int (iI v)]) (rest := []) (q0 := 0) (ci := 0) hf (cx_toAsk hsM hsN hsW hsC (by omega)) lk_X0_X0_toAsk hd_X0_toAsk rfl rfl rfl ⟨rfl, rfl⟩ (by decide) (by decide) (Nat.le_of_ble_eq_true rfl) dX0_tellNumber_73 rfl (kk_e (fun r73 => ?_))
    exact tt_ireti hf hrT dX0_tellNumber_76 (Nat.le_refl _) (Nat.le_refl _) r73 ⟨old, row, ways, far, hav, wtd, fnd, mdT, wnT, hrow, ho, hC, by rw [if_pos (by omega)]; unfold nmE; rw [if_neg (by omega), if_neg (by omega), if_neg (by omega), if_neg (by omega), if_pos (by omega)], rfl⟩
  by_cases s1_5 : wh = 5
  · refine tt_tableIn (off := 76) (tgt := 77) hf dX0_tellNumber_1 (by omega) (by omega) (by omega) (by rw [s1_5]; rfl) (by decide) ?_
    refine tt_aload_n hf 0 dX0_tellNumber_77 rfl ?_
    refine tt_aload_n hf 1 dX0_tellNumber_78 rfl ?_
    refine gm_name hf ma ka dX0_tellNumber_79 ?_
    refine tt_top (z' := v) na ?_
    refine tt_callV0 (As := [.int (iI v)]) (rest := []) (q0 := 0) (ci := 0) hf (cx_badWith hm hB hrow (by omega)) lk_X0_X0_badWith hd_X0_badWith rfl rfl rfl ⟨rfl, rfl⟩ (by decide) (by decide) (Nat.le_of_ble_eq_true rfl) dX0_tellNumber_82 rfl (kk_e (fun r82 => ?_))
    exact tt_ireti hf hrT dX0_tellNumber_85 (Nat.le_refl _) (Nat.le_refl _) r82 ⟨old, _, ways, far, hav, wtd, fnd, mdT, wnT, mixX_rng (xco_rng hB) hrow, ho, hC, by rw [if_pos (by omega)]; unfold nmE; rw [if_neg (by omega), if_neg (by omega), if_neg (by omega), if_neg (by omega), if_neg (by omega)], rfl⟩
  · refine tt_tableOut (tgt := 86) hf dX0_tellNumber_1 (by omega) (by omega) (by decide) ?_
    refine tt_bipush hf dX0_tellNumber_86 (by decide) ?_
    exact tt_ireti hf hrT dX0_tellNumber_88 (Nat.le_refl _) (Nat.le_refl _) (by omega) ⟨old, row, ways, far, hav, wtd, fnd, mdT, wnT, hrow, ho, hC, by rw [if_neg (by omega)], rfl⟩
set_option maxHeartbeats 4000000 in
set_option maxRecDepth 100000 in
theorem cx_number {l : Launch} {g : tG} {o : Nat} {ax : Nat → Nat} {num kpt : Int → Option Nat} {many cols chg brd old : Int} {page : Int → Int} {pgM told enD : Int} {row : Int → Int} {ways far : Int} {hav : Int → Int} {wtd : Int} {fnd : Int → Int} {mdT wnT : Int} {sN sW sC : Int → Int} {sM drw : Int} {kN kW kC : Int → Int} {kS kG kB : Int} {hh : Int64} {L : List Nat} {mf : Nat → Nat × Int × Int × Int} {v wh : Int} (hm : 0 ≤ many ∧ many ≤ 10) (hcl : 0 < many → 2 ≤ cols ∧ cols ≤ 3) (hB : xB many num L mf) (hcc : ∀ i, 1 ≤ i → i ≤ many → (xco num mf) i ≤ cols - 1) (hrow : ∀ i, -1 ≤ row i ∧ row i ≤ 2) (ho : old = 0 ∨ old = 1) (hC : xC (xkd num mf) (xco num mf) cols many old ways far hav mdT wnT) (hsM : 0 ≤ sM ∧ sM ≤ 6) (hsN : ∀ i, 0 ≤ sN i ∧ sN i ≤ 10) (hsW : ∀ i, 0 ≤ sW i ∧ sW i ≤ 2) (hsC : ∀ i, 0 ≤ sC i ∧ sC i ≤ 1) (hv : iR v) (hwh : iR wh) : Ci l g yX0_number (ws_ yX0_number cX0_number 3 (Option.some Jvm.ClassFile.FieldType.int)) (rmL 35) [.ref o, .int (iI v), .int (iI wh)] (xW g o ax num kpt many cols chg brd old page pgM told enD row ways far hav wtd fnd mdT wnT sN sW sC sM drw kN kW kC kS kG kB hh L mf) (fun r w => ∃ (old1 : Int) (row1 : Int → Int) (ways1 far1 : Int) (hav1 : Int → Int) (wtd1 : Int) (fnd1 : Int → Int) (mdT1 wnT1 : Int), (∀ i, -1 ≤ row1 i ∧ row1 i ≤ 2) ∧ (old1 = 0 ∨ old1 = 1) ∧ xC (xkd num mf) (xco num mf) cols many old1 ways1 far1 hav1 mdT1 wnT1 ∧ r = (if 1 ≤ v ∧ v ≤ many then (if 0 ≤ wh ∧ wh ≤ 5 then nmE (xkd num mf) (xco num mf) cols many sN sW sC sM v wh else -102) else -101) ∧ w = xW g o ax num kpt many cols chg brd old1 page pgM told enD row1 ways1 far1 hav1 wtd1 fnd1 mdT1 wnT1 sN sW sC sM drw kN kW kC kS kG kB hh L mf) := by
  refine Ct.of (by decide) (Nat.le_of_ble_eq_true rfl) ?_
  intro Γ hl hg hf hrT
  subst hl hg
  have hf : Fx Γ RX0 cX0_number 3 := hf
  show T Γ (rmL 35) 3 0 0 (Qe Γ (rmL 35) _) _ 0 [(0, .ref o), (1, .int (iI v)), (2, .int (iI wh))] []
  refine tt_aload_n hf 0 dX0_number_0 rfl ?_
  refine tt_iload_n hf 1 dX0_number_1 rfl ?_
  refine tt_callV0 (As := [.int (iI v)]) (rest := []) (q0 := 0) (ci := 0) hf (cx_isNumber (by omega) hm) lk_X0_X0_isNumber hd_X0_isNumber rfl rfl rfl ⟨rfl, rfl⟩ (by decide) (by decide) (Nat.le_of_ble_eq_true rfl) dX0_number_2 rfl (kk_e (fun r2 => ?_))
  refine tt_ifb_eq (tgt := 22) hf dX0_number_5 (by decide) (fun c5 => ?_) (fun c5 => ?_)
  · refine tt_bipush hf dX0_number_22 (by decide) ?_
    exact tt_ireti hf hrT dX0_number_24 (Nat.le_refl _) (Nat.le_refl _) (by omega) ⟨old, row, ways, far, hav, wtd, fnd, mdT, wnT, hrow, ho, hC, by rw [if_neg c5], rfl⟩
  · have hc := hcl (by omega)
    obtain ⟨a0, ha0, ma0, ka0, na0, ca0⟩ := hB.at (n := v) (by omega) (by omega)
    refine tt_aload_n hf 0 dX0_number_8 rfl ?_
    refine tt_aload_n hf 0 dX0_number_9 rfl ?_
    refine gx_num hf dX0_number_10 ?_
    refine tt_iload_n hf 1 dX0_number_13 rfl ?_
    refine lx_num hf (by omega) ha0 dX0_number_14 ?_
    refine tt_iload_n hf 2 dX0_number_15 rfl ?_
    refine tt_callV0 (As := [.ref a0, .int (iI wh)]) (rest := []) (q0 := 0) (ci := 0) hf (cx_tellNumber hm hc hB hcc hrow ho hC hsM hsN hsW hsC (by omega) ha0 (by omega)) lk_X0_X0_tellNumber hd_X0_tellNumber rfl rfl rfl ⟨rfl, rfl⟩ (by decide) (by decide) (Nat.le_of_ble_eq_true rfl) dX0_number_16 rfl (kk_i (fun r16 w hr16 hp16 => ?_))
    obtain ⟨old16, row16, ways16, far16, hav16, wtd16, fnd16, mdT16, wnT16, q16, o16, C16, e16, rfl⟩ := hp16
    refine tt_goto (tgt := 24) hf dX0_number_19 (by decide) ?_
    exact tt_ireti hf hrT dX0_number_24 (Nat.le_refl _) (Nat.le_refl _) hr16 ⟨old16, row16, ways16, far16, hav16, wtd16, fnd16, mdT16, wnT16, q16, o16, C16, by rw [if_pos c5]; exact e16, rfl⟩
