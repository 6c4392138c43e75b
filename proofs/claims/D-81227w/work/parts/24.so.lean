/-! sorts: which kinds could be; what to ask -/
abbrev cd (k wh : Int) : Prop := (wh = 2 ∧ prt k) ∨ (wh ≠ 2 ∧ mnd k (wh ≠ 0))
def bv5 (a b c d e : Bool) : Int := (if a then 1 else 0) + (if b then 2 else 0) + (if c then 4 else 0) + (if d then 8 else 0) + (if e then 16 else 0)
def bv (f : Int → Bool) : Int := bv5 (f 0) (f 1) (f 2) (f 3) (f 4)
def p2 (k : Int) : Int := if k = 0 then 1 else if k = 1 then 2 else if k = 2 then 4 else if k = 3 then 8 else 16
theorem bv5_rng : ∀ a b c d e : Bool, 0 ≤ bv5 a b c d e ∧ bv5 a b c d e ≤ 31 := by decide
theorem bv_rng (f : Int → Bool) : 0 ≤ bv f ∧ bv f ≤ 31 := bv5_rng _ _ _ _ _
theorem bv_cg {f g : Int → Bool} (h : ∀ z, 0 ≤ z → z ≤ 4 → f z = g z) : bv f = bv g := by
  unfold bv
  rw [h 0 (by decide) (by decide), h 1 (by decide) (by decide), h 2 (by decide) (by decide), h 3 (by decide) (by decide), h 4 (by decide) (by decide)]
theorem p2_shl {k : Int} (h : 0 ≤ k ∧ k ≤ 4) : iI 1 <<< (iI k &&& 31) = iI (p2 k) := by
  rcases (show k = 0 ∨ k = 1 ∨ k = 2 ∨ k = 3 ∨ k = 4 by omega) with e | e | e | e | e <;> subst e <;> decide
theorem bv_or {k : Int} {f : Int → Bool} (h : 0 ≤ k ∧ k ≤ 4) (hk : f k = true) : iI (bv (fun z => decide (z < k) && f z)) ||| iI (p2 k) = iI (bv (fun z => decide (z < k + 1) && f z)) := by
  unfold bv
  rcases (show k = 0 ∨ k = 1 ∨ k = 2 ∨ k = 3 ∨ k = 4 by omega) with e | e | e | e | e <;> subst e <;> ((try dsimp only); rw [hk]; generalize f 0 = a0; generalize f 1 = a1; generalize f 2 = a2; generalize f 3 = a3; generalize f 4 = a4; revert a0 a1 a2 a3 a4; decide)
theorem bv_or0 {k : Int} {f : Int → Bool} (h : 0 ≤ k ∧ k ≤ 4) (hk : f k = false) : iI (bv (fun z => decide (z < k) && f z)) ||| iI 0 = iI (bv (fun z => decide (z < k + 1) && f z)) := by
  unfold bv
  rcases (show k = 0 ∨ k = 1 ∨ k = 2 ∨ k = 3 ∨ k = 4 by omega) with e | e | e | e | e <;> subst e <;> ((try dsimp only); rw [hk]; generalize f 0 = a0; generalize f 1 = a1; generalize f 2 = a2; generalize f 3 = a3; generalize f 4 = a4; revert a0 a1 a2 a3 a4; decide)
theorem bv_5 {f : Int → Bool} : bv (fun z => decide (z < 5) && f z) = bv f := bv_cg (fun z h1 h2 => by rw [decide_eq_true (by omega)]; rfl)
theorem bv_0 {f : Int → Bool} : bv (fun z => decide (z < 0) && f z) = 0 := by
  unfold bv
  ((try dsimp only); generalize f 0 = a0; generalize f 1 = a1; generalize f 2 = a2; generalize f 3 = a3; generalize f 4 = a4; revert a0 a1 a2 a3 a4; decide)
theorem bv_in {k : Int} {f : Int → Bool} (h : 0 ≤ k ∧ k ≤ 4) : (iI (bv f) >>> (iI k &&& 31)) &&& iI 1 = iI (if f k = true then 1 else 0) := by
  unfold bv
  rcases (show k = 0 ∨ k = 1 ∨ k = 2 ∨ k = 3 ∨ k = 4 by omega) with e | e | e | e | e <;> subst e <;> ((try dsimp only); generalize f 0 = a0; generalize f 1 = a1; generalize f 2 = a2; generalize f 3 = a3; generalize f 4 = a4; revert a0 a1 a2 a3 a4; decide)
theorem bv_z {f : Int → Bool} (h : bv f = 0) : ∀ k, 0 ≤ k → k ≤ 4 → f k = false := by
  unfold bv at h
  intro k h1 h2
  rcases (show k = 0 ∨ k = 1 ∨ k = 2 ∨ k = 3 ∨ k = 4 by omega) with e | e | e | e | e <;> subst e <;> (revert h; ((try dsimp only); generalize f 0 = a0; generalize f 1 = a1; generalize f 2 = a2; generalize f 3 = a3; generalize f 4 = a4; revert a0 a1 a2 a3 a4; decide))
/-- after j things that were seen the kind k could still be -/
def soF (sN sW sC : Int → Int) (n : Int) : Nat → Int → Bool
  | 0, _ => true
  | j + 1, k => soF sN sW sC n j k && (decide (sN j ≠ n) || (decide (cd k (sW j)) == decide (sC j = 1)))
theorem soF_s {sN sW sC : Int → Int} {n j k : Int} (hj : 0 ≤ j) : soF sN sW sC n (j + 1).toNat k = (soF sN sW sC n j.toNat k && (decide (sN j ≠ n) || (decide (cd k (sW j)) == decide (sC j = 1)))) := by
  obtain ⟨i, rfl⟩ : ∃ i : Nat, j = i := ⟨j.toNat, by omega⟩
  rfl
theorem ib_t {b : Bool} {x : Int} (h : x = if b = true then 1 else 0) (hx : ¬ x = 0) : b = true := by
  cases b
  · exact absurd h hx
  · rfl
theorem ib_f {b : Bool} {x : Int} (h : x = if b = true then 1 else 0) (hx : x = 0) : b = false := by
  cases b
  · rfl
  · rw [hx] at h; exact absurd h (by decide)
def yc (F : Int → Bool) (wh : Int) : Nat → Int
  | 0 => 0
  | k + 1 => yc F wh k + (if F k = true ∧ cd k wh then 1 else 0)
def nc (F : Int → Bool) (wh : Int) : Nat → Int
  | 0 => 0
  | k + 1 => nc F wh k + (if F k = true ∧ ¬ cd k wh then 1 else 0)
theorem yc_s {F : Int → Bool} {wh k : Int} (hk : 0 ≤ k) : yc F wh (k + 1).toNat = yc F wh k.toNat + (if F k = true ∧ cd k wh then 1 else 0) := by
  obtain ⟨i, rfl⟩ : ∃ i : Nat, k = i := ⟨k.toNat, by omega⟩
  rfl
theorem nc_s {F : Int → Bool} {wh k : Int} (hk : 0 ≤ k) : nc F wh (k + 1).toNat = nc F wh k.toNat + (if F k = true ∧ ¬ cd k wh then 1 else 0) := by
  obtain ⟨i, rfl⟩ : ∃ i : Nat, k = i := ⟨k.toNat, by omega⟩
  rfl
theorem yc_rng (F : Int → Bool) (wh : Int) : ∀ k : Nat, 0 ≤ yc F wh k ∧ 0 ≤ nc F wh k ∧ yc F wh k + nc F wh k ≤ k
  | 0 => by simp [yc, nc]
  | k + 1 => by
    have h := yc_rng F wh k
    simp only [yc, nc]
    by_cases h1 : F k = true <;> by_cases h2 : cd k wh <;> simp only [h1, h2] <;> simp <;> omega
def wst (F : Int → Bool) (wh : Int) : Int := if nc F wh 5 < yc F wh 5 then yc F wh 5 else nc F wh 5
theorem wst_rng (F : Int → Bool) (wh : Int) : 0 ≤ wst F wh ∧ wst F wh ≤ 5 := by
  have := yc_rng F wh 5
  unfold wst
  split <;> omega
def asN (F : Int → Bool) (B : Int) : Nat → Int × Int
  | 0 => (-1, B)
  | w + 1 => if wst F w < (asN F B w).2 then ((w : Int), wst F w) else asN F B w
theorem asN_s {F : Int → Bool} {B w : Int} (hw : 0 ≤ w) : asN F B (w + 1).toNat = if wst F w < (asN F B w.toNat).2 then (w, wst F w) else asN F B w.toNat := by
  obtain ⟨i, rfl⟩ : ∃ i : Nat, w = i := ⟨w.toNat, by omega⟩
  rfl
def askE (F : Int → Bool) : Int := if bv F = 0 then -1 else (asN F 268435456 3).1
theorem asN_B {F : Int → Bool} {B C : Int} (hB : 6 ≤ B) (hC : 6 ≤ C) : (asN F B 3).1 = (asN F C 3).1 := by
  have h0 := wst_rng F 0
  have st : ∀ w : Nat, asN F B w = asN F C w → asN F B (w + 1) = asN F C (w + 1) := fun w h => by
    show (if wst F w < (asN F B w).2 then ((w : Int), wst F w) else asN F B w) = (if wst F w < (asN F C w).2 then ((w : Int), wst F w) else asN F C w)
    rw [h]
  have eB : asN F B 1 = (0, wst F 0) := if_pos (show wst F 0 < B by omega)
  have eC : asN F C 1 = (0, wst F 0) := if_pos (show wst F 0 < C by omega)
  rw [st 2 (st 1 (eB.trans eC.symm))]
theorem ite_iff {P Q : Prop} [Decidable P] [Decidable Q] (h : P ↔ Q) : (if P then (1 : Int) else 0) = if Q then 1 else 0 := by
  by_cases p : P
  · rw [if_pos p, if_pos (h.mp p)]
  · rw [if_neg p, if_neg (fun q => p (h.mpr q))]
/-- the greatest common divisor -/
def gI (a b : Int) : Int := (Nat.gcd a.toNat b.toNat : Int)
theorem gI_0 {a : Int} (h : 0 ≤ a) : gI a 0 = a := by
  unfold gI
  rw [show (0 : Int).toNat = 0 from rfl, Nat.gcd_zero_right]
  omega
theorem gI_s {a b : Int} (ha : 0 ≤ a) (hb : 0 < b) : gI b (a % b) = gI a b := by
  unfold gI
  have e : (a % b).toNat = a.toNat % b.toNat := by
    obtain ⟨x, rfl⟩ : ∃ x : Nat, a = x := ⟨a.toNat, by omega⟩
    obtain ⟨y, rfl⟩ : ∃ y : Nat, b = y := ⟨b.toNat, by omega⟩
    rfl
  rw [e, Nat.gcd_comm b.toNat, ← Nat.gcd_rec, Nat.gcd_comm]
theorem gI_pos {a b : Int} (ha : 0 < a) : 0 < gI a b := by
  unfold gI
  have := Nat.gcd_pos_of_pos_left b.toNat (show 0 < a.toNat by omega)
  omega
theorem gI_le {a b : Int} (ha : 0 < a) : gI a b ≤ a := by
  unfold gI
  have := Nat.gcd_le_left b.toNat (show 0 < a.toNat by omega)
  omega
theorem gI_comm (a b : Int) : gI a b = gI b a := by unfold gI; rw [Nat.gcd_comm]
/-- what the odds tell -/
def odE (up ways wh : Int) : Int := if up = 0 then wh else if wh = 0 then up / gI up ways else ways / gI up ways
theorem div_rng {a d : Int} (ha : 0 ≤ a) (hd : 0 < d) : 0 ≤ a / d ∧ a / d ≤ a := ⟨Int.ediv_nonneg ha (by omega), Int.ediv_le_self _ ha⟩
theorem tt_shrand {Γ : tX} {R : Room} {nL k n : Nat} {Q : State → Prop} {ws : va_W} {pc : Nat} {lv : List (Nat × Value)} {st : List Value} {own : String} {cc : ByteArray} (hf : Fx Γ own cc nL) {x y : Int32} {z : Int} (d1 : decode cc pc = .ok (.ishr, 1)) (d2 : decode cc (pc + 1) = .ok (.iconst 1, 1)) (d3 : decode cc (pc + 1 + 1) = .ok (.iand, 1)) (hz : (x >>> (y &&& 31)) &&& iI 1 = iI z) (kk : T Γ R nL k n Q ws (pc + 1 + 1 + 1) lv (.int (iI z) :: st)) : T Γ R nL k n Q ws pc lv (.int y :: .int x :: st) :=
  fun H locs ls hP hD hS hl => lv_ishr hf.x hf.b d1 (lv_iconst hf.x hf.b d2 rfl (lv_iand hf.x hf.b d3 (by have e : (x >>> (y &&& 31)) &&& Int32.ofInt 1 = iI z := hz; rw [e]; exact kk H locs ls hP hD hS hl)))
set_option maxHeartbeats 4000000 in
set_option maxRecDepth 100000 in
theorem cm_could {l : Launch} {g : tG} {ws : va_W} {k wh : Int} (hk : iR k) (hw : iR wh) : Ce l g yX6_could (ws_ yX6_could cX6_could 2 (Option.some Jvm.ClassFile.FieldType.boolean)) (rmL 2) [.int (iI k), .int (iI wh)] (ws) (if cd k wh then 1 else 0) (ws) := by
  refine Ct.of (by decide) (Nat.le_of_ble_eq_true rfl) ?_
  intro Γ hl hg hf hrT
  subst hl hg
  have hf : Fx Γ RX6 cX6_could 2 := hf
  show T Γ (rmL 2) 2 0 0 (Qe Γ (rmL 2) _) _ 0 [(0, .int (iI k)), (1, .int (iI wh))] []
  refine tt_iload_n hf 1 dX6_could_0 rfl ?_
  refine tt_iconst hf dX6_could_1 ?_
  refine tt_icmp_ne (tgt := 12) hf dX6_could_2 (by decide) (by omega) (by omega) (fun c2 => ?_) (fun c2 => ?_)
  · refine tt_iload_n hf 0 dX6_could_12 rfl ?_
    refine tt_iload_n hf 1 dX6_could_13 rfl ?_
    refine tt_if_ne (tgt := 21) hf dX6_could_14 (by decide) (by omega) (fun c14 => ?_) (fun c14 => ?_)
    · refine tt_iconst hf dX6_could_21 ?_
      refine tt_callS0 (As := [.int (iI k), .int (iI 0)]) (rest := []) hf (cm_minds (by omega) (by omega)) lk_X6_X6_minds hd_X6_minds rfl ⟨rfl, rfl⟩ (by decide) (by decide) (Nat.le_of_ble_eq_true rfl) dX6_could_22 rfl (kk_e (fun r22 => ?_))
      exact tt_iretz hf hrT dX6_could_25 (Nat.le_refl _) (Nat.le_refl _) (by split <;> omega) ⟨(ite_iff (by unfold cd prt mnd; omega)), rfl⟩
    · refine tt_iconst hf dX6_could_17 ?_
      refine tt_goto (tgt := 22) hf dX6_could_18 (by decide) ?_
      refine tt_callS0 (As := [.int (iI k), .int (iI 1)]) (rest := []) hf (cm_minds (by omega) (by omega)) lk_X6_X6_minds hd_X6_minds rfl ⟨rfl, rfl⟩ (by decide) (by decide) (Nat.le_of_ble_eq_true rfl) dX6_could_22 rfl (kk_e (fun r22 => ?_))
      exact tt_iretz hf hrT dX6_could_25 (Nat.le_refl _) (Nat.le_refl _) (by split <;> omega) ⟨(ite_iff (by unfold cd prt mnd; omega)), rfl⟩
  · refine tt_iload_n hf 0 dX6_could_5 rfl ?_
    refine tt_callS0 (As := [.int (iI k)]) (rest := []) hf (cm_isPart (by omega)) lk_X6_X6_isPart hd_X6_isPart rfl ⟨rfl, rfl⟩ (by decide) (by decide) (Nat.le_of_ble_eq_true rfl) dX6_could_6 rfl (kk_e (fun r6 => ?_))
    refine tt_goto (tgt := 25) hf dX6_could_9 (by decide) ?_
    exact tt_iretz hf hrT dX6_could_25 (Nat.le_refl _) (Nat.le_refl _) (by split <;> omega) ⟨(ite_iff (by unfold cd prt mnd; omega)), rfl⟩
set_option maxHeartbeats 4000000 in
set_option maxRecDepth 100000 in
theorem cm_sortsOf {l : Launch} {g : tG} {o : Nat} {ax : Nat → Nat} {brd many cols : Int} {kd co : Int → Int} {chg sM : Int} {sN sW sC : Int → Int} {pgM : Int} {page : Int → Int} {whl nwN : Int} {now oft wtd : Int → Int} {ways : Int} {svd trn cAt wAt : Int → Int} {seed : Int64} {isK kB kG kS : Int} {kK kO kN kW kC : Int → Int} {hh : Int64} {v : Int} (hsM : 0 ≤ sM ∧ sM ≤ 6) (hsN : ∀ i, 0 ≤ sN i ∧ sN i ≤ 10) (hsW : ∀ i, 0 ≤ sW i ∧ sW i ≤ 2) (hsC : ∀ i, 0 ≤ sC i ∧ sC i ≤ 1) (hv : 1 ≤ v ∧ v ≤ 10) : Ce l g yX6_sortsOf (ws_ yX6_sortsOf cX6_sortsOf 6 (Option.some Jvm.ClassFile.FieldType.int)) (rmL 3) [.ref o, .int (iI v)] (mW g o ax brd many cols kd co chg sM sN sW sC pgM page whl nwN now oft wtd ways svd trn cAt wAt seed isK kB kG kS kK kO kN kW kC hh) (bv (soF sN sW sC v sM.toNat)) (mW g o ax brd many cols kd co chg sM sN sW sC pgM page whl nwN now oft wtd ways svd trn cAt wAt seed isK kB kG kS kK kO kN kW kC hh) := by
  refine Ct.of (by decide) (Nat.le_of_ble_eq_true rfl) ?_
  intro Γ hl hg hf hrT
  subst hl hg
  have hf : Fx Γ RX6 cX6_sortsOf 6 := hf
  show T Γ (rmL 3) 6 0 0 (Qe Γ (rmL 3) _) _ 0 [(0, .ref o), (1, .int (iI v))] []
  have lp : ∀ (N : Nat) (b : Int) (k : Int), (0 ≤ k ∧ k ≤ 5) → (b = bv (fun z => decide (z < k) && soF sN sW sC v sM.toNat z)) → (6 - k).toNat < N → T Γ (rmL 3) 6 0 0 (Qe Γ (rmL 3) (fun vv w => ∃ r : Int, vv = some (.int (iI r)) ∧ iR r ∧ r = (bv (soF sN sW sC v sM.toNat)) ∧ w = mW (xg Γ) o ax brd many cols kd co chg sM sN sW sC pgM page whl nwN now oft wtd ways svd trn cAt wAt seed isK kB kG kS kK kO kN kW kC hh)) (mW (xg Γ) o ax brd many cols kd co chg sM sN sW sC pgM page whl nwN now oft wtd ways svd trn cAt wAt seed isK kB kG kS kK kO kN kW kC hh) 4 [(0, .ref o), (1, .int (iI v)), (2, .int (iI b)), (3, .int (iI k))] [] := by
    intro N
    induction N with
    | zero => intro b k hk hb hN; exact absurd hN (Nat.not_lt_zero _)
    | succ N ih =>
      intro b k hk hb hN
      have ihO := ih
      refine tt_iload_n hf 3 dX6_sortsOf_4 rfl ?_
      refine tt_iconst hf dX6_sortsOf_5 ?_
      refine tt_icmp_gt (tgt := 104) hf dX6_sortsOf_6 (by decide) (by omega) (by omega) (fun c6 => ?_) (fun c6 => ?_)
      · refine tt_iload_n hf 2 dX6_sortsOf_104 rfl ?_
        exact tt_ireti hf hrT dX6_sortsOf_105 (Nat.le_refl _) (Nat.le_refl _) (by have := bv_rng (fun z => decide (z < k) && soF sN sW sC v sM.toNat z); omega) ⟨(by rw [hb, show k = 5 by omega, bv_5]), rfl⟩
      · refine tt_iconst hf dX6_sortsOf_9 ?_
        refine tt_istore (lv' := [(4, .int (iI 1)), (0, .ref o), (1, .int (iI v)), (2, .int (iI b)), (3, .int (iI k))]) hf dX6_sortsOf_10 (by decide) rfl ?_
        refine tt_iconst hf dX6_sortsOf_12 ?_
        refine tt_istore (lv' := [(5, .int (iI 0)), (4, .int (iI 1)), (0, .ref o), (1, .int (iI v)), (2, .int (iI b)), (3, .int (iI k))]) hf dX6_sortsOf_13 (by decide) rfl ?_
        have lq : ∀ (N : Nat) (x : Int) (j : Int), (0 ≤ j ∧ j ≤ sM) → (x = if soF sN sW sC v j.toNat k = true then 1 else 0) → (0 ≤ x ∧ x ≤ 1) → (7 - j).toNat < N → T Γ (rmL 3) 6 0 0 (Qe Γ (rmL 3) (fun vv w => ∃ r : Int, vv = some (.int (iI r)) ∧ iR r ∧ r = (bv (soF sN sW sC v sM.toNat)) ∧ w = mW (xg Γ) o ax brd many cols kd co chg sM sN sW sC pgM page whl nwN now oft wtd ways svd trn cAt wAt seed isK kB kG kS kK kO kN kW kC hh)) (mW (xg Γ) o ax brd many cols kd co chg sM sN sW sC pgM page whl nwN now oft wtd ways svd trn cAt wAt seed isK kB kG kS kK kO kN kW kC hh) 15 [(0, .ref o), (1, .int (iI v)), (2, .int (iI b)), (3, .int (iI k)), (4, .int (iI x)), (5, .int (iI j))] [] := by
          intro N
          induction N with
          | zero => intro x j hj hx hx1 hN; exact absurd hN (Nat.not_lt_zero _)
          | succ N ih =>
            intro x j hj hx hx1 hN
            refine tt_iload hf 5 dX6_sortsOf_15 rfl ?_
            refine tt_aload_n hf 0 dX6_sortsOf_17 rfl ?_
            refine gm_sM hf dX6_sortsOf_18 ?_
            refine tt_icmp_ge (tgt := 83) hf dX6_sortsOf_21 (by decide) (by omega) (by omega) (fun c21 => ?_) (fun c21 => ?_)
            · have hx : x = if soF sN sW sC v sM.toNat k = true then 1 else 0 := by rw [hx, show j = sM by omega]
              refine tt_iload_n hf 2 dX6_sortsOf_83 rfl ?_
              refine tt_iload hf 4 dX6_sortsOf_84 rfl ?_
              refine tt_if_eq (tgt := 95) hf dX6_sortsOf_86 (by decide) (by omega) (fun c86 => ?_) (fun c86 => ?_)
              · refine tt_iconst hf dX6_sortsOf_95 ?_
                refine tt_ior (z := bv (fun z => decide (z < k + 1) && soF sN sW sC v sM.toNat z)) hf dX6_sortsOf_96 (by rw [hb]; exact bv_or0 (by omega) (ib_f hx c86)) ?_
                refine tt_istore_n (lv' := [(2, .int (iI (bv (fun z => decide (z < k + 1) && soF sN sW sC v sM.toNat z)))), (0, .ref o), (1, .int (iI v)), (3, .int (iI k)), (4, .int (iI x)), (5, .int (iI j))]) hf dX6_sortsOf_97 (by decide) rfl ?_
                refine tt_iinc (lv' := [(3, .int (iI (k + 1))), (2, .int (iI (bv (fun z => decide (z < k + 1) && soF sN sW sC v sM.toNat z)))), (0, .ref o), (1, .int (iI v)), (4, .int (iI x)), (5, .int (iI j))]) hf 3 dX6_sortsOf_98 rfl (by decide) rfl ?_
                refine tt_goto (tgt := 4) hf dX6_sortsOf_101 (by decide) ?_
                refine tt_sub [2, 3, 1, 0] rfl ?_
                exact ihO _ (k + 1) (by omega) rfl (by omega)
              · refine tt_iconst hf dX6_sortsOf_89 ?_
                refine tt_iload_n hf 3 dX6_sortsOf_90 rfl ?_
                refine tt_ishl (z := p2 k) hf dX6_sortsOf_91 (p2_shl (by omega)) ?_
                refine tt_goto (tgt := 96) hf dX6_sortsOf_92 (by decide) ?_
                refine tt_ior (z := bv (fun z => decide (z < k + 1) && soF sN sW sC v sM.toNat z)) hf dX6_sortsOf_96 (by rw [hb]; exact bv_or (by omega) (ib_t hx c86)) ?_
                refine tt_istore_n (lv' := [(2, .int (iI (bv (fun z => decide (z < k + 1) && soF sN sW sC v sM.toNat z)))), (0, .ref o), (1, .int (iI v)), (3, .int (iI k)), (4, .int (iI x)), (5, .int (iI j))]) hf dX6_sortsOf_97 (by decide) rfl ?_
                refine tt_iinc (lv' := [(3, .int (iI (k + 1))), (2, .int (iI (bv (fun z => decide (z < k + 1) && soF sN sW sC v sM.toNat z)))), (0, .ref o), (1, .int (iI v)), (4, .int (iI x)), (5, .int (iI j))]) hf 3 dX6_sortsOf_98 rfl (by decide) rfl ?_
                refine tt_goto (tgt := 4) hf dX6_sortsOf_101 (by decide) ?_
                refine tt_sub [2, 3, 1, 0] rfl ?_
                exact ihO _ (k + 1) (by omega) rfl (by omega)
            · refine tt_iload hf 4 dX6_sortsOf_24 rfl ?_
              refine tt_if_eq (tgt := 74) hf dX6_sortsOf_26 (by decide) (by omega) (fun c26 => ?_) (fun c26 => ?_)
              · refine tt_iconst hf dX6_sortsOf_74 ?_
                refine tt_istore (lv' := [(4, .int (iI 0)), (0, .ref o), (1, .int (iI v)), (2, .int (iI b)), (3, .int (iI k)), (5, .int (iI j))]) hf dX6_sortsOf_75 (by decide) rfl ?_
                refine tt_iinc (lv' := [(5, .int (iI (j + 1))), (4, .int (iI 0)), (0, .ref o), (1, .int (iI v)), (2, .int (iI b)), (3, .int (iI k))]) hf 5 dX6_sortsOf_77 rfl (by decide) rfl ?_
                refine tt_goto (tgt := 15) hf dX6_sortsOf_80 (by decide) ?_
                refine tt_sub [2, 3, 4, 5, 1, 0] rfl ?_
                exact ih 0 (j + 1) (by omega) (by rw [soF_s (by omega), ib_f hx c26]; rfl) (by omega) (by omega)
              · have q1 := hsN j
                have q2 := hsW j
                have q3 := hsC j
                refine tt_aload_n hf 0 dX6_sortsOf_29 rfl ?_
                refine gm_sN hf dX6_sortsOf_30 ?_
                refine tt_iload hf 5 dX6_sortsOf_33 rfl ?_
                refine lm_sN hf (by omega) dX6_sortsOf_35 ?_
                refine tt_iload_n hf 1 dX6_sortsOf_36 rfl ?_
                refine tt_icmp_ne (tgt := 70) hf dX6_sortsOf_37 (by decide) (by omega) (by omega) (fun c37 => ?_) (fun c37 => ?_)
                · refine tt_iconst hf dX6_sortsOf_70 ?_
                  refine tt_goto (tgt := 75) hf dX6_sortsOf_71 (by decide) ?_
                  refine tt_istore (lv' := [(4, .int (iI 1)), (0, .ref o), (1, .int (iI v)), (2, .int (iI b)), (3, .int (iI k)), (5, .int (iI j))]) hf dX6_sortsOf_75 (by decide) rfl ?_
                  refine tt_iinc (lv' := [(5, .int (iI (j + 1))), (4, .int (iI 1)), (0, .ref o), (1, .int (iI v)), (2, .int (iI b)), (3, .int (iI k))]) hf 5 dX6_sortsOf_77 rfl (by decide) rfl ?_
                  refine tt_goto (tgt := 15) hf dX6_sortsOf_80 (by decide) ?_
                  refine tt_sub [2, 3, 4, 5, 1, 0] rfl ?_
                  exact ih 1 (j + 1) (by omega) (by rw [soF_s (by omega), ib_t hx c26, decide_eq_true (show sN j ≠ v from c37)]; rfl) (by omega) (by omega)
                · refine tt_iload_n hf 3 dX6_sortsOf_40 rfl ?_
                  refine tt_aload_n hf 0 dX6_sortsOf_41 rfl ?_
                  refine gm_sW hf dX6_sortsOf_42 ?_
                  refine tt_iload hf 5 dX6_sortsOf_45 rfl ?_
                  refine lm_sW hf (by omega) dX6_sortsOf_47 ?_
                  refine tt_callS0 (As := [.int (iI k), .int (iI (sW j))]) (rest := []) hf (cm_could (by omega) (by omega)) lk_X6_X6_could hd_X6_could rfl ⟨rfl, rfl⟩ (by decide) (by decide) (Nat.le_of_ble_eq_true rfl) dX6_sortsOf_48 rfl (kk_e (fun r48 => ?_))
                  refine tt_aload_n hf 0 dX6_sortsOf_51 rfl ?_
                  refine gm_sC hf dX6_sortsOf_52 ?_
                  refine tt_iload hf 5 dX6_sortsOf_55 rfl ?_
                  refine lm_sC hf (by omega) dX6_sortsOf_57 ?_
                  refine tt_iconst hf dX6_sortsOf_58 ?_
                  refine tt_icmp_ne (tgt := 66) hf dX6_sortsOf_59 (by decide) (by omega) (by omega) (fun c59 => ?_) (fun c59 => ?_)
                  · refine tt_iconst hf dX6_sortsOf_66 ?_
                    refine tt_icmp_ne (tgt := 74) hf dX6_sortsOf_67 (by decide) r48 (by omega) (fun c67 => ?_) (fun c67 => ?_)
                    · refine tt_iconst hf dX6_sortsOf_74 ?_
                      refine tt_istore (lv' := [(4, .int (iI 0)), (0, .ref o), (1, .int (iI v)), (2, .int (iI b)), (3, .int (iI k)), (5, .int (iI j))]) hf dX6_sortsOf_75 (by decide) rfl ?_
                      refine tt_iinc (lv' := [(5, .int (iI (j + 1))), (4, .int (iI 0)), (0, .ref o), (1, .int (iI v)), (2, .int (iI b)), (3, .int (iI k))]) hf 5 dX6_sortsOf_77 rfl (by decide) rfl ?_
                      refine tt_goto (tgt := 15) hf dX6_sortsOf_80 (by decide) ?_
                      refine tt_sub [2, 3, 4, 5, 1, 0] rfl ?_
                      exact ih 0 (j + 1) (by omega) (by rw [soF_s (by omega), ib_t hx c26]; by_cases hcd : cd k (sW j) <;> simp [hcd, c37, c59] at c67 ⊢) (by omega) (by omega)
                    · refine tt_iconst hf dX6_sortsOf_70 ?_
                      refine tt_goto (tgt := 75) hf dX6_sortsOf_71 (by decide) ?_
                      refine tt_istore (lv' := [(4, .int (iI 1)), (0, .ref o), (1, .int (iI v)), (2, .int (iI b)), (3, .int (iI k)), (5, .int (iI j))]) hf dX6_sortsOf_75 (by decide) rfl ?_
                      refine tt_iinc (lv' := [(5, .int (iI (j + 1))), (4, .int (iI 1)), (0, .ref o), (1, .int (iI v)), (2, .int (iI b)), (3, .int (iI k))]) hf 5 dX6_sortsOf_77 rfl (by decide) rfl ?_
                      refine tt_goto (tgt := 15) hf dX6_sortsOf_80 (by decide) ?_
                      refine tt_sub [2, 3, 4, 5, 1, 0] rfl ?_
                      exact ih 1 (j + 1) (by omega) (by rw [soF_s (by omega), ib_t hx c26]; by_cases hcd : cd k (sW j) <;> simp [hcd, c37, c59] at c67 ⊢) (by omega) (by omega)
                  · refine tt_iconst hf dX6_sortsOf_62 ?_
                    refine tt_goto (tgt := 67) hf dX6_sortsOf_63 (by decide) ?_
                    refine tt_icmp_ne (tgt := 74) hf dX6_sortsOf_67 (by decide) r48 (by omega) (fun c67 => ?_) (fun c67 => ?_)
                    · refine tt_iconst hf dX6_sortsOf_74 ?_
                      refine tt_istore (lv' := [(4, .int (iI 0)), (0, .ref o), (1, .int (iI v)), (2, .int (iI b)), (3, .int (iI k)), (5, .int (iI j))]) hf dX6_sortsOf_75 (by decide) rfl ?_
                      refine tt_iinc (lv' := [(5, .int (iI (j + 1))), (4, .int (iI 0)), (0, .ref o), (1, .int (iI v)), (2, .int (iI b)), (3, .int (iI k))]) hf 5 dX6_sortsOf_77 rfl (by decide) rfl ?_
                      refine tt_goto (tgt := 15) hf dX6_sortsOf_80 (by decide) ?_
                      refine tt_sub [2, 3, 4, 5, 1, 0] rfl ?_
                      exact ih 0 (j + 1) (by omega) (by rw [soF_s (by omega), ib_t hx c26]; by_cases hcd : cd k (sW j) <;> simp [hcd, c37, c59] at c67 ⊢) (by omega) (by omega)
                    · refine tt_iconst hf dX6_sortsOf_70 ?_
                      refine tt_goto (tgt := 75) hf dX6_sortsOf_71 (by decide) ?_
                      refine tt_istore (lv' := [(4, .int (iI 1)), (0, .ref o), (1, .int (iI v)), (2, .int (iI b)), (3, .int (iI k)), (5, .int (iI j))]) hf dX6_sortsOf_75 (by decide) rfl ?_
                      refine tt_iinc (lv' := [(5, .int (iI (j + 1))), (4, .int (iI 1)), (0, .ref o), (1, .int (iI v)), (2, .int (iI b)), (3, .int (iI k))]) hf 5 dX6_sortsOf_77 rfl (by decide) rfl ?_
                      refine tt_goto (tgt := 15) hf dX6_sortsOf_80 (by decide) ?_
                      refine tt_sub [2, 3, 4, 5, 1, 0] rfl ?_
                      exact ih 1 (j + 1) (by omega) (by rw [soF_s (by omega), ib_t hx c26]; by_cases hcd : cd k (sW j) <;> simp [hcd, c37, c59] at c67 ⊢) (by omega) (by omega)
        refine tt_sub [2, 3, 4, 5, 1, 0] rfl ?_
        exact lq _ 1 0 (by omega) rfl (by omega) (Nat.lt_succ_self _)
  refine tt_iconst hf dX6_sortsOf_0 ?_
  refine tt_istore_n (lv' := [(2, .int (iI 0)), (0, .ref o), (1, .int (iI v))]) hf dX6_sortsOf_1 (by decide) rfl ?_
  refine tt_iconst hf dX6_sortsOf_2 ?_
  refine tt_istore_n (lv' := [(3, .int (iI 0)), (2, .int (iI 0)), (0, .ref o), (1, .int (iI v))]) hf dX6_sortsOf_3 (by decide) rfl ?_
  refine tt_sub [2, 3, 1, 0] rfl ?_
  exact lp _ 0 0 (by omega) bv_0.symm (Nat.lt_succ_self _)
set_option maxHeartbeats 4000000 in
set_option maxRecDepth 100000 in
theorem cm_isIn {l : Launch} {g : tG} {ws : va_W} {F : Int → Bool} {k : Int} (hk : 0 ≤ k ∧ k ≤ 4) : Ce l g yX6_isIn (ws_ yX6_isIn cX6_isIn 2 (Option.some Jvm.ClassFile.FieldType.boolean)) (rmL 1) [.int (iI (bv F)), .int (iI k)] (ws) (if F k = true then 1 else 0) (ws) := by
  refine Ct.of (by decide) (Nat.le_of_ble_eq_true rfl) ?_
  intro Γ hl hg hf hrT
  subst hl hg
  have hf : Fx Γ RX6 cX6_isIn 2 := hf
  show T Γ (rmL 1) 2 0 0 (Qe Γ (rmL 1) _) _ 0 [(0, .int (iI (bv F))), (1, .int (iI k))] []
  refine tt_iload_n hf 0 dX6_isIn_0 rfl ?_
  refine tt_iload_n hf 1 dX6_isIn_1 rfl ?_
  refine tt_shrand hf dX6_isIn_2 dX6_isIn_3 dX6_isIn_4 (bv_in hk) ?_
  refine tt_iconst hf dX6_isIn_5 ?_
  refine tt_icmp_ne (tgt := 13) hf dX6_isIn_6 (by decide) (by split <;> omega) (by omega) (fun c6 => ?_) (fun c6 => ?_)
  · have q6 : ¬ F k = true := fun h => c6 (if_pos h)
    refine tt_iconst hf dX6_isIn_13 ?_
    exact tt_iretz hf hrT dX6_isIn_14 (Nat.le_refl _) (Nat.le_refl _) (by omega) ⟨(by first | rw [if_pos q6] | rw [if_neg q6]), rfl⟩
  · have q6 : F k = true := by by_cases h : F k = true; exact h; rw [if_neg h] at c6; exact absurd c6 (by decide)
    refine tt_iconst hf dX6_isIn_9 ?_
    refine tt_goto (tgt := 14) hf dX6_isIn_10 (by decide) ?_
    exact tt_iretz hf hrT dX6_isIn_14 (Nat.le_refl _) (Nat.le_refl _) (by omega) ⟨(by first | rw [if_pos q6] | rw [if_neg q6]), rfl⟩
set_option maxHeartbeats 4000000 in
set_option maxRecDepth 100000 in
theorem cm_askOf {l : Launch} {g : tG} {o : Nat} {ax : Nat → Nat} {brd many cols : Int} {kd co : Int → Int} {chg sM : Int} {sN sW sC : Int → Int} {pgM : Int} {page : Int → Int} {whl nwN : Int} {now oft wtd : Int → Int} {ways : Int} {svd trn cAt wAt : Int → Int} {seed : Int64} {isK kB kG kS : Int} {kK kO kN kW kC : Int → Int} {hh : Int64} {v : Int} (hsM : 0 ≤ sM ∧ sM ≤ 6) (hsN : ∀ i, 0 ≤ sN i ∧ sN i ≤ 10) (hsW : ∀ i, 0 ≤ sW i ∧ sW i ≤ 2) (hsC : ∀ i, 0 ≤ sC i ∧ sC i ≤ 1) (hv : 1 ≤ v ∧ v ≤ 10) : Ce l g yX6_askOf (ws_ yX6_askOf cX6_askOf 9 (Option.some Jvm.ClassFile.FieldType.int)) (rmL 4) [.ref o, .int (iI v)] (mW g o ax brd many cols kd co chg sM sN sW sC pgM page whl nwN now oft wtd ways svd trn cAt wAt seed isK kB kG kS kK kO kN kW kC hh) (askE (soF sN sW sC v sM.toNat)) (mW g o ax brd many cols kd co chg sM sN sW sC pgM page whl nwN now oft wtd ways svd trn cAt wAt seed isK kB kG kS kK kO kN kW kC hh) := by
  refine Ct.of (by decide) (Nat.le_of_ble_eq_true rfl) ?_
  intro Γ hl hg hf hrT
  subst hl hg
  have hf : Fx Γ RX6 cX6_askOf 9 := hf
  show T Γ (rmL 4) 9 0 0 (Qe Γ (rmL 4) _) _ 0 [(0, .ref o), (1, .int (iI v))] []
  have hbv := bv_rng (soF sN sW sC v sM.toNat)
  refine tt_aload_n hf 0 dX6_askOf_0 rfl ?_
  refine tt_iload_n hf 1 dX6_askOf_1 rfl ?_
  refine tt_callV0 (As := [.int (iI v)]) (rest := []) (q0 := 0) (ci := 6) hf (cm_sortsOf hsM hsN hsW hsC (by omega)) lk_X6_X6_sortsOf hd_X6_sortsOf rfl rfl rfl ⟨rfl, rfl⟩ (by decide) (by decide) (Nat.le_of_ble_eq_true rfl) dX6_askOf_2 rfl (kk_e (fun r2 => ?_))
  refine tt_istore_n (lv' := [(2, .int (iI (bv (soF sN sW sC v sM.toNat)))), (0, .ref o), (1, .int (iI v))]) hf dX6_askOf_5 (by decide) rfl ?_
  refine tt_iconst hf dX6_askOf_6 ?_
  refine tt_istore_n (lv' := [(3, .int (iI (-1))), (2, .int (iI (bv (soF sN sW sC v sM.toNat)))), (0, .ref o), (1, .int (iI v))]) hf dX6_askOf_7 (by decide) rfl ?_
  refine tt_ldc hf (268435456) q917 (by decide) dX6_askOf_8 ?_
  refine tt_istore (lv' := [(4, .int (iI 268435456)), (3, .int (iI (-1))), (2, .int (iI (bv (soF sN sW sC v sM.toNat)))), (0, .ref o), (1, .int (iI v))]) hf dX6_askOf_10 (by decide) rfl ?_
  refine tt_iconst hf dX6_askOf_12 ?_
  refine tt_istore (lv' := [(5, .int (iI 0)), (4, .int (iI 268435456)), (3, .int (iI (-1))), (2, .int (iI (bv (soF sN sW sC v sM.toNat)))), (0, .ref o), (1, .int (iI v))]) hf dX6_askOf_13 (by decide) rfl ?_
  have lp : ∀ (N : Nat) (b : Int) (le : Int) (u : Int), (0 ≤ u ∧ u ≤ 3 ∧ -1 ≤ b ∧ b ≤ 3 ∧ 0 ≤ le ∧ le ≤ 268435456) → ((b, le) = asN (soF sN sW sC v sM.toNat) 268435456 u.toNat) → (u = 0 ∨ ¬ bv (soF sN sW sC v sM.toNat) = 0) → (4 - u).toNat < N → T Γ (rmL 4) 9 0 0 (Qe Γ (rmL 4) (fun vv w => ∃ r : Int, vv = some (.int (iI r)) ∧ iR r ∧ r = (askE (soF sN sW sC v sM.toNat)) ∧ w = mW (xg Γ) o ax brd many cols kd co chg sM sN sW sC pgM page whl nwN now oft wtd ways svd trn cAt wAt seed isK kB kG kS kK kO kN kW kC hh)) (mW (xg Γ) o ax brd many cols kd co chg sM sN sW sC pgM page whl nwN now oft wtd ways svd trn cAt wAt seed isK kB kG kS kK kO kN kW kC hh) 15 [(0, .ref o), (1, .int (iI v)), (2, .int (iI (bv (soF sN sW sC v sM.toNat)))), (3, .int (iI b)), (4, .int (iI le)), (5, .int (iI u))] [] := by
    intro N
    induction N with
    | zero => intro b le u hu hs hq hN; exact absurd hN (Nat.not_lt_zero _)
    | succ N ih =>
      intro b le u hu hs hq hN
      have ihO := ih
      refine tt_iload hf 5 dX6_askOf_15 rfl ?_
      refine tt_iconst hf dX6_askOf_17 ?_
      refine tt_icmp_ge (tgt := 156) hf dX6_askOf_18 (by decide) (by omega) (by omega) (fun c18 => ?_) (fun c18 => ?_)
      · refine tt_iload_n hf 3 dX6_askOf_156 rfl ?_
        exact tt_ireti hf hrT dX6_askOf_157 (Nat.le_refl _) (Nat.le_refl _) (by omega) ⟨(by have e3 : u = 3 := (by omega); subst e3; unfold askE; rcases hq with q | q; exact absurd q (by decide); rw [if_neg q]; have hs : (b, le) = asN (soF sN sW sC v sM.toNat) 268435456 3 := hs; rw [← hs]), rfl⟩
      · refine tt_iload_n hf 2 dX6_askOf_21 rfl ?_
        refine tt_if_eq (tgt := 156) hf dX6_askOf_22 (by decide) (by omega) (fun c22 => ?_) (fun c22 => ?_)
        · refine tt_iload_n hf 3 dX6_askOf_156 rfl ?_
          have hu0 : u = 0 := by rcases hq with q | q; exact q; exact absurd c22 q
          subst hu0
          cases hs
          exact tt_ireti hf hrT dX6_askOf_157 (Nat.le_refl _) (Nat.le_refl _) (by omega) ⟨(by unfold askE; rw [if_pos c22]), rfl⟩
        · refine tt_iconst hf dX6_askOf_25 ?_
          refine tt_istore (lv' := [(6, .int (iI 0)), (0, .ref o), (1, .int (iI v)), (2, .int (iI (bv (soF sN sW sC v sM.toNat)))), (3, .int (iI b)), (4, .int (iI le)), (5, .int (iI u))]) hf dX6_askOf_26 (by decide) rfl ?_
          refine tt_iconst hf dX6_askOf_28 ?_
          refine tt_istore (lv' := [(7, .int (iI 0)), (6, .int (iI 0)), (0, .ref o), (1, .int (iI v)), (2, .int (iI (bv (soF sN sW sC v sM.toNat)))), (3, .int (iI b)), (4, .int (iI le)), (5, .int (iI u))]) hf dX6_askOf_29 (by decide) rfl ?_
          refine tt_iconst hf dX6_askOf_31 ?_
          refine tt_istore (lv' := [(8, .int (iI 0)), (7, .int (iI 0)), (6, .int (iI 0)), (0, .ref o), (1, .int (iI v)), (2, .int (iI (bv (soF sN sW sC v sM.toNat)))), (3, .int (iI b)), (4, .int (iI le)), (5, .int (iI u))]) hf dX6_askOf_32 (by decide) rfl ?_
          have lq : ∀ (N : Nat) (y : Int) (n : Int) (k : Int), (0 ≤ k ∧ k ≤ 5) → (y = yc (soF sN sW sC v sM.toNat) u k.toNat) → (n = nc (soF sN sW sC v sM.toNat) u k.toNat) → (0 ≤ y ∧ y ≤ k ∧ 0 ≤ n ∧ n ≤ k) → (6 - k).toNat < N → T Γ (rmL 4) 9 0 0 (Qe Γ (rmL 4) (fun vv w => ∃ r : Int, vv = some (.int (iI r)) ∧ iR r ∧ r = (askE (soF sN sW sC v sM.toNat)) ∧ w = mW (xg Γ) o ax brd many cols kd co chg sM sN sW sC pgM page whl nwN now oft wtd ways svd trn cAt wAt seed isK kB kG kS kK kO kN kW kC hh)) (mW (xg Γ) o ax brd many cols kd co chg sM sN sW sC pgM page whl nwN now oft wtd ways svd trn cAt wAt seed isK kB kG kS kK kO kN kW kC hh) 34 [(0, .ref o), (1, .int (iI v)), (2, .int (iI (bv (soF sN sW sC v sM.toNat)))), (3, .int (iI b)), (4, .int (iI le)), (5, .int (iI u)), (6, .int (iI y)), (7, .int (iI n)), (8, .int (iI k))] [] := by
            intro N
            induction N with
            | zero => intro y n k hk hy hn hyn hN; exact absurd hN (Nat.not_lt_zero _)
            | succ N ih =>
              intro y n k hk hy hn hyn hN
              refine tt_iload hf 8 dX6_askOf_34 rfl ?_
              refine tt_iconst hf dX6_askOf_36 ?_
              refine tt_icmp_gt (tgt := 104) hf dX6_askOf_37 (by decide) (by omega) (by omega) (fun c37 => ?_) (fun c37 => ?_)
              · have ek : k = 5 := by omega
                subst ek
                have hyr := yc_rng (soF sN sW sC v sM.toNat) u 5
                have hy : y = yc (soF sN sW sC v sM.toNat) u 5 := hy
                have hn : n = nc (soF sN sW sC v sM.toNat) u 5 := hn
                refine tt_iload hf 6 dX6_askOf_104 rfl ?_
                refine tt_iload hf 7 dX6_askOf_106 rfl ?_
                refine tt_icmp_le (tgt := 116) hf dX6_askOf_108 (by decide) (by omega) (by omega) (fun c108 => ?_) (fun c108 => ?_)
                · refine tt_iload hf 7 dX6_askOf_116 rfl ?_
                  refine tt_istore (lv' := [(8, .int (iI n)), (0, .ref o), (1, .int (iI v)), (2, .int (iI (bv (soF sN sW sC v sM.toNat)))), (3, .int (iI b)), (4, .int (iI le)), (5, .int (iI u)), (6, .int (iI y)), (7, .int (iI n))]) hf dX6_askOf_118 (by decide) rfl ?_
                  have hws : wst (soF sN sW sC v sM.toNat) u = n := by unfold wst; rw [if_neg (by omega)]; exact hn.symm
                  refine tt_iload hf 0 dX6_askOf_120 rfl ?_
                  refine tt_iload hf 5 dX6_askOf_122 rfl ?_
                  refine tt_icmp_ge (tgt := 132) hf dX6_askOf_124 (by decide) (by omega) (by omega) (fun c124 => ?_) (fun c124 => ?_)
                  · refine tt_iload_n hf 4 dX6_askOf_132 rfl ?_
                    refine tt_istore_n (lv' := [(3, .int (iI b)), (8, .int (iI n)), (0, .ref o), (1, .int (iI v)), (2, .int (iI (bv (soF sN sW sC v sM.toNat)))), (4, .int (iI le)), (5, .int (iI u)), (6, .int (iI y)), (7, .int (iI n))]) hf dX6_askOf_133 (by decide) rfl ?_
                    refine tt_iload hf 1 dX6_askOf_134 rfl ?_
                    refine tt_iload hf 5 dX6_askOf_136 rfl ?_
                    refine tt_icmp_ge (tgt := 146) hf dX6_askOf_138 (by decide) (by omega) (by omega) (fun c138 => ?_) (fun c138 => ?_)
                    · refine tt_iload hf 5 dX6_askOf_146 rfl ?_
                      refine tt_istore (lv' := [(4, .int (iI le)), (3, .int (iI b)), (8, .int (iI n)), (0, .ref o), (1, .int (iI v)), (2, .int (iI (bv (soF sN sW sC v sM.toNat)))), (5, .int (iI u)), (6, .int (iI y)), (7, .int (iI n))]) hf dX6_askOf_148 (by decide) rfl ?_
                      refine tt_iinc (lv' := [(5, .int (iI (u + 1))), (4, .int (iI le)), (3, .int (iI b)), (8, .int (iI n)), (0, .ref o), (1, .int (iI v)), (2, .int (iI (bv (soF sN sW sC v sM.toNat)))), (6, .int (iI y)), (7, .int (iI n))]) hf 6 dX6_askOf_150 rfl (by decide) rfl ?_
                      refine tt_goto (tgt := 15) hf dX6_askOf_153 (by decide) ?_
                      refine tt_sub [4, 5, 6, 2, 1, 0] rfl ?_
                      exact ihO b le (u + 1) (by omega) (by rw [asN_s (by omega), ← hs, if_neg (show ¬ (wst (soF sN sW sC v sM.toNat) u < le) by omega)]) (by omega) (by omega)
                    · exact absurd c138 (by omega)
                  · refine tt_iload hf 6 dX6_askOf_127 rfl ?_
                    refine tt_goto (tgt := 133) hf dX6_askOf_129 (by decide) ?_
                    refine tt_istore_n (lv' := [(3, .int (iI u)), (8, .int (iI n)), (0, .ref o), (1, .int (iI v)), (2, .int (iI (bv (soF sN sW sC v sM.toNat)))), (4, .int (iI le)), (5, .int (iI u)), (6, .int (iI y)), (7, .int (iI n))]) hf dX6_askOf_133 (by decide) rfl ?_
                    refine tt_iload hf 1 dX6_askOf_134 rfl ?_
                    refine tt_iload hf 5 dX6_askOf_136 rfl ?_
                    refine tt_icmp_ge (tgt := 146) hf dX6_askOf_138 (by decide) (by omega) (by omega) (fun c138 => ?_) (fun c138 => ?_)
                    · exact absurd c138 (by omega)
                    · refine tt_iload hf 1 dX6_askOf_141 rfl ?_
                      refine tt_goto (tgt := 148) hf dX6_askOf_143 (by decide) ?_
                      refine tt_istore (lv' := [(4, .int (iI n)), (3, .int (iI u)), (8, .int (iI n)), (0, .ref o), (1, .int (iI v)), (2, .int (iI (bv (soF sN sW sC v sM.toNat)))), (5, .int (iI u)), (6, .int (iI y)), (7, .int (iI n))]) hf dX6_askOf_148 (by decide) rfl ?_
                      refine tt_iinc (lv' := [(5, .int (iI (u + 1))), (4, .int (iI n)), (3, .int (iI u)), (8, .int (iI n)), (0, .ref o), (1, .int (iI v)), (2, .int (iI (bv (soF sN sW sC v sM.toNat)))), (6, .int (iI y)), (7, .int (iI n))]) hf 6 dX6_askOf_150 rfl (by decide) rfl ?_
                      refine tt_goto (tgt := 15) hf dX6_askOf_153 (by decide) ?_
                      refine tt_sub [4, 5, 6, 2, 1, 0] rfl ?_
                      exact ihO u n (u + 1) (by omega) (by rw [asN_s (by omega), ← hs, if_pos (show wst (soF sN sW sC v sM.toNat) u < le by omega), hws]) (by omega) (by omega)
                · refine tt_iload hf 6 dX6_askOf_111 rfl ?_
                  refine tt_goto (tgt := 118) hf dX6_askOf_113 (by decide) ?_
                  refine tt_istore (lv' := [(8, .int (iI y)), (0, .ref o), (1, .int (iI v)), (2, .int (iI (bv (soF sN sW sC v sM.toNat)))), (3, .int (iI b)), (4, .int (iI le)), (5, .int (iI u)), (6, .int (iI y)), (7, .int (iI n))]) hf dX6_askOf_118 (by decide) rfl ?_
                  have hws : wst (soF sN sW sC v sM.toNat) u = y := by unfold wst; rw [if_pos (by omega)]; exact hy.symm
                  refine tt_iload hf 0 dX6_askOf_120 rfl ?_
                  refine tt_iload hf 5 dX6_askOf_122 rfl ?_
                  refine tt_icmp_ge (tgt := 132) hf dX6_askOf_124 (by decide) (by omega) (by omega) (fun c124 => ?_) (fun c124 => ?_)
                  · refine tt_iload_n hf 4 dX6_askOf_132 rfl ?_
                    refine tt_istore_n (lv' := [(3, .int (iI b)), (8, .int (iI y)), (0, .ref o), (1, .int (iI v)), (2, .int (iI (bv (soF sN sW sC v sM.toNat)))), (4, .int (iI le)), (5, .int (iI u)), (6, .int (iI y)), (7, .int (iI n))]) hf dX6_askOf_133 (by decide) rfl ?_
                    refine tt_iload hf 1 dX6_askOf_134 rfl ?_
                    refine tt_iload hf 5 dX6_askOf_136 rfl ?_
                    refine tt_icmp_ge (tgt := 146) hf dX6_askOf_138 (by decide) (by omega) (by omega) (fun c138 => ?_) (fun c138 => ?_)
                    · refine tt_iload hf 5 dX6_askOf_146 rfl ?_
                      refine tt_istore (lv' := [(4, .int (iI le)), (3, .int (iI b)), (8, .int (iI y)), (0, .ref o), (1, .int (iI v)), (2, .int (iI (bv (soF sN sW sC v sM.toNat)))), (5, .int (iI u)), (6, .int (iI y)), (7, .int (iI n))]) hf dX6_askOf_148 (by decide) rfl ?_
                      refine tt_iinc (lv' := [(5, .int (iI (u + 1))), (4, .int (iI le)), (3, .int (iI b)), (8, .int (iI y)), (0, .ref o), (1, .int (iI v)), (2, .int (iI (bv (soF sN sW sC v sM.toNat)))), (6, .int (iI y)), (7, .int (iI n))]) hf 6 dX6_askOf_150 rfl (by decide) rfl ?_
                      refine tt_goto (tgt := 15) hf dX6_askOf_153 (by decide) ?_
                      refine tt_sub [4, 5, 6, 2, 1, 0] rfl ?_
                      exact ihO b le (u + 1) (by omega) (by rw [asN_s (by omega), ← hs, if_neg (show ¬ (wst (soF sN sW sC v sM.toNat) u < le) by omega)]) (by omega) (by omega)
                    · exact absurd c138 (by omega)
                  · refine tt_iload hf 6 dX6_askOf_127 rfl ?_
                    refine tt_goto (tgt := 133) hf dX6_askOf_129 (by decide) ?_
                    refine tt_istore_n (lv' := [(3, .int (iI u)), (8, .int (iI y)), (0, .ref o), (1, .int (iI v)), (2, .int (iI (bv (soF sN sW sC v sM.toNat)))), (4, .int (iI le)), (5, .int (iI u)), (6, .int (iI y)), (7, .int (iI n))]) hf dX6_askOf_133 (by decide) rfl ?_
                    refine tt_iload hf 1 dX6_askOf_134 rfl ?_
                    refine tt_iload hf 5 dX6_askOf_136 rfl ?_
                    refine tt_icmp_ge (tgt := 146) hf dX6_askOf_138 (by decide) (by omega) (by omega) (fun c138 => ?_) (fun c138 => ?_)
                    · exact absurd c138 (by omega)
                    · refine tt_iload hf 1 dX6_askOf_141 rfl ?_
                      refine tt_goto (tgt := 148) hf dX6_askOf_143 (by decide) ?_
                      refine tt_istore (lv' := [(4, .int (iI y)), (3, .int (iI u)), (8, .int (iI y)), (0, .ref o), (1, .int (iI v)), (2, .int (iI (bv (soF sN sW sC v sM.toNat)))), (5, .int (iI u)), (6, .int (iI y)), (7, .int (iI n))]) hf dX6_askOf_148 (by decide) rfl ?_
                      refine tt_iinc (lv' := [(5, .int (iI (u + 1))), (4, .int (iI y)), (3, .int (iI u)), (8, .int (iI y)), (0, .ref o), (1, .int (iI v)), (2, .int (iI (bv (soF sN sW sC v sM.toNat)))), (6, .int (iI y)), (7, .int (iI n))]) hf 6 dX6_askOf_150 rfl (by decide) rfl ?_
                      refine tt_goto (tgt := 15) hf dX6_askOf_153 (by decide) ?_
                      refine tt_sub [4, 5, 6, 2, 1, 0] rfl ?_
                      exact ihO u y (u + 1) (by omega) (by rw [asN_s (by omega), ← hs, if_pos (show wst (soF sN sW sC v sM.toNat) u < le by omega), hws]) (by omega) (by omega)
              · refine tt_iload hf 6 dX6_askOf_40 rfl ?_
                refine tt_iload_n hf 2 dX6_askOf_42 rfl ?_
                refine tt_iload hf 8 dX6_askOf_43 rfl ?_
                refine tt_callS0 (As := [.int (iI (bv (soF sN sW sC v sM.toNat))), .int (iI k)]) (rest := [.int (iI y)]) hf (cm_isIn (by omega)) lk_X6_X6_isIn hd_X6_isIn rfl ⟨rfl, rfl⟩ (by decide) (by decide) (Nat.le_of_ble_eq_true rfl) dX6_askOf_45 rfl (kk_e (fun r45 => ?_))
                refine tt_ifb_eq (tgt := 65) hf dX6_askOf_48 (by decide) (fun c48 => ?_) (fun c48 => ?_)
                · refine tt_iconst hf dX6_askOf_65 ?_
                  refine tt_iadd hf dX6_askOf_66 ?_
                  refine tt_istore (lv' := [(6, .int (iI (y + 0))), (0, .ref o), (1, .int (iI v)), (2, .int (iI (bv (soF sN sW sC v sM.toNat)))), (3, .int (iI b)), (4, .int (iI le)), (5, .int (iI u)), (7, .int (iI n)), (8, .int (iI k))]) hf dX6_askOf_67 (by decide) rfl ?_
                  refine tt_iload hf 7 dX6_askOf_69 rfl ?_
                  refine tt_iload_n hf 3 dX6_askOf_71 rfl ?_
                  refine tt_iload hf 8 dX6_askOf_72 rfl ?_
                  refine tt_callS0 (As := [.int (iI (bv (soF sN sW sC v sM.toNat))), .int (iI k)]) (rest := [.int (iI n)]) hf (cm_isIn (by omega)) lk_X6_X6_isIn hd_X6_isIn rfl ⟨rfl, rfl⟩ (by decide) (by decide) (Nat.le_of_ble_eq_true rfl) dX6_askOf_74 rfl (kk_e (fun r74 => ?_))
                  refine tt_ifb_eq (tgt := 94) hf dX6_askOf_77 (by decide) (fun c77 => ?_) (fun c77 => ?_)
                  · refine tt_iconst hf dX6_askOf_94 ?_
                    refine tt_iadd hf dX6_askOf_95 ?_
                    refine tt_istore (lv' := [(7, .int (iI (n + 0))), (6, .int (iI (y + 0))), (0, .ref o), (1, .int (iI v)), (2, .int (iI (bv (soF sN sW sC v sM.toNat)))), (3, .int (iI b)), (4, .int (iI le)), (5, .int (iI u)), (8, .int (iI k))]) hf dX6_askOf_96 (by decide) rfl ?_
                    refine tt_iinc (lv' := [(8, .int (iI (k + 1))), (7, .int (iI (n + 0))), (6, .int (iI (y + 0))), (0, .ref o), (1, .int (iI v)), (2, .int (iI (bv (soF sN sW sC v sM.toNat)))), (3, .int (iI b)), (4, .int (iI le)), (5, .int (iI u))]) hf 8 dX6_askOf_98 rfl (by decide) rfl ?_
                    refine tt_goto (tgt := 34) hf dX6_askOf_101 (by decide) ?_
                    refine tt_sub [3, 4, 5, 6, 7, 8, 2, 1, 0] rfl ?_
                    exact ih (y + 0) (n + 0) (k + 1) (by omega) (by rw [yc_s (by omega), if_neg (fun q => c48 q.1), ← hy]) (by rw [nc_s (by omega), if_neg (fun q => c77 q.1), ← hn]) (by omega) (by omega)
                  · refine tt_iload hf 8 dX6_askOf_80 rfl ?_
                    refine tt_iload hf 6 dX6_askOf_82 rfl ?_
                    refine tt_callS0 (As := [.int (iI k), .int (iI u)]) (rest := [.int (iI n)]) hf (cm_could (by omega) (by omega)) lk_X6_X6_could hd_X6_could rfl ⟨rfl, rfl⟩ (by decide) (by decide) (Nat.le_of_ble_eq_true rfl) dX6_askOf_84 rfl (kk_e (fun r84 => ?_))
                    refine tt_ifb_ne (tgt := 94) hf dX6_askOf_87 (by decide) (fun c87 => ?_) (fun c87 => ?_)
                    · refine tt_iconst hf dX6_askOf_94 ?_
                      refine tt_iadd hf dX6_askOf_95 ?_
                      refine tt_istore (lv' := [(7, .int (iI (n + 0))), (6, .int (iI (y + 0))), (0, .ref o), (1, .int (iI v)), (2, .int (iI (bv (soF sN sW sC v sM.toNat)))), (3, .int (iI b)), (4, .int (iI le)), (5, .int (iI u)), (8, .int (iI k))]) hf dX6_askOf_96 (by decide) rfl ?_
                      refine tt_iinc (lv' := [(8, .int (iI (k + 1))), (7, .int (iI (n + 0))), (6, .int (iI (y + 0))), (0, .ref o), (1, .int (iI v)), (2, .int (iI (bv (soF sN sW sC v sM.toNat)))), (3, .int (iI b)), (4, .int (iI le)), (5, .int (iI u))]) hf 8 dX6_askOf_98 rfl (by decide) rfl ?_
                      refine tt_goto (tgt := 34) hf dX6_askOf_101 (by decide) ?_
                      refine tt_sub [3, 4, 5, 6, 7, 8, 2, 1, 0] rfl ?_
                      exact ih (y + 0) (n + 0) (k + 1) (by omega) (by rw [yc_s (by omega), if_neg (fun q => c48 q.1), ← hy]) (by rw [nc_s (by omega), if_neg (fun q => q.2 c87), ← hn]) (by omega) (by omega)
                    · refine tt_iconst hf dX6_askOf_90 ?_
                      refine tt_goto (tgt := 95) hf dX6_askOf_91 (by decide) ?_
                      refine tt_iadd hf dX6_askOf_95 ?_
                      refine tt_istore (lv' := [(7, .int (iI (n + 1))), (6, .int (iI (y + 0))), (0, .ref o), (1, .int (iI v)), (2, .int (iI (bv (soF sN sW sC v sM.toNat)))), (3, .int (iI b)), (4, .int (iI le)), (5, .int (iI u)), (8, .int (iI k))]) hf dX6_askOf_96 (by decide) rfl ?_
                      refine tt_iinc (lv' := [(8, .int (iI (k + 1))), (7, .int (iI (n + 1))), (6, .int (iI (y + 0))), (0, .ref o), (1, .int (iI v)), (2, .int (iI (bv (soF sN sW sC v sM.toNat)))), (3, .int (iI b)), (4, .int (iI le)), (5, .int (iI u))]) hf 8 dX6_askOf_98 rfl (by decide) rfl ?_
                      refine tt_goto (tgt := 34) hf dX6_askOf_101 (by decide) ?_
                      refine tt_sub [3, 4, 5, 6, 7, 8, 2, 1, 0] rfl ?_
                      exact ih (y + 0) (n + 1) (k + 1) (by omega) (by rw [yc_s (by omega), if_neg (fun q => c48 q.1), ← hy]) (by rw [nc_s (by omega), if_pos ⟨c77, c87⟩, ← hn]) (by omega) (by omega)
                · refine tt_iload hf 8 dX6_askOf_51 rfl ?_
                  refine tt_iload hf 5 dX6_askOf_53 rfl ?_
                  refine tt_callS0 (As := [.int (iI k), .int (iI u)]) (rest := [.int (iI y)]) hf (cm_could (by omega) (by omega)) lk_X6_X6_could hd_X6_could rfl ⟨rfl, rfl⟩ (by decide) (by decide) (Nat.le_of_ble_eq_true rfl) dX6_askOf_55 rfl (kk_e (fun r55 => ?_))
                  refine tt_ifb_eq (tgt := 65) hf dX6_askOf_58 (by decide) (fun c58 => ?_) (fun c58 => ?_)
                  · refine tt_iconst hf dX6_askOf_65 ?_
                    refine tt_iadd hf dX6_askOf_66 ?_
                    refine tt_istore (lv' := [(6, .int (iI (y + 0))), (0, .ref o), (1, .int (iI v)), (2, .int (iI (bv (soF sN sW sC v sM.toNat)))), (3, .int (iI b)), (4, .int (iI le)), (5, .int (iI u)), (7, .int (iI n)), (8, .int (iI k))]) hf dX6_askOf_67 (by decide) rfl ?_
                    refine tt_iload hf 7 dX6_askOf_69 rfl ?_
                    refine tt_iload_n hf 3 dX6_askOf_71 rfl ?_
                    refine tt_iload hf 8 dX6_askOf_72 rfl ?_
                    refine tt_callS0 (As := [.int (iI (bv (soF sN sW sC v sM.toNat))), .int (iI k)]) (rest := [.int (iI n)]) hf (cm_isIn (by omega)) lk_X6_X6_isIn hd_X6_isIn rfl ⟨rfl, rfl⟩ (by decide) (by decide) (Nat.le_of_ble_eq_true rfl) dX6_askOf_74 rfl (kk_e (fun r74 => ?_))
                    refine tt_ifb_eq (tgt := 94) hf dX6_askOf_77 (by decide) (fun c77 => ?_) (fun c77 => ?_)
                    · refine tt_iconst hf dX6_askOf_94 ?_
                      refine tt_iadd hf dX6_askOf_95 ?_
                      refine tt_istore (lv' := [(7, .int (iI (n + 0))), (6, .int (iI (y + 0))), (0, .ref o), (1, .int (iI v)), (2, .int (iI (bv (soF sN sW sC v sM.toNat)))), (3, .int (iI b)), (4, .int (iI le)), (5, .int (iI u)), (8, .int (iI k))]) hf dX6_askOf_96 (by decide) rfl ?_
                      refine tt_iinc (lv' := [(8, .int (iI (k + 1))), (7, .int (iI (n + 0))), (6, .int (iI (y + 0))), (0, .ref o), (1, .int (iI v)), (2, .int (iI (bv (soF sN sW sC v sM.toNat)))), (3, .int (iI b)), (4, .int (iI le)), (5, .int (iI u))]) hf 8 dX6_askOf_98 rfl (by decide) rfl ?_
                      refine tt_goto (tgt := 34) hf dX6_askOf_101 (by decide) ?_
                      refine tt_sub [3, 4, 5, 6, 7, 8, 2, 1, 0] rfl ?_
                      exact ih (y + 0) (n + 0) (k + 1) (by omega) (by rw [yc_s (by omega), if_neg (fun q => c58 q.2), ← hy]) (by rw [nc_s (by omega), if_neg (fun q => c77 q.1), ← hn]) (by omega) (by omega)
                    · refine tt_iload hf 8 dX6_askOf_80 rfl ?_
                      refine tt_iload hf 6 dX6_askOf_82 rfl ?_
                      refine tt_callS0 (As := [.int (iI k), .int (iI u)]) (rest := [.int (iI n)]) hf (cm_could (by omega) (by omega)) lk_X6_X6_could hd_X6_could rfl ⟨rfl, rfl⟩ (by decide) (by decide) (Nat.le_of_ble_eq_true rfl) dX6_askOf_84 rfl (kk_e (fun r84 => ?_))
                      refine tt_ifb_ne (tgt := 94) hf dX6_askOf_87 (by decide) (fun c87 => ?_) (fun c87 => ?_)
                      · refine tt_iconst hf dX6_askOf_94 ?_
                        refine tt_iadd hf dX6_askOf_95 ?_
                        refine tt_istore (lv' := [(7, .int (iI (n + 0))), (6, .int (iI (y + 0))), (0, .ref o), (1, .int (iI v)), (2, .int (iI (bv (soF sN sW sC v sM.toNat)))), (3, .int (iI b)), (4, .int (iI le)), (5, .int (iI u)), (8, .int (iI k))]) hf dX6_askOf_96 (by decide) rfl ?_
                        refine tt_iinc (lv' := [(8, .int (iI (k + 1))), (7, .int (iI (n + 0))), (6, .int (iI (y + 0))), (0, .ref o), (1, .int (iI v)), (2, .int (iI (bv (soF sN sW sC v sM.toNat)))), (3, .int (iI b)), (4, .int (iI le)), (5, .int (iI u))]) hf 8 dX6_askOf_98 rfl (by decide) rfl ?_
                        refine tt_goto (tgt := 34) hf dX6_askOf_101 (by decide) ?_
                        refine tt_sub [3, 4, 5, 6, 7, 8, 2, 1, 0] rfl ?_
                        exact ih (y + 0) (n + 0) (k + 1) (by omega) (by rw [yc_s (by omega), if_neg (fun q => c58 q.2), ← hy]) (by rw [nc_s (by omega), if_neg (fun q => q.2 c87), ← hn]) (by omega) (by omega)
                      · refine tt_iconst hf dX6_askOf_90 ?_
                        refine tt_goto (tgt := 95) hf dX6_askOf_91 (by decide) ?_
                        refine tt_iadd hf dX6_askOf_95 ?_
                        refine tt_istore (lv' := [(7, .int (iI (n + 1))), (6, .int (iI (y + 0))), (0, .ref o), (1, .int (iI v)), (2, .int (iI (bv (soF sN sW sC v sM.toNat)))), (3, .int (iI b)), (4, .int (iI le)), (5, .int (iI u)), (8, .int (iI k))]) hf dX6_askOf_96 (by decide) rfl ?_
                        refine tt_iinc (lv' := [(8, .int (iI (k + 1))), (7, .int (iI (n + 1))), (6, .int (iI (y + 0))), (0, .ref o), (1, .int (iI v)), (2, .int (iI (bv (soF sN sW sC v sM.toNat)))), (3, .int (iI b)), (4, .int (iI le)), (5, .int (iI u))]) hf 8 dX6_askOf_98 rfl (by decide) rfl ?_
                        refine tt_goto (tgt := 34) hf dX6_askOf_101 (by decide) ?_
                        refine tt_sub [3, 4, 5, 6, 7, 8, 2, 1, 0] rfl ?_
                        exact ih (y + 0) (n + 1) (k + 1) (by omega) (by rw [yc_s (by omega), if_neg (fun q => c58 q.2), ← hy]) (by rw [nc_s (by omega), if_pos ⟨c77, c87⟩, ← hn]) (by omega) (by omega)
                  · refine tt_iconst hf dX6_askOf_61 ?_
                    refine tt_goto (tgt := 66) hf dX6_askOf_62 (by decide) ?_
                    refine tt_iadd hf dX6_askOf_66 ?_
                    refine tt_istore (lv' := [(6, .int (iI (y + 1))), (0, .ref o), (1, .int (iI v)), (2, .int (iI (bv (soF sN sW sC v sM.toNat)))), (3, .int (iI b)), (4, .int (iI le)), (5, .int (iI u)), (7, .int (iI n)), (8, .int (iI k))]) hf dX6_askOf_67 (by decide) rfl ?_
                    refine tt_iload hf 7 dX6_askOf_69 rfl ?_
                    refine tt_iload_n hf 3 dX6_askOf_71 rfl ?_
                    refine tt_iload hf 8 dX6_askOf_72 rfl ?_
                    refine tt_callS0 (As := [.int (iI (bv (soF sN sW sC v sM.toNat))), .int (iI k)]) (rest := [.int (iI n)]) hf (cm_isIn (by omega)) lk_X6_X6_isIn hd_X6_isIn rfl ⟨rfl, rfl⟩ (by decide) (by decide) (Nat.le_of_ble_eq_true rfl) dX6_askOf_74 rfl (kk_e (fun r74 => ?_))
                    refine tt_ifb_eq (tgt := 94) hf dX6_askOf_77 (by decide) (fun c77 => ?_) (fun c77 => ?_)
                    · refine tt_iconst hf dX6_askOf_94 ?_
                      refine tt_iadd hf dX6_askOf_95 ?_
                      refine tt_istore (lv' := [(7, .int (iI (n + 0))), (6, .int (iI (y + 1))), (0, .ref o), (1, .int (iI v)), (2, .int (iI (bv (soF sN sW sC v sM.toNat)))), (3, .int (iI b)), (4, .int (iI le)), (5, .int (iI u)), (8, .int (iI k))]) hf dX6_askOf_96 (by decide) rfl ?_
                      refine tt_iinc (lv' := [(8, .int (iI (k + 1))), (7, .int (iI (n + 0))), (6, .int (iI (y + 1))), (0, .ref o), (1, .int (iI v)), (2, .int (iI (bv (soF sN sW sC v sM.toNat)))), (3, .int (iI b)), (4, .int (iI le)), (5, .int (iI u))]) hf 8 dX6_askOf_98 rfl (by decide) rfl ?_
                      refine tt_goto (tgt := 34) hf dX6_askOf_101 (by decide) ?_
                      refine tt_sub [3, 4, 5, 6, 7, 8, 2, 1, 0] rfl ?_
                      exact ih (y + 1) (n + 0) (k + 1) (by omega) (by rw [yc_s (by omega), if_pos ⟨c48, c58⟩, ← hy]) (by rw [nc_s (by omega), if_neg (fun q => c77 q.1), ← hn]) (by omega) (by omega)
                    · refine tt_iload hf 8 dX6_askOf_80 rfl ?_
                      refine tt_iload hf 6 dX6_askOf_82 rfl ?_
                      refine tt_callS0 (As := [.int (iI k), .int (iI u)]) (rest := [.int (iI n)]) hf (cm_could (by omega) (by omega)) lk_X6_X6_could hd_X6_could rfl ⟨rfl, rfl⟩ (by decide) (by decide) (Nat.le_of_ble_eq_true rfl) dX6_askOf_84 rfl (kk_e (fun r84 => ?_))
                      refine tt_ifb_ne (tgt := 94) hf dX6_askOf_87 (by decide) (fun c87 => ?_) (fun c87 => ?_)
                      · refine tt_iconst hf dX6_askOf_94 ?_
                        refine tt_iadd hf dX6_askOf_95 ?_
                        refine tt_istore (lv' := [(7, .int (iI (n + 0))), (6, .int (iI (y + 1))), (0, .ref o), (1, .int (iI v)), (2, .int (iI (bv (soF sN sW sC v sM.toNat)))), (3, .int (iI b)), (4, .int (iI le)), (5, .int (iI u)), (8, .int (iI k))]) hf dX6_askOf_96 (by decide) rfl ?_
                        refine tt_iinc (lv' := [(8, .int (iI (k + 1))), (7, .int (iI (n + 0))), (6, .int (iI (y + 1))), (0, .ref o), (1, .int (iI v)), (2, .int (iI (bv (soF sN sW sC v sM.toNat)))), (3, .int (iI b)), (4, .int (iI le)), (5, .int (iI u))]) hf 8 dX6_askOf_98 rfl (by decide) rfl ?_
                        refine tt_goto (tgt := 34) hf dX6_askOf_101 (by decide) ?_
                        refine tt_sub [3, 4, 5, 6, 7, 8, 2, 1, 0] rfl ?_
                        exact ih (y + 1) (n + 0) (k + 1) (by omega) (by rw [yc_s (by omega), if_pos ⟨c48, c58⟩, ← hy]) (by rw [nc_s (by omega), if_neg (fun q => q.2 c87), ← hn]) (by omega) (by omega)
                      · refine tt_iconst hf dX6_askOf_90 ?_
                        refine tt_goto (tgt := 95) hf dX6_askOf_91 (by decide) ?_
                        refine tt_iadd hf dX6_askOf_95 ?_
                        refine tt_istore (lv' := [(7, .int (iI (n + 1))), (6, .int (iI (y + 1))), (0, .ref o), (1, .int (iI v)), (2, .int (iI (bv (soF sN sW sC v sM.toNat)))), (3, .int (iI b)), (4, .int (iI le)), (5, .int (iI u)), (8, .int (iI k))]) hf dX6_askOf_96 (by decide) rfl ?_
                        refine tt_iinc (lv' := [(8, .int (iI (k + 1))), (7, .int (iI (n + 1))), (6, .int (iI (y + 1))), (0, .ref o), (1, .int (iI v)), (2, .int (iI (bv (soF sN sW sC v sM.toNat)))), (3, .int (iI b)), (4, .int (iI le)), (5, .int (iI u))]) hf 8 dX6_askOf_98 rfl (by decide) rfl ?_
                        refine tt_goto (tgt := 34) hf dX6_askOf_101 (by decide) ?_
                        refine tt_sub [3, 4, 5, 6, 7, 8, 2, 1, 0] rfl ?_
                        exact ih (y + 1) (n + 1) (k + 1) (by omega) (by rw [yc_s (by omega), if_pos ⟨c48, c58⟩, ← hy]) (by rw [nc_s (by omega), if_pos ⟨c77, c87⟩, ← hn]) (by omega) (by omega)
          refine tt_sub [3, 4, 5, 6, 7, 8, 2, 1, 0] rfl ?_
          exact lq _ 0 0 0 (by omega) rfl rfl (by omega) (Nat.lt_succ_self _)
  refine tt_sub [4, 5, 3, 2, 1, 0] rfl ?_
  exact lp _ (-1) 268435456 0 (by omega) rfl (Or.inl rfl) (Nat.lt_succ_self _)
set_option maxHeartbeats 4000000 in
set_option maxRecDepth 100000 in
theorem cm_divisor {l : Launch} {g : tG} {ws : va_W} {a b : Int} (ha : 0 ≤ a ∧ a ≤ 2147483647) (hb : 0 ≤ b ∧ b ≤ 2147483647) : Ce l g yX6_divisor (ws_ yX6_divisor cX6_divisor 5 (Option.some Jvm.ClassFile.FieldType.int)) (rmL 1) [.int (iI a), .int (iI b)] (ws) (gI a b) (ws) := by
  refine Ct.of (by decide) (Nat.le_of_ble_eq_true rfl) ?_
  intro Γ hl hg hf hrT
  subst hl hg
  have hf : Fx Γ RX6 cX6_divisor 5 := hf
  show T Γ (rmL 1) 5 0 0 (Qe Γ (rmL 1) _) _ 0 [(0, .int (iI a)), (1, .int (iI b))] []
  have lp : ∀ (N : Nat) (x : Int) (y : Int), (0 ≤ x ∧ x ≤ 2147483647 ∧ 0 ≤ y ∧ y ≤ 2147483647) → (gI x y = gI a b) → y.toNat < N → T Γ (rmL 1) 5 0 0 (Qe Γ (rmL 1) (fun vv w => ∃ r : Int, vv = some (.int (iI r)) ∧ iR r ∧ r = (gI a b) ∧ w = ws)) (ws) 4 [(0, .int (iI a)), (1, .int (iI b)), (2, .int (iI x)), (3, .int (iI y))] [] := by
    intro N
    induction N with
    | zero => intro x y hxy hg hN; exact absurd hN (Nat.not_lt_zero _)
    | succ N ih =>
      intro x y hxy hg hN
      refine tt_iload_n hf 3 dX6_divisor_4 rfl ?_
      refine tt_if_eq (tgt := 21) hf dX6_divisor_5 (by decide) (by omega) (fun c5 => ?_) (fun c5 => ?_)
      · refine tt_iload_n hf 2 dX6_divisor_21 rfl ?_
        exact tt_ireti hf hrT dX6_divisor_22 (Nat.le_refl _) (Nat.le_refl _) (by omega) ⟨(by subst c5; rw [← hg, gI_0 hxy.1]), rfl⟩
      · refine tt_iload_n hf 2 dX6_divisor_8 rfl ?_
        refine tt_iload_n hf 3 dX6_divisor_9 rfl ?_
        refine tt_irem hf dX6_divisor_10 (by omega) (by omega) ?_
        refine tt_istore (lv' := [(4, .int (iI (x % y))), (0, .int (iI a)), (1, .int (iI b)), (2, .int (iI x)), (3, .int (iI y))]) hf dX6_divisor_11 (by decide) rfl ?_
        refine tt_iload_n hf 4 dX6_divisor_13 rfl ?_
        refine tt_istore_n (lv' := [(2, .int (iI y)), (4, .int (iI (x % y))), (0, .int (iI a)), (1, .int (iI b)), (3, .int (iI y))]) hf dX6_divisor_14 (by decide) rfl ?_
        refine tt_iload hf 1 dX6_divisor_15 rfl ?_
        refine tt_istore_n (lv' := [(3, .int (iI (x % y))), (2, .int (iI y)), (4, .int (iI (x % y))), (0, .int (iI a)), (1, .int (iI b))]) hf dX6_divisor_17 (by decide) rfl ?_
        refine tt_goto (tgt := 4) hf dX6_divisor_18 (by decide) ?_
        refine tt_sub [3, 4, 1, 0] rfl ?_
        exact ih y (x % y) (by have h1 := Int.emod_nonneg x (show y ≠ 0 from c5); have h2 := Int.emod_lt_of_pos x (show 0 < y by omega); omega) (by rw [gI_s hxy.1 (by omega)]; exact hg) (by have h1 := Int.emod_nonneg x (show y ≠ 0 from c5); have h2 := Int.emod_lt_of_pos x (show 0 < y by omega); omega)
  refine tt_iload_n hf 0 dX6_divisor_0 rfl ?_
  refine tt_istore_n (lv' := [(2, .int (iI a)), (0, .int (iI a)), (1, .int (iI b))]) hf dX6_divisor_1 (by decide) rfl ?_
  refine tt_iload_n hf 2 dX6_divisor_2 rfl ?_
  refine tt_istore_n (lv' := [(3, .int (iI b)), (2, .int (iI a)), (0, .int (iI a)), (1, .int (iI b))]) hf dX6_divisor_3 (by decide) rfl ?_
  refine tt_sub [2, 3, 1, 0] rfl ?_
  exact lp _ a b (by omega) rfl (Nat.lt_succ_self _)
set_option maxHeartbeats 4000000 in
set_option maxRecDepth 100000 in
theorem cm_oddsNow {l : Launch} {g : tG} {o : Nat} {ax : Nat → Nat} {brd many cols : Int} {kd co : Int → Int} {chg sM : Int} {sN sW sC : Int → Int} {pgM : Int} {page : Int → Int} {whl nwN : Int} {now oft wtd : Int → Int} {ways : Int} {svd trn cAt wAt : Int → Int} {seed : Int64} {isK kB kG kS : Int} {kK kO kN kW kC : Int → Int} {hh : Int64} {v cl wh : Int} (hm : 0 ≤ many ∧ many ≤ 10) (hkd : ∀ i, 0 ≤ kd i ∧ kd i ≤ 4) (hnow : ∀ i, -1 ≤ now i ∧ now i ≤ 2) (hco : ∀ i, -1 ≤ co i ∧ co i ≤ 2) (hc : 2 ≤ cols ∧ cols ≤ 3) (hcc : ∀ i, 1 ≤ i → i ≤ many → co i ≤ cols - 1) (hv : 1 ≤ v ∧ v ≤ many) (hcl : 0 ≤ cl ∧ cl ≤ 2) (hwh : iR wh) : Ci l g yX6_oddsNow (ws_ yX6_oddsNow cX6_oddsNow 7 (Option.some Jvm.ClassFile.FieldType.int)) (rmL 6) [.ref o, .int (iI v), .int (iI cl), .int (iI wh)] (mW g o ax brd many cols kd co chg sM sN sW sC pgM page whl nwN now oft wtd ways svd trn cAt wAt seed isK kB kG kS kK kO kN kW kC hh) (fun r w => ∃ (now1 oft1 wtd1 : Int → Int) (ways1 : Int), (∀ i, -1 ≤ now1 i ∧ now1 i ≤ 2) ∧ r = odE (cnt (WL kd co cols many) v cl) ((WL kd co cols many).length : Int) wh ∧ w = mW g o ax brd many cols kd co chg sM sN sW sC pgM page whl nwN now1 oft1 wtd1 ways1 svd trn cAt wAt seed isK kB kG kS kK kO kN kW kC hh) := by
  refine Ct.of (by decide) (Nat.le_of_ble_eq_true rfl) ?_
  intro Γ hl hg hf hrT
  subst hl hg
  have hf : Fx Γ RX6 cX6_oddsNow 7 := hf
  show T Γ (rmL 6) 7 0 0 (Qe Γ (rmL 6) _) _ 0 [(0, .ref o), (1, .int (iI v)), (2, .int (iI cl)), (3, .int (iI wh))] []
  have hle : (WL kd co cols many).length ≤ 59049 := WL_le (kd := kd) (co := co) (many := many) hc.2 hm.2 (fun _ => 0)
  have hcr := cnt_rng (WL kd co cols many) v cl
  refine tt_aload_n hf 0 dX6_oddsNow_0 rfl ?_
  refine tt_iconst hf dX6_oddsNow_1 ?_
  refine tt_callV0 (As := [.int (iI (-1))]) (rest := []) (q0 := 0) (ci := 6) hf (cm_layWays hm hkd hnow hco hc hcc (by omega)) lk_X6_X6_layWays hd_X6_layWays rfl rfl rfl ⟨rfl, rfl⟩ (by decide) (by decide) (Nat.le_of_ble_eq_true rfl) dX6_oddsNow_2 rfl (kk_i (fun r2 w hr2 hp2 => ?_))
  obtain ⟨now1, oft1, wtd1, hok1, hcn1, hwt1, hrl1, rfl⟩ := hp2
  refine tt_istore (lv' := [(4, .int (iI r2)), (0, .ref o), (1, .int (iI v)), (2, .int (iI cl)), (3, .int (iI wh))]) hf dX6_oddsNow_5 (by decide) rfl ?_
  rw [hrl1]
  refine tt_aload_n hf 1 dX6_oddsNow_7 rfl ?_
  refine gm_oft hf dX6_oddsNow_8 ?_
  refine tt_iconst hf dX6_oddsNow_11 ?_
  refine tt_iload_n hf 2 dX6_oddsNow_12 rfl ?_
  refine tt_imul hf dX6_oddsNow_13 ?_
  refine tt_iload_n hf 3 dX6_oddsNow_14 rfl ?_
  refine tt_iadd hf dX6_oddsNow_15 ?_
  refine lm_oft hf (by omega) dX6_oddsNow_16 ?_
  refine tt_istore (lv' := [(5, .int (iI (oft1 ((3 * v) + cl)))), (4, .int (iI ((WL kd co cols many).length : Int))), (0, .ref o), (1, .int (iI v)), (2, .int (iI cl)), (3, .int (iI wh))]) hf dX6_oddsNow_17 (by decide) rfl ?_
  have hcv := hcn1 v cl (by omega) (by omega) (by omega) (by omega)
  rw [hcv]
  refine tt_iload hf 0 dX6_oddsNow_19 rfl ?_
  refine tt_if_ne (tgt := 26) hf dX6_oddsNow_21 (by decide) (by omega) (fun c21 => ?_) (fun c21 => ?_)
  · have hd1 := gI_pos (a := cnt (WL kd co cols many) v cl) (b := ((WL kd co cols many).length : Int)) (by omega)
    have hd2 := gI_le (a := cnt (WL kd co cols many) v cl) (b := ((WL kd co cols many).length : Int)) (by omega)
    have hd3 := div_rng (a := cnt (WL kd co cols many) v cl) (by omega) hd1
    have hd4 := div_rng (a := ((WL kd co cols many).length : Int)) (by omega) hd1
    refine tt_iload hf 0 dX6_oddsNow_26 rfl ?_
    refine tt_iload hf 1 dX6_oddsNow_28 rfl ?_
    refine tt_callS0 (As := [.int (iI (cnt (WL kd co cols many) v cl)), .int (iI ((WL kd co cols many).length : Int))]) (rest := []) hf (cm_divisor (by omega) (by omega)) lk_X6_X6_divisor hd_X6_divisor rfl ⟨rfl, rfl⟩ (by decide) (by decide) (Nat.le_of_ble_eq_true rfl) dX6_oddsNow_30 rfl (kk_e (fun r30 => ?_))
    refine tt_istore (lv' := [(6, .int (iI (gI (cnt (WL kd co cols many) v cl) ((WL kd co cols many).length : Int)))), (5, .int (iI (cnt (WL kd co cols many) v cl))), (4, .int (iI ((WL kd co cols many).length : Int))), (0, .ref o), (1, .int (iI v)), (2, .int (iI cl)), (3, .int (iI wh))]) hf dX6_oddsNow_33 (by decide) rfl ?_
    refine tt_iload_n hf 6 dX6_oddsNow_35 rfl ?_
    refine tt_if_ne (tgt := 47) hf dX6_oddsNow_36 (by decide) (by omega) (fun c36 => ?_) (fun c36 => ?_)
    · refine tt_iload hf 2 dX6_oddsNow_47 rfl ?_
      refine tt_iload hf 0 dX6_oddsNow_49 rfl ?_
      refine tt_idiv hf dX6_oddsNow_51 (by omega) (by omega) ?_
      exact tt_ireti hf hrT dX6_oddsNow_52 (Nat.le_refl _) (Nat.le_refl _) (by omega) ⟨now1, oft1, wtd1, _, hok1.1, by unfold odE; rw [if_neg c21, if_neg c36], rfl⟩
    · refine tt_iload hf 1 dX6_oddsNow_39 rfl ?_
      refine tt_iload hf 0 dX6_oddsNow_41 rfl ?_
      refine tt_idiv hf dX6_oddsNow_43 (by omega) (by omega) ?_
      refine tt_goto (tgt := 52) hf dX6_oddsNow_44 (by decide) ?_
      exact tt_ireti hf hrT dX6_oddsNow_52 (Nat.le_refl _) (Nat.le_refl _) (by omega) ⟨now1, oft1, wtd1, _, hok1.1, by unfold odE; rw [if_neg c21, if_pos c36], rfl⟩
  · refine tt_iload_n hf 5 dX6_oddsNow_24 rfl ?_
    exact tt_ireti hf hrT dX6_oddsNow_25 (Nat.le_refl _) (Nat.le_refl _) (by omega) ⟨now1, oft1, wtd1, _, hok1.1, by unfold odE; rw [if_pos c21], rfl⟩
set_option maxHeartbeats 4000000 in
set_option maxRecDepth 100000 in
theorem cm_odds {l : Launch} {g : tG} {o : Nat} {ax : Nat → Nat} {brd many cols : Int} {kd co : Int → Int} {chg sM : Int} {sN sW sC : Int → Int} {pgM : Int} {page : Int → Int} {whl nwN : Int} {now oft wtd : Int → Int} {ways : Int} {svd trn cAt wAt : Int → Int} {seed : Int64} {isK kB kG kS : Int} {kK kO kN kW kC : Int → Int} {hh : Int64} {v cl wh : Int} (hm : 0 ≤ many ∧ many ≤ 10) (hkd : ∀ i, 0 ≤ kd i ∧ kd i ≤ 4) (hnow : ∀ i, -1 ≤ now i ∧ now i ≤ 2) (hco : ∀ i, -1 ≤ co i ∧ co i ≤ 2) (hcm : 0 < many → 2 ≤ cols ∧ cols ≤ 3) (hcc : ∀ i, 1 ≤ i → i ≤ many → co i ≤ cols - 1) (hcl3 : 0 ≤ cols ∧ cols ≤ 3) (hv : iR v) (hcl : iR cl) (hwh : iR wh) : Ci l g yX6_odds (ws_ yX6_odds cX6_odds 4 (Option.some Jvm.ClassFile.FieldType.int)) (rmL 7) [.ref o, .int (iI v), .int (iI cl), .int (iI wh)] (mW g o ax brd many cols kd co chg sM sN sW sC pgM page whl nwN now oft wtd ways svd trn cAt wAt seed isK kB kG kS kK kO kN kW kC hh) (fun r w => ∃ (now1 oft1 wtd1 : Int → Int) (ways1 : Int), (∀ i, -1 ≤ now1 i ∧ now1 i ≤ 2) ∧ r = (if 1 ≤ v ∧ v ≤ many then (if (0 ≤ cl ∧ cl ≤ cols - 1) ∧ 0 ≤ wh ∧ wh ≤ 1 then odE (cnt (WL kd co cols many) v cl) ((WL kd co cols many).length : Int) wh else -102) else -101) ∧ w = mW g o ax brd many cols kd co chg sM sN sW sC pgM page whl nwN now1 oft1 wtd1 ways1 svd trn cAt wAt seed isK kB kG kS kK kO kN kW kC hh) := by
  refine Ct.of (by decide) (Nat.le_of_ble_eq_true rfl) ?_
  intro Γ hl hg hf hrT
  subst hl hg
  have hf : Fx Γ RX6 cX6_odds 4 := hf
  show T Γ (rmL 7) 4 0 0 (Qe Γ (rmL 7) _) _ 0 [(0, .ref o), (1, .int (iI v)), (2, .int (iI cl)), (3, .int (iI wh))] []
  refine tt_aload_n hf 0 dX6_odds_0 rfl ?_
  refine tt_iload_n hf 1 dX6_odds_1 rfl ?_
  refine tt_callV0 (As := [.int (iI v)]) (rest := []) (q0 := 0) (ci := 6) hf (cm_isNumber (by omega) hm) lk_X6_X6_isNumber hd_X6_isNumber rfl rfl rfl ⟨rfl, rfl⟩ (by decide) (by decide) (Nat.le_of_ble_eq_true rfl) dX6_odds_2 rfl (kk_e (fun r2 => ?_))
  refine tt_ifb_ne (tgt := 11) hf dX6_odds_5 (by decide) (fun c5 => ?_) (fun c5 => ?_)
  · refine tt_aload_n hf 0 dX6_odds_11 rfl ?_
    refine tt_iload_n hf 2 dX6_odds_12 rfl ?_
    refine tt_callV0 (As := [.int (iI cl)]) (rest := []) (q0 := 0) (ci := 6) hf (cm_isColour (by omega) hcl3) lk_X6_X6_isColour hd_X6_isColour rfl rfl rfl ⟨rfl, rfl⟩ (by decide) (by decide) (Nat.le_of_ble_eq_true rfl) dX6_odds_13 rfl (kk_e (fun r13 => ?_))
    refine tt_ifb_eq (tgt := 38) hf dX6_odds_16 (by decide) (fun c16 => ?_) (fun c16 => ?_)
    · refine tt_bipush hf dX6_odds_38 (by decide) ?_
      exact tt_ireti hf hrT dX6_odds_40 (Nat.le_refl _) (Nat.le_refl _) (by omega) ⟨now, oft, wtd, ways, hnow, by rw [if_pos c5, if_neg (fun q => c16 q.1)], rfl⟩
    · refine tt_iload_n hf 3 dX6_odds_19 rfl ?_
      refine tt_iconst hf dX6_odds_20 ?_
      refine tt_iconst hf dX6_odds_21 ?_
      refine tt_callS0 (As := [.int (iI wh), .int (iI 0), .int (iI 1)]) (rest := []) hf (cm_within (by omega) (by omega) (by omega)) lk_X6_X6_within hd_X6_within rfl ⟨rfl, rfl⟩ (by decide) (by decide) (Nat.le_of_ble_eq_true rfl) dX6_odds_22 rfl (kk_e (fun r22 => ?_))
      refine tt_ifb_eq (tgt := 38) hf dX6_odds_25 (by decide) (fun c25 => ?_) (fun c25 => ?_)
      · refine tt_bipush hf dX6_odds_38 (by decide) ?_
        exact tt_ireti hf hrT dX6_odds_40 (Nat.le_refl _) (Nat.le_refl _) (by omega) ⟨now, oft, wtd, ways, hnow, by rw [if_pos c5, if_neg (fun q => c25 q.2)], rfl⟩
      · refine tt_aload_n hf 0 dX6_odds_28 rfl ?_
        refine tt_iload_n hf 1 dX6_odds_29 rfl ?_
        refine tt_iload_n hf 2 dX6_odds_30 rfl ?_
        refine tt_iload_n hf 3 dX6_odds_31 rfl ?_
        refine tt_callV0 (As := [.int (iI v), .int (iI cl), .int (iI wh)]) (rest := []) (q0 := 0) (ci := 6) hf (cm_oddsNow hm hkd hnow hco (hcm (by omega)) hcc (by omega) (by omega) (by omega)) lk_X6_X6_oddsNow hd_X6_oddsNow rfl rfl rfl ⟨rfl, rfl⟩ (by decide) (by decide) (Nat.le_of_ble_eq_true rfl) dX6_odds_32 rfl (kk_i (fun r32 w hr32 hp32 => ?_))
        obtain ⟨now1, oft1, wtd1, ways1, hnw1, hrl1, rfl⟩ := hp32
        refine tt_goto (tgt := 40) hf dX6_odds_35 (by decide) ?_
        exact tt_ireti hf hrT dX6_odds_40 (Nat.le_refl _) (Nat.le_refl _) hr32 ⟨now1, oft1, wtd1, ways1, hnw1, by rw [hrl1, if_pos c5, if_pos ⟨c16, c25⟩], rfl⟩
  · refine tt_bipush hf dX6_odds_8 (by decide) ?_
    exact tt_ireti hf hrT dX6_odds_10 (Nat.le_refl _) (Nat.le_refl _) (by omega) ⟨now, oft, wtd, ways, hnow, by rw [if_neg c5], rfl⟩
