/-! common divisor: how deep -/
def stp : Nat → Int → Int → Prop
  | 0, _, b => b = 0
  | f + 1, a, b => b = 0 ∨ stp f b (a % b)
theorem stp_of : ∀ (k : Nat) (a b : Int), 0 ≤ a → 0 ≤ b → b < 2 ^ k → stp (2 * k) a b
  | 0, a, b, ha, hb, h => by
    show b = 0
    have : (2 : Int) ^ 0 = 1 := rfl
    omega
  | k + 1, a, b, ha, hb, h => by
    show b = 0 ∨ (a % b = 0 ∨ stp (2 * k) (a % b) (b % (a % b)))
    by_cases q : b = 0
    · exact Or.inl q
    · refine Or.inr ?_
      have r1 := Int.emod_nonneg a q
      have r2 := Int.emod_lt_of_pos a (show 0 < b by omega)
      by_cases q2 : a % b = 0
      · exact Or.inl q2
      · refine Or.inr (stp_of k _ _ r1 (Int.emod_nonneg b q2) ?_)
        have s2 := Int.emod_lt_of_pos b (show 0 < a % b by omega)
        have e := Int.emod_add_mul_ediv b (a % b)
        have e2 : 1 ≤ b / (a % b) := Int.le_ediv_of_mul_le (by omega) (by omega)
        have e3 := Int.mul_le_mul_of_nonneg_left e2 (show 0 ≤ a % b by omega)
        rw [Int.pow_succ] at h
        omega
/-! pairs by their lesser part, and by their sum -/
def gq (g : Int → Int → Int) (i : Int) : Nat → Int
  | 0 => 0
  | k + 1 => gq g i k + g i (i + k)
def gA (g : Int → Int → Int) (M : Int) : Nat → Int
  | 0 => 0
  | i + 1 => gA g M i + gq g ((i : Int) + 1) (M + 1 - 2 * ((i : Int) + 1)).toNat
def gB (g : Int → Int → Int) (s : Int) : Nat → Int
  | 0 => 0
  | k + 1 => gB g s k + (if 2 * ((k : Int) + 1) ≤ s then g ((k : Int) + 1) (s - ((k : Int) + 1)) else 0)
def gS (g : Int → Int → Int) (K : Nat) : Nat → Int
  | 0 => 0
  | s + 1 => gS g K s + gB g ((s : Int) + 1) K
theorem gA_s {g : Int → Int → Int} {M : Int} : ∀ K : Nat, gA g (M + 1) K = gA g M K + gB g (M + 1) K
  | 0 => rfl
  | k + 1 => by
    have h := gA_s (g := g) (M := M) k
    simp only [gA, gB]
    rw [h]
    by_cases q : 2 * ((k : Int) + 1) ≤ M + 1
    · rw [if_pos q, show (M + 1 + 1 - 2 * ((k : Int) + 1)).toNat = (M + 1 - 2 * ((k : Int) + 1)).toNat + 1 by omega]
      simp only [gq]
      rw [show (k : Int) + 1 + (((M + 1 - 2 * ((k : Int) + 1)).toNat : Nat) : Int) = M + 1 - ((k : Int) + 1) by omega]
      omega
    · rw [if_neg q, show (M + 1 + 1 - 2 * ((k : Int) + 1)).toNat = 0 by omega, show (M + 1 - 2 * ((k : Int) + 1)).toNat = 0 by omega]
      simp only [gq]
      omega
theorem gA_0 {g : Int → Int → Int} : ∀ K : Nat, gA g 0 K = 0
  | 0 => rfl
  | k + 1 => by
    simp only [gA]
    rw [gA_0 k, show ((0 : Int) + 1 - 2 * ((k : Int) + 1)).toNat = 0 by omega]
    rfl
theorem gA_S {g : Int → Int → Int} (K : Nat) : ∀ M : Nat, gA g (M : Int) K = gS g K M
  | 0 => gA_0 K
  | M + 1 => by
    have h := gA_s (g := g) (M := (M : Int)) K
    show gA g ((M : Int) + 1) K = _
    rw [h, gA_S K M]
    rfl
/-- bad threes in which v is -/
def gV (kd row : Int → Int) (v i j : Int) : Int := if (i = v ∨ j = v ∨ i + j = v) ∧ isB kd row i j then 1 else 0
theorem gB_lt {kd row : Int → Int} {v s : Int} (h : s < v) : ∀ k : Nat, gB (gV kd row v) s k = 0
  | 0 => rfl
  | k + 1 => by
    simp only [gB]
    rw [gB_lt h k]
    split
    · unfold gV; rw [if_neg (by omega)]; rfl
    · rfl
theorem gB_eq {kd row : Int → Int} {v : Int} : ∀ k : Nat, gB (gV kd row v) v k = bdN kd row v (if k ≤ (v / 2).toNat then k else (v / 2).toNat)
  | 0 => by rw [if_pos (Nat.zero_le _)]; rfl
  | k + 1 => by
    simp only [gB]
    rw [gB_eq k]
    by_cases q : 2 * ((k : Int) + 1) ≤ v
    · rw [if_pos q, if_pos (by omega), if_pos (by omega)]
      simp only [bdN]
      unfold gV
      congr 1
      by_cases p : isB kd row ((k : Int) + 1) (v - ((k : Int) + 1))
      · rw [if_pos ⟨by omega, p⟩, if_pos p]
      · rw [if_neg (fun e => p e.2), if_neg p]
    · rw [if_neg q]
      by_cases p : k = (v / 2).toNat
      · rw [if_pos (by omega), if_neg (by omega), p]; omega
      · rw [if_neg (by omega), if_neg (by omega)]; omega
theorem gB_gt {kd row : Int → Int} {v s : Int} (hv : 1 ≤ v) (h : v < s) : ∀ k : Nat, gB (gV kd row v) s k = if (if v < s - v then v else s - v) ≤ (k : Int) then (if isB kd row (if v < s - v then v else s - v) (if v < s - v then s - v else v) then 1 else 0) else 0
  | 0 => by rw [if_neg (by split <;> omega)]; rfl
  | k + 1 => by
    simp only [gB]
    rw [gB_gt hv h k]
    by_cases q : v < s - v
    · rw [if_pos q, if_pos q]
      by_cases e : (k : Int) + 1 = v
      · rw [if_neg (by omega), if_pos (by omega), if_pos (by omega)]
        unfold gV
        rw [e]
        by_cases p : isB kd row v (s - v)
        · rw [if_pos ⟨by omega, p⟩, if_pos p]; rfl
        · rw [if_neg (fun x => p x.2), if_neg p]; rfl
      · have e0 : (if 2 * ((k : Int) + 1) ≤ s then gV kd row v ((k : Int) + 1) (s - ((k : Int) + 1)) else 0) = 0 := by
          split
          · unfold gV; rw [if_neg (by omega)]
          · rfl
        rw [e0]
        by_cases p : v ≤ (k : Int)
        · rw [if_pos p, if_pos (show v ≤ ((k + 1 : Nat) : Int) by omega)]; omega
        · rw [if_neg p, if_neg (show ¬ v ≤ ((k + 1 : Nat) : Int) by omega)]; rfl
    · rw [if_neg q, if_neg q]
      by_cases e : (k : Int) + 1 = s - v
      · rw [if_neg (by omega), if_pos (by omega), if_pos (by omega)]
        unfold gV
        rw [e, show s - (s - v) = v by omega]
        by_cases p : isB kd row (s - v) v
        · rw [if_pos ⟨by omega, p⟩, if_pos p]; rfl
        · rw [if_neg (fun x => p x.2), if_neg p]; rfl
      · have e0 : (if 2 * ((k : Int) + 1) ≤ s then gV kd row v ((k : Int) + 1) (s - ((k : Int) + 1)) else 0) = 0 := by
          split
          · unfold gV; rw [if_neg (by omega)]
          · rfl
        rw [e0]
        by_cases p : s - v ≤ (k : Int)
        · rw [if_pos p, if_pos (show s - v ≤ ((k + 1 : Nat) : Int) by omega)]; omega
        · rw [if_neg p, if_neg (show ¬ s - v ≤ ((k + 1 : Nat) : Int) by omega)]; rfl
theorem gS_bo {kd row : Int → Int} {v : Int} (hv : 1 ≤ v) (K : Nat) : ∀ M : Nat, M ≤ K → gS (gV kd row v) K M = if v ≤ (M : Int) then boN kd row v M else 0
  | 0, _ => by rw [if_neg (by omega)]; rfl
  | M + 1, hM => by
    simp only [gS]
    rw [gS_bo hv K M (by omega)]
    by_cases q1 : v < (M : Int) + 1
    · rw [if_pos (by omega), if_pos (by omega), gB_gt hv q1, if_pos (by split <;> omega)]
      simp only [boN]
      rw [if_pos q1]
    · rw [if_neg (by omega)]
      by_cases q2 : v = (M : Int) + 1
      · rw [if_pos (by omega), ← q2, gB_eq]
        simp only [boN]
        rw [if_neg q1]
        unfold bd
        by_cases p : K ≤ (v / 2).toNat
        · rw [if_pos p, show K = (v / 2).toNat by omega]; omega
        · rw [if_neg p]; omega
      · rw [if_neg (by omega), gB_lt (by omega)]; rfl
theorem gA_bo {kd row : Int → Int} {v many : Int} (hv : 1 ≤ v ∧ v ≤ many) : gA (gV kd row v) many many.toNat = boN kd row v many.toNat := by
  have h := gA_S (g := gV kd row v) many.toNat many.toNat
  rw [show ((many.toNat : Nat) : Int) = many by omega] at h
  rw [h, gS_bo hv.1 many.toNat many.toNat (Nat.le_refl _), if_pos (by omega)]
theorem gV_rng {kd row : Int → Int} {v i j : Int} : 0 ≤ gV kd row v i j ∧ gV kd row v i j ≤ 1 := by unfold gV; split <;> omega
theorem gq_rng {kd row : Int → Int} {v i : Int} : ∀ k : Nat, 0 ≤ gq (gV kd row v) i k ∧ gq (gV kd row v) i k ≤ k
  | 0 => by simp [gq]
  | k + 1 => by
    have h := gq_rng (kd := kd) (row := row) (v := v) (i := i) k
    have h1 := gV_rng (kd := kd) (row := row) (v := v) (i := i) (j := i + k)
    simp only [gq]
    omega
theorem gA_s' {g : Int → Int → Int} {M i : Int} (hi : 1 ≤ i) : gA g M i.toNat = gA g M (i - 1).toNat + gq g i (M + 1 - 2 * i).toNat := by
  obtain ⟨j, rfl⟩ : ∃ j : Nat, i = (j : Int) + 1 := ⟨(i - 1).toNat, by omega⟩
  rw [show ((j : Int) + 1).toNat = j + 1 by omega, show ((j : Int) + 1 - 1).toNat = j by omega]
  rfl
theorem gq_s' {g : Int → Int → Int} {i j : Int} (h : i ≤ j) : gq g i (j + 1 - i).toNat = gq g i (j - i).toNat + g i j := by
  rw [show (j + 1 - i).toNat = (j - i).toNat + 1 by omega]
  simp only [gq]
  rw [show i + (((j - i).toNat : Nat) : Int) = j by omega]
set_option maxRecDepth 100000 in
theorem cx_common_0 {l : Launch} {g : tG} {ws : va_W} : ∀ (a b : Int), 0 ≤ a ∧ a ≤ 59049 → 0 ≤ b ∧ b ≤ 59049 → stp 0 a b → Ce l g yX0_common (ws_ yX0_common cX0_common 2 (Option.some Jvm.ClassFile.FieldType.int)) (rmL (1 + 0)) [.int (iI a), .int (iI b)] (ws) (gI a b) (ws) := by
  intro a b ha hb hst
  refine Ct.of (by decide) (Nat.le_of_ble_eq_true rfl) ?_
  intro Γ hl hg hf hrT
  subst hl hg
  have hf : Fx Γ RX0 cX0_common 2 := hf
  show T Γ (rmL (1 + 0)) 2 0 0 (Qe Γ (rmL (1 + 0)) _) _ 0 [(0, .int (iI a)), (1, .int (iI b))] []
  refine tt_iload_n hf 1 dX0_common_0 rfl ?_
  refine tt_if_ne (tgt := 8) hf dX0_common_1 (by decide) (by omega) (fun c1 => ?_) (fun c1 => ?_)
  · exact absurd hst c1
  · refine tt_iload_n hf 0 dX0_common_4 rfl ?_
    refine tt_goto (tgt := 15) hf dX0_common_5 (by decide) ?_
    exact tt_ireti hf hrT dX0_common_15 (Nat.le_refl _) (Nat.le_refl _) (by omega) ⟨(by rw [c1, gI_0 ha.1]), rfl⟩
set_option maxRecDepth 100000 in
theorem cx_common_s {l : Launch} {g : tG} {ws : va_W} (f : Nat) (IH : ∀ (a b : Int), 0 ≤ a ∧ a ≤ 59049 → 0 ≤ b ∧ b ≤ 59049 → stp f a b → Ce l g yX0_common (ws_ yX0_common cX0_common 2 (Option.some Jvm.ClassFile.FieldType.int)) (rmL (1 + f)) [.int (iI a), .int (iI b)] (ws) (gI a b) (ws)) : ∀ (a b : Int), 0 ≤ a ∧ a ≤ 59049 → 0 ≤ b ∧ b ≤ 59049 → stp (f + 1) a b → Ce l g yX0_common (ws_ yX0_common cX0_common 2 (Option.some Jvm.ClassFile.FieldType.int)) (rmL (1 + (f + 1))) [.int (iI a), .int (iI b)] (ws) (gI a b) (ws) := by
  intro a b ha hb hst
  refine Ct.of (by decide) (Nat.le_of_ble_eq_true rfl) ?_
  intro Γ hl hg hf hrT
  subst hl hg
  have hf : Fx Γ RX0 cX0_common 2 := hf
  show T Γ (rmL (1 + (f + 1))) 2 0 0 (Qe Γ (rmL (1 + (f + 1))) _) _ 0 [(0, .int (iI a)), (1, .int (iI b))] []
  refine tt_iload_n hf 1 dX0_common_0 rfl ?_
  refine tt_if_ne (tgt := 8) hf dX0_common_1 (by decide) (by omega) (fun c1 => ?_) (fun c1 => ?_)
  · refine tt_iload_n hf 1 dX0_common_8 rfl ?_
    refine tt_iload_n hf 0 dX0_common_9 rfl ?_
    refine tt_iload_n hf 1 dX0_common_10 rfl ?_
    refine tt_irem hf dX0_common_11 (by omega) (by omega) ?_
    have r1 := Int.emod_nonneg a c1
    have r2 := Int.emod_lt_of_pos a (show 0 < b by omega)
    refine tt_callS0 (As := [.int (iI b), .int (iI (a % b))]) (rest := []) hf (IH b (a % b) (by omega) (by omega) (by rcases hst with q | q; exact absurd q c1; exact q)) lk_X0_X0_common hd_X0_common rfl ⟨rfl, rfl⟩ (rmL_ok (by omega) (by decide)) ⟨Nat.zero_le _, Nat.zero_le _⟩ (Nat.le_of_ble_eq_true rfl) dX0_common_12 rfl (kk_e (fun r12 => ?_))
    exact tt_ireti hf hrT dX0_common_15 (Nat.le_refl _) (Nat.le_refl _) r12 ⟨(gI_s ha.1 (by omega)), rfl⟩
  · refine tt_iload_n hf 0 dX0_common_4 rfl ?_
    refine tt_goto (tgt := 15) hf dX0_common_5 (by decide) ?_
    exact tt_ireti hf hrT dX0_common_15 (Nat.le_refl _) (Nat.le_refl _) (by omega) ⟨(by rw [c1, gI_0 ha.1]), rfl⟩
theorem cx_common {l : Launch} {g : tG} {ws : va_W} (f : Nat) : ∀ (a b : Int), 0 ≤ a ∧ a ≤ 59049 → 0 ≤ b ∧ b ≤ 59049 → stp f a b → Ce l g yX0_common (ws_ yX0_common cX0_common 2 (Option.some Jvm.ClassFile.FieldType.int)) (rmL (1 + f)) [.int (iI a), .int (iI b)] (ws) (gI a b) (ws) := by
  induction f with
  | zero => exact cx_common_0
  | succ f ih => exact cx_common_s f ih
theorem od_y {up ways wh : Int} (hw : 0 < ways) (h : wh = 0) : up / gI ways up = odE up ways wh := by
  unfold odE
  by_cases q : up = 0
  · rw [if_pos q, q, h]; exact Int.zero_ediv _
  · rw [if_neg q, if_pos h, gI_comm]
theorem od_n {up ways wh : Int} (hw : 0 < ways) (h : wh = 1) : ways / gI ways up = odE up ways wh := by
  unfold odE
  by_cases q : up = 0
  · rw [if_pos q, q, h, gI_0 (by omega)]; exact Int.ediv_self (by omega)
  · rw [if_neg q, if_neg (by omega), gI_comm]
set_option maxHeartbeats 4000000 in
set_option maxRecDepth 100000 in
theorem cx_tellOdds {l : Launch} {g : tG} {o : Nat} {ax : Nat → Nat} {num kpt : Int → Option Nat} {many cols chg brd old : Int} {page : Int → Int} {pgM told enD : Int} {row : Int → Int} {ways far : Int} {hav : Int → Int} {wtd : Int} {fnd : Int → Int} {mdT wnT : Int} {sN sW sC : Int → Int} {sM drw : Int} {kN kW kC : Int → Int} {kS kG kB : Int} {hh : Int64} {L : List Nat} {mf : Nat → Nat × Int × Int × Int} {v cl wh : Int} (hm : 0 ≤ many ∧ many ≤ 10) (hc : 2 ≤ cols ∧ cols ≤ 3) (hB : xB many num L mf) (hcc : ∀ i, 1 ≤ i → i ≤ many → (xco num mf) i ≤ cols - 1) (hrow : ∀ i, -1 ≤ row i ∧ row i ≤ 2) (ho : old = 0 ∨ old = 1) (hC : xC (xkd num mf) (xco num mf) cols many old ways far hav mdT wnT) (hv : 1 ≤ v ∧ v ≤ many) (hcl : 0 ≤ cl ∧ cl ≤ 2) (hwh : wh = 0 ∨ wh = 1) : Ci l g yX0_tellOdds (ws_ yX0_tellOdds cX0_tellOdds 6 (Option.some Jvm.ClassFile.FieldType.int)) (rmL 35) [.ref o, .int (iI v), .int (iI cl), .int (iI wh)] (xW g o ax num kpt many cols chg brd old page pgM told enD row ways far hav wtd fnd mdT wnT sN sW sC sM drw kN kW kC kS kG kB hh L mf) (fun r w => ∃ (row1 hav1 : Int → Int) (wtd1 : Int) (fnd1 : Int → Int), (∀ i, -1 ≤ row1 i ∧ row1 i ≤ 2) ∧ cntOk (xkd num mf) (xco num mf) cols many hav1 ∧ r = odE (cnt (WL (xkd num mf) (xco num mf) cols many) v cl) ((WL (xkd num mf) (xco num mf) cols many).length : Int) wh ∧ w = xW g o ax num kpt many cols chg brd 0 page pgM told enD row1 (((WL (xkd num mf) (xco num mf) cols many).length : Int)) (frN (xkd num mf) (xco num mf) cols many.toNat) hav1 wtd1 fnd1 (mdE (xkd num mf) (xco num mf) cols many) (winE (xkd num mf) (xco num mf) cols many) sN sW sC sM drw kN kW kC kS kG kB hh L mf) := by
  refine Ct.of (by decide) (Nat.le_of_ble_eq_true rfl) ?_
  intro Γ hl hg hf hrT
  subst hl hg
  have hf : Fx Γ RX0 cX0_tellOdds 6 := hf
  show T Γ (rmL 35) 6 0 0 (Qe Γ (rmL 35) _) _ 0 [(0, .ref o), (1, .int (iI v)), (2, .int (iI cl)), (3, .int (iI wh))] []
  have hlen := WL_len59 (kd := (xkd num mf)) (co := (xco num mf)) (cols := cols) (many := many) (by omega) (by omega)
  have hcv := cnt_rng (WL (xkd num mf) (xco num mf) cols many) v cl
  refine tt_aload_n hf 0 dX0_tellOdds_0 rfl ?_
  refine tt_callV0 (As := []) (rest := []) (q0 := 0) (ci := 0) hf (cx_freshen hm hc hB hcc hrow ho hC) lk_X0_X0_freshen hd_X0_freshen rfl rfl rfl ⟨rfl, rfl⟩ (rmL_ok (by omega) (by decide)) ⟨Nat.zero_le _, Nat.zero_le _⟩ (Nat.le_of_ble_eq_true rfl) dX0_tellOdds_1 rfl (kk_v (fun w hp1 => ?_))
  obtain ⟨row1, hav1, wtd1, fnd1, q1, o1, rfl⟩ := hp1
  refine tt_aload_n hf 0 dX0_tellOdds_4 rfl ?_
  refine gx_ways hf dX0_tellOdds_5 ?_
  refine tt_if_ne (tgt := 13) hf dX0_tellOdds_8 (by decide) (by omega) (fun c8 => ?_) (fun c8 => ?_)
  · refine tt_aload_n hf 0 dX0_tellOdds_13 rfl ?_
    refine gx_hav hf dX0_tellOdds_14 ?_
    refine tt_iload_n hf 1 dX0_tellOdds_17 rfl ?_
    refine tt_iconst hf dX0_tellOdds_18 ?_
    refine tt_imul hf dX0_tellOdds_19 ?_
    refine tt_iload_n hf 2 dX0_tellOdds_20 rfl ?_
    refine tt_iadd hf dX0_tellOdds_21 ?_
    refine tt_top (z' := 3 * v + cl) (by omega) ?_
    refine lx_hav hf (by omega) dX0_tellOdds_22 ?_
    refine tt_top (z' := cnt (WL (xkd num mf) (xco num mf) cols many) v cl) (o1 v cl (by omega) (by omega) (by omega) (by omega)) ?_
    refine tt_istore (lv' := [(4, .int (iI (cnt (WL (xkd num mf) (xco num mf) cols many) v cl))), (0, .ref o), (1, .int (iI v)), (2, .int (iI cl)), (3, .int (iI wh))]) hf dX0_tellOdds_23 (by decide) rfl ?_
    refine tt_aload_n hf 1 dX0_tellOdds_25 rfl ?_
    refine gx_ways hf dX0_tellOdds_26 ?_
    refine tt_iload hf 0 dX0_tellOdds_29 rfl ?_
    refine tt_callS0 (As := [.int (iI ((WL (xkd num mf) (xco num mf) cols many).length : Int)), .int (iI (cnt (WL (xkd num mf) (xco num mf) cols many) v cl))]) (rest := []) hf (cx_common (2 * 16) ((WL (xkd num mf) (xco num mf) cols many).length : Int) (cnt (WL (xkd num mf) (xco num mf) cols many) v cl) (by omega) (by omega) (stp_of 16 _ _ (by omega) (by omega) (by omega))) lk_X0_X0_common hd_X0_common rfl ⟨rfl, rfl⟩ (rmL_ok (by omega) (by decide)) ⟨Nat.zero_le _, Nat.zero_le _⟩ (Nat.le_of_ble_eq_true rfl) dX0_tellOdds_31 rfl (kk_e (fun r31 => ?_))
    have hg0 := gI_pos (a := ((WL (xkd num mf) (xco num mf) cols many).length : Int)) (b := cnt (WL (xkd num mf) (xco num mf) cols many) v cl) (by omega)
    have hg1 := gI_le (a := ((WL (xkd num mf) (xco num mf) cols many).length : Int)) (b := cnt (WL (xkd num mf) (xco num mf) cols many) v cl) (by omega)
    refine tt_istore (lv' := [(5, .int (iI (gI ((WL (xkd num mf) (xco num mf) cols many).length : Int) (cnt (WL (xkd num mf) (xco num mf) cols many) v cl)))), (4, .int (iI (cnt (WL (xkd num mf) (xco num mf) cols many) v cl))), (0, .ref o), (1, .int (iI v)), (2, .int (iI cl)), (3, .int (iI wh))]) hf dX0_tellOdds_34 (by decide) rfl ?_
    refine tt_iload_n hf 5 dX0_tellOdds_36 rfl ?_
    refine tt_if_ne (tgt := 48) hf dX0_tellOdds_37 (by decide) (by omega) (fun c37 => ?_) (fun c37 => ?_)
    · refine tt_aload_n hf 2 dX0_tellOdds_48 rfl ?_
      refine gx_ways hf dX0_tellOdds_49 ?_
      refine tt_iload hf 0 dX0_tellOdds_52 rfl ?_
      refine tt_idiv hf dX0_tellOdds_54 (by omega) (by omega) ?_
      have hd1 := div_rng (a := cnt (WL (xkd num mf) (xco num mf) cols many) v cl) (d := gI ((WL (xkd num mf) (xco num mf) cols many).length : Int) (cnt (WL (xkd num mf) (xco num mf) cols many) v cl)) (by omega) hg0
      have hd2 := div_rng (a := ((WL (xkd num mf) (xco num mf) cols many).length : Int)) (d := gI ((WL (xkd num mf) (xco num mf) cols many).length : Int) (cnt (WL (xkd num mf) (xco num mf) cols many) v cl)) (by omega) hg0
      exact tt_ireti hf hrT dX0_tellOdds_55 (Nat.le_refl _) (Nat.le_refl _) (by omega) ⟨row1, hav1, wtd1, fnd1, q1, o1, od_n (by omega) (by omega), rfl⟩
    · refine tt_iload hf 1 dX0_tellOdds_40 rfl ?_
      refine tt_iload hf 0 dX0_tellOdds_42 rfl ?_
      refine tt_idiv hf dX0_tellOdds_44 (by omega) (by omega) ?_
      refine tt_goto (tgt := 55) hf dX0_tellOdds_45 (by decide) ?_
      have hd1 := div_rng (a := cnt (WL (xkd num mf) (xco num mf) cols many) v cl) (d := gI ((WL (xkd num mf) (xco num mf) cols many).length : Int) (cnt (WL (xkd num mf) (xco num mf) cols many) v cl)) (by omega) hg0
      have hd2 := div_rng (a := ((WL (xkd num mf) (xco num mf) cols many).length : Int)) (d := gI ((WL (xkd num mf) (xco num mf) cols many).length : Int) (cnt (WL (xkd num mf) (xco num mf) cols many) v cl)) (by omega) hg0
      exact tt_ireti hf hrT dX0_tellOdds_55 (Nat.le_refl _) (Nat.le_refl _) (by omega) ⟨row1, hav1, wtd1, fnd1, q1, o1, od_y (by omega) c37, rfl⟩
  · refine tt_iload_n hf 3 dX0_tellOdds_11 rfl ?_
    exact tt_ireti hf hrT dX0_tellOdds_12 (Nat.le_refl _) (Nat.le_refl _) (by omega) ⟨row1, hav1, wtd1, fnd1, q1, o1, by unfold odE; rw [if_pos (by omega)], rfl⟩
set_option maxHeartbeats 4000000 in
set_option maxRecDepth 100000 in
theorem cx_odds {l : Launch} {g : tG} {o : Nat} {ax : Nat → Nat} {num kpt : Int → Option Nat} {many cols chg brd old : Int} {page : Int → Int} {pgM told enD : Int} {row : Int → Int} {ways far : Int} {hav : Int → Int} {wtd : Int} {fnd : Int → Int} {mdT wnT : Int} {sN sW sC : Int → Int} {sM drw : Int} {kN kW kC : Int → Int} {kS kG kB : Int} {hh : Int64} {L : List Nat} {mf : Nat → Nat × Int × Int × Int} {v cl wh : Int} (hm : 0 ≤ many ∧ many ≤ 10) (hcl : 0 < many → 2 ≤ cols ∧ cols ≤ 3) (hB : xB many num L mf) (hcc : ∀ i, 1 ≤ i → i ≤ many → (xco num mf) i ≤ cols - 1) (hrow : ∀ i, -1 ≤ row i ∧ row i ≤ 2) (ho : old = 0 ∨ old = 1) (hC : xC (xkd num mf) (xco num mf) cols many old ways far hav mdT wnT) (hcl3 : 0 ≤ cols ∧ cols ≤ 3) (hv : iR v) (hcv : iR cl) (hwh : iR wh) : Ci l g yX0_odds (ws_ yX0_odds cX0_odds 4 (Option.some Jvm.ClassFile.FieldType.int)) (rmL 36) [.ref o, .int (iI v), .int (iI cl), .int (iI wh)] (xW g o ax num kpt many cols chg brd old page pgM told enD row ways far hav wtd fnd mdT wnT sN sW sC sM drw kN kW kC kS kG kB hh L mf) (fun r w => ∃ (old1 : Int) (row1 : Int → Int) (ways1 far1 : Int) (hav1 : Int → Int) (wtd1 : Int) (fnd1 : Int → Int) (mdT1 wnT1 : Int), (∀ i, -1 ≤ row1 i ∧ row1 i ≤ 2) ∧ (old1 = 0 ∨ old1 = 1) ∧ xC (xkd num mf) (xco num mf) cols many old1 ways1 far1 hav1 mdT1 wnT1 ∧ r = (if 1 ≤ v ∧ v ≤ many then (if (0 ≤ cl ∧ cl ≤ cols - 1) ∧ 0 ≤ wh ∧ wh ≤ 1 then odE (cnt (WL (xkd num mf) (xco num mf) cols many) v cl) ((WL (xkd num mf) (xco num mf) cols many).length : Int) wh else -102) else -101) ∧ w = xW g o ax num kpt many cols chg brd old1 page pgM told enD row1 ways1 far1 hav1 wtd1 fnd1 mdT1 wnT1 sN sW sC sM drw kN kW kC kS kG kB hh L mf) := by
  refine Ct.of (by decide) (Nat.le_of_ble_eq_true rfl) ?_
  intro Γ hl hg hf hrT
  subst hl hg
  have hf : Fx Γ RX0 cX0_odds 4 := hf
  show T Γ (rmL 36) 4 0 0 (Qe Γ (rmL 36) _) _ 0 [(0, .ref o), (1, .int (iI v)), (2, .int (iI cl)), (3, .int (iI wh))] []
  refine tt_aload_n hf 0 dX0_odds_0 rfl ?_
  refine tt_iload_n hf 1 dX0_odds_1 rfl ?_
  refine tt_callV0 (As := [.int (iI v)]) (rest := []) (q0 := 0) (ci := 0) hf (cx_isNumber (by omega) hm) lk_X0_X0_isNumber hd_X0_isNumber rfl rfl rfl ⟨rfl, rfl⟩ (by decide) (by decide) (Nat.le_of_ble_eq_true rfl) dX0_odds_2 rfl (kk_e (fun r2 => ?_))
  refine tt_ifb_ne (tgt := 11) hf dX0_odds_5 (by decide) (fun c5 => ?_) (fun c5 => ?_)
  · refine tt_aload_n hf 0 dX0_odds_11 rfl ?_
    refine tt_iload_n hf 2 dX0_odds_12 rfl ?_
    refine tt_callV0 (As := [.int (iI cl)]) (rest := []) (q0 := 0) (ci := 0) hf (cx_isColour (by omega) hcl3) lk_X0_X0_isColour hd_X0_isColour rfl rfl rfl ⟨rfl, rfl⟩ (by decide) (by decide) (Nat.le_of_ble_eq_true rfl) dX0_odds_13 rfl (kk_e (fun r13 => ?_))
    refine tt_ifb_eq (tgt := 39) hf dX0_odds_16 (by decide) (fun c16 => ?_) (fun c16 => ?_)
    · refine tt_bipush hf dX0_odds_39 (by decide) ?_
      exact tt_ireti hf hrT dX0_odds_41 (Nat.le_refl _) (Nat.le_refl _) (by omega) ⟨old, row, ways, far, hav, wtd, fnd, mdT, wnT, hrow, ho, hC, by rw [if_pos c5, if_neg (fun q => c16 q.1)], rfl⟩
    · refine tt_iload_n hf 3 dX0_odds_19 rfl ?_
      refine tt_i2l hf dX0_odds_20 ?_
      refine tt_topl (x' := lI wh) (lI_of (by omega)) ?_
      refine tt_lconst hf dX0_odds_21 ?_
      refine tt_topl (x' := lI 0) (by decide) ?_
      refine tt_lconst hf dX0_odds_22 ?_
      refine tt_topl (x' := lI 1) (by decide) ?_
      refine tt_callS0 (As := [.long (lI wh), .long (lI 0), .long (lI 1)]) (rest := []) hf (cx_isIn (v := wh) (lo := 0) (hi := 1) (by omega) (by omega) (by omega)) lk_X0_X0_isIn hd_X0_isIn rfl ⟨rfl, rfl⟩ (by decide) (by decide) (Nat.le_of_ble_eq_true rfl) dX0_odds_23 rfl (kk_e (fun r23 => ?_))
      refine tt_ifb_eq (tgt := 39) hf dX0_odds_26 (by decide) (fun c26 => ?_) (fun c26 => ?_)
      · refine tt_bipush hf dX0_odds_39 (by decide) ?_
        exact tt_ireti hf hrT dX0_odds_41 (Nat.le_refl _) (Nat.le_refl _) (by omega) ⟨old, row, ways, far, hav, wtd, fnd, mdT, wnT, hrow, ho, hC, by rw [if_pos c5, if_neg (fun q => c26 q.2)], rfl⟩
      · have hc := hcl (by omega)
        refine tt_aload_n hf 0 dX0_odds_29 rfl ?_
        refine tt_iload_n hf 1 dX0_odds_30 rfl ?_
        refine tt_iload_n hf 2 dX0_odds_31 rfl ?_
        refine tt_iload_n hf 3 dX0_odds_32 rfl ?_
        refine tt_callV0 (As := [.int (iI v), .int (iI cl), .int (iI wh)]) (rest := []) (q0 := 0) (ci := 0) hf (cx_tellOdds hm hc hB hcc hrow ho hC (by omega) (by omega) (by omega)) lk_X0_X0_tellOdds hd_X0_tellOdds rfl rfl rfl ⟨rfl, rfl⟩ (by decide) (by decide) (Nat.le_of_ble_eq_true rfl) dX0_odds_33 rfl (kk_i (fun r33 w hr33 hp33 => ?_))
        obtain ⟨row33, hav33, wtd33, fnd33, q33, o33, e33, rfl⟩ := hp33
        refine tt_goto (tgt := 41) hf dX0_odds_36 (by decide) ?_
        exact tt_ireti hf hrT dX0_odds_41 (Nat.le_refl _) (Nat.le_refl _) hr33 ⟨0, row33, _, _, hav33, wtd33, fnd33, _, _, q33, Or.inl rfl, fun _ => ⟨rfl, rfl, o33, rfl, rfl⟩, by rw [if_pos c5, if_pos ⟨c16, c26⟩]; exact e33, rfl⟩
  · refine tt_bipush hf dX0_odds_8 (by decide) ?_
    exact tt_ireti hf hrT dX0_odds_10 (Nat.le_refl _) (Nat.le_refl _) (by omega) ⟨old, row, ways, far, hav, wtd, fnd, mdT, wnT, hrow, ho, hC, by rw [if_neg c5], rfl⟩
set_option maxHeartbeats 4000000 in
set_option maxRecDepth 100000 in
theorem cx_way {l : Launch} {g : tG} {o : Nat} {ax : Nat → Nat} {num kpt : Int → Option Nat} {many cols chg brd old : Int} {page : Int → Int} {pgM told enD : Int} {row : Int → Int} {ways far : Int} {hav : Int → Int} {wtd : Int} {fnd : Int → Int} {mdT wnT : Int} {sN sW sC : Int → Int} {sM drw : Int} {kN kW kC : Int → Int} {kS kG kB : Int} {hh : Int64} {L : List Nat} {mf : Nat → Nat × Int × Int × Int} {wy nb : Int} (hm : 0 ≤ many ∧ many ≤ 10) (hcl : 0 < many → 2 ≤ cols ∧ cols ≤ 3) (hB : xB many num L mf) (hcc : ∀ i, 1 ≤ i → i ≤ many → (xco num mf) i ≤ cols - 1) (hrow : ∀ i, -1 ≤ row i ∧ row i ≤ 2) (ho : old = 0 ∨ old = 1) (hC : xC (xkd num mf) (xco num mf) cols many old ways far hav mdT wnT) (hwy : iR wy) (hnb : iR nb) : Ci l g yX0_way (ws_ yX0_way cX0_way 3 (Option.some Jvm.ClassFile.FieldType.int)) (rmL 33) [.ref o, .int (iI wy), .int (iI nb)] (xW g o ax num kpt many cols chg brd old page pgM told enD row ways far hav wtd fnd mdT wnT sN sW sC sM drw kN kW kC kS kG kB hh L mf) (fun r w => ∃ (old1 : Int) (row1 : Int → Int) (ways1 far1 : Int) (hav1 : Int → Int) (wtd1 : Int) (fnd1 : Int → Int) (mdT1 wnT1 : Int), (∀ i, -1 ≤ row1 i ∧ row1 i ≤ 2) ∧ (old1 = 0 ∨ old1 = 1) ∧ xC (xkd num mf) (xco num mf) cols many old1 ways1 far1 hav1 mdT1 wnT1 ∧ r = wayE (WL (xkd num mf) (xco num mf) cols many) many wy nb ∧ w = xW g o ax num kpt many cols chg brd old1 page pgM told enD row1 ways1 far1 hav1 wtd1 fnd1 mdT1 wnT1 sN sW sC sM drw kN kW kC kS kG kB hh L mf) := by
  refine Ct.of (by decide) (Nat.le_of_ble_eq_true rfl) ?_
  intro Γ hl hg hf hrT
  subst hl hg
  have hf : Fx Γ RX0 cX0_way 3 := hf
  show T Γ (rmL 33) 3 0 0 (Qe Γ (rmL 33) _) _ 0 [(0, .ref o), (1, .int (iI wy)), (2, .int (iI nb))] []
  have hw0 : ¬ (1 ≤ nb ∧ nb ≤ many ∧ 0 ≤ wy) → -101 = wayE (WL (xkd num mf) (xco num mf) cols many) many wy nb := fun q => by unfold wayE; rw [if_neg q]
  refine tt_aload_n hf 0 dX0_way_0 rfl ?_
  refine tt_iload_n hf 2 dX0_way_1 rfl ?_
  refine tt_callV0 (As := [.int (iI nb)]) (rest := []) (q0 := 0) (ci := 0) hf (cx_isNumber (by omega) hm) lk_X0_X0_isNumber hd_X0_isNumber rfl rfl rfl ⟨rfl, rfl⟩ (by decide) (by decide) (Nat.le_of_ble_eq_true rfl) dX0_way_2 rfl (kk_e (fun r2 => ?_))
  refine tt_ifb_eq (tgt := 21) hf dX0_way_5 (by decide) (fun c5 => ?_) (fun c5 => ?_)
  · refine tt_bipush hf dX0_way_21 (by decide) ?_
    exact tt_ireti hf hrT dX0_way_23 (Nat.le_refl _) (Nat.le_refl _) (by omega) ⟨old, row, ways, far, hav, wtd, fnd, mdT, wnT, hrow, ho, hC, hw0 (by omega), rfl⟩
  · refine tt_iload_n hf 1 dX0_way_8 rfl ?_
    refine tt_if_lt (tgt := 21) hf dX0_way_9 (by decide) (by omega) (fun c9 => ?_) (fun c9 => ?_)
    · refine tt_bipush hf dX0_way_21 (by decide) ?_
      exact tt_ireti hf hrT dX0_way_23 (Nat.le_refl _) (Nat.le_refl _) (by omega) ⟨old, row, ways, far, hav, wtd, fnd, mdT, wnT, hrow, ho, hC, hw0 (by omega), rfl⟩
    · have hc := hcl (by omega)
      refine tt_iload_n hf 1 dX0_way_12 rfl ?_
      refine tt_aload_n hf 0 dX0_way_13 rfl ?_
      refine tt_iconst hf dX0_way_14 ?_
      refine tt_callV0 (As := [.int (iI 0)]) (rest := [.int (iI wy)]) (q0 := 0) (ci := 0) hf (cx_tellWays hm hc hB hcc hrow ho hC (by omega)) lk_X0_X0_tellWays hd_X0_tellWays rfl rfl rfl ⟨rfl, rfl⟩ (by decide) (by decide) (Nat.le_of_ble_eq_true rfl) dX0_way_15 rfl (kk_i (fun r15 w hr15 hp15 => ?_))
      obtain ⟨row15, hav15, wtd15, fnd15, q15, o15, e15, rfl⟩ := hp15
      have e15b : r15 = ((WL (xkd num mf) (xco num mf) cols many).length : Int) := e15
      refine tt_icmp_lt (tgt := 24) hf dX0_way_18 (by decide) (by omega) (by omega) (fun c18 => ?_) (fun c18 => ?_)
      · refine tt_aload_n hf 0 dX0_way_24 rfl ?_
        refine tt_iload_n hf 1 dX0_way_25 rfl ?_
        refine tt_callV0 (As := [.int (iI wy)]) (rest := []) (q0 := 0) (ci := 0) hf (cx_layWays hm hc hB hcc q15 (by omega)) lk_X0_X0_layWays hd_X0_layWays rfl rfl rfl ⟨rfl, rfl⟩ (by decide) (by decide) (Nat.le_of_ble_eq_true rfl) dX0_way_26 rfl (kk_v (fun w hp26 => ?_))
        obtain ⟨row26, hav26, fnd26, q26, o26, t26, rfl⟩ := hp26
        refine tt_aload_n hf 0 dX0_way_29 rfl ?_
        refine gx_fnd hf dX0_way_30 ?_
        refine tt_iload_n hf 2 dX0_way_33 rfl ?_
        refine lx_fnd hf (by omega) dX0_way_34 ?_
        obtain ⟨x, hx⟩ : ∃ x, (WL (xkd num mf) (xco num mf) cols many)[wy.toNat]? = some x := ⟨_, List.getElem?_eq_getElem (by omega)⟩
        have ex := t26 (by omega) x hx nb (by omega) (by omega)
        have ex2 := WL_at (xco_rng hB) hcc (by omega) (List.mem_of_getElem? hx) nb (by omega) (by omega)
        exact tt_ireti hf hrT dX0_way_35 (Nat.le_refl _) (Nat.le_refl _) (by omega) ⟨0, row26, _, _, hav26, _, fnd26, _, _, q26, Or.inl rfl, fun _ => ⟨rfl, rfl, o26, rfl, rfl⟩, by rw [wayE_in (by omega) (by omega) hx]; exact ex, rfl⟩
      · refine tt_bipush hf dX0_way_21 (by decide) ?_
        exact tt_ireti hf hrT dX0_way_23 (Nat.le_refl _) (Nat.le_refl _) (by omega) ⟨0, row15, _, _, hav15, wtd15, fnd15, _, _, q15, Or.inl rfl, fun _ => ⟨rfl, rfl, o15, rfl, rfl⟩, (wayE_out (by omega) (by omega)).symm, rfl⟩
set_option maxHeartbeats 4000000 in
set_option maxRecDepth 100000 in
theorem cx_sureOf {l : Launch} {g : tG} {o : Nat} {ax : Nat → Nat} {num kpt : Int → Option Nat} {many cols chg brd old : Int} {page : Int → Int} {pgM told enD : Int} {row : Int → Int} {ways far : Int} {hav : Int → Int} {wtd : Int} {fnd : Int → Int} {mdT wnT : Int} {sN sW sC : Int → Int} {sM drw : Int} {kN kW kC : Int → Int} {kS kG kB : Int} {hh : Int64} {L : List Nat} {mf : Nat → Nat × Int × Int × Int} {v : Int} (hm : 0 ≤ many ∧ many ≤ 10) (hc : 2 ≤ cols ∧ cols ≤ 3) (hB : xB many num L mf) (hcc : ∀ i, 1 ≤ i → i ≤ many → (xco num mf) i ≤ cols - 1) (hrow : ∀ i, -1 ≤ row i ∧ row i ≤ 2) (ho : old = 0 ∨ old = 1) (hC : xC (xkd num mf) (xco num mf) cols many old ways far hav mdT wnT) (hv : 1 ≤ v ∧ v ≤ many) : Ci l g yX0_sureOf (ws_ yX0_sureOf cX0_sureOf 4 (Option.some Jvm.ClassFile.FieldType.int)) (rmL 32) [.ref o, .int (iI v)] (xW g o ax num kpt many cols chg brd old page pgM told enD row ways far hav wtd fnd mdT wnT sN sW sC sM drw kN kW kC kS kG kB hh L mf) (fun r w => ∃ (row1 hav1 : Int → Int) (wtd1 : Int) (fnd1 : Int → Int), (∀ i, -1 ≤ row1 i ∧ row1 i ≤ 2) ∧ cntOk (xkd num mf) (xco num mf) cols many hav1 ∧ r = suE (WL (xkd num mf) (xco num mf) cols many) v ∧ w = xW g o ax num kpt many cols chg brd 0 page pgM told enD row1 (((WL (xkd num mf) (xco num mf) cols many).length : Int)) (frN (xkd num mf) (xco num mf) cols many.toNat) hav1 wtd1 fnd1 (mdE (xkd num mf) (xco num mf) cols many) (winE (xkd num mf) (xco num mf) cols many) sN sW sC sM drw kN kW kC kS kG kB hh L mf) := by
  refine Ct.of (by decide) (Nat.le_of_ble_eq_true rfl) ?_
  intro Γ hl hg hf hrT
  subst hl hg
  have hf : Fx Γ RX0 cX0_sureOf 4 := hf
  show T Γ (rmL 32) 4 0 0 (Qe Γ (rmL 32) _) _ 0 [(0, .ref o), (1, .int (iI v))] []
  have hlen := WL_len59 (kd := (xkd num mf)) (co := (xco num mf)) (cols := cols) (many := many) (by omega) (by omega)
  refine tt_aload_n hf 0 dX0_sureOf_0 rfl ?_
  refine tt_callV0 (As := []) (rest := []) (q0 := 0) (ci := 0) hf (cx_freshen hm hc hB hcc hrow ho hC) lk_X0_X0_freshen hd_X0_freshen rfl rfl rfl ⟨rfl, rfl⟩ (by decide) (by decide) (Nat.le_of_ble_eq_true rfl) dX0_sureOf_1 rfl (kk_v (fun w hp1 => ?_))
  obtain ⟨row1, hav1, wtd1, fnd1, q1, o1, rfl⟩ := hp1
  refine tt_iconst hf dX0_sureOf_4 ?_
  refine tt_istore_n (lv' := [(2, .int (iI (-1))), (0, .ref o), (1, .int (iI v))]) hf dX0_sureOf_5 (by decide) rfl ?_
  refine tt_iconst hf dX0_sureOf_6 ?_
  refine tt_istore_n (lv' := [(3, .int (iI 0)), (2, .int (iI (-1))), (0, .ref o), (1, .int (iI v))]) hf dX0_sureOf_7 (by decide) rfl ?_
  have lp : ∀ (N : Nat) (z : Int) (c : Int), (0 ≤ c ∧ c ≤ cols) → (-1 ≤ z ∧ z ≤ 2) → ((z = -1 ∧ ∀ c1, 0 ≤ c1 → c1 < c → ¬ (0 < ((WL (xkd num mf) (xco num mf) cols many).length : Int) ∧ hav1 (3 * v + c1) = ((WL (xkd num mf) (xco num mf) cols many).length : Int))) ∨ (0 ≤ z ∧ z < c ∧ 0 < ((WL (xkd num mf) (xco num mf) cols many).length : Int) ∧ hav1 (3 * v + z) = ((WL (xkd num mf) (xco num mf) cols many).length : Int))) → (cols - c).toNat < N → T Γ (rmL 32) 4 0 0 (Qe Γ (rmL 32) (fun vv w => ∃ r : Int, vv = some (.int (iI r)) ∧ iR r ∧ (∃ (row1 hav1 : Int → Int) (wtd1 : Int) (fnd1 : Int → Int), (∀ i, -1 ≤ row1 i ∧ row1 i ≤ 2) ∧ cntOk (xkd num mf) (xco num mf) cols many hav1 ∧ r = suE (WL (xkd num mf) (xco num mf) cols many) v ∧ w = xW (xg Γ) o ax num kpt many cols chg brd 0 page pgM told enD row1 (((WL (xkd num mf) (xco num mf) cols many).length : Int)) (frN (xkd num mf) (xco num mf) cols many.toNat) hav1 wtd1 fnd1 (mdE (xkd num mf) (xco num mf) cols many) (winE (xkd num mf) (xco num mf) cols many) sN sW sC sM drw kN kW kC kS kG kB hh L mf))) (xW (xg Γ) o ax num kpt many cols chg brd 0 page pgM told enD row1 (((WL (xkd num mf) (xco num mf) cols many).length : Int)) (frN (xkd num mf) (xco num mf) cols many.toNat) hav1 wtd1 fnd1 (mdE (xkd num mf) (xco num mf) cols many) (winE (xkd num mf) (xco num mf) cols many) sN sW sC sM drw kN kW kC kS kG kB hh L mf) 8 [(0, .ref o), (1, .int (iI v)), (2, .int (iI z)), (3, .int (iI c))] [] := by
    intro N
    induction N with
    | zero => intro z c hc0 hzr hz hN; exact absurd hN (Nat.not_lt_zero _)
    | succ N ih =>
      intro z c hc0 hzr hz hN
      refine tt_iload_n hf 3 dX0_sureOf_8 rfl ?_
      refine tt_aload_n hf 0 dX0_sureOf_9 rfl ?_
      refine gx_cols hf dX0_sureOf_10 ?_
      refine tt_icmp_ge (tgt := 52) hf dX0_sureOf_13 (by decide) (by omega) (by omega) (fun c13 => ?_) (fun c13 => ?_)
      · refine tt_iload_n hf 2 dX0_sureOf_52 rfl ?_
        have hs : suR ((WL (xkd num mf) (xco num mf) cols many).length : Int) cols hav1 v z := by
          have e : c = cols := by omega
          subst e
          exact hz
        exact tt_ireti hf hrT dX0_sureOf_53 (Nat.le_refl _) (Nat.le_refl _) (by omega) ⟨row1, hav1, wtd1, fnd1, q1, o1, su_uniq hc (xco_rng hB) hcc hv.1 hv.2 o1 hs, rfl⟩
      · refine tt_aload_n hf 0 dX0_sureOf_16 rfl ?_
        refine gx_ways hf dX0_sureOf_17 ?_
        refine tt_if_le (tgt := 52) hf dX0_sureOf_20 (by decide) (by omega) (fun c20 => ?_) (fun c20 => ?_)
        · refine tt_iload_n hf 2 dX0_sureOf_52 rfl ?_
          have hs : suR ((WL (xkd num mf) (xco num mf) cols many).length : Int) cols hav1 v z := by
            rcases hz with h1 | h1
            · exact Or.inl ⟨h1.1, fun c1 q1 q2 q3 => by omega⟩
            · exact absurd h1.2.2.1 (by omega)
          exact tt_ireti hf hrT dX0_sureOf_53 (Nat.le_refl _) (Nat.le_refl _) (by omega) ⟨row1, hav1, wtd1, fnd1, q1, o1, su_uniq hc (xco_rng hB) hcc hv.1 hv.2 o1 hs, rfl⟩
        · refine tt_aload_n hf 0 dX0_sureOf_23 rfl ?_
          refine gx_hav hf dX0_sureOf_24 ?_
          refine tt_iload_n hf 1 dX0_sureOf_27 rfl ?_
          refine tt_iconst hf dX0_sureOf_28 ?_
          refine tt_imul hf dX0_sureOf_29 ?_
          refine tt_iload_n hf 3 dX0_sureOf_30 rfl ?_
          refine tt_iadd hf dX0_sureOf_31 ?_
          refine tt_top (z' := 3 * v + c) (by omega) ?_
          refine lx_hav hf (by omega) dX0_sureOf_32 ?_
          have hcv := cnt_rng (WL (xkd num mf) (xco num mf) cols many) v c
          have ecv := o1 v c (by omega) (by omega) (by omega) (by omega)
          refine tt_aload_n hf 0 dX0_sureOf_33 rfl ?_
          refine gx_ways hf dX0_sureOf_34 ?_
          refine tt_icmp_ne (tgt := 44) hf dX0_sureOf_37 (by decide) (by omega) (by omega) (fun c37 => ?_) (fun c37 => ?_)
          · refine tt_iload_n hf 2 dX0_sureOf_44 rfl ?_
            refine tt_istore_n (lv' := [(2, .int (iI z)), (0, .ref o), (1, .int (iI v)), (3, .int (iI c))]) hf dX0_sureOf_45 (by decide) rfl ?_
            refine tt_iinc (lv' := [(3, .int (iI (c + 1))), (2, .int (iI z)), (0, .ref o), (1, .int (iI v))]) hf 3 dX0_sureOf_46 rfl (by decide) rfl ?_
            refine tt_goto (tgt := 8) hf dX0_sureOf_49 (by decide) ?_
            refine tt_sub [2, 3, 1, 0] rfl ?_
            exact ih z (c + 1) (by omega) (by omega) (by rcases hz with ⟨h1, h2⟩ | h1; exact Or.inl ⟨h1, fun c1 q1 q2 q3 => by by_cases e : c1 = c; subst e; exact c37 q3.2; exact h2 c1 q1 (by omega) q3⟩; exact Or.inr ⟨h1.1, by omega, h1.2.2⟩) (by omega)
          · refine tt_iload_n hf 3 dX0_sureOf_40 rfl ?_
            refine tt_goto (tgt := 45) hf dX0_sureOf_41 (by decide) ?_
            refine tt_istore_n (lv' := [(2, .int (iI c)), (0, .ref o), (1, .int (iI v)), (3, .int (iI c))]) hf dX0_sureOf_45 (by decide) rfl ?_
            refine tt_iinc (lv' := [(3, .int (iI (c + 1))), (2, .int (iI c)), (0, .ref o), (1, .int (iI v))]) hf 3 dX0_sureOf_46 rfl (by decide) rfl ?_
            refine tt_goto (tgt := 8) hf dX0_sureOf_49 (by decide) ?_
            refine tt_sub [2, 3, 1, 0] rfl ?_
            exact ih c (c + 1) (by omega) (by omega) (Or.inr ⟨by omega, by omega, by omega, c37⟩) (by omega)
  refine tt_sub [2, 3, 1, 0] rfl ?_
  exact lp _ (-1) 0 (by omega) (by omega) (Or.inl ⟨rfl, fun c1 q1 q2 => by omega⟩) (Nat.lt_succ_self _)
set_option maxHeartbeats 4000000 in
set_option maxRecDepth 100000 in
theorem cx_badWith {l : Launch} {g : tG} {o : Nat} {ax : Nat → Nat} {num kpt : Int → Option Nat} {many cols chg brd old : Int} {page : Int → Int} {pgM told enD : Int} {row : Int → Int} {ways far : Int} {hav : Int → Int} {wtd : Int} {fnd : Int → Int} {mdT wnT : Int} {sN sW sC : Int → Int} {sM drw : Int} {kN kW kC : Int → Int} {kS kG kB : Int} {hh : Int64} {L : List Nat} {mf : Nat → Nat × Int × Int × Int} {v : Int} (hm : 0 ≤ many ∧ many ≤ 10) (hB : xB many num L mf) (hrow : ∀ i, -1 ≤ row i ∧ row i ≤ 2) (hv : 1 ≤ v ∧ v ≤ many) : Ce l g yX0_badWith (ws_ yX0_badWith cX0_badWith 6 (Option.some Jvm.ClassFile.FieldType.int)) (rmL 6) [.ref o, .int (iI v)] (xW g o ax num kpt many cols chg brd old page pgM told enD row ways far hav wtd fnd mdT wnT sN sW sC sM drw kN kW kC kS kG kB hh L mf) (boN (xkd num mf) (xco num mf) v many.toNat) (xW g o ax num kpt many cols chg brd old page pgM told enD (mixF (many + 1) (xco num mf) row) ways far hav wtd fnd mdT wnT sN sW sC sM drw kN kW kC kS kG kB hh L mf) := by
  refine Ct.of (by decide) (Nat.le_of_ble_eq_true rfl) ?_
  intro Γ hl hg hf hrT
  subst hl hg
  have hf : Fx Γ RX0 cX0_badWith 6 := hf
  show T Γ (rmL 6) 6 0 0 (Qe Γ (rmL 6) _) _ 0 [(0, .ref o), (1, .int (iI v))] []
  refine tt_aload_n hf 0 dX0_badWith_0 rfl ?_
  refine tt_callV0 (As := []) (rest := []) (q0 := 0) (ci := 0) hf (cx_layRow hm hB) lk_X0_X0_layRow hd_X0_layRow rfl rfl rfl ⟨rfl, rfl⟩ (by decide) (by decide) (Nat.le_of_ble_eq_true rfl) dX0_badWith_1 rfl (kk_v (fun w hw => ?_))
  subst hw
  refine tt_iconst hf dX0_badWith_4 ?_
  refine tt_istore_n (lv' := [(2, .int (iI 0)), (0, .ref o), (1, .int (iI v))]) hf dX0_badWith_5 (by decide) rfl ?_
  refine tt_iconst hf dX0_badWith_6 ?_
  refine tt_istore_n (lv' := [(3, .int (iI 1)), (2, .int (iI 0)), (0, .ref o), (1, .int (iI v))]) hf dX0_badWith_7 (by decide) rfl ?_
  have lp : ∀ (N : Nat) (z : Int) (i : Int), (1 ≤ i ∧ i ≤ many + 1) → (0 ≤ z ∧ z ≤ 11 * i) → (z = gA (gV (xkd num mf) (mixF (many + 1) (xco num mf) row) v) many (i - 1).toNat) → (11 - i).toNat < N → T Γ (rmL 6) 6 0 0 (Qe Γ (rmL 6) (fun vv w => ∃ r : Int, vv = some (.int (iI r)) ∧ iR r ∧ r = (boN (xkd num mf) (xco num mf) v many.toNat) ∧ w = xW (xg Γ) o ax num kpt many cols chg brd old page pgM told enD (mixF (many + 1) (xco num mf) row) ways far hav wtd fnd mdT wnT sN sW sC sM drw kN kW kC kS kG kB hh L mf)) (xW (xg Γ) o ax num kpt many cols chg brd old page pgM told enD (mixF (many + 1) (xco num mf) row) ways far hav wtd fnd mdT wnT sN sW sC sM drw kN kW kC kS kG kB hh L mf) 8 [(0, .ref o), (1, .int (iI v)), (2, .int (iI z)), (3, .int (iI i))] [] := by
    intro N
    induction N with
    | zero => intro z i hi hzr hz hN; exact absurd hN (Nat.not_lt_zero _)
    | succ N ih =>
      intro z i hi hzr hz hN
      refine tt_iload_n hf 3 dX0_badWith_8 rfl ?_
      refine tt_aload_n hf 0 dX0_badWith_9 rfl ?_
      refine gx_many hf dX0_badWith_10 ?_
      refine tt_icmp_gt (tgt := 91) hf dX0_badWith_13 (by decide) (by omega) (by omega) (fun c13 => ?_) (fun c13 => ?_)
      · refine tt_iload_n hf 2 dX0_badWith_91 rfl ?_
        exact tt_ireti hf hrT dX0_badWith_92 (Nat.le_refl _) (Nat.le_refl _) (by omega) ⟨(by rw [hz, show i - 1 = many by omega, gA_bo hv]; exact boN_cg hv.1 _ (fun i h1 h2 => by unfold mixF; rw [if_pos (by omega)])), rfl⟩
      · refine tt_iload_n hf 3 dX0_badWith_16 rfl ?_
        refine tt_istore (lv' := [(4, .int (iI i)), (0, .ref o), (1, .int (iI v)), (2, .int (iI z)), (3, .int (iI i))]) hf dX0_badWith_17 (by decide) rfl ?_
        have ih8 := ih
        have lp19 : ∀ (N : Nat) (z : Int) (j : Int), (i ≤ j ∧ (j = i ∨ i + j ≤ many + 1)) → (0 ≤ z ∧ z ≤ 11 * i + j) → (z = gA (gV (xkd num mf) (mixF (many + 1) (xco num mf) row) v) many (i - 1).toNat + gq (gV (xkd num mf) (mixF (many + 1) (xco num mf) row) v) i (j - i).toNat) → (11 - j).toNat < N → T Γ (rmL 6) 6 0 0 (Qe Γ (rmL 6) (fun vv w => ∃ r : Int, vv = some (.int (iI r)) ∧ iR r ∧ r = (boN (xkd num mf) (xco num mf) v many.toNat) ∧ w = xW (xg Γ) o ax num kpt many cols chg brd old page pgM told enD (mixF (many + 1) (xco num mf) row) ways far hav wtd fnd mdT wnT sN sW sC sM drw kN kW kC kS kG kB hh L mf)) (xW (xg Γ) o ax num kpt many cols chg brd old page pgM told enD (mixF (many + 1) (xco num mf) row) ways far hav wtd fnd mdT wnT sN sW sC sM drw kN kW kC kS kG kB hh L mf) 19 [(0, .ref o), (1, .int (iI v)), (2, .int (iI z)), (3, .int (iI i)), (4, .int (iI j))] [] := by
          intro N
          induction N with
          | zero => intro z j hj hzr hz hN; exact absurd hN (Nat.not_lt_zero _)
          | succ N ih =>
            intro z j hj hzr hz hN
            refine tt_iload_n hf 3 dX0_badWith_19 rfl ?_
            refine tt_iload hf 4 dX0_badWith_20 rfl ?_
            refine tt_iadd hf dX0_badWith_22 ?_
            refine tt_aload_n hf 0 dX0_badWith_23 rfl ?_
            refine gx_many hf dX0_badWith_24 ?_
            refine tt_icmp_gt (tgt := 85) hf dX0_badWith_27 (by decide) (by omega) (by omega) (fun c27 => ?_) (fun c27 => ?_)
            · refine tt_iinc (lv' := [(3, .int (iI (i + 1))), (0, .ref o), (1, .int (iI v)), (2, .int (iI z)), (4, .int (iI j))]) hf 3 dX0_badWith_85 rfl (by decide) rfl ?_
              refine tt_goto (tgt := 8) hf dX0_badWith_88 (by decide) ?_
              refine tt_sub [1, 2, 3, 0] rfl ?_
              exact ih8 z (i + 1) (by omega) (by omega) (by rw [Int.add_sub_cancel, gA_s' (by omega), hz, show (j - i).toNat = (many + 1 - 2 * i).toNat by omega]) (by omega)
            · refine tt_iload_n hf 3 dX0_badWith_30 rfl ?_
              refine tt_iload_n hf 1 dX0_badWith_31 rfl ?_
              refine tt_icmp_eq (tgt := 49) hf dX0_badWith_32 (by decide) (by omega) (by omega) (fun c32 => ?_) (fun c32 => ?_)
              · refine tt_iconst hf dX0_badWith_49 ?_
                refine tt_goto (tgt := 54) hf dX0_badWith_50 (by decide) ?_
                refine tt_istore (lv' := [(5, .int (iI 1)), (0, .ref o), (1, .int (iI v)), (2, .int (iI z)), (3, .int (iI i)), (4, .int (iI j))]) hf dX0_badWith_54 (by decide) rfl ?_
                refine tt_iload_n hf 3 dX0_badWith_56 rfl ?_
                refine tt_iload hf 0 dX0_badWith_57 rfl ?_
                refine tt_if_eq (tgt := 76) hf dX0_badWith_59 (by decide) (by omega) (fun c => absurd c (by decide)) (fun _ => ?_)
                refine tt_aload_n hf 1 dX0_badWith_62 rfl ?_
                refine tt_iload_n hf 4 dX0_badWith_63 rfl ?_
                refine tt_iload hf 5 dX0_badWith_64 rfl ?_
                refine tt_callV0 (As := [.int (iI i), .int (iI j)]) (rest := [.int (iI z)]) (q0 := 0) (ci := 0) hf (cx_isBad hm hB (mixX_rng (xco_rng hB) hrow) (by omega) (by omega) (by omega)) lk_X0_X0_isBad hd_X0_isBad rfl rfl rfl ⟨rfl, rfl⟩ (by decide) (by decide) (Nat.le_of_ble_eq_true rfl) dX0_badWith_66 rfl (kk_e (fun r66 => ?_))
                refine tt_ifb_eq (tgt := 76) hf dX0_badWith_69 (by decide) (fun c69 => ?_) (fun c69 => ?_)
                · refine tt_iconst hf dX0_badWith_76 ?_
                  refine tt_iadd hf dX0_badWith_77 ?_
                  refine tt_istore_n (lv' := [(2, .int (iI (z + 0))), (5, .int (iI 1)), (0, .ref o), (1, .int (iI v)), (3, .int (iI i)), (4, .int (iI j))]) hf dX0_badWith_78 (by decide) rfl ?_
                  refine tt_iinc (lv' := [(4, .int (iI (j + 1))), (2, .int (iI (z + 0))), (5, .int (iI 1)), (0, .ref o), (1, .int (iI v)), (3, .int (iI i))]) hf 5 dX0_badWith_79 rfl (by decide) rfl ?_
                  refine tt_goto (tgt := 19) hf dX0_badWith_82 (by decide) ?_
                  refine tt_sub [3, 4, 1, 5, 0] rfl ?_
                  exact ih (z + 0) (j + 1) (by omega) (by omega) (by rw [gq_s' (by omega), ← Int.add_assoc, ← hz]; unfold gV; rw [if_neg (fun q => c69 q.2)]) (by omega)
                · refine tt_iconst hf dX0_badWith_72 ?_
                  refine tt_goto (tgt := 77) hf dX0_badWith_73 (by decide) ?_
                  refine tt_iadd hf dX0_badWith_77 ?_
                  refine tt_istore_n (lv' := [(2, .int (iI (z + 1))), (5, .int (iI 1)), (0, .ref o), (1, .int (iI v)), (3, .int (iI i)), (4, .int (iI j))]) hf dX0_badWith_78 (by decide) rfl ?_
                  refine tt_iinc (lv' := [(4, .int (iI (j + 1))), (2, .int (iI (z + 1))), (5, .int (iI 1)), (0, .ref o), (1, .int (iI v)), (3, .int (iI i))]) hf 5 dX0_badWith_79 rfl (by decide) rfl ?_
                  refine tt_goto (tgt := 19) hf dX0_badWith_82 (by decide) ?_
                  refine tt_sub [3, 4, 1, 5, 0] rfl ?_
                  exact ih (z + 1) (j + 1) (by omega) (by omega) (by rw [gq_s' (by omega), ← Int.add_assoc, ← hz]; unfold gV; rw [if_pos ⟨by omega, c69⟩]) (by omega)
              · refine tt_iload hf 4 dX0_badWith_35 rfl ?_
                refine tt_iload_n hf 1 dX0_badWith_37 rfl ?_
                refine tt_icmp_eq (tgt := 49) hf dX0_badWith_38 (by decide) (by omega) (by omega) (fun c38 => ?_) (fun c38 => ?_)
                · refine tt_iconst hf dX0_badWith_49 ?_
                  refine tt_goto (tgt := 54) hf dX0_badWith_50 (by decide) ?_
                  refine tt_istore (lv' := [(5, .int (iI 1)), (0, .ref o), (1, .int (iI v)), (2, .int (iI z)), (3, .int (iI i)), (4, .int (iI j))]) hf dX0_badWith_54 (by decide) rfl ?_
                  refine tt_iload_n hf 3 dX0_badWith_56 rfl ?_
                  refine tt_iload hf 0 dX0_badWith_57 rfl ?_
                  refine tt_if_eq (tgt := 76) hf dX0_badWith_59 (by decide) (by omega) (fun c => absurd c (by decide)) (fun _ => ?_)
                  refine tt_aload_n hf 1 dX0_badWith_62 rfl ?_
                  refine tt_iload_n hf 4 dX0_badWith_63 rfl ?_
                  refine tt_iload hf 5 dX0_badWith_64 rfl ?_
                  refine tt_callV0 (As := [.int (iI i), .int (iI j)]) (rest := [.int (iI z)]) (q0 := 0) (ci := 0) hf (cx_isBad hm hB (mixX_rng (xco_rng hB) hrow) (by omega) (by omega) (by omega)) lk_X0_X0_isBad hd_X0_isBad rfl rfl rfl ⟨rfl, rfl⟩ (by decide) (by decide) (Nat.le_of_ble_eq_true rfl) dX0_badWith_66 rfl (kk_e (fun r66 => ?_))
                  refine tt_ifb_eq (tgt := 76) hf dX0_badWith_69 (by decide) (fun c69 => ?_) (fun c69 => ?_)
                  · refine tt_iconst hf dX0_badWith_76 ?_
                    refine tt_iadd hf dX0_badWith_77 ?_
                    refine tt_istore_n (lv' := [(2, .int (iI (z + 0))), (5, .int (iI 1)), (0, .ref o), (1, .int (iI v)), (3, .int (iI i)), (4, .int (iI j))]) hf dX0_badWith_78 (by decide) rfl ?_
                    refine tt_iinc (lv' := [(4, .int (iI (j + 1))), (2, .int (iI (z + 0))), (5, .int (iI 1)), (0, .ref o), (1, .int (iI v)), (3, .int (iI i))]) hf 5 dX0_badWith_79 rfl (by decide) rfl ?_
                    refine tt_goto (tgt := 19) hf dX0_badWith_82 (by decide) ?_
                    refine tt_sub [3, 4, 1, 5, 0] rfl ?_
                    exact ih (z + 0) (j + 1) (by omega) (by omega) (by rw [gq_s' (by omega), ← Int.add_assoc, ← hz]; unfold gV; rw [if_neg (fun q => c69 q.2)]) (by omega)
                  · refine tt_iconst hf dX0_badWith_72 ?_
                    refine tt_goto (tgt := 77) hf dX0_badWith_73 (by decide) ?_
                    refine tt_iadd hf dX0_badWith_77 ?_
                    refine tt_istore_n (lv' := [(2, .int (iI (z + 1))), (5, .int (iI 1)), (0, .ref o), (1, .int (iI v)), (3, .int (iI i)), (4, .int (iI j))]) hf dX0_badWith_78 (by decide) rfl ?_
                    refine tt_iinc (lv' := [(4, .int (iI (j + 1))), (2, .int (iI (z + 1))), (5, .int (iI 1)), (0, .ref o), (1, .int (iI v)), (3, .int (iI i))]) hf 5 dX0_badWith_79 rfl (by decide) rfl ?_
                    refine tt_goto (tgt := 19) hf dX0_badWith_82 (by decide) ?_
                    refine tt_sub [3, 4, 1, 5, 0] rfl ?_
                    exact ih (z + 1) (j + 1) (by omega) (by omega) (by rw [gq_s' (by omega), ← Int.add_assoc, ← hz]; unfold gV; rw [if_pos ⟨by omega, c69⟩]) (by omega)
                · refine tt_iload_n hf 3 dX0_badWith_41 rfl ?_
                  refine tt_iload hf 4 dX0_badWith_42 rfl ?_
                  refine tt_iadd hf dX0_badWith_44 ?_
                  refine tt_iload_n hf 1 dX0_badWith_45 rfl ?_
                  refine tt_icmp_ne (tgt := 53) hf dX0_badWith_46 (by decide) (by omega) (by omega) (fun c46 => ?_) (fun c46 => ?_)
                  · refine tt_iconst hf dX0_badWith_53 ?_
                    refine tt_istore (lv' := [(5, .int (iI 0)), (0, .ref o), (1, .int (iI v)), (2, .int (iI z)), (3, .int (iI i)), (4, .int (iI j))]) hf dX0_badWith_54 (by decide) rfl ?_
                    refine tt_iload_n hf 3 dX0_badWith_56 rfl ?_
                    refine tt_iload hf 0 dX0_badWith_57 rfl ?_
                    refine tt_if_eq (tgt := 76) hf dX0_badWith_59 (by decide) (by omega) (fun _ => ?_) (fun c => absurd c (by decide))
                    refine tt_iconst hf dX0_badWith_76 ?_
                    refine tt_iadd hf dX0_badWith_77 ?_
                    refine tt_istore_n (lv' := [(2, .int (iI (z + 0))), (5, .int (iI 0)), (0, .ref o), (1, .int (iI v)), (3, .int (iI i)), (4, .int (iI j))]) hf dX0_badWith_78 (by decide) rfl ?_
                    refine tt_iinc (lv' := [(4, .int (iI (j + 1))), (2, .int (iI (z + 0))), (5, .int (iI 0)), (0, .ref o), (1, .int (iI v)), (3, .int (iI i))]) hf 5 dX0_badWith_79 rfl (by decide) rfl ?_
                    refine tt_goto (tgt := 19) hf dX0_badWith_82 (by decide) ?_
                    refine tt_sub [3, 4, 1, 5, 0] rfl ?_
                    exact ih (z + 0) (j + 1) (by omega) (by omega) (by rw [gq_s' (by omega), ← Int.add_assoc, ← hz]; unfold gV; rw [if_neg (by omega)]) (by omega)
                  · refine tt_iconst hf dX0_badWith_49 ?_
                    refine tt_goto (tgt := 54) hf dX0_badWith_50 (by decide) ?_
                    refine tt_istore (lv' := [(5, .int (iI 1)), (0, .ref o), (1, .int (iI v)), (2, .int (iI z)), (3, .int (iI i)), (4, .int (iI j))]) hf dX0_badWith_54 (by decide) rfl ?_
                    refine tt_iload_n hf 3 dX0_badWith_56 rfl ?_
                    refine tt_iload hf 0 dX0_badWith_57 rfl ?_
                    refine tt_if_eq (tgt := 76) hf dX0_badWith_59 (by decide) (by omega) (fun c => absurd c (by decide)) (fun _ => ?_)
                    refine tt_aload_n hf 1 dX0_badWith_62 rfl ?_
                    refine tt_iload_n hf 4 dX0_badWith_63 rfl ?_
                    refine tt_iload hf 5 dX0_badWith_64 rfl ?_
                    refine tt_callV0 (As := [.int (iI i), .int (iI j)]) (rest := [.int (iI z)]) (q0 := 0) (ci := 0) hf (cx_isBad hm hB (mixX_rng (xco_rng hB) hrow) (by omega) (by omega) (by omega)) lk_X0_X0_isBad hd_X0_isBad rfl rfl rfl ⟨rfl, rfl⟩ (by decide) (by decide) (Nat.le_of_ble_eq_true rfl) dX0_badWith_66 rfl (kk_e (fun r66 => ?_))
                    refine tt_ifb_eq (tgt := 76) hf dX0_badWith_69 (by decide) (fun c69 => ?_) (fun c69 => ?_)
                    · refine tt_iconst hf dX0_badWith_76 ?_
                      refine tt_iadd hf dX0_badWith_77 ?_
                      refine tt_istore_n (lv' := [(2, .int (iI (z + 0))), (5, .int (iI 1)), (0, .ref o), (1, .int (iI v)), (3, .int (iI i)), (4, .int (iI j))]) hf dX0_badWith_78 (by decide) rfl ?_
                      refine tt_iinc (lv' := [(4, .int (iI (j + 1))), (2, .int (iI (z + 0))), (5, .int (iI 1)), (0, .ref o), (1, .int (iI v)), (3, .int (iI i))]) hf 5 dX0_badWith_79 rfl (by decide) rfl ?_
                      refine tt_goto (tgt := 19) hf dX0_badWith_82 (by decide) ?_
                      refine tt_sub [3, 4, 1, 5, 0] rfl ?_
                      exact ih (z + 0) (j + 1) (by omega) (by omega) (by rw [gq_s' (by omega), ← Int.add_assoc, ← hz]; unfold gV; rw [if_neg (fun q => c69 q.2)]) (by omega)
                    · refine tt_iconst hf dX0_badWith_72 ?_
                      refine tt_goto (tgt := 77) hf dX0_badWith_73 (by decide) ?_
                      refine tt_iadd hf dX0_badWith_77 ?_
                      refine tt_istore_n (lv' := [(2, .int (iI (z + 1))), (5, .int (iI 1)), (0, .ref o), (1, .int (iI v)), (3, .int (iI i)), (4, .int (iI j))]) hf dX0_badWith_78 (by decide) rfl ?_
                      refine tt_iinc (lv' := [(4, .int (iI (j + 1))), (2, .int (iI (z + 1))), (5, .int (iI 1)), (0, .ref o), (1, .int (iI v)), (3, .int (iI i))]) hf 5 dX0_badWith_79 rfl (by decide) rfl ?_
                      refine tt_goto (tgt := 19) hf dX0_badWith_82 (by decide) ?_
                      refine tt_sub [3, 4, 1, 5, 0] rfl ?_
                      exact ih (z + 1) (j + 1) (by omega) (by omega) (by rw [gq_s' (by omega), ← Int.add_assoc, ← hz]; unfold gV; rw [if_pos ⟨by omega, c69⟩]) (by omega)
        refine tt_sub [1, 2, 3, 4, 0] rfl ?_
        exact lp19 _ z i (by omega) (by omega) (by rw [show (i - i).toNat = 0 by omega, hz]; exact (Int.add_zero _).symm) (Nat.lt_succ_self _)
  refine tt_sub [2, 3, 1, 0] rfl ?_
  exact lp _ 0 1 (by omega) (by omega) rfl (Nat.lt_succ_self _)
