theorem kc_good (p : Int → Int) : ∀ (f : Nat) (n j : Int), n ≤ j → j < kc p f n → kb (p (2 + j)) ≠ -1
  | 0, n, j, h1, h2 => by simp only [kc] at h2; omega
  | f + 1, n, j, h1, h2 => by
    simp only [kc] at h2
    split at h2
    · rename_i q
      by_cases e : j = n
      · subst e; exact q
      · exact kc_good p f (n + 1) j (by omega) h2
    · omega
theorem sc_good (p : Int → Int) (most : Int) : ∀ (f : Nat) (k j : Int), k ≤ j → j < sc p most f k → sgn (p j) most
  | 0, k, j, h1, h2 => by simp only [sc] at h2; omega
  | f + 1, k, j, h1, h2 => by
    simp only [sc] at h2
    split at h2
    · rename_i q
      by_cases e : j = k
      · subst e; exact q
      · exact sc_good p most f (k + 1) j (by omega) h2
    · omega
/-- a whole page: its numbers, kinds and signs -/
theorem rd_whole {page : Int → Int} {pgM : Int} (h : (rdF (pa page pgM) pgM).2.1 = 1) : 4 ≤ (rdF (pa page pgM) pgM).2.2 ∧ (rdF (pa page pgM) pgM).2.2 ≤ 10 ∧ pgM = 3 + 2 * (rdF (pa page pgM) pgM).2.2 ∧ 2 ≤ page 0 - 48 ∧ page 0 - 48 ≤ 3 ∧ (∀ i, 1 ≤ i → i ≤ (rdF (pa page pgM) pgM).2.2 → 0 ≤ kb (page (1 + i)) ∧ kb (page (1 + i)) ≤ 4) ∧ (∀ i, 1 ≤ i → i ≤ (rdF (pa page pgM) pgM).2.2 → page (2 + (rdF (pa page pgM) pgM).2.2 + i) = 46 ∨ (0 ≤ page (2 + (rdF (pa page pgM) pgM).2.2 + i) - 97 ∧ page (2 + (rdF (pa page pgM) pgM).2.2 + i) - 97 ≤ page 0 - 48 - 1)) := by
  have hk := kc_rng (pa page pgM) 10 0
  have hkg := kc_good (pa page pgM) 10 0
  obtain ⟨K, eK⟩ : ∃ K, K = kc (pa page pgM) 10 0 := ⟨_, rfl⟩
  have e : rdF (pa page pgM) pgM = rdF (pa page pgM) pgM := rfl
  conv at e => rhs; unfold rdF
  rw [← eK] at e hk hkg
  by_cases q1 : ¬ (2 ≤ pa page pgM 0 - 48 ∧ pa page pgM 0 - 48 ≤ 3)
  · rw [if_pos q1] at e; rw [e] at h; exact absurd h (by decide)
  rw [if_neg q1] at e
  by_cases q2 : pa page pgM 1 ≠ 59
  · rw [if_pos q2] at e; rw [e] at h; exact absurd h (by decide)
  rw [if_neg q2] at e
  by_cases q3 : K < 4 ∨ pa page pgM (2 + K) ≠ 59
  · rw [if_pos q3] at e; rw [e] at h; exact absurd h (by simp)
  rw [if_neg q3] at e
  have q4 : sc (pa page pgM) (pa page pgM 0 - 48) K.toNat (2 + K + 1) = 2 + K + 1 + K ∧ sc (pa page pgM) (pa page pgM 0 - 48) K.toNat (2 + K + 1) = pgM := by
    rw [e] at h
    dsimp only at h
    by_cases q : sc (pa page pgM) (pa page pgM 0 - 48) K.toNat (2 + K + 1) = 2 + K + 1 + K ∧ sc (pa page pgM) (pa page pgM 0 - 48) K.toNat (2 + K + 1) = pgM
    · exact q
    · rw [if_neg q] at h; exact absurd h (by decide)
  have e2 : (rdF (pa page pgM) pgM).2.2 = K := by rw [e]
  rw [e2]
  have hp : ∀ j, j < pgM → pa page pgM j = page j := fun j hj => by unfold pa; rw [if_pos hj]
  have hp0 := hp 0 (by omega)
  refine ⟨by omega, by omega, by omega, by omega, by omega, ?_, ?_⟩
  · intro i h1 h2
    have g := hkg (i - 1) (by omega) (by omega)
    rw [show 2 + (i - 1) = 1 + i by omega, hp _ (by omega)] at g
    have r := kb_rng (page (1 + i))
    omega
  · intro i h1 h2
    have g := sc_good (pa page pgM) (pa page pgM 0 - 48) K.toNat (2 + K + 1) (2 + K + i) (by omega) (by omega)
    rw [hp _ (by omega), hp0] at g
    rcases g with g | g
    · exact Or.inl g
    · exact Or.inr g
/-- the new members -/
def nwM (page : Int → Int) (pgM n : Int) : Nat × Int × Int × Int := ((kb (page (1 + n))).toNat, n, (if page (2 + (rdF (pa page pgM) pgM).2.2 + n) = 46 then -1 else page (2 + (rdF (pa page pgM) pgM).2.2 + n) - 97), 0)
def bdI (page : Int → Int) (pgM i : Int) (num nx : Int → Option Nat) (L Lx : List Nat) (mf mx : Mf) : Prop := (∀ n, ¬ (1 ≤ n ∧ n < i) → nx n = num n) ∧ (∀ n, 1 ≤ n → n < i → ∃ a, nx n = some a ∧ a ∈ Lx ∧ mx a = nwM page pgM n) ∧ ∀ b ∈ L, b ∈ Lx ∧ mx b = mf b
theorem bdI_1 {page : Int → Int} {pgM : Int} {num : Int → Option Nat} {L : List Nat} {mf : Mf} : bdI page pgM 1 num num L L mf mf := ⟨fun _ _ => rfl, fun n h1 h2 => by omega, fun b hb => ⟨hb, rfl⟩⟩
theorem bdI_s {page : Int → Int} {pgM i : Int} {num nx : Int → Option Nat} {L Lx : List Nat} {mf mx m2 : Mf} {q : Nat} (h : bdI page pgM i num nx L Lx mf mx) (hi : 1 ≤ i) (hq : q ∉ Lx) (h1 : m2 q = nwM page pgM i) (h2 : ∀ b, b ≠ q → m2 b = mx b) : bdI page pgM (i + 1) num (uI nx i (some q)) L (Lx ++ [q]) mf m2 := by
  obtain ⟨a1, a2, a3⟩ := h
  refine ⟨fun n hn => ?_, fun n n1 n2 => ?_, fun b hb => ?_⟩
  · rw [uI_n (by omega)]; exact a1 n (by omega)
  · by_cases e : n = i
    · subst e
      exact ⟨q, by rw [uI_s], List.mem_append_right _ (List.mem_singleton_self q), h1⟩
    · obtain ⟨a, b1, b2, b3⟩ := a2 n n1 (by omega)
      exact ⟨a, by rw [uI_n e]; exact b1, List.mem_append_left _ b2, by rw [h2 a (fun x => hq (x ▸ b2))]; exact b3⟩
  · obtain ⟨b1, b2⟩ := a3 b hb
    exact ⟨List.mem_append_left _ b1, by rw [h2 b (fun x => hq (x ▸ b1))]; exact b2⟩
theorem bd_xB {page : Int → Int} {pgM many : Int} {num nx : Int → Option Nat} {L Lx : List Nat} {mf mx : Mf} (hw : (rdF (pa page pgM) pgM).2.1 = 1) (hB : xB many num L mf) (h : bdI page pgM ((rdF (pa page pgM) pgM).2.2 + 1) num nx L Lx mf mx) : xB ((rdF (pa page pgM) pgM).2.2) nx Lx mx := by
  obtain ⟨w1, w2, w3, w4, w5, w6, w7⟩ := rd_whole hw
  obtain ⟨a1, a2, a3⟩ := h
  refine ⟨fun n b hb => ?_, fun n n1 n2 => ?_⟩
  · by_cases e : 1 ≤ n ∧ n ≤ (rdF (pa page pgM) pgM).2.2
    · obtain ⟨a, b1, b2, b3⟩ := a2 n e.1 (by omega)
      rw [hb] at b1
      cases b1
      rw [b3]
      have k6 := w6 n e.1 e.2
      have k7 := w7 n e.1 e.2
      refine ⟨b2, by show (kb (page (1 + n))).toNat < 5; omega, rfl, ?_, ?_⟩
      · show -1 ≤ (if page (2 + (rdF (pa page pgM) pgM).2.2 + n) = 46 then -1 else page (2 + (rdF (pa page pgM) pgM).2.2 + n) - 97); split <;> omega
      · show (if page (2 + (rdF (pa page pgM) pgM).2.2 + n) = 46 then -1 else page (2 + (rdF (pa page pgM) pgM).2.2 + n) - 97) ≤ 2; split <;> omega
    · rw [a1 n (by omega)] at hb
      have e := hB.1 n b hb
      obtain ⟨b1, b2⟩ := a3 b e.1
      rw [b2]
      exact ⟨b1, e.2⟩
  · obtain ⟨a, b1, _⟩ := a2 n n1 (by omega)
    exact ⟨a, b1⟩
theorem bd_kd {page : Int → Int} {pgM many : Int} {num nx : Int → Option Nat} {L Lx : List Nat} {mf mx : Mf} (hw : (rdF (pa page pgM) pgM).2.1 = 1) (hB : xB many num L mf) (h : bdI page pgM ((rdF (pa page pgM) pgM).2.2 + 1) num nx L Lx mf mx) : xkd nx mx = mixF ((rdF (pa page pgM) pgM).2.2 + 1) (fun i => kb (page (1 + i))) (xkd num mf) := by
  obtain ⟨w1, w2, w3, w4, w5, w6, w7⟩ := rd_whole hw
  obtain ⟨a1, a2, a3⟩ := h
  funext n
  by_cases e : 1 ≤ n ∧ n ≤ (rdF (pa page pgM) pgM).2.2
  · obtain ⟨a, b1, b2, b3⟩ := a2 n e.1 (by omega)
    rw [xkd_at b1, mixF_in (by omega), b3]
    have k6 := w6 n e.1 e.2
    show (((kb (page (1 + n))).toNat : Nat) : Int) = kb (page (1 + n))
    omega
  · rw [mixF_out (by omega)]
    unfold xkd
    rw [a1 n (by omega)]
    cases e2 : num n with
    | none => rfl
    | some b => simp only; rw [(a3 b (hB.1 n b e2).1).2]
theorem bd_co {page : Int → Int} {pgM many : Int} {num nx : Int → Option Nat} {L Lx : List Nat} {mf mx : Mf} (hB : xB many num L mf) (h : bdI page pgM ((rdF (pa page pgM) pgM).2.2 + 1) num nx L Lx mf mx) : xco nx mx = mixF ((rdF (pa page pgM) pgM).2.2 + 1) (fun i => (if page (2 + (rdF (pa page pgM) pgM).2.2 + i) = 46 then -1 else page (2 + (rdF (pa page pgM) pgM).2.2 + i) - 97)) (xco num mf) := by
  obtain ⟨a1, a2, a3⟩ := h
  funext n
  by_cases e : 1 ≤ n ∧ n ≤ (rdF (pa page pgM) pgM).2.2
  · obtain ⟨a, b1, b2, b3⟩ := a2 n e.1 (by omega)
    rw [xco_at b1, mixF_in (by omega), b3]
    rfl
  · rw [mixF_out (by omega)]
    unfold xco
    rw [a1 n (by omega)]
    cases e2 : num n with
    | none => rfl
    | some b => simp only; rw [(a3 b (hB.1 n b e2).1).2]
def rmB : Room := { frames := 6, cells := 10, slots := 30, locals := 240 }
set_option maxHeartbeats 4000000 in
set_option maxRecDepth 100000 in
theorem cx_board {l : Launch} {g : tG} {o : Nat} {ax : Nat → Nat} {num kpt : Int → Option Nat} {many cols chg brd old : Int} {page : Int → Int} {pgM told enD : Int} {row : Int → Int} {ways far : Int} {hav : Int → Int} {wtd : Int} {fnd : Int → Int} {mdT wnT : Int} {sN sW sC : Int → Int} {sM drw : Int} {kN kW kC : Int → Int} {kS kG kB : Int} {hh : Int64} {L : List Nat} {mf : Nat → Nat × Int × Int × Int}  (hpg : 0 ≤ pgM ∧ pgM ≤ 26) (hpv : ∀ i, 0 ≤ page i ∧ page i ≤ 126) (hB : xB many num L mf) : Ci l g yX0_board (ws_ yX0_board cX0_board 3 (Option.some Jvm.ClassFile.FieldType.int)) rmB [.ref o] (xW g o ax num kpt many cols chg brd old page pgM told enD row ways far hav wtd fnd mdT wnT sN sW sC sM drw kN kW kC kS kG kB hh L mf) (fun r w => ∃ (told1 enD1 : Int) (num1 : Int → Option Nat) (L1 : List Nat) (mf1 : Mf), r = (if (rdF (pa page pgM) pgM).2.1 = 1 then (rdF (pa page pgM) pgM).2.2 else -103) ∧ xB (if (rdF (pa page pgM) pgM).2.1 = 1 then (rdF (pa page pgM) pgM).2.2 else many) num1 L1 mf1 ∧ xkd num1 mf1 = (if (rdF (pa page pgM) pgM).2.1 = 1 then mixF ((rdF (pa page pgM) pgM).2.2 + 1) (fun i => kb (page (1 + i))) (xkd num mf) else (xkd num mf)) ∧ xco num1 mf1 = (if (rdF (pa page pgM) pgM).2.1 = 1 then mixF ((rdF (pa page pgM) pgM).2.2 + 1) (fun i => if page (2 + (rdF (pa page pgM) pgM).2.2 + i) = 46 then -1 else page (2 + (rdF (pa page pgM) pgM).2.2 + i) - 97) (xco num mf) else (xco num mf)) ∧ (¬ (rdF (pa page pgM) pgM).2.1 = 1 → num1 = num ∧ L1 = L ∧ mf1 = mf) ∧ w = xW g o ax num1 kpt (if (rdF (pa page pgM) pgM).2.1 = 1 then (rdF (pa page pgM) pgM).2.2 else many) (if (rdF (pa page pgM) pgM).2.1 = 1 then page 0 - 48 else cols) (if (rdF (pa page pgM) pgM).2.1 = 1 then 0 else chg) (if (rdF (pa page pgM) pgM).2.1 = 1 then brd + 1 else brd) (if (rdF (pa page pgM) pgM).2.1 = 1 then 1 else old) page (if (rdF (pa page pgM) pgM).2.1 = 1 then 0 else pgM) told1 enD1 row ways far hav wtd fnd mdT wnT sN sW sC (if (rdF (pa page pgM) pgM).2.1 = 1 then 0 else sM) drw kN kW kC kS kG kB hh L1 mf1) := by
  refine Ct.of (by decide) (Nat.le_of_ble_eq_true rfl) ?_
  intro Γ hl hg hf hrT
  subst hl hg
  have hf : Fx Γ RX0 cX0_board 3 := hf
  show T Γ rmB 3 0 0 (Qe Γ rmB _) _ 0 [(0, .ref o)] []
  refine tt_aload_n hf 0 dX0_board_0 rfl ?_
  refine tt_callV0 (As := []) (rest := []) (q0 := 0) (ci := 0) hf (cx_fault hpg hpv) lk_X0_X0_fault hd_X0_fault rfl rfl rfl ⟨rfl, rfl⟩ (by decide) (by decide) (Nat.le_of_ble_eq_true rfl) dX0_board_1 rfl (kk_i (fun r1 w hr1 hp1 => ?_))
  obtain ⟨told1, enD1, fo1, rfl⟩ := hp1
  refine tt_aload_n hf 0 dX0_board_4 rfl ?_
  refine gx_pgM hf dX0_board_5 ?_
  have fr1 := fo1.2.2
  have frr := rdF_rng (pa page pgM) pgM
  have fe := fo1.1
  refine tt_icmp_lt (tgt := 37) hf dX0_board_8 (by decide) (by omega) (by omega) (fun c8 => ?_) (fun c8 => ?_)
  · refine tt_bipush hf dX0_board_37 (by decide) ?_
    have hwh : ¬ (rdF (pa page pgM) pgM).2.1 = 1 := by intro q0; rcases fo1.2.1 with q | q; omega; omega
    exact tt_ireti hf hrT dX0_board_39 (Nat.zero_le _) (Nat.zero_le _) (by omega) ⟨told1, enD1, num, L, mf, by rw [if_neg hwh], by rw [if_neg hwh]; exact hB, by rw [if_neg hwh], by rw [if_neg hwh], fun _ => ⟨rfl, rfl, rfl⟩, by rw [if_neg hwh, if_neg hwh, if_neg hwh, if_neg hwh, if_neg hwh, if_neg hwh, if_neg hwh]⟩
  · refine tt_aload_n hf 0 dX0_board_11 rfl ?_
    refine gx_enD hf dX0_board_12 ?_
    refine tt_iconst hf dX0_board_15 ?_
    refine tt_icmp_eq (tgt := 37) hf dX0_board_16 (by decide) (by omega) (by omega) (fun c16 => ?_) (fun c16 => ?_)
    · refine tt_bipush hf dX0_board_37 (by decide) ?_
      have hwh : ¬ (rdF (pa page pgM) pgM).2.1 = 1 := by intro q0; rcases fo1.2.1 with q | q; omega; omega
      exact tt_ireti hf hrT dX0_board_39 (Nat.zero_le _) (Nat.zero_le _) (by omega) ⟨told1, enD1, num, L, mf, by rw [if_neg hwh], by rw [if_neg hwh]; exact hB, by rw [if_neg hwh], by rw [if_neg hwh], fun _ => ⟨rfl, rfl, rfl⟩, by rw [if_neg hwh, if_neg hwh, if_neg hwh, if_neg hwh, if_neg hwh, if_neg hwh, if_neg hwh]⟩
    · refine tt_aload_n hf 0 dX0_board_19 rfl ?_
      refine gx_pgM hf dX0_board_20 ?_
      refine tt_aload_n hf 0 dX0_board_23 rfl ?_
      refine gx_enD hf dX0_board_24 ?_
      refine tt_aload_n hf 0 dX0_board_27 rfl ?_
      refine gx_told hf dX0_board_28 ?_
      refine tt_iadd hf dX0_board_31 ?_
      refine tt_iconst hf dX0_board_32 ?_
      refine tt_iadd hf dX0_board_33 ?_
      refine tt_icmp_eq (tgt := 40) hf dX0_board_34 (by decide) (by omega) (by omega) (fun c34 => ?_) (fun c34 => ?_)
      · refine tt_aload_n hf 0 dX0_board_40 rfl ?_
        refine tt_aload_n hf 0 dX0_board_41 rfl ?_
        refine gx_page hf dX0_board_42 ?_
        refine tt_iconst hf dX0_board_45 ?_
        refine lx_page hf (by omega) dX0_board_46 ?_
        refine tt_bipush hf dX0_board_47 (by decide) ?_
        refine tt_isub hf dX0_board_49 ?_
        refine px_cols hf dX0_board_50 ?_
        refine tt_aload_n hf 0 dX0_board_53 rfl ?_
        refine tt_aload_n hf 0 dX0_board_54 rfl ?_
        refine gx_told hf dX0_board_55 ?_
        refine px_many hf dX0_board_58 ?_
        refine tt_iconst hf dX0_board_61 ?_
        refine tt_istore_n (lv' := [(1, .int (iI 1)), (0, .ref o)]) hf dX0_board_62 (by decide) rfl ?_
        have hwh : (rdF (pa page pgM) pgM).2.1 = 1 := by rcases fo1.2.1 with q | q; exact q.1; exact absurd ⟨by omega, c16, by omega⟩ q.2
        have fo2 : told1 = (rdF (pa page pgM) pgM).2.2 ∧ enD1 = 2 + (rdF (pa page pgM) pgM).2.2 := by rcases fo1.2.1 with q | q; exact ⟨q.2.1, by omega⟩; exact absurd q.1 (by omega)
        obtain ⟨et, ee⟩ := fo2
        obtain ⟨w1, w2, w3, w4, w5, w6, w7⟩ := rd_whole hwh
        have lp : ∀ (N : Nat) (i : Int) (nx : Int → Option Nat) (Lx : List Nat) (mx : Mf) (kk : Nat) (nn : Nat), (1 ≤ i ∧ i ≤ (rdF (pa page pgM) pgM).2.2 + 1) → ((kk : Int) ≤ i - 1 ∧ (nn : Int) ≤ 3 * (i - 1)) → (bdI page pgM i num nx L Lx mf mx) → (11 - i).toNat < N → T Γ rmB 3 kk nn (Qe Γ rmB (fun vv w => ∃ r : Int, vv = some (.int (iI r)) ∧ iR r ∧ (∃ (told1 enD1 : Int) (num1 : Int → Option Nat) (L1 : List Nat) (mf1 : Mf), r = (if (rdF (pa page pgM) pgM).2.1 = 1 then (rdF (pa page pgM) pgM).2.2 else -103) ∧ xB (if (rdF (pa page pgM) pgM).2.1 = 1 then (rdF (pa page pgM) pgM).2.2 else many) num1 L1 mf1 ∧ xkd num1 mf1 = (if (rdF (pa page pgM) pgM).2.1 = 1 then mixF ((rdF (pa page pgM) pgM).2.2 + 1) (fun i => kb (page (1 + i))) (xkd num mf) else (xkd num mf)) ∧ xco num1 mf1 = (if (rdF (pa page pgM) pgM).2.1 = 1 then mixF ((rdF (pa page pgM) pgM).2.2 + 1) (fun i => if page (2 + (rdF (pa page pgM) pgM).2.2 + i) = 46 then -1 else page (2 + (rdF (pa page pgM) pgM).2.2 + i) - 97) (xco num mf) else (xco num mf)) ∧ (¬ (rdF (pa page pgM) pgM).2.1 = 1 → num1 = num ∧ L1 = L ∧ mf1 = mf) ∧ w = xW (xg Γ) o ax num1 kpt (if (rdF (pa page pgM) pgM).2.1 = 1 then (rdF (pa page pgM) pgM).2.2 else many) (if (rdF (pa page pgM) pgM).2.1 = 1 then page 0 - 48 else cols) (if (rdF (pa page pgM) pgM).2.1 = 1 then 0 else chg) (if (rdF (pa page pgM) pgM).2.1 = 1 then brd + 1 else brd) (if (rdF (pa page pgM) pgM).2.1 = 1 then 1 else old) page (if (rdF (pa page pgM) pgM).2.1 = 1 then 0 else pgM) told1 enD1 row ways far hav wtd fnd mdT wnT sN sW sC (if (rdF (pa page pgM) pgM).2.1 = 1 then 0 else sM) drw kN kW kC kS kG kB hh L1 mf1))) (xW (xg Γ) o ax nx kpt told1 ((page 0) - 48) chg brd old page pgM told1 enD1 row ways far hav wtd fnd mdT wnT sN sW sC sM drw kN kW kC kS kG kB hh Lx mx) 63 [(0, .ref o), (1, .int (iI i))] [] := by
          intro N
          induction N with
          | zero => intro i nx Lx mx kk nn hi hkn hI hN; exact absurd hN (Nat.not_lt_zero _)
          | succ N ih =>
            intro i nx Lx mx kk nn hi hkn hI hN
            refine tt_iload_n hf 1 dX0_board_63 rfl ?_
            refine tt_aload_n hf 0 dX0_board_64 rfl ?_
            refine gx_many hf dX0_board_65 ?_
            refine tt_icmp_gt (tgt := 144) hf dX0_board_68 (by decide) (by omega) (by omega) (fun c68 => ?_) (fun c68 => ?_)
            · refine tt_aload_n hf 0 dX0_board_144 rfl ?_
              refine tt_iconst hf dX0_board_145 ?_
              refine px_chg hf dX0_board_146 ?_
              refine tt_aload_n hf 0 dX0_board_149 rfl ?_
              refine tt_iconst hf dX0_board_150 ?_
              refine px_sM hf dX0_board_151 ?_
              refine tt_aload_n hf 0 dX0_board_154 rfl ?_
              refine tt_dup hf dX0_board_155 rfl ?_
              refine gx_brd hf dX0_board_156 ?_
              refine tt_iconst hf dX0_board_159 ?_
              refine tt_iadd hf dX0_board_160 ?_
              refine px_brd hf dX0_board_161 ?_
              refine tt_aload_n hf 0 dX0_board_164 rfl ?_
              refine tt_iconst hf dX0_board_165 ?_
              refine px_pgM hf dX0_board_166 ?_
              refine tt_aload_n hf 0 dX0_board_169 rfl ?_
              refine tt_iconst hf dX0_board_170 ?_
              refine px_old hf dX0_board_171 (by omega) ?_
              refine tt_aload_n hf 0 dX0_board_174 rfl ?_
              refine gx_many hf dX0_board_175 ?_
              have ei : i = (rdF (pa page pgM) pgM).2.2 + 1 := by omega
              rw [ei] at hI
              exact tt_ireti hf hrT dX0_board_178 (show kk ≤ 10 by omega) (show nn ≤ 30 by omega) (by omega) ⟨told1, enD1, nx, Lx, mx, by rw [if_pos hwh]; exact et, by rw [if_pos hwh]; exact bd_xB hwh hB hI, by rw [if_pos hwh]; exact bd_kd hwh hB hI, by rw [if_pos hwh]; exact bd_co hB hI, fun q => absurd hwh q, by rw [if_pos hwh, if_pos hwh, if_pos hwh, if_pos hwh, if_pos hwh, if_pos hwh, if_pos hwh, ← et]⟩
            · have k6 := w6 i (by omega) (by omega)
              have k7 := w7 i (by omega) (by omega)
              have kp := hpv (1 + i)
              have es : page (enD1 + i) = page (2 + (rdF (pa page pgM) pgM).2.2 + i) := by rw [ee]
              have kp2 := hpv (enD1 + i)
              refine tt_aload_n hf 0 dX0_board_71 rfl ?_
              refine gx_page hf dX0_board_72 ?_
              refine tt_aload_n hf 0 dX0_board_75 rfl ?_
              refine gx_enD hf dX0_board_76 ?_
              refine tt_iload_n hf 1 dX0_board_79 rfl ?_
              refine tt_iadd hf dX0_board_80 ?_
              refine lx_page hf (by omega) dX0_board_81 ?_
              refine tt_istore_n (lv' := [(2, .int (iI (page (enD1 + i)))), (0, .ref o), (1, .int (iI i))]) hf dX0_board_82 (by decide) rfl ?_
              refine tt_aload_n hf 1 dX0_board_83 rfl ?_
              refine gx_num hf dX0_board_84 ?_
              refine tt_iload_n hf 2 dX0_board_87 rfl ?_
              refine tt_aload_n hf 1 dX0_board_88 rfl ?_
              refine gx_page hf dX0_board_89 ?_
              refine tt_iconst hf dX0_board_92 ?_
              refine tt_iload_n hf 2 dX0_board_93 rfl ?_
              refine tt_iadd hf dX0_board_94 ?_
              refine tt_iconst hf dX0_board_95 ?_
              refine tt_isub hf dX0_board_96 ?_
              refine tt_top (z' := 1 + i) (by omega) ?_
              refine lx_page hf (by omega) dX0_board_97 ?_
              refine tt_callS0 (As := [.int (iI (page (1 + i)))]) (rest := [.int (iI i), .ref (ax 1)]) hf (cx_kindOf (by omega)) lk_X0_X0_kindOf hd_X0_kindOf rfl ⟨rfl, rfl⟩ (by decide) ⟨show kk ≤ 10 by omega, show nn ≤ 30 by omega⟩ (Nat.le_of_ble_eq_true rfl) dX0_board_98 rfl (kk_e (fun r98 => ?_))
              refine tt_callS (n0 := 1) (As := [.int (iI (kb (page (1 + i))))]) (rest := [.int (iI i), .ref (ax 1)]) hf (cx_made (kq := (kb (page (1 + i))).toNat) (by omega) (by omega)) lk_X0_X0_made hd_X0_made rfl (by decide) ⟨show kk + 1 ≤ 10 by omega, show nn + 3 ≤ 30 by omega⟩ (Nat.le_of_ble_eq_true rfl) dX0_board_101 rfl (fun v w hp101 => ?_)
              obtain ⟨q101, rfl, rfl⟩ := hp101
              refine tt_pool (fun hq101 => ?_)
              refine sx_num hf (by omega) (List.mem_append_right _ (List.mem_singleton_self q101)) (by simp only [va_up_self]; omega) dX0_board_104 ?_
              refine tt_aload_n hf 1 dX0_board_105 rfl ?_
              refine gx_num hf dX0_board_106 ?_
              refine tt_iload_n hf 2 dX0_board_109 rfl ?_
              refine lx_num hf (by omega) uI_s dX0_board_110 ?_
              refine tt_iload_n hf 2 dX0_board_111 rfl ?_
              refine pm_name hf (List.mem_append_right _ (List.mem_singleton_self q101)) (by simp only [va_up_self]; omega) dX0_board_112 ?_
              refine tt_aload_n hf 1 dX0_board_115 rfl ?_
              refine gx_num hf dX0_board_116 ?_
              refine tt_iload_n hf 2 dX0_board_119 rfl ?_
              refine lx_num hf (by omega) uI_s dX0_board_120 ?_
              refine tt_iload_n hf 0 dX0_board_121 rfl ?_
              refine tt_bipush hf dX0_board_122 (by decide) ?_
              refine tt_icmp_ne (tgt := 131) hf dX0_board_124 (by decide) (by omega) (by omega) (fun c124 => ?_) (fun c124 => ?_)
              · refine tt_iload_n hf 0 dX0_board_131 rfl ?_
                refine tt_bipush hf dX0_board_132 (by decide) ?_
                refine tt_isub hf dX0_board_134 ?_
                refine pm_colour hf (List.mem_append_right _ (List.mem_singleton_self q101)) (by simp only [va_up_self]; omega) dX0_board_135 ?_
                refine tt_iinc (lv' := [(1, .int (iI (i + 1))), (2, .int (iI (page (enD1 + i)))), (0, .ref o)]) hf 2 dX0_board_138 rfl (by decide) rfl ?_
                refine tt_goto (tgt := 63) hf dX0_board_141 (by decide) ?_
                refine tt_sub [2, 0] rfl ?_
                exact ih (i + 1) (uI nx i (some q101)) (Lx ++ [q101]) (va_up (va_up (va_up mx q101 ((kb (page (1 + i))).toNat, 0, 0, 0)) q101 ((va_up mx q101 ((kb (page (1 + i))).toNat, 0, 0, 0) q101).1, i, (va_up mx q101 ((kb (page (1 + i))).toNat, 0, 0, 0) q101).2.2)) q101 ((va_up (va_up mx q101 ((kb (page (1 + i))).toNat, 0, 0, 0)) q101 ((va_up mx q101 ((kb (page (1 + i))).toNat, 0, 0, 0) q101).1, i, (va_up mx q101 ((kb (page (1 + i))).toNat, 0, 0, 0) q101).2.2) q101).1, (va_up (va_up mx q101 ((kb (page (1 + i))).toNat, 0, 0, 0)) q101 ((va_up mx q101 ((kb (page (1 + i))).toNat, 0, 0, 0) q101).1, i, (va_up mx q101 ((kb (page (1 + i))).toNat, 0, 0, 0) q101).2.2) q101).2.1, (page (enD1 + i)) - 97, (va_up (va_up mx q101 ((kb (page (1 + i))).toNat, 0, 0, 0)) q101 ((va_up mx q101 ((kb (page (1 + i))).toNat, 0, 0, 0) q101).1, i, (va_up mx q101 ((kb (page (1 + i))).toNat, 0, 0, 0) q101).2.2) q101).2.2.2)) (kk + 1) (nn + 3) (by omega) (by omega) (bdI_s hI (by omega) hq101 (by simp only [va_up_self]; unfold nwM; rw [if_neg (by omega), es]) (fun b hb => by rw [va_up_ne _ _ hb, va_up_ne _ _ hb, va_up_ne _ _ hb])) (by omega)
              · refine tt_iconst hf dX0_board_127 ?_
                refine tt_goto (tgt := 135) hf dX0_board_128 (by decide) ?_
                refine pm_colour hf (List.mem_append_right _ (List.mem_singleton_self q101)) (by simp only [va_up_self]; omega) dX0_board_135 ?_
                refine tt_iinc (lv' := [(1, .int (iI (i + 1))), (2, .int (iI (page (enD1 + i)))), (0, .ref o)]) hf 2 dX0_board_138 rfl (by decide) rfl ?_
                refine tt_goto (tgt := 63) hf dX0_board_141 (by decide) ?_
                refine tt_sub [2, 0] rfl ?_
                exact ih (i + 1) (uI nx i (some q101)) (Lx ++ [q101]) (va_up (va_up (va_up mx q101 ((kb (page (1 + i))).toNat, 0, 0, 0)) q101 ((va_up mx q101 ((kb (page (1 + i))).toNat, 0, 0, 0) q101).1, i, (va_up mx q101 ((kb (page (1 + i))).toNat, 0, 0, 0) q101).2.2)) q101 ((va_up (va_up mx q101 ((kb (page (1 + i))).toNat, 0, 0, 0)) q101 ((va_up mx q101 ((kb (page (1 + i))).toNat, 0, 0, 0) q101).1, i, (va_up mx q101 ((kb (page (1 + i))).toNat, 0, 0, 0) q101).2.2) q101).1, (va_up (va_up mx q101 ((kb (page (1 + i))).toNat, 0, 0, 0)) q101 ((va_up mx q101 ((kb (page (1 + i))).toNat, 0, 0, 0) q101).1, i, (va_up mx q101 ((kb (page (1 + i))).toNat, 0, 0, 0) q101).2.2) q101).2.1, (-1), (va_up (va_up mx q101 ((kb (page (1 + i))).toNat, 0, 0, 0)) q101 ((va_up mx q101 ((kb (page (1 + i))).toNat, 0, 0, 0) q101).1, i, (va_up mx q101 ((kb (page (1 + i))).toNat, 0, 0, 0) q101).2.2) q101).2.2.2)) (kk + 1) (nn + 3) (by omega) (by omega) (bdI_s hI (by omega) hq101 (by simp only [va_up_self]; unfold nwM; rw [if_pos (by omega)]) (fun b hb => by rw [va_up_ne _ _ hb, va_up_ne _ _ hb, va_up_ne _ _ hb])) (by omega)
        refine tt_sub [1, 0] rfl ?_
        exact lp _ 1 num L mf 0 0 (by omega) (by omega) bdI_1 (Nat.lt_succ_self _)
      · refine tt_bipush hf dX0_board_37 (by decide) ?_
        have hwh : ¬ (rdF (pa page pgM) pgM).2.1 = 1 := by intro q0; rcases fo1.2.1 with q | q; omega; omega
        exact tt_ireti hf hrT dX0_board_39 (Nat.zero_le _) (Nat.zero_le _) (by omega) ⟨told1, enD1, num, L, mf, by rw [if_neg hwh], by rw [if_neg hwh]; exact hB, by rw [if_neg hwh], by rw [if_neg hwh], fun _ => ⟨rfl, rfl, rfl⟩, by rw [if_neg hwh, if_neg hwh, if_neg hwh, if_neg hwh, if_neg hwh, if_neg hwh, if_neg hwh]⟩
