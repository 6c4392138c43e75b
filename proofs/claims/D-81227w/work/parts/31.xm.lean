set_option maxHeartbeats 4000000 in
set_option maxRecDepth 100000 in
theorem cx1_isPart {l : Launch} {g : tG} {ws : va_W} {o : Nat}   : Ce l g yX1_isPart (ws_ yX1_isPart cX1_isPart 1 (Option.some Jvm.ClassFile.FieldType.boolean)) (rmL 1) [.ref o] (ws) (1) (ws) := by
  refine Ct.of (by decide) (Nat.le_of_ble_eq_true rfl) ?_
  intro Γ hl hg hf hrT
  subst hl hg
  have hf : Fx Γ RX1 cX1_isPart 1 := hf
  show T Γ (rmL 1) 1 0 0 (Qe Γ (rmL 1) _) _ 0 [(0, .ref o)] []
  refine tt_iconst hf dX1_isPart_0 ?_
  exact tt_iretz hf hrT dX1_isPart_1 (Nat.le_refl _) (Nat.le_refl _) (by omega) ⟨rfl, rfl⟩
set_option maxHeartbeats 4000000 in
set_option maxRecDepth 100000 in
theorem cx1_isMinding {l : Launch} {g : tG} {ws : va_W} {o : Nat} {t : Int}  : Ce l g yX1_isMinding (ws_ yX1_isMinding cX1_isMinding 2 (Option.some Jvm.ClassFile.FieldType.boolean)) (rmL 1) [.ref o, .int (iI t)] (ws) (1) (ws) := by
  refine Ct.of (by decide) (Nat.le_of_ble_eq_true rfl) ?_
  intro Γ hl hg hf hrT
  subst hl hg
  have hf : Fx Γ RX1 cX1_isMinding 2 := hf
  show T Γ (rmL 1) 2 0 0 (Qe Γ (rmL 1) _) _ 0 [(0, .ref o), (1, .int (iI t))] []
  refine tt_iconst hf dX1_isMinding_0 ?_
  exact tt_iretz hf hrT dX1_isMinding_1 (Nat.le_refl _) (Nat.le_refl _) (by omega) ⟨rfl, rfl⟩
set_option maxHeartbeats 4000000 in
set_option maxRecDepth 100000 in
theorem cx1_kind {l : Launch} {g : tG} {ws : va_W} {o : Nat}   : Ce l g yX1_kind (ws_ yX1_kind cX1_kind 1 (Option.some Jvm.ClassFile.FieldType.int)) (rmL 1) [.ref o] (ws) (0) (ws) := by
  refine Ct.of (by decide) (Nat.le_of_ble_eq_true rfl) ?_
  intro Γ hl hg hf hrT
  subst hl hg
  have hf : Fx Γ RX1 cX1_kind 1 := hf
  show T Γ (rmL 1) 1 0 0 (Qe Γ (rmL 1) _) _ 0 [(0, .ref o)] []
  refine tt_iconst hf dX1_kind_0 ?_
  exact tt_ireti hf hrT dX1_kind_1 (Nat.le_refl _) (Nat.le_refl _) (by omega) ⟨rfl, rfl⟩
set_option maxHeartbeats 4000000 in
set_option maxRecDepth 100000 in
theorem cx2_kind {l : Launch} {g : tG} {ws : va_W} {o : Nat}   : Ce l g yX2_kind (ws_ yX2_kind cX2_kind 1 (Option.some Jvm.ClassFile.FieldType.int)) (rmL 1) [.ref o] (ws) (1) (ws) := by
  refine Ct.of (by decide) (Nat.le_of_ble_eq_true rfl) ?_
  intro Γ hl hg hf hrT
  subst hl hg
  have hf : Fx Γ RX2 cX2_kind 1 := hf
  show T Γ (rmL 1) 1 0 0 (Qe Γ (rmL 1) _) _ 0 [(0, .ref o)] []
  refine tt_iconst hf dX2_kind_0 ?_
  exact tt_ireti hf hrT dX2_kind_1 (Nat.le_refl _) (Nat.le_refl _) (by omega) ⟨rfl, rfl⟩
set_option maxHeartbeats 4000000 in
set_option maxRecDepth 100000 in
theorem cx3_kind {l : Launch} {g : tG} {ws : va_W} {o : Nat}   : Ce l g yX3_kind (ws_ yX3_kind cX3_kind 1 (Option.some Jvm.ClassFile.FieldType.int)) (rmL 1) [.ref o] (ws) (2) (ws) := by
  refine Ct.of (by decide) (Nat.le_of_ble_eq_true rfl) ?_
  intro Γ hl hg hf hrT
  subst hl hg
  have hf : Fx Γ RX3 cX3_kind 1 := hf
  show T Γ (rmL 1) 1 0 0 (Qe Γ (rmL 1) _) _ 0 [(0, .ref o)] []
  refine tt_iconst hf dX3_kind_0 ?_
  exact tt_ireti hf hrT dX3_kind_1 (Nat.le_refl _) (Nat.le_refl _) (by omega) ⟨rfl, rfl⟩
set_option maxHeartbeats 4000000 in
set_option maxRecDepth 100000 in
theorem cx4_kind {l : Launch} {g : tG} {ws : va_W} {o : Nat}   : Ce l g yX4_kind (ws_ yX4_kind cX4_kind 1 (Option.some Jvm.ClassFile.FieldType.int)) (rmL 1) [.ref o] (ws) (3) (ws) := by
  refine Ct.of (by decide) (Nat.le_of_ble_eq_true rfl) ?_
  intro Γ hl hg hf hrT
  subst hl hg
  have hf : Fx Γ RX4 cX4_kind 1 := hf
  show T Γ (rmL 1) 1 0 0 (Qe Γ (rmL 1) _) _ 0 [(0, .ref o)] []
  refine tt_iconst hf dX4_kind_0 ?_
  exact tt_ireti hf hrT dX4_kind_1 (Nat.le_refl _) (Nat.le_refl _) (by omega) ⟨rfl, rfl⟩
set_option maxHeartbeats 4000000 in
set_option maxRecDepth 100000 in
theorem cx2_isMinding {l : Launch} {g : tG} {ws : va_W} {o : Nat} {q0 ci N : Nat} {C : String} {T0 : u_T} {fs : List Value} {t : Int} (he : ws[q0]? = some (o, .inr (ci, fs))) (hc : tCl[ci]? = some (C, T0, N)) (ht : t = 0 ∨ t = 1) : Ce l g yX2_isMinding (ws_ yX2_isMinding cX2_isMinding 2 (Option.some Jvm.ClassFile.FieldType.boolean)) (rmL 2) [.ref o, .int (iI t)] (ws) (if t = 0 then 1 else 0) (ws) := by
  refine Ct.of (by decide) (Nat.le_of_ble_eq_true rfl) ?_
  intro Γ hl hg hf hrT
  subst hl hg
  have hf : Fx Γ RX2 cX2_isMinding 2 := hf
  show T Γ (rmL 2) 2 0 0 (Qe Γ (rmL 2) _) _ 0 [(0, .ref o), (1, .int (iI t))] []
  refine tt_aload_n hf 0 dX2_isMinding_0 rfl ?_
  refine tt_iload_n hf 1 dX2_isMinding_1 rfl ?_
  refine tt_callSU (n0 := 1) (As := [.int (iI t)]) (rest := []) hf cx1_isMinding (lw_SU q371 q352 q131 q350 q73 q357) (by decide +kernel) rfl he hc ⟨rfl, rfl⟩ (by decide) (by decide) (Nat.le_of_ble_eq_true rfl) dX2_isMinding_2 rfl (kk_e (fun r2 => ?_))
  refine tt_if_eq (tgt := 16) hf dX2_isMinding_5 (by decide) (by omega) (fun c => absurd c (by decide)) (fun _ => ?_)
  refine tt_iload_n hf 1 dX2_isMinding_8 rfl ?_
  refine tt_if_ne (tgt := 16) hf dX2_isMinding_9 (by decide) (by omega) (fun c9 => ?_) (fun c9 => ?_)
  · refine tt_iconst hf dX2_isMinding_16 ?_
    exact tt_iretz hf hrT dX2_isMinding_17 (Nat.le_refl _) (Nat.le_refl _) (by omega) ⟨(by first | rw [if_pos (by omega)] | rw [if_neg (by omega)]), rfl⟩
  · refine tt_iconst hf dX2_isMinding_12 ?_
    refine tt_goto (tgt := 17) hf dX2_isMinding_13 (by decide) ?_
    exact tt_iretz hf hrT dX2_isMinding_17 (Nat.le_refl _) (Nat.le_refl _) (by omega) ⟨(by first | rw [if_pos (by omega)] | rw [if_neg (by omega)]), rfl⟩
set_option maxHeartbeats 4000000 in
set_option maxRecDepth 100000 in
theorem cx3_isMinding {l : Launch} {g : tG} {ws : va_W} {o : Nat} {q0 ci N : Nat} {C : String} {T0 : u_T} {fs : List Value} {t : Int} (he : ws[q0]? = some (o, .inr (ci, fs))) (hc : tCl[ci]? = some (C, T0, N))  : Ce l g yX3_isMinding (ws_ yX3_isMinding cX3_isMinding 2 (Option.some Jvm.ClassFile.FieldType.boolean)) (rmL 2) [.ref o, .int (iI t)] (ws) (0) (ws) := by
  refine Ct.of (by decide) (Nat.le_of_ble_eq_true rfl) ?_
  intro Γ hl hg hf hrT
  subst hl hg
  have hf : Fx Γ RX3 cX3_isMinding 2 := hf
  show T Γ (rmL 2) 2 0 0 (Qe Γ (rmL 2) _) _ 0 [(0, .ref o), (1, .int (iI t))] []
  refine tt_aload_n hf 0 dX3_isMinding_0 rfl ?_
  refine tt_iload_n hf 1 dX3_isMinding_1 rfl ?_
  refine tt_callSU (n0 := 1) (As := [.int (iI t)]) (rest := []) hf cx1_isMinding (lw_SU q356 q352 q141 q350 q73 q357) (by decide +kernel) rfl he hc ⟨rfl, rfl⟩ (by decide) (by decide) (Nat.le_of_ble_eq_true rfl) dX3_isMinding_2 rfl (kk_e (fun r2 => ?_))
  refine tt_if_ne (tgt := 12) hf dX3_isMinding_5 (by decide) (by omega) (fun _ => ?_) (fun c => absurd c (by decide))
  refine tt_iconst hf dX3_isMinding_12 ?_
  exact tt_iretz hf hrT dX3_isMinding_13 (Nat.le_refl _) (Nat.le_refl _) (by omega) ⟨rfl, rfl⟩
set_option maxHeartbeats 4000000 in
set_option maxRecDepth 100000 in
theorem cx4_isPart {l : Launch} {g : tG} {ws : va_W} {o : Nat} {q0 ci N : Nat} {C : String} {T0 : u_T} {fs : List Value}  (he : ws[q0]? = some (o, .inr (ci, fs))) (hc : tCl[ci]? = some (C, T0, N))  : Ce l g yX4_isPart (ws_ yX4_isPart cX4_isPart 1 (Option.some Jvm.ClassFile.FieldType.boolean)) (rmL 2) [.ref o] (ws) (0) (ws) := by
  refine Ct.of (by decide) (Nat.le_of_ble_eq_true rfl) ?_
  intro Γ hl hg hf hrT
  subst hl hg
  have hf : Fx Γ RX4 cX4_isPart 1 := hf
  show T Γ (rmL 2) 1 0 0 (Qe Γ (rmL 2) _) _ 0 [(0, .ref o)] []
  refine tt_aload_n hf 0 dX4_isPart_0 rfl ?_
  refine tt_callSU (n0 := 0) (As := []) (rest := []) hf cx1_isPart (lw_SU q345 q340 q151 q338 q73 q346) (by decide +kernel) rfl he hc ⟨rfl, rfl⟩ (by decide) (by decide) (Nat.le_of_ble_eq_true rfl) dX4_isPart_1 rfl (kk_e (fun r1 => ?_))
  refine tt_if_ne (tgt := 11) hf dX4_isPart_4 (by decide) (by omega) (fun _ => ?_) (fun c => absurd c (by decide))
  refine tt_iconst hf dX4_isPart_11 ?_
  exact tt_iretz hf hrT dX4_isPart_12 (Nat.le_refl _) (Nat.le_refl _) (by omega) ⟨rfl, rfl⟩
set_option maxHeartbeats 4000000 in
set_option maxRecDepth 100000 in
theorem cx5_isMinding {l : Launch} {g : tG} {ws : va_W} {o : Nat} {q0 : Nat} {fs : List Value} {t : Int} (he : ws[q0]? = some (o, .inr (5, fs))) : Ce l g yX5_isMinding (ws_ yX5_isMinding cX5_isMinding 2 (Option.some Jvm.ClassFile.FieldType.boolean)) (rmL 3) [.ref o, .int (iI t)] (ws) (0) (ws) := by
  refine Ct.of (by decide) (Nat.le_of_ble_eq_true rfl) ?_
  intro Γ hl hg hf hrT
  subst hl hg
  have hf : Fx Γ RX5 cX5_isMinding 2 := hf
  show T Γ (rmL 3) 2 0 0 (Qe Γ (rmL 3) _) _ 0 [(0, .ref o), (1, .int (iI t))] []
  refine tt_aload_n hf 0 dX5_isMinding_0 rfl ?_
  refine tt_callU (n0 := 0) (As := []) (rest := []) (q0 := q0) (ci := 5) (owner := "SumColours$Shy") (x := ⟨"SumColours$Lone", "isPart", "()Z"⟩) hf (cx4_isPart (ci := 5) he rfl) (lw_U q361 q362 q364 q343 (q76) q344) rfl (by decide +kernel) rfl he rfl ⟨rfl, rfl⟩ (by decide) (by decide) (Nat.le_of_ble_eq_true rfl) dX5_isMinding_1 rfl (kk_e (fun r1 => ?_))
  refine tt_if_eq (tgt := 19) hf dX5_isMinding_4 (by decide) (by omega) (fun _ => ?_) (fun c => absurd c (by decide))
  refine tt_iconst hf dX5_isMinding_19 ?_
  exact tt_iretz hf hrT dX5_isMinding_20 (Nat.le_refl _) (Nat.le_refl _) (by omega) ⟨rfl, rfl⟩
set_option maxHeartbeats 4000000 in
set_option maxRecDepth 100000 in
theorem cx5_kind {l : Launch} {g : tG} {ws : va_W} {o : Nat} {q0 ci N : Nat} {C : String} {T0 : u_T} {fs : List Value}  (he : ws[q0]? = some (o, .inr (ci, fs))) (hc : tCl[ci]? = some (C, T0, N))  : Ce l g yX5_kind (ws_ yX5_kind cX5_kind 1 (Option.some Jvm.ClassFile.FieldType.int)) (rmL 2) [.ref o] (ws) (4) (ws) := by
  refine Ct.of (by decide) (Nat.le_of_ble_eq_true rfl) ?_
  intro Γ hl hg hf hrT
  subst hl hg
  have hf : Fx Γ RX5 cX5_kind 1 := hf
  show T Γ (rmL 2) 1 0 0 (Qe Γ (rmL 2) _) _ 0 [(0, .ref o)] []
  refine tt_iconst hf dX5_kind_0 ?_
  refine tt_aload_n hf 0 dX5_kind_1 rfl ?_
  refine tt_callSU (n0 := 0) (As := []) (rest := [.int (iI 1)]) hf cx4_kind (lw_SU q465 q1070 q161 q466 q76 q467) (by decide +kernel) rfl he hc ⟨rfl, rfl⟩ (by decide) (by decide) (Nat.le_of_ble_eq_true rfl) dX5_kind_2 rfl (kk_e (fun r2 => ?_))
  refine tt_iadd hf dX5_kind_5 ?_
  exact tt_ireti hf hrT dX5_kind_6 (Nat.le_refl _) (Nat.le_refl _) (by omega) ⟨rfl, rfl⟩
theorem tm_isPart {Γ : tX} {R : Room} {nL k n : Nat} {Q : State → Prop} {ws : va_W} {pc : Nat} {lv : List (Nat × Value)} {cc : ByteArray} (hf : Fx Γ RX0 cc nL) {a j : Nat} {m : Nat × Int × Int × Int}  (hj : ws[j]? = some (a, mE m)) (hk : m.1 < 5)  (hR : 4 ≤ R.frames ∧ 160 ≤ R.locals) (hroom : k ≤ R.cells ∧ n ≤ R.slots) {rest : List Value} (hcat : (rest.map fun v => v.category).sum ≤ 8) (d : decode cc pc = .ok (.invokevirtual 142, 3)) (kk : T Γ R nL k n Q ws (pc + 3) lv (.int (iI (if prt (m.1 : Int) then 1 else 0)) :: rest)) : T Γ R nL k n Q ws pc lv (.ref a :: rest) := by
  obtain ⟨k0, m1⟩ := m
  rcases (show k0 = 0 ∨ k0 = 1 ∨ k0 = 2 ∨ k0 = 3 ∨ k0 = 4 by have : k0 < 5 := hk; omega) with e | e | e | e | e <;> subst e
  · exact tt_callO (n0 := 0) (As := []) (rest := rest) (q0 := j) (ci := 1) (owner := "SumColours$Member") (x := yX1_isPart) hf cx1_isPart (lw_O q337 q340 q338 q339 q338 q73 q346) q346 (by decide +kernel) rfl hj rfl ⟨rfl, rfl⟩ ⟨Nat.le_trans (Nat.le_of_ble_eq_true rfl) hR.1, Nat.le_trans (Nat.le_of_ble_eq_true rfl) hR.2⟩ hroom hcat d rfl (kk_e (fun _ => kk))
  · exact tt_callO (n0 := 0) (As := []) (rest := rest) (q0 := j) (ci := 2) (owner := "SumColours$Member") (x := yX1_isPart) hf cx1_isPart (lw_O q337 q340 q338 q347 q338 q73 q346) q346 (by decide +kernel) rfl hj rfl ⟨rfl, rfl⟩ ⟨Nat.le_trans (Nat.le_of_ble_eq_true rfl) hR.1, Nat.le_trans (Nat.le_of_ble_eq_true rfl) hR.2⟩ hroom hcat d rfl (kk_e (fun _ => kk))
  · exact tt_callO (n0 := 0) (As := []) (rest := rest) (q0 := j) (ci := 3) (owner := "SumColours$Member") (x := yX1_isPart) hf cx1_isPart (lw_O q337 q340 q338 q341 q338 q73 q346) q346 (by decide +kernel) rfl hj rfl ⟨rfl, rfl⟩ ⟨Nat.le_trans (Nat.le_of_ble_eq_true rfl) hR.1, Nat.le_trans (Nat.le_of_ble_eq_true rfl) hR.2⟩ hroom hcat d rfl (kk_e (fun _ => kk))
  · exact tt_callO (n0 := 0) (As := []) (rest := rest) (q0 := j) (ci := 4) (owner := "SumColours$Member") (x := yX1_isPart) hf (cx4_isPart hj rfl) (lw_O q337 q340 q338 q348 q343 q76 q344) q346 (by decide +kernel) rfl hj rfl ⟨rfl, rfl⟩ ⟨Nat.le_trans (Nat.le_of_ble_eq_true rfl) hR.1, Nat.le_trans (Nat.le_of_ble_eq_true rfl) hR.2⟩ hroom hcat d rfl (kk_e (fun _ => kk))
  · exact tt_callO (n0 := 0) (As := []) (rest := rest) (q0 := j) (ci := 5) (owner := "SumColours$Member") (x := yX1_isPart) hf (cx4_isPart hj rfl) (lw_O q337 q340 q338 q342 q343 q76 q344) q346 (by decide +kernel) rfl hj rfl ⟨rfl, rfl⟩ ⟨Nat.le_trans (Nat.le_of_ble_eq_true rfl) hR.1, Nat.le_trans (Nat.le_of_ble_eq_true rfl) hR.2⟩ hroom hcat d rfl (kk_e (fun _ => kk))
theorem tm_isMinding {Γ : tX} {R : Room} {nL k n : Nat} {Q : State → Prop} {ws : va_W} {pc : Nat} {lv : List (Nat × Value)} {cc : ByteArray} (hf : Fx Γ RX0 cc nL) {a j : Nat} {m : Nat × Int × Int × Int} {t : Int} (hj : ws[j]? = some (a, mE m)) (hk : m.1 < 5) (ht : t = 0 ∨ t = 1) (hR : 4 ≤ R.frames ∧ 160 ≤ R.locals) (hroom : k ≤ R.cells ∧ n ≤ R.slots) {rest : List Value} (hcat : (rest.map fun v => v.category).sum ≤ 8) (d : decode cc pc = .ok (.invokevirtual 146, 3)) (kk : T Γ R nL k n Q ws (pc + 3) lv (.int (iI (if mnd (m.1 : Int) (t = 1) then 1 else 0)) :: rest)) : T Γ R nL k n Q ws pc lv (.int (iI t) :: .ref a :: rest) := by
  obtain ⟨k0, m1⟩ := m
  rcases (show k0 = 0 ∨ k0 = 1 ∨ k0 = 2 ∨ k0 = 3 ∨ k0 = 4 by have : k0 < 5 := hk; omega) with e | e | e | e | e <;> subst e
  · exact tt_callO (n0 := 1) (As := [.int (iI t)]) (rest := rest) (q0 := j) (ci := 1) (owner := "SumColours$Member") (x := yX1_isMinding) hf cx1_isMinding (lw_O q349 q352 q350 q351 q350 q73 q357) q357 (by decide +kernel) rfl hj rfl ⟨rfl, rfl⟩ ⟨Nat.le_trans (Nat.le_of_ble_eq_true rfl) hR.1, Nat.le_trans (Nat.le_of_ble_eq_true rfl) hR.2⟩ hroom hcat d rfl (kk_e (fun _ => by rw [show (1 : Int) = (if mnd (0 : Int) (t = 1) then 1 else 0) from by first | rw [if_pos (by unfold mnd; omega)] | rw [if_neg (by unfold mnd; omega)]]; exact kk))
  · exact tt_callO (n0 := 1) (As := [.int (iI t)]) (rest := rest) (q0 := j) (ci := 2) (owner := "SumColours$Member") (x := yX1_isMinding) hf (cx2_isMinding hj rfl ht) (lw_O q349 q352 q350 q368 q369 q74 q370) q357 (by decide +kernel) rfl hj rfl ⟨rfl, rfl⟩ ⟨Nat.le_trans (Nat.le_of_ble_eq_true rfl) hR.1, Nat.le_trans (Nat.le_of_ble_eq_true rfl) hR.2⟩ hroom hcat d rfl (kk_e (fun _ => by rw [show (if t = 0 then (1 : Int) else 0) = (if mnd (1 : Int) (t = 1) then 1 else 0) from ite_iff (by unfold mnd; omega)]; exact kk))
  · exact tt_callO (n0 := 1) (As := [.int (iI t)]) (rest := rest) (q0 := j) (ci := 3) (owner := "SumColours$Member") (x := yX1_isMinding) hf (cx3_isMinding hj rfl) (lw_O q349 q352 q350 q353 q354 q75 q355) q357 (by decide +kernel) rfl hj rfl ⟨rfl, rfl⟩ ⟨Nat.le_trans (Nat.le_of_ble_eq_true rfl) hR.1, Nat.le_trans (Nat.le_of_ble_eq_true rfl) hR.2⟩ hroom hcat d rfl (kk_e (fun _ => by rw [show (0 : Int) = (if mnd (2 : Int) (t = 1) then 1 else 0) from by first | rw [if_pos (by unfold mnd; omega)] | rw [if_neg (by unfold mnd; omega)]]; exact kk))
  · exact tt_callO (n0 := 1) (As := [.int (iI t)]) (rest := rest) (q0 := j) (ci := 4) (owner := "SumColours$Member") (x := yX1_isMinding) hf cx1_isMinding (lw_O q349 q352 q350 q372 q350 q73 q357) q357 (by decide +kernel) rfl hj rfl ⟨rfl, rfl⟩ ⟨Nat.le_trans (Nat.le_of_ble_eq_true rfl) hR.1, Nat.le_trans (Nat.le_of_ble_eq_true rfl) hR.2⟩ hroom hcat d rfl (kk_e (fun _ => by rw [show (1 : Int) = (if mnd (3 : Int) (t = 1) then 1 else 0) from by first | rw [if_pos (by unfold mnd; omega)] | rw [if_neg (by unfold mnd; omega)]]; exact kk))
  · exact tt_callO (n0 := 1) (As := [.int (iI t)]) (rest := rest) (q0 := j) (ci := 5) (owner := "SumColours$Member") (x := yX1_isMinding) hf (cx5_isMinding hj) (lw_O q349 q352 q350 q358 q359 q77 q360) q357 (by decide +kernel) rfl hj rfl ⟨rfl, rfl⟩ ⟨Nat.le_trans (Nat.le_of_ble_eq_true rfl) hR.1, Nat.le_trans (Nat.le_of_ble_eq_true rfl) hR.2⟩ hroom hcat d rfl (kk_e (fun _ => by rw [show (0 : Int) = (if mnd (4 : Int) (t = 1) then 1 else 0) from by first | rw [if_pos (by unfold mnd; omega)] | rw [if_neg (by unfold mnd; omega)]]; exact kk))
theorem tm_kind {Γ : tX} {R : Room} {nL k n : Nat} {Q : State → Prop} {ws : va_W} {pc : Nat} {lv : List (Nat × Value)} {cc : ByteArray} (hf : Fx Γ RX0 cc nL) {a j : Nat} {m : Nat × Int × Int × Int}  (hj : ws[j]? = some (a, mE m)) (hk : m.1 < 5)  (hR : 4 ≤ R.frames ∧ 160 ≤ R.locals) (hroom : k ≤ R.cells ∧ n ≤ R.slots) {rest : List Value} (hcat : (rest.map fun v => v.category).sum ≤ 8) (d : decode cc pc = .ok (.invokevirtual 238, 3)) (kk : T Γ R nL k n Q ws (pc + 3) lv (.int (iI ((m.1 : Int))) :: rest)) : T Γ R nL k n Q ws pc lv (.ref a :: rest) := by
  obtain ⟨k0, m1⟩ := m
  rcases (show k0 = 0 ∨ k0 = 1 ∨ k0 = 2 ∨ k0 = 3 ∨ k0 = 4 by have : k0 < 5 := hk; omega) with e | e | e | e | e <;> subst e
  · exact tt_callO (n0 := 0) (As := []) (rest := rest) (q0 := j) (ci := 1) (owner := "SumColours$Member") (x := yX1_kind) hf cx1_kind (lw_O q455 q458 q456 q457 q456 q73 q472) q472 (by decide +kernel) rfl hj rfl ⟨rfl, rfl⟩ ⟨Nat.le_trans (Nat.le_of_ble_eq_true rfl) hR.1, Nat.le_trans (Nat.le_of_ble_eq_true rfl) hR.2⟩ hroom hcat d rfl (kk_e (fun _ => kk))
  · exact tt_callO (n0 := 0) (As := []) (rest := rest) (q0 := j) (ci := 2) (owner := "SumColours$Member") (x := yX1_kind) hf cx2_kind (lw_O q455 q458 q456 q468 q469 q74 q470) q472 (by decide +kernel) rfl hj rfl ⟨rfl, rfl⟩ ⟨Nat.le_trans (Nat.le_of_ble_eq_true rfl) hR.1, Nat.le_trans (Nat.le_of_ble_eq_true rfl) hR.2⟩ hroom hcat d rfl (kk_e (fun _ => kk))
  · exact tt_callO (n0 := 0) (As := []) (rest := rest) (q0 := j) (ci := 3) (owner := "SumColours$Member") (x := yX1_kind) hf cx3_kind (lw_O q455 q458 q456 q459 q460 q75 q461) q472 (by decide +kernel) rfl hj rfl ⟨rfl, rfl⟩ ⟨Nat.le_trans (Nat.le_of_ble_eq_true rfl) hR.1, Nat.le_trans (Nat.le_of_ble_eq_true rfl) hR.2⟩ hroom hcat d rfl (kk_e (fun _ => kk))
  · exact tt_callO (n0 := 0) (As := []) (rest := rest) (q0 := j) (ci := 4) (owner := "SumColours$Member") (x := yX1_kind) hf cx4_kind (lw_O q455 q458 q456 q471 q466 q76 q467) q472 (by decide +kernel) rfl hj rfl ⟨rfl, rfl⟩ ⟨Nat.le_trans (Nat.le_of_ble_eq_true rfl) hR.1, Nat.le_trans (Nat.le_of_ble_eq_true rfl) hR.2⟩ hroom hcat d rfl (kk_e (fun _ => kk))
  · exact tt_callO (n0 := 0) (As := []) (rest := rest) (q0 := j) (ci := 5) (owner := "SumColours$Member") (x := yX1_kind) hf (cx5_kind hj rfl) (lw_O q455 q458 q456 q462 q463 q77 q464) q472 (by decide +kernel) rfl hj rfl ⟨rfl, rfl⟩ ⟨Nat.le_trans (Nat.le_of_ble_eq_true rfl) hR.1, Nat.le_trans (Nat.le_of_ble_eq_true rfl) hR.2⟩ hroom hcat d rfl (kk_e (fun _ => kk))
set_option maxHeartbeats 4000000 in
set_option maxRecDepth 100000 in
theorem cx7_isSo0 {l : Launch} {g : tG} {ws : va_W} {o : Nat} {q0 : Nat} {m1 : Int × Int × Int} {u : Int} (hj : ws[q0]? = some (o, mE (0, m1))) (hu : 0 ≤ u ∧ u ≤ 2) : Ce l g yX7_isSo (ws_ yX7_isSo cX7_isSo 2 (Option.some Jvm.ClassFile.FieldType.boolean)) (rmL 4) [.ref o, .int (iI u)] (ws) (if cd (0 : Int) u then 1 else 0) (ws) := by
  refine Ct.of (by decide) (Nat.le_of_ble_eq_true rfl) ?_
  intro Γ hl hg hf hrT
  subst hl hg
  have hf : Fx Γ RX7 cX7_isSo 2 := hf
  show T Γ (rmL 4) 2 0 0 (Qe Γ (rmL 4) _) _ 0 [(0, .ref o), (1, .int (iI u))] []
  refine tt_iload_n hf 1 dX7_isSo_0 rfl ?_
  refine tt_iconst hf dX7_isSo_1 ?_
  refine tt_icmp_ne (tgt := 14) hf dX7_isSo_2 (by decide) (by omega) (by omega) (fun c2 => ?_) (fun c2 => ?_)
  · refine tt_aload_n hf 0 dX7_isSo_14 rfl ?_
    refine tt_iload_n hf 1 dX7_isSo_15 rfl ?_
    refine tt_iconst hf dX7_isSo_16 ?_
    refine tt_icmp_ne (tgt := 24) hf dX7_isSo_17 (by decide) (by omega) (by omega) (fun c17 => ?_) (fun c17 => ?_)
    · refine tt_iconst hf dX7_isSo_24 ?_
      refine tt_callF (n0 := 1) (As := [.int (iI 0)]) (rest := []) (q0 := q0) (ci := 1) (x := ⟨"SumColours$Counts", "isMinding", "(Z)Z"⟩) hf cx1_isMinding (lw_F q516 q528 q350 q73 q357) (hf.N.2.2.2.1 ("SumColours$Member", ⟨"SumColours$Counts", "isMinding", "(Z)Z"⟩, ⟨"SumColours$Member", "isMinding", "(Z)Z"⟩) (by decide +kernel)) (by decide +kernel) rfl hj rfl ⟨rfl, rfl⟩ (by decide) (by decide) (Nat.le_of_ble_eq_true rfl) dX7_isSo_25 rfl (kk_e (fun r25 => ?_))
      exact tt_iretz hf hrT dX7_isSo_30 (Nat.le_refl _) (Nat.le_refl _) (by omega) ⟨(by first | rw [if_pos (by unfold cd prt mnd; omega)] | rw [if_neg (by unfold cd prt mnd; omega)]), rfl⟩
    · refine tt_iconst hf dX7_isSo_20 ?_
      refine tt_goto (tgt := 25) hf dX7_isSo_21 (by decide) ?_
      refine tt_callF (n0 := 1) (As := [.int (iI 1)]) (rest := []) (q0 := q0) (ci := 1) (x := ⟨"SumColours$Counts", "isMinding", "(Z)Z"⟩) hf cx1_isMinding (lw_F q516 q528 q350 q73 q357) (hf.N.2.2.2.1 ("SumColours$Member", ⟨"SumColours$Counts", "isMinding", "(Z)Z"⟩, ⟨"SumColours$Member", "isMinding", "(Z)Z"⟩) (by decide +kernel)) (by decide +kernel) rfl hj rfl ⟨rfl, rfl⟩ (by decide) (by decide) (Nat.le_of_ble_eq_true rfl) dX7_isSo_25 rfl (kk_e (fun r25 => ?_))
      exact tt_iretz hf hrT dX7_isSo_30 (Nat.le_refl _) (Nat.le_refl _) (by omega) ⟨(by first | rw [if_pos (by unfold cd prt mnd; omega)] | rw [if_neg (by unfold cd prt mnd; omega)]), rfl⟩
  · refine tt_aload_n hf 0 dX7_isSo_5 rfl ?_
    refine tt_callF (n0 := 0) (As := []) (rest := []) (q0 := q0) (ci := 1) (x := ⟨"SumColours$Counts", "isPart", "()Z"⟩) hf cx1_isPart (lw_F q495 q510 q338 q73 q346) (hf.N.2.2.2.1 ("SumColours$Member", ⟨"SumColours$Counts", "isPart", "()Z"⟩, ⟨"SumColours$Member", "isPart", "()Z"⟩) (by decide +kernel)) (by decide +kernel) rfl hj rfl ⟨rfl, rfl⟩ (by decide) (by decide) (Nat.le_of_ble_eq_true rfl) dX7_isSo_6 rfl (kk_e (fun r6 => ?_))
    refine tt_goto (tgt := 30) hf dX7_isSo_11 (by decide) ?_
    exact tt_iretz hf hrT dX7_isSo_30 (Nat.le_refl _) (Nat.le_refl _) (by omega) ⟨(by first | rw [if_pos (by unfold cd prt mnd; omega)] | rw [if_neg (by unfold cd prt mnd; omega)]), rfl⟩
set_option maxHeartbeats 4000000 in
set_option maxRecDepth 100000 in
theorem cx7_isSo1 {l : Launch} {g : tG} {ws : va_W} {o : Nat} {q0 : Nat} {m1 : Int × Int × Int} {u : Int} (hj : ws[q0]? = some (o, mE (1, m1))) (hu : 0 ≤ u ∧ u ≤ 2) : Ce l g yX7_isSo (ws_ yX7_isSo cX7_isSo 2 (Option.some Jvm.ClassFile.FieldType.boolean)) (rmL 4) [.ref o, .int (iI u)] (ws) (if cd (1 : Int) u then 1 else 0) (ws) := by
  refine Ct.of (by decide) (Nat.le_of_ble_eq_true rfl) ?_
  intro Γ hl hg hf hrT
  subst hl hg
  have hf : Fx Γ RX7 cX7_isSo 2 := hf
  show T Γ (rmL 4) 2 0 0 (Qe Γ (rmL 4) _) _ 0 [(0, .ref o), (1, .int (iI u))] []
  refine tt_iload_n hf 1 dX7_isSo_0 rfl ?_
  refine tt_iconst hf dX7_isSo_1 ?_
  refine tt_icmp_ne (tgt := 14) hf dX7_isSo_2 (by decide) (by omega) (by omega) (fun c2 => ?_) (fun c2 => ?_)
  · refine tt_aload_n hf 0 dX7_isSo_14 rfl ?_
    refine tt_iload_n hf 1 dX7_isSo_15 rfl ?_
    refine tt_iconst hf dX7_isSo_16 ?_
    refine tt_icmp_ne (tgt := 24) hf dX7_isSo_17 (by decide) (by omega) (by omega) (fun c17 => ?_) (fun c17 => ?_)
    · refine tt_iconst hf dX7_isSo_24 ?_
      refine tt_callF (n0 := 1) (As := [.int (iI 0)]) (rest := []) (q0 := q0) (ci := 2) (x := ⟨"SumColours$Counts", "isMinding", "(Z)Z"⟩) hf (cx2_isMinding hj rfl (by decide)) (lw_F q516 q525 q369 q74 q370) (hf.N.2.2.2.1 ("SumColours$Loose", ⟨"SumColours$Counts", "isMinding", "(Z)Z"⟩, ⟨"SumColours$Loose", "isMinding", "(Z)Z"⟩) (by decide +kernel)) (by decide +kernel) rfl hj rfl ⟨rfl, rfl⟩ (by decide) (by decide) (Nat.le_of_ble_eq_true rfl) dX7_isSo_25 rfl (kk_e (fun r25 => ?_))
      refine tt_top (z' := 1) (by decide) ?_
      exact tt_iretz hf hrT dX7_isSo_30 (Nat.le_refl _) (Nat.le_refl _) (by omega) ⟨(by first | rw [if_pos (by unfold cd prt mnd; omega)] | rw [if_neg (by unfold cd prt mnd; omega)]), rfl⟩
    · refine tt_iconst hf dX7_isSo_20 ?_
      refine tt_goto (tgt := 25) hf dX7_isSo_21 (by decide) ?_
      refine tt_callF (n0 := 1) (As := [.int (iI 1)]) (rest := []) (q0 := q0) (ci := 2) (x := ⟨"SumColours$Counts", "isMinding", "(Z)Z"⟩) hf (cx2_isMinding hj rfl (by decide)) (lw_F q516 q525 q369 q74 q370) (hf.N.2.2.2.1 ("SumColours$Loose", ⟨"SumColours$Counts", "isMinding", "(Z)Z"⟩, ⟨"SumColours$Loose", "isMinding", "(Z)Z"⟩) (by decide +kernel)) (by decide +kernel) rfl hj rfl ⟨rfl, rfl⟩ (by decide) (by decide) (Nat.le_of_ble_eq_true rfl) dX7_isSo_25 rfl (kk_e (fun r25 => ?_))
      refine tt_top (z' := 0) (by decide) ?_
      exact tt_iretz hf hrT dX7_isSo_30 (Nat.le_refl _) (Nat.le_refl _) (by omega) ⟨(by first | rw [if_pos (by unfold cd prt mnd; omega)] | rw [if_neg (by unfold cd prt mnd; omega)]), rfl⟩
  · refine tt_aload_n hf 0 dX7_isSo_5 rfl ?_
    refine tt_callF (n0 := 0) (As := []) (rest := []) (q0 := q0) (ci := 2) (x := ⟨"SumColours$Counts", "isPart", "()Z"⟩) hf cx1_isPart (lw_F q495 q507 q338 q73 q346) (hf.N.2.2.2.1 ("SumColours$Loose", ⟨"SumColours$Counts", "isPart", "()Z"⟩, ⟨"SumColours$Member", "isPart", "()Z"⟩) (by decide +kernel)) (by decide +kernel) rfl hj rfl ⟨rfl, rfl⟩ (by decide) (by decide) (Nat.le_of_ble_eq_true rfl) dX7_isSo_6 rfl (kk_e (fun r6 => ?_))
    refine tt_goto (tgt := 30) hf dX7_isSo_11 (by decide) ?_
    exact tt_iretz hf hrT dX7_isSo_30 (Nat.le_refl _) (Nat.le_refl _) (by omega) ⟨(by first | rw [if_pos (by unfold cd prt mnd; omega)] | rw [if_neg (by unfold cd prt mnd; omega)]), rfl⟩
set_option maxHeartbeats 4000000 in
set_option maxRecDepth 100000 in
theorem cx7_isSo2 {l : Launch} {g : tG} {ws : va_W} {o : Nat} {q0 : Nat} {m1 : Int × Int × Int} {u : Int} (hj : ws[q0]? = some (o, mE (2, m1))) (hu : 0 ≤ u ∧ u ≤ 2) : Ce l g yX7_isSo (ws_ yX7_isSo cX7_isSo 2 (Option.some Jvm.ClassFile.FieldType.boolean)) (rmL 4) [.ref o, .int (iI u)] (ws) (if cd (2 : Int) u then 1 else 0) (ws) := by
  refine Ct.of (by decide) (Nat.le_of_ble_eq_true rfl) ?_
  intro Γ hl hg hf hrT
  subst hl hg
  have hf : Fx Γ RX7 cX7_isSo 2 := hf
  show T Γ (rmL 4) 2 0 0 (Qe Γ (rmL 4) _) _ 0 [(0, .ref o), (1, .int (iI u))] []
  refine tt_iload_n hf 1 dX7_isSo_0 rfl ?_
  refine tt_iconst hf dX7_isSo_1 ?_
  refine tt_icmp_ne (tgt := 14) hf dX7_isSo_2 (by decide) (by omega) (by omega) (fun c2 => ?_) (fun c2 => ?_)
  · refine tt_aload_n hf 0 dX7_isSo_14 rfl ?_
    refine tt_iload_n hf 1 dX7_isSo_15 rfl ?_
    refine tt_iconst hf dX7_isSo_16 ?_
    refine tt_icmp_ne (tgt := 24) hf dX7_isSo_17 (by decide) (by omega) (by omega) (fun c17 => ?_) (fun c17 => ?_)
    · refine tt_iconst hf dX7_isSo_24 ?_
      refine tt_callF (n0 := 1) (As := [.int (iI 0)]) (rest := []) (q0 := q0) (ci := 3) (x := ⟨"SumColours$Counts", "isMinding", "(Z)Z"⟩) hf (cx3_isMinding hj rfl) (lw_F q516 q519 q354 q75 q355) (hf.N.2.2.2.1 ("SumColours$Free", ⟨"SumColours$Counts", "isMinding", "(Z)Z"⟩, ⟨"SumColours$Free", "isMinding", "(Z)Z"⟩) (by decide +kernel)) (by decide +kernel) rfl hj rfl ⟨rfl, rfl⟩ (by decide) (by decide) (Nat.le_of_ble_eq_true rfl) dX7_isSo_25 rfl (kk_e (fun r25 => ?_))
      exact tt_iretz hf hrT dX7_isSo_30 (Nat.le_refl _) (Nat.le_refl _) (by omega) ⟨(by first | rw [if_pos (by unfold cd prt mnd; omega)] | rw [if_neg (by unfold cd prt mnd; omega)]), rfl⟩
    · refine tt_iconst hf dX7_isSo_20 ?_
      refine tt_goto (tgt := 25) hf dX7_isSo_21 (by decide) ?_
      refine tt_callF (n0 := 1) (As := [.int (iI 1)]) (rest := []) (q0 := q0) (ci := 3) (x := ⟨"SumColours$Counts", "isMinding", "(Z)Z"⟩) hf (cx3_isMinding hj rfl) (lw_F q516 q519 q354 q75 q355) (hf.N.2.2.2.1 ("SumColours$Free", ⟨"SumColours$Counts", "isMinding", "(Z)Z"⟩, ⟨"SumColours$Free", "isMinding", "(Z)Z"⟩) (by decide +kernel)) (by decide +kernel) rfl hj rfl ⟨rfl, rfl⟩ (by decide) (by decide) (Nat.le_of_ble_eq_true rfl) dX7_isSo_25 rfl (kk_e (fun r25 => ?_))
      exact tt_iretz hf hrT dX7_isSo_30 (Nat.le_refl _) (Nat.le_refl _) (by omega) ⟨(by first | rw [if_pos (by unfold cd prt mnd; omega)] | rw [if_neg (by unfold cd prt mnd; omega)]), rfl⟩
  · refine tt_aload_n hf 0 dX7_isSo_5 rfl ?_
    refine tt_callF (n0 := 0) (As := []) (rest := []) (q0 := q0) (ci := 3) (x := ⟨"SumColours$Counts", "isPart", "()Z"⟩) hf cx1_isPart (lw_F q495 q499 q338 q73 q346) (hf.N.2.2.2.1 ("SumColours$Free", ⟨"SumColours$Counts", "isPart", "()Z"⟩, ⟨"SumColours$Member", "isPart", "()Z"⟩) (by decide +kernel)) (by decide +kernel) rfl hj rfl ⟨rfl, rfl⟩ (by decide) (by decide) (Nat.le_of_ble_eq_true rfl) dX7_isSo_6 rfl (kk_e (fun r6 => ?_))
    refine tt_goto (tgt := 30) hf dX7_isSo_11 (by decide) ?_
    exact tt_iretz hf hrT dX7_isSo_30 (Nat.le_refl _) (Nat.le_refl _) (by omega) ⟨(by first | rw [if_pos (by unfold cd prt mnd; omega)] | rw [if_neg (by unfold cd prt mnd; omega)]), rfl⟩
set_option maxHeartbeats 4000000 in
set_option maxRecDepth 100000 in
theorem cx7_isSo3 {l : Launch} {g : tG} {ws : va_W} {o : Nat} {q0 : Nat} {m1 : Int × Int × Int} {u : Int} (hj : ws[q0]? = some (o, mE (3, m1))) (hu : 0 ≤ u ∧ u ≤ 2) : Ce l g yX7_isSo (ws_ yX7_isSo cX7_isSo 2 (Option.some Jvm.ClassFile.FieldType.boolean)) (rmL 4) [.ref o, .int (iI u)] (ws) (if cd (3 : Int) u then 1 else 0) (ws) := by
  refine Ct.of (by decide) (Nat.le_of_ble_eq_true rfl) ?_
  intro Γ hl hg hf hrT
  subst hl hg
  have hf : Fx Γ RX7 cX7_isSo 2 := hf
  show T Γ (rmL 4) 2 0 0 (Qe Γ (rmL 4) _) _ 0 [(0, .ref o), (1, .int (iI u))] []
  refine tt_iload_n hf 1 dX7_isSo_0 rfl ?_
  refine tt_iconst hf dX7_isSo_1 ?_
  refine tt_icmp_ne (tgt := 14) hf dX7_isSo_2 (by decide) (by omega) (by omega) (fun c2 => ?_) (fun c2 => ?_)
  · refine tt_aload_n hf 0 dX7_isSo_14 rfl ?_
    refine tt_iload_n hf 1 dX7_isSo_15 rfl ?_
    refine tt_iconst hf dX7_isSo_16 ?_
    refine tt_icmp_ne (tgt := 24) hf dX7_isSo_17 (by decide) (by omega) (by omega) (fun c17 => ?_) (fun c17 => ?_)
    · refine tt_iconst hf dX7_isSo_24 ?_
      refine tt_callF (n0 := 1) (As := [.int (iI 0)]) (rest := []) (q0 := q0) (ci := 4) (x := ⟨"SumColours$Counts", "isMinding", "(Z)Z"⟩) hf cx1_isMinding (lw_F q516 q531 q350 q73 q357) (hf.N.2.2.2.1 ("SumColours$Shy", ⟨"SumColours$Counts", "isMinding", "(Z)Z"⟩, ⟨"SumColours$Member", "isMinding", "(Z)Z"⟩) (by decide +kernel)) (by decide +kernel) rfl hj rfl ⟨rfl, rfl⟩ (by decide) (by decide) (Nat.le_of_ble_eq_true rfl) dX7_isSo_25 rfl (kk_e (fun r25 => ?_))
      exact tt_iretz hf hrT dX7_isSo_30 (Nat.le_refl _) (Nat.le_refl _) (by omega) ⟨(by first | rw [if_pos (by unfold cd prt mnd; omega)] | rw [if_neg (by unfold cd prt mnd; omega)]), rfl⟩
    · refine tt_iconst hf dX7_isSo_20 ?_
      refine tt_goto (tgt := 25) hf dX7_isSo_21 (by decide) ?_
      refine tt_callF (n0 := 1) (As := [.int (iI 1)]) (rest := []) (q0 := q0) (ci := 4) (x := ⟨"SumColours$Counts", "isMinding", "(Z)Z"⟩) hf cx1_isMinding (lw_F q516 q531 q350 q73 q357) (hf.N.2.2.2.1 ("SumColours$Shy", ⟨"SumColours$Counts", "isMinding", "(Z)Z"⟩, ⟨"SumColours$Member", "isMinding", "(Z)Z"⟩) (by decide +kernel)) (by decide +kernel) rfl hj rfl ⟨rfl, rfl⟩ (by decide) (by decide) (Nat.le_of_ble_eq_true rfl) dX7_isSo_25 rfl (kk_e (fun r25 => ?_))
      exact tt_iretz hf hrT dX7_isSo_30 (Nat.le_refl _) (Nat.le_refl _) (by omega) ⟨(by first | rw [if_pos (by unfold cd prt mnd; omega)] | rw [if_neg (by unfold cd prt mnd; omega)]), rfl⟩
  · refine tt_aload_n hf 0 dX7_isSo_5 rfl ?_
    refine tt_callF (n0 := 0) (As := []) (rest := []) (q0 := q0) (ci := 4) (x := ⟨"SumColours$Counts", "isPart", "()Z"⟩) hf (cx4_isPart hj rfl) (lw_F q495 q513 q343 q76 q344) (hf.N.2.2.2.1 ("SumColours$Shy", ⟨"SumColours$Counts", "isPart", "()Z"⟩, ⟨"SumColours$Shy", "isPart", "()Z"⟩) (by decide +kernel)) (by decide +kernel) rfl hj rfl ⟨rfl, rfl⟩ (by decide) (by decide) (Nat.le_of_ble_eq_true rfl) dX7_isSo_6 rfl (kk_e (fun r6 => ?_))
    refine tt_goto (tgt := 30) hf dX7_isSo_11 (by decide) ?_
    exact tt_iretz hf hrT dX7_isSo_30 (Nat.le_refl _) (Nat.le_refl _) (by omega) ⟨(by first | rw [if_pos (by unfold cd prt mnd; omega)] | rw [if_neg (by unfold cd prt mnd; omega)]), rfl⟩
set_option maxHeartbeats 4000000 in
set_option maxRecDepth 100000 in
theorem cx7_isSo4 {l : Launch} {g : tG} {ws : va_W} {o : Nat} {q0 : Nat} {m1 : Int × Int × Int} {u : Int} (hj : ws[q0]? = some (o, mE (4, m1))) (hu : 0 ≤ u ∧ u ≤ 2) : Ce l g yX7_isSo (ws_ yX7_isSo cX7_isSo 2 (Option.some Jvm.ClassFile.FieldType.boolean)) (rmL 4) [.ref o, .int (iI u)] (ws) (if cd (4 : Int) u then 1 else 0) (ws) := by
  refine Ct.of (by decide) (Nat.le_of_ble_eq_true rfl) ?_
  intro Γ hl hg hf hrT
  subst hl hg
  have hf : Fx Γ RX7 cX7_isSo 2 := hf
  show T Γ (rmL 4) 2 0 0 (Qe Γ (rmL 4) _) _ 0 [(0, .ref o), (1, .int (iI u))] []
  refine tt_iload_n hf 1 dX7_isSo_0 rfl ?_
  refine tt_iconst hf dX7_isSo_1 ?_
  refine tt_icmp_ne (tgt := 14) hf dX7_isSo_2 (by decide) (by omega) (by omega) (fun c2 => ?_) (fun c2 => ?_)
  · refine tt_aload_n hf 0 dX7_isSo_14 rfl ?_
    refine tt_iload_n hf 1 dX7_isSo_15 rfl ?_
    refine tt_iconst hf dX7_isSo_16 ?_
    refine tt_icmp_ne (tgt := 24) hf dX7_isSo_17 (by decide) (by omega) (by omega) (fun c17 => ?_) (fun c17 => ?_)
    · refine tt_iconst hf dX7_isSo_24 ?_
      refine tt_callF (n0 := 1) (As := [.int (iI 0)]) (rest := []) (q0 := q0) (ci := 5) (x := ⟨"SumColours$Counts", "isMinding", "(Z)Z"⟩) hf (cx5_isMinding hj) (lw_F q516 q522 q359 q77 q360) (hf.N.2.2.2.1 ("SumColours$Lone", ⟨"SumColours$Counts", "isMinding", "(Z)Z"⟩, ⟨"SumColours$Lone", "isMinding", "(Z)Z"⟩) (by decide +kernel)) (by decide +kernel) rfl hj rfl ⟨rfl, rfl⟩ (by decide) (by decide) (Nat.le_of_ble_eq_true rfl) dX7_isSo_25 rfl (kk_e (fun r25 => ?_))
      exact tt_iretz hf hrT dX7_isSo_30 (Nat.le_refl _) (Nat.le_refl _) (by omega) ⟨(by first | rw [if_pos (by unfold cd prt mnd; omega)] | rw [if_neg (by unfold cd prt mnd; omega)]), rfl⟩
    · refine tt_iconst hf dX7_isSo_20 ?_
      refine tt_goto (tgt := 25) hf dX7_isSo_21 (by decide) ?_
      refine tt_callF (n0 := 1) (As := [.int (iI 1)]) (rest := []) (q0 := q0) (ci := 5) (x := ⟨"SumColours$Counts", "isMinding", "(Z)Z"⟩) hf (cx5_isMinding hj) (lw_F q516 q522 q359 q77 q360) (hf.N.2.2.2.1 ("SumColours$Lone", ⟨"SumColours$Counts", "isMinding", "(Z)Z"⟩, ⟨"SumColours$Lone", "isMinding", "(Z)Z"⟩) (by decide +kernel)) (by decide +kernel) rfl hj rfl ⟨rfl, rfl⟩ (by decide) (by decide) (Nat.le_of_ble_eq_true rfl) dX7_isSo_25 rfl (kk_e (fun r25 => ?_))
      exact tt_iretz hf hrT dX7_isSo_30 (Nat.le_refl _) (Nat.le_refl _) (by omega) ⟨(by first | rw [if_pos (by unfold cd prt mnd; omega)] | rw [if_neg (by unfold cd prt mnd; omega)]), rfl⟩
  · refine tt_aload_n hf 0 dX7_isSo_5 rfl ?_
    refine tt_callF (n0 := 0) (As := []) (rest := []) (q0 := q0) (ci := 5) (x := ⟨"SumColours$Counts", "isPart", "()Z"⟩) hf (cx4_isPart hj rfl) (lw_F q495 q503 q343 q76 q344) (hf.N.2.2.2.1 ("SumColours$Lone", ⟨"SumColours$Counts", "isPart", "()Z"⟩, ⟨"SumColours$Shy", "isPart", "()Z"⟩) (by decide +kernel)) (by decide +kernel) rfl hj rfl ⟨rfl, rfl⟩ (by decide) (by decide) (Nat.le_of_ble_eq_true rfl) dX7_isSo_6 rfl (kk_e (fun r6 => ?_))
    refine tt_goto (tgt := 30) hf dX7_isSo_11 (by decide) ?_
    exact tt_iretz hf hrT dX7_isSo_30 (Nat.le_refl _) (Nat.le_refl _) (by omega) ⟨(by first | rw [if_pos (by unfold cd prt mnd; omega)] | rw [if_neg (by unfold cd prt mnd; omega)]), rfl⟩
theorem tm_isSo {Γ : tX} {R : Room} {nL k n : Nat} {Q : State → Prop} {ws : va_W} {pc : Nat} {lv : List (Nat × Value)} {cc : ByteArray} (hf : Fx Γ RX0 cc nL) {a j : Nat} {m : Nat × Int × Int × Int} {u : Int} (hj : ws[j]? = some (a, mE m)) (hk : m.1 < 5) (hu : 0 ≤ u ∧ u ≤ 2) (hR : 5 ≤ R.frames ∧ 200 ≤ R.locals) (hroom : k ≤ R.cells ∧ n ≤ R.slots) {rest : List Value} (hcat : (rest.map fun v => v.category).sum ≤ 8) (d : decode cc pc = .ok (.invokevirtual 273, 3)) (kk : T Γ R nL k n Q ws (pc + 3) lv (.int (iI (if cd (m.1 : Int) u then 1 else 0)) :: rest)) : T Γ R nL k n Q ws pc lv (.int (iI u) :: .ref a :: rest) := by
  obtain ⟨k0, m1⟩ := m
  rcases (show k0 = 0 ∨ k0 = 1 ∨ k0 = 2 ∨ k0 = 3 ∨ k0 = 4 by have : k0 < 5 := hk; omega) with e | e | e | e | e <;> subst e
  · exact tt_callD (n0 := 1) (As := [.int (iI u)]) (rest := rest) (q0 := j) (ci := 1) (owner := "SumColours$Counts") (x := ⟨"SumColours$Member", "isSo", "(I)Z"⟩) hf (cx7_isSo0 hj hu) q493 q1072 q491 hf.N.2.2.2.2.2.2.2.1 hf.N.2.2.2.2.2.2.2.2 hf.N.2.2.2.2.2.2.1 (hf.N.2.2.2.2.2.1 "SumColours$Member" (by decide +kernel)) (by decide +kernel) rfl hj rfl ⟨rfl, rfl⟩ ⟨Nat.le_trans (Nat.le_of_ble_eq_true rfl) hR.1, Nat.le_trans (Nat.le_of_ble_eq_true rfl) hR.2⟩ hroom hcat d rfl (kk_e (fun _ => kk))
  · exact tt_callD (n0 := 1) (As := [.int (iI u)]) (rest := rest) (q0 := j) (ci := 2) (owner := "SumColours$Counts") (x := ⟨"SumColours$Member", "isSo", "(I)Z"⟩) hf (cx7_isSo1 hj hu) q493 q1072 q491 hf.N.2.2.2.2.2.2.2.1 hf.N.2.2.2.2.2.2.2.2 hf.N.2.2.2.2.2.2.1 (hf.N.2.2.2.2.2.1 "SumColours$Loose" (by decide +kernel)) (by decide +kernel) rfl hj rfl ⟨rfl, rfl⟩ ⟨Nat.le_trans (Nat.le_of_ble_eq_true rfl) hR.1, Nat.le_trans (Nat.le_of_ble_eq_true rfl) hR.2⟩ hroom hcat d rfl (kk_e (fun _ => kk))
  · exact tt_callD (n0 := 1) (As := [.int (iI u)]) (rest := rest) (q0 := j) (ci := 3) (owner := "SumColours$Counts") (x := ⟨"SumColours$Member", "isSo", "(I)Z"⟩) hf (cx7_isSo2 hj hu) q493 q1072 q491 hf.N.2.2.2.2.2.2.2.1 hf.N.2.2.2.2.2.2.2.2 hf.N.2.2.2.2.2.2.1 (hf.N.2.2.2.2.2.1 "SumColours$Free" (by decide +kernel)) (by decide +kernel) rfl hj rfl ⟨rfl, rfl⟩ ⟨Nat.le_trans (Nat.le_of_ble_eq_true rfl) hR.1, Nat.le_trans (Nat.le_of_ble_eq_true rfl) hR.2⟩ hroom hcat d rfl (kk_e (fun _ => kk))
  · exact tt_callD (n0 := 1) (As := [.int (iI u)]) (rest := rest) (q0 := j) (ci := 4) (owner := "SumColours$Counts") (x := ⟨"SumColours$Member", "isSo", "(I)Z"⟩) hf (cx7_isSo3 hj hu) q493 q1072 q491 hf.N.2.2.2.2.2.2.2.1 hf.N.2.2.2.2.2.2.2.2 hf.N.2.2.2.2.2.2.1 (hf.N.2.2.2.2.2.1 "SumColours$Shy" (by decide +kernel)) (by decide +kernel) rfl hj rfl ⟨rfl, rfl⟩ ⟨Nat.le_trans (Nat.le_of_ble_eq_true rfl) hR.1, Nat.le_trans (Nat.le_of_ble_eq_true rfl) hR.2⟩ hroom hcat d rfl (kk_e (fun _ => kk))
  · exact tt_callD (n0 := 1) (As := [.int (iI u)]) (rest := rest) (q0 := j) (ci := 5) (owner := "SumColours$Counts") (x := ⟨"SumColours$Member", "isSo", "(I)Z"⟩) hf (cx7_isSo4 hj hu) q493 q1072 q491 hf.N.2.2.2.2.2.2.2.1 hf.N.2.2.2.2.2.2.2.2 hf.N.2.2.2.2.2.2.1 (hf.N.2.2.2.2.2.1 "SumColours$Lone" (by decide +kernel)) (by decide +kernel) rfl hj rfl ⟨rfl, rfl⟩ ⟨Nat.le_trans (Nat.le_of_ble_eq_true rfl) hR.1, Nat.le_trans (Nat.le_of_ble_eq_true rfl) hR.2⟩ hroom hcat d rfl (kk_e (fun _ => kk))
section XM
variable {Γ : tX} {R : Room} {nL k n : Nat} {Q : State → Prop} {pc : Nat} {lv : List (Nat × Value)} {st : List Value} {cc : ByteArray}
variable {o : Nat} {ax : Nat → Nat} {num kpt : Int → Option Nat} {many cols chg brd old : Int} {page : Int → Int} {pgM told enD : Int} {row : Int → Int} {ways far : Int} {hav : Int → Int} {wtd : Int} {fnd : Int → Int} {mdT wnT : Int} {sN sW sC : Int → Int} {sM drw : Int} {kN kW kC : Int → Int} {kS kG kB : Int} {hh : Int64} {L : List Nat} {mf : Nat → Nat × Int × Int × Int}
theorem xm_j {g : tG} {a : Nat} (ha : a ∈ L) : ∃ j : Nat, (xW g o ax num kpt many cols chg brd old page pgM told enD row ways far hav wtd fnd mdT wnT sN sW sC sM drw kN kW kC kS kG kB hh L mf)[j]? = some (a, mE (mf a)) := va_pl_get (f := fun a => mE (mf a)) ha
theorem xm_set {g : tG} {A : Nat → Prop} {a j : Nat} {m : Nat × Int × Int × Int} (hD : va_D A (xW g o ax num kpt many cols chg brd old page pgM told enD row ways far hav wtd fnd mdT wnT sN sW sC sM drw kN kW kC kS kG kB hh L mf)) (ha : a ∈ L) (hj : (xW g o ax num kpt many cols chg brd old page pgM told enD row ways far hav wtd fnd mdT wnT sN sW sC sM drw kN kW kC kS kG kB hh L mf)[j]? = some (a, mE (mf a))) : (xW g o ax num kpt many cols chg brd old page pgM told enD row ways far hav wtd fnd mdT wnT sN sW sC sM drw kN kW kC kS kG kB hh L mf).set j (a, mE m) = xW g o ax num kpt many cols chg brd old page pgM told enD row ways far hav wtd fnd mdT wnT sN sW sC sM drw kN kW kC kS kG kB hh L (va_up mf a m) := by
  have h := va_pl_set (f := fun a => mE (mf a)) (e := mE m) hD ha hj
  have e : va_up (fun a => mE (mf a)) a (mE m) = fun b => mE (va_up mf a m b) := by
    funext b
    by_cases q : b = a
    · subst q; rw [va_up_self, va_up_self]
    · rw [va_up_ne _ _ q, va_up_ne _ _ q]
  rw [e] at h
  exact h
theorem gm_name (hf : Fx Γ RX0 cc nL) {a : Nat} (ha : a ∈ L) (hk : (mf a).1 < 5) (d : decode cc pc = .ok (.getfield 123, 3)) (kk : T Γ R nL k n Q (xW (xg Γ) o ax num kpt many cols chg brd old page pgM told enD row ways far hav wtd fnd mdT wnT sN sW sC sM drw kN kW kC kS kG kB hh L mf) (pc + 3) lv (.int (iI (mf a).2.1) :: st)) : T Γ R nL k n Q (xW (xg Γ) o ax num kpt many cols chg brd old page pgM told enD row ways far hav wtd fnd mdT wnT sN sW sC sM drw kN kW kC kS kG kB hh L mf) pc lv (.ref a :: st) := by
  obtain ⟨j, hj⟩ := (xm_j ha : ∃ j : Nat, (xW (xg Γ) o ax num kpt many cols chg brd old page pgM told enD row ways far hav wtd fnd mdT wnT sN sW sC sM drw kN kW kC kS kG kB hh L mf)[j]? = some (a, mE (mf a)))
  exact tt_getm hf j hj hk 0 (by decide) q103 rfl d kk
theorem pm_name (hf : Fx Γ RX0 cc nL) {a : Nat} (ha : a ∈ L) (hk : (mf a).1 < 5) (d : decode cc pc = .ok (.putfield 123, 3)) {v : Int} (kk : T Γ R nL k n Q (xW (xg Γ) o ax num kpt many cols chg brd old page pgM told enD row ways far hav wtd fnd mdT wnT sN sW sC sM drw kN kW kC kS kG kB hh L (va_up mf a ((mf a).1, v, (mf a).2.2))) (pc + 3) lv st) : T Γ R nL k n Q (xW (xg Γ) o ax num kpt many cols chg brd old page pgM told enD row ways far hav wtd fnd mdT wnT sN sW sC sM drw kN kW kC kS kG kB hh L mf) pc lv (.int (iI v) :: .ref a :: st) := by
  obtain ⟨j, hj⟩ := (xm_j ha : ∃ j : Nat, (xW (xg Γ) o ax num kpt many cols chg brd old page pgM told enD row ways far hav wtd fnd mdT wnT sN sW sC sM drw kN kW kC kS kG kB hh L mf)[j]? = some (a, mE (mf a)))
  exact tt_putm hf j hj hk 0 (by decide) q103 d (fun hD => xm_set hD ha hj) kk
theorem gm_colour (hf : Fx Γ RX0 cc nL) {a : Nat} (ha : a ∈ L) (hk : (mf a).1 < 5) (d : decode cc pc = .ok (.getfield 126, 3)) (kk : T Γ R nL k n Q (xW (xg Γ) o ax num kpt many cols chg brd old page pgM told enD row ways far hav wtd fnd mdT wnT sN sW sC sM drw kN kW kC kS kG kB hh L mf) (pc + 3) lv (.int (iI (mf a).2.2.1) :: st)) : T Γ R nL k n Q (xW (xg Γ) o ax num kpt many cols chg brd old page pgM told enD row ways far hav wtd fnd mdT wnT sN sW sC sM drw kN kW kC kS kG kB hh L mf) pc lv (.ref a :: st) := by
  obtain ⟨j, hj⟩ := (xm_j ha : ∃ j : Nat, (xW (xg Γ) o ax num kpt many cols chg brd old page pgM told enD row ways far hav wtd fnd mdT wnT sN sW sC sM drw kN kW kC kS kG kB hh L mf)[j]? = some (a, mE (mf a)))
  exact tt_getm hf j hj hk 1 (by decide) q113 rfl d kk
theorem pm_colour (hf : Fx Γ RX0 cc nL) {a : Nat} (ha : a ∈ L) (hk : (mf a).1 < 5) (d : decode cc pc = .ok (.putfield 126, 3)) {v : Int} (kk : T Γ R nL k n Q (xW (xg Γ) o ax num kpt many cols chg brd old page pgM told enD row ways far hav wtd fnd mdT wnT sN sW sC sM drw kN kW kC kS kG kB hh L (va_up mf a ((mf a).1, (mf a).2.1, v, (mf a).2.2.2))) (pc + 3) lv st) : T Γ R nL k n Q (xW (xg Γ) o ax num kpt many cols chg brd old page pgM told enD row ways far hav wtd fnd mdT wnT sN sW sC sM drw kN kW kC kS kG kB hh L mf) pc lv (.int (iI v) :: .ref a :: st) := by
  obtain ⟨j, hj⟩ := (xm_j ha : ∃ j : Nat, (xW (xg Γ) o ax num kpt many cols chg brd old page pgM told enD row ways far hav wtd fnd mdT wnT sN sW sC sM drw kN kW kC kS kG kB hh L mf)[j]? = some (a, mE (mf a)))
  exact tt_putm hf j hj hk 1 (by decide) q113 d (fun hD => xm_set hD ha hj) kk
theorem gm_keptColour (hf : Fx Γ RX0 cc nL) {a : Nat} (ha : a ∈ L) (hk : (mf a).1 < 5) (d : decode cc pc = .ok (.getfield 302, 3)) (kk : T Γ R nL k n Q (xW (xg Γ) o ax num kpt many cols chg brd old page pgM told enD row ways far hav wtd fnd mdT wnT sN sW sC sM drw kN kW kC kS kG kB hh L mf) (pc + 3) lv (.int (iI (mf a).2.2.2) :: st)) : T Γ R nL k n Q (xW (xg Γ) o ax num kpt many cols chg brd old page pgM told enD row ways far hav wtd fnd mdT wnT sN sW sC sM drw kN kW kC kS kG kB hh L mf) pc lv (.ref a :: st) := by
  obtain ⟨j, hj⟩ := (xm_j ha : ∃ j : Nat, (xW (xg Γ) o ax num kpt many cols chg brd old page pgM told enD row ways far hav wtd fnd mdT wnT sN sW sC sM drw kN kW kC kS kG kB hh L mf)[j]? = some (a, mE (mf a)))
  exact tt_getm hf j hj hk 2 (by decide) q114 rfl d kk
theorem pm_keptColour (hf : Fx Γ RX0 cc nL) {a : Nat} (ha : a ∈ L) (hk : (mf a).1 < 5) (d : decode cc pc = .ok (.putfield 302, 3)) {v : Int} (kk : T Γ R nL k n Q (xW (xg Γ) o ax num kpt many cols chg brd old page pgM told enD row ways far hav wtd fnd mdT wnT sN sW sC sM drw kN kW kC kS kG kB hh L (va_up mf a ((mf a).1, (mf a).2.1, (mf a).2.2.1, v))) (pc + 3) lv st) : T Γ R nL k n Q (xW (xg Γ) o ax num kpt many cols chg brd old page pgM told enD row ways far hav wtd fnd mdT wnT sN sW sC sM drw kN kW kC kS kG kB hh L mf) pc lv (.int (iI v) :: .ref a :: st) := by
  obtain ⟨j, hj⟩ := (xm_j ha : ∃ j : Nat, (xW (xg Γ) o ax num kpt many cols chg brd old page pgM told enD row ways far hav wtd fnd mdT wnT sN sW sC sM drw kN kW kC kS kG kB hh L mf)[j]? = some (a, mE (mf a)))
  exact tt_putm hf j hj hk 2 (by decide) q114 d (fun hD => xm_set hD ha hj) kk
theorem xm_isPart (hf : Fx Γ RX0 cc nL) {a : Nat}  (ha : a ∈ L) (hk : (mf a).1 < 5)  (hR : 4 ≤ R.frames ∧ 160 ≤ R.locals) (hroom : k ≤ R.cells ∧ n ≤ R.slots) (hcat : (st.map fun v => v.category).sum ≤ 8) (d : decode cc pc = .ok (.invokevirtual 142, 3)) (kk : T Γ R nL k n Q (xW (xg Γ) o ax num kpt many cols chg brd old page pgM told enD row ways far hav wtd fnd mdT wnT sN sW sC sM drw kN kW kC kS kG kB hh L mf) (pc + 3) lv (.int (iI (if prt ((mf a).1 : Int) then 1 else 0)) :: st)) : T Γ R nL k n Q (xW (xg Γ) o ax num kpt many cols chg brd old page pgM told enD row ways far hav wtd fnd mdT wnT sN sW sC sM drw kN kW kC kS kG kB hh L mf) pc lv (.ref a :: st) := by
  obtain ⟨j, hj⟩ := (xm_j ha : ∃ j : Nat, (xW (xg Γ) o ax num kpt many cols chg brd old page pgM told enD row ways far hav wtd fnd mdT wnT sN sW sC sM drw kN kW kC kS kG kB hh L mf)[j]? = some (a, mE (mf a)))
  exact tm_isPart hf hj hk hR hroom hcat d kk
theorem xm_isMinding (hf : Fx Γ RX0 cc nL) {a : Nat} {t : Int} (ha : a ∈ L) (hk : (mf a).1 < 5) (ht : t = 0 ∨ t = 1) (hR : 4 ≤ R.frames ∧ 160 ≤ R.locals) (hroom : k ≤ R.cells ∧ n ≤ R.slots) (hcat : (st.map fun v => v.category).sum ≤ 8) (d : decode cc pc = .ok (.invokevirtual 146, 3)) (kk : T Γ R nL k n Q (xW (xg Γ) o ax num kpt many cols chg brd old page pgM told enD row ways far hav wtd fnd mdT wnT sN sW sC sM drw kN kW kC kS kG kB hh L mf) (pc + 3) lv (.int (iI (if mnd ((mf a).1 : Int) (t = 1) then 1 else 0)) :: st)) : T Γ R nL k n Q (xW (xg Γ) o ax num kpt many cols chg brd old page pgM told enD row ways far hav wtd fnd mdT wnT sN sW sC sM drw kN kW kC kS kG kB hh L mf) pc lv (.int (iI t) :: .ref a :: st) := by
  obtain ⟨j, hj⟩ := (xm_j ha : ∃ j : Nat, (xW (xg Γ) o ax num kpt many cols chg brd old page pgM told enD row ways far hav wtd fnd mdT wnT sN sW sC sM drw kN kW kC kS kG kB hh L mf)[j]? = some (a, mE (mf a)))
  exact tm_isMinding hf hj hk ht hR hroom hcat d kk
theorem xm_kind (hf : Fx Γ RX0 cc nL) {a : Nat}  (ha : a ∈ L) (hk : (mf a).1 < 5)  (hR : 4 ≤ R.frames ∧ 160 ≤ R.locals) (hroom : k ≤ R.cells ∧ n ≤ R.slots) (hcat : (st.map fun v => v.category).sum ≤ 8) (d : decode cc pc = .ok (.invokevirtual 238, 3)) (kk : T Γ R nL k n Q (xW (xg Γ) o ax num kpt many cols chg brd old page pgM told enD row ways far hav wtd fnd mdT wnT sN sW sC sM drw kN kW kC kS kG kB hh L mf) (pc + 3) lv (.int (iI (((mf a).1 : Int))) :: st)) : T Γ R nL k n Q (xW (xg Γ) o ax num kpt many cols chg brd old page pgM told enD row ways far hav wtd fnd mdT wnT sN sW sC sM drw kN kW kC kS kG kB hh L mf) pc lv (.ref a :: st) := by
  obtain ⟨j, hj⟩ := (xm_j ha : ∃ j : Nat, (xW (xg Γ) o ax num kpt many cols chg brd old page pgM told enD row ways far hav wtd fnd mdT wnT sN sW sC sM drw kN kW kC kS kG kB hh L mf)[j]? = some (a, mE (mf a)))
  exact tm_kind hf hj hk hR hroom hcat d kk
end XM
/-- kinds and colours of the numbers -/
def xkd (num : Int → Option Nat) (mf : Nat → Nat × Int × Int × Int) : Int → Int := fun n => match num n with | some a => ((mf a).1 : Int) | none => 0
def xco (num : Int → Option Nat) (mf : Nat → Nat × Int × Int × Int) : Int → Int := fun n => match num n with | some a => (mf a).2.2.1 | none => 0
theorem xkd_at {num : Int → Option Nat} {mf : Nat → Nat × Int × Int × Int} {n : Int} {a : Nat} (h : num n = some a) : xkd num mf n = ((mf a).1 : Int) := by unfold xkd; rw [h]
theorem xco_at {num : Int → Option Nat} {mf : Nat → Nat × Int × Int × Int} {n : Int} {a : Nat} (h : num n = some a) : xco num mf n = (mf a).2.2.1 := by unfold xco; rw [h]
/-- the numbers' cells: known members, each with its own name; those of the board are there -/
def xB (many : Int) (num : Int → Option Nat) (L : List Nat) (mf : Nat → Nat × Int × Int × Int) : Prop := (∀ n a, num n = some a → a ∈ L ∧ (mf a).1 < 5 ∧ (mf a).2.1 = n ∧ -1 ≤ (mf a).2.2.1 ∧ (mf a).2.2.1 ≤ 2) ∧ ∀ n, 1 ≤ n → n ≤ many → ∃ a, num n = some a
theorem xB.at {many : Int} {num : Int → Option Nat} {L : List Nat} {mf : Nat → Nat × Int × Int × Int} (h : xB many num L mf) {n : Int} (h1 : 1 ≤ n) (h2 : n ≤ many) : ∃ a, num n = some a ∧ a ∈ L ∧ (mf a).1 < 5 ∧ (mf a).2.1 = n ∧ -1 ≤ (mf a).2.2.1 ∧ (mf a).2.2.1 ≤ 2 := by
  obtain ⟨a, ha⟩ := h.2 n h1 h2
  exact ⟨a, ha, h.1 n a ha⟩
theorem xkd_rng {many : Int} {num : Int → Option Nat} {L : List Nat} {mf : Nat → Nat × Int × Int × Int} (h : xB many num L mf) : ∀ i, 0 ≤ xkd num mf i ∧ xkd num mf i ≤ 4 := by
  intro i
  unfold xkd
  cases e : num i with
  | none => simp
  | some a => have := (h.1 i a e).2.1; simp only; omega
theorem xco_rng {many : Int} {num : Int → Option Nat} {L : List Nat} {mf : Nat → Nat × Int × Int × Int} (h : xB many num L mf) : ∀ i, -1 ≤ xco num mf i ∧ xco num mf i ≤ 2 := by
  intro i
  unfold xco
  cases e : num i with
  | none => simp
  | some a => have := (h.1 i a e).2.2.2; simp only; omega
