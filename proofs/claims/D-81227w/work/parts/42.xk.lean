theorem tt_objInit {Γ : tX} {R : Room} {nL k n : Nat} {Q : State → Prop} {ws : va_W} {pc : Nat} {lv : List (Nat × Value)} {st : List Value} {own : String} {cc : ByteArray} (hf : Fx Γ own cc nL) {idx a : Nat} (hlink : Cond.methodLink own idx Lib.objectInit ∈ lw_all) (hR : 1 ≤ R.frames ∧ 20 ≤ R.locals) (hcat : (st.map fun v => v.category).sum ≤ 8) (d : decode cc pc = .ok (.invokespecial idx, 3)) (kk : T Γ R nL k n Q ws (pc + 3) lv st) : T Γ R nL k n Q ws pc lv (.ref a :: st) :=
  fun H locs ls hP hD hS hl => W.objInit hf.x hf.b hf.own (hf.ts _ hlink) (hf.ts _ q93) (hf.ts _ q94) rfl (hl.1.trans hf.ml.symm) rfl d hR.1 (by show 2 * 0 + (st.map fun v => v.category).sum + 12 ≤ R.locals; omega) (kk H locs ls hP hD hS hl)
theorem tt_callIN {Γ : tX} {R : Room} {nL k n : Nat} {Q : State → Prop} {ws : va_W} {pc : Nat} {lv : List (Nat × Value)} {st : List Value} {own : String} {cc : ByteArray} (hf : Fx Γ own cc nL) {y : MethodName} {bytes : ByteArray} {maxL index : Nat} {rm : Room} {post : Option Value → va_W → Prop} {As rest : List Value} {b n0 : Nat} {host : String}
    (hC : Ct (xl Γ) (xg Γ) y (ws_ y bytes maxL none) rm (.ref b :: As) ws post) (hcode : Cond.code y bytes maxL none ∈ lw_all) (hl : va_Nw (.methodLinkNest own index y host) (xs Γ)) (hini : Cond.initialized y.cls ∈ lw_all) (hinst : Cond.instanceMethod y ∈ lw_all) (hx1 : y.name = "<init>")
    (hd : y.cls ≠ "java/lang/invoke/MethodHandle" ∧ y.cls ≠ "java/lang/invoke/VarHandle" ∧ (parseMethodDescriptor y.desc).map (fun d => d.parameters.length) = some n0) (hn0 : As.length = n0) (h0 : rm.cells = 0 ∧ rm.slots = 0) (hR : rm.frames + 1 ≤ R.frames ∧ 8 + (maxL + 11) + rm.locals ≤ R.locals) (hroom : k ≤ R.cells ∧ n ≤ R.slots) (hcat : (rest.map fun v => v.category).sum ≤ 8) (d : decode cc pc = .ok (.invokespecial index, 3))
    (hst : st = As.reverse ++ .ref b :: rest) (kk : ∀ (v : Option Value) (ws' : va_W), post v ws' → T Γ R nL k n Q ws' (pc + 3) lv (v.toList ++ rest)) : T Γ R nL k n Q ws pc lv st := by
  subst hst
  have hroom2 : k + rm.cells ≤ R.cells ∧ n + rm.slots ≤ R.slots := by rw [h0.1, h0.2]; exact hroom
  exact tt_after hf (fun H locs ls hP hD hS hlv => va_runIN (host := host) hf.fix (hC H.size) ⟨va_cnB n0 hf.ts (lw_meth hcode) rfl rfl rfl hl (hf.ts _ hini) hd hR, hx1, hf.ts _ hinst⟩ ⟨Pg.blind, hf.pre hP hD⟩ rfl hn0 hlv.1 rfl (lv_room hcat) d hroom2) (fun v w hp => by rw [h0.1, h0.2]; exact kk v w hp)
theorem tt_newM0 {Γ : tX} {R : Room} {nL k n : Nat} {Q : State → Prop} {ws : va_W} {pc : Nat} {lv : List (Nat × Value)} {st : List Value} {cc : ByteArray} (hf : Fx Γ RX0 cc nL) (hcells : k + 1 ≤ R.cells) (hslots : n + 3 ≤ R.slots) (d : decode cc pc = .ok (.new 7, 3)) (kk : ∀ q : Nat, T Γ R nL (k + 1) (n + 3) Q (ws ++ [(q, mE (0, 0, 0, 0))]) (pc + 3) lv (.ref q :: st)) : T Γ R nL k n Q ws pc lv st :=
  fun H locs ls hP hD hS hl => va_new (ci := 1) (fs := [.int (iI 0), .int (iI 0), .int (iI 0)]) (C := RX1) (T := TX1) (N := 3) hf.x hf.b hf.ts in_X1 tyX1 tyX1_ok hf.own (hf.ts _ q95) (hf.ts _ q97) (hf.ts _ q73) hf.K hP hD hS hf.A rfl (fun j hj => by rcases (show j = 0 ∨ j = 1 ∨ j = 2 by omega) with rfl | rfl | rfl <;> rfl) hcells hslots d (fun q H1 hP1 hD1 hS1 => kk q H1 locs ls hP1 hD1 hS1 hl)
theorem tt_newM1 {Γ : tX} {R : Room} {nL k n : Nat} {Q : State → Prop} {ws : va_W} {pc : Nat} {lv : List (Nat × Value)} {st : List Value} {cc : ByteArray} (hf : Fx Γ RX0 cc nL) (hcells : k + 1 ≤ R.cells) (hslots : n + 3 ≤ R.slots) (d : decode cc pc = .ok (.new 13, 3)) (kk : ∀ q : Nat, T Γ R nL (k + 1) (n + 3) Q (ws ++ [(q, mE (1, 0, 0, 0))]) (pc + 3) lv (.ref q :: st)) : T Γ R nL k n Q ws pc lv st :=
  fun H locs ls hP hD hS hl => va_new (ci := 2) (fs := [.int (iI 0), .int (iI 0), .int (iI 0)]) (C := RX2) (T := TX2) (N := 3) hf.x hf.b hf.ts in_X2 tyX2 tyX2_ok hf.own (hf.ts _ q122) (hf.ts _ q123) (hf.ts _ q74) hf.K hP hD hS hf.A rfl (fun j hj => by rcases (show j = 0 ∨ j = 1 ∨ j = 2 by omega) with rfl | rfl | rfl <;> rfl) hcells hslots d (fun q H1 hP1 hD1 hS1 => kk q H1 locs ls hP1 hD1 hS1 hl)
theorem tt_newM2 {Γ : tX} {R : Room} {nL k n : Nat} {Q : State → Prop} {ws : va_W} {pc : Nat} {lv : List (Nat × Value)} {st : List Value} {cc : ByteArray} (hf : Fx Γ RX0 cc nL) (hcells : k + 1 ≤ R.cells) (hslots : n + 3 ≤ R.slots) (d : decode cc pc = .ok (.new 16, 3)) (kk : ∀ q : Nat, T Γ R nL (k + 1) (n + 3) Q (ws ++ [(q, mE (2, 0, 0, 0))]) (pc + 3) lv (.ref q :: st)) : T Γ R nL k n Q ws pc lv st :=
  fun H locs ls hP hD hS hl => va_new (ci := 3) (fs := [.int (iI 0), .int (iI 0), .int (iI 0)]) (C := RX3) (T := TX3) (N := 3) hf.x hf.b hf.ts in_X3 tyX3 tyX3_ok hf.own (hf.ts _ q132) (hf.ts _ q133) (hf.ts _ q75) hf.K hP hD hS hf.A rfl (fun j hj => by rcases (show j = 0 ∨ j = 1 ∨ j = 2 by omega) with rfl | rfl | rfl <;> rfl) hcells hslots d (fun q H1 hP1 hD1 hS1 => kk q H1 locs ls hP1 hD1 hS1 hl)
theorem tt_newM3 {Γ : tX} {R : Room} {nL k n : Nat} {Q : State → Prop} {ws : va_W} {pc : Nat} {lv : List (Nat × Value)} {st : List Value} {cc : ByteArray} (hf : Fx Γ RX0 cc nL) (hcells : k + 1 ≤ R.cells) (hslots : n + 3 ≤ R.slots) (d : decode cc pc = .ok (.new 19, 3)) (kk : ∀ q : Nat, T Γ R nL (k + 1) (n + 3) Q (ws ++ [(q, mE (3, 0, 0, 0))]) (pc + 3) lv (.ref q :: st)) : T Γ R nL k n Q ws pc lv st :=
  fun H locs ls hP hD hS hl => va_new (ci := 4) (fs := [.int (iI 0), .int (iI 0), .int (iI 0)]) (C := RX4) (T := TX4) (N := 3) hf.x hf.b hf.ts in_X4 tyX4 tyX4_ok hf.own (hf.ts _ q142) (hf.ts _ q143) (hf.ts _ q76) hf.K hP hD hS hf.A rfl (fun j hj => by rcases (show j = 0 ∨ j = 1 ∨ j = 2 by omega) with rfl | rfl | rfl <;> rfl) hcells hslots d (fun q H1 hP1 hD1 hS1 => kk q H1 locs ls hP1 hD1 hS1 hl)
theorem tt_newM4 {Γ : tX} {R : Room} {nL k n : Nat} {Q : State → Prop} {ws : va_W} {pc : Nat} {lv : List (Nat × Value)} {st : List Value} {cc : ByteArray} (hf : Fx Γ RX0 cc nL) (hcells : k + 1 ≤ R.cells) (hslots : n + 3 ≤ R.slots) (d : decode cc pc = .ok (.new 22, 3)) (kk : ∀ q : Nat, T Γ R nL (k + 1) (n + 3) Q (ws ++ [(q, mE (4, 0, 0, 0))]) (pc + 3) lv (.ref q :: st)) : T Γ R nL k n Q ws pc lv st :=
  fun H locs ls hP hD hS hl => va_new (ci := 5) (fs := [.int (iI 0), .int (iI 0), .int (iI 0)]) (C := RX5) (T := TX5) (N := 3) hf.x hf.b hf.ts in_X5 tyX5 tyX5_ok hf.own (hf.ts _ q152) (hf.ts _ q153) (hf.ts _ q77) hf.K hP hD hS hf.A rfl (fun j hj => by rcases (show j = 0 ∨ j = 1 ∨ j = 2 by omega) with rfl | rfl | rfl <;> rfl) hcells hslots d (fun q H1 hP1 hD1 hS1 => kk q H1 locs ls hP1 hD1 hS1 hl)
set_option maxHeartbeats 4000000 in
set_option maxRecDepth 100000 in
theorem cx1_init {l : Launch} {g : tG} {ws : va_W} {o : Nat}   : Cv l g yX1_init (ws_ yX1_init cX1_init 1 (Option.none : Option Jvm.ClassFile.FieldType)) (rmL 1) [.ref o] (ws) (fun w => w = ws) := by
  refine Ct.of (by decide) (Nat.le_of_ble_eq_true rfl) ?_
  intro Γ hl hg hf hrT
  subst hl hg
  have hf : Fx Γ RX1 cX1_init 1 := hf
  show T Γ (rmL 1) 1 0 0 (Qe Γ (rmL 1) _) _ 0 [(0, .ref o)] []
  refine tt_aload_n hf 0 dX1_init_0 rfl ?_
  refine tt_objInit hf q101 (by decide) (Nat.le_of_ble_eq_true rfl) dX1_init_1 ?_
  exact tt_vretv hf hrT dX1_init_4 (Nat.le_refl _) (Nat.le_refl _) rfl
set_option maxHeartbeats 4000000 in
set_option maxRecDepth 100000 in
theorem cx2_init {l : Launch} {g : tG} {ws : va_W} {o : Nat}   : Cv l g yX2_init (ws_ yX2_init cX2_init 1 (Option.none : Option Jvm.ClassFile.FieldType)) (rmL 2) [.ref o] (ws) (fun w => w = ws) := by
  refine Ct.of (by decide) (Nat.le_of_ble_eq_true rfl) ?_
  intro Γ hl hg hf hrT
  subst hl hg
  have hf : Fx Γ RX2 cX2_init 1 := hf
  show T Γ (rmL 2) 1 0 0 (Qe Γ (rmL 2) _) _ 0 [(0, .ref o)] []
  refine tt_aload_n hf 0 dX2_init_0 rfl ?_
  refine tt_callIN (n0 := 0) (As := []) (rest := []) (host := "SumColours") hf cx1_init q100 (hf.N.1 ("SumColours$Loose", 1, ⟨"SumColours$Member", "<init>", "()V"⟩, "SumColours") (by decide +kernel)) q73 q99 rfl (by decide +kernel) rfl ⟨rfl, rfl⟩ (by decide) (by decide) (Nat.le_of_ble_eq_true rfl) dX2_init_1 rfl (kk_v (fun w hw => ?_))
  subst hw
  exact tt_vretv hf hrT dX2_init_4 (Nat.le_refl _) (Nat.le_refl _) rfl
set_option maxHeartbeats 4000000 in
set_option maxRecDepth 100000 in
theorem cx3_init {l : Launch} {g : tG} {ws : va_W} {o : Nat}   : Cv l g yX3_init (ws_ yX3_init cX3_init 1 (Option.none : Option Jvm.ClassFile.FieldType)) (rmL 2) [.ref o] (ws) (fun w => w = ws) := by
  refine Ct.of (by decide) (Nat.le_of_ble_eq_true rfl) ?_
  intro Γ hl hg hf hrT
  subst hl hg
  have hf : Fx Γ RX3 cX3_init 1 := hf
  show T Γ (rmL 2) 1 0 0 (Qe Γ (rmL 2) _) _ 0 [(0, .ref o)] []
  refine tt_aload_n hf 0 dX3_init_0 rfl ?_
  refine tt_callIN (n0 := 0) (As := []) (rest := []) (host := "SumColours") hf cx1_init q100 (hf.N.1 ("SumColours$Free", 1, ⟨"SumColours$Member", "<init>", "()V"⟩, "SumColours") (by decide +kernel)) q73 q99 rfl (by decide +kernel) rfl ⟨rfl, rfl⟩ (by decide) (by decide) (Nat.le_of_ble_eq_true rfl) dX3_init_1 rfl (kk_v (fun w hw => ?_))
  subst hw
  exact tt_vretv hf hrT dX3_init_4 (Nat.le_refl _) (Nat.le_refl _) rfl
set_option maxHeartbeats 4000000 in
set_option maxRecDepth 100000 in
theorem cx4_init {l : Launch} {g : tG} {ws : va_W} {o : Nat}   : Cv l g yX4_init (ws_ yX4_init cX4_init 1 (Option.none : Option Jvm.ClassFile.FieldType)) (rmL 2) [.ref o] (ws) (fun w => w = ws) := by
  refine Ct.of (by decide) (Nat.le_of_ble_eq_true rfl) ?_
  intro Γ hl hg hf hrT
  subst hl hg
  have hf : Fx Γ RX4 cX4_init 1 := hf
  show T Γ (rmL 2) 1 0 0 (Qe Γ (rmL 2) _) _ 0 [(0, .ref o)] []
  refine tt_aload_n hf 0 dX4_init_0 rfl ?_
  refine tt_callIN (n0 := 0) (As := []) (rest := []) (host := "SumColours") hf cx1_init q100 (hf.N.1 ("SumColours$Shy", 1, ⟨"SumColours$Member", "<init>", "()V"⟩, "SumColours") (by decide +kernel)) q73 q99 rfl (by decide +kernel) rfl ⟨rfl, rfl⟩ (by decide) (by decide) (Nat.le_of_ble_eq_true rfl) dX4_init_1 rfl (kk_v (fun w hw => ?_))
  subst hw
  exact tt_vretv hf hrT dX4_init_4 (Nat.le_refl _) (Nat.le_refl _) rfl
set_option maxHeartbeats 4000000 in
set_option maxRecDepth 100000 in
theorem cx5_init {l : Launch} {g : tG} {ws : va_W} {o : Nat}   : Cv l g yX5_init (ws_ yX5_init cX5_init 1 (Option.none : Option Jvm.ClassFile.FieldType)) (rmL 3) [.ref o] (ws) (fun w => w = ws) := by
  refine Ct.of (by decide) (Nat.le_of_ble_eq_true rfl) ?_
  intro Γ hl hg hf hrT
  subst hl hg
  have hf : Fx Γ RX5 cX5_init 1 := hf
  show T Γ (rmL 3) 1 0 0 (Qe Γ (rmL 3) _) _ 0 [(0, .ref o)] []
  refine tt_aload_n hf 0 dX5_init_0 rfl ?_
  refine tt_callIN (n0 := 0) (As := []) (rest := []) (host := "SumColours") hf cx4_init q146 (hf.N.1 ("SumColours$Lone", 1, ⟨"SumColours$Shy", "<init>", "()V"⟩, "SumColours") (by decide +kernel)) q76 q145 rfl (by decide +kernel) rfl ⟨rfl, rfl⟩ (by decide) (by decide) (Nat.le_of_ble_eq_true rfl) dX5_init_1 rfl (kk_v (fun w hw => ?_))
  subst hw
  exact tt_vretv hf hrT dX5_init_4 (Nat.le_refl _) (Nat.le_refl _) rfl
def rmA : Room := { frames := 4, cells := 1, slots := 3, locals := 160 }
set_option maxRecDepth 100000 in
theorem cx_made {l : Launch} {g : tG} {ws : va_W} {z : Int} {kq : Nat} (hz : z = (kq : Int)) (hk : kq < 5) : Ct l g yX0_made (ws_ yX0_made cX0_made 1 (Option.some (Jvm.ClassFile.FieldType.object "SumColours$Member"))) rmA [.int (iI z)] ws (fun v w => ∃ q : Nat, v = some (.ref q) ∧ w = ws ++ [(q, mE (kq, 0, 0, 0))]) := by
  refine Ct.of (by decide) (Nat.le_of_ble_eq_true rfl) ?_
  intro Γ hl hg hf hrT
  subst hl hg
  have hf : Fx Γ RX0 cX0_made 1 := hf
  show T Γ rmA 1 0 0 (Qe Γ rmA _) _ 0 [(0, .int (iI z))] []
  refine tt_iload_n hf 0 dX0_made_0 rfl ?_
  rcases (show kq = 0 ∨ kq = 1 ∨ kq = 2 ∨ kq = 3 ∨ kq = 4 by omega) with e | e | e | e | e <;> subst e <;> subst hz
  · refine tt_tableIn (off := 31) (tgt := 32) hf dX0_made_1 (by decide) (by decide) (by decide) rfl (by decide) ?_
    refine tt_newM0 hf (by decide) (by decide) dX0_made_32 (fun q => ?_)
    refine tt_dup hf dX0_made_35 rfl ?_
    refine tt_callIN (n0 := 0) (As := []) (rest := [.ref q]) (host := "SumColours") hf cx1_init q100 (hf.N.1 ("SumColours", 9, ⟨"SumColours$Member", "<init>", "()V"⟩, "SumColours") (by decide +kernel)) q73 q99 rfl (by decide +kernel) rfl ⟨rfl, rfl⟩ (by decide) (by decide) (Nat.le_of_ble_eq_true rfl) dX0_made_36 rfl (kk_v (fun w hw => ?_))
    subst hw
    exact tt_aret hf hrT dX0_made_39 (Nat.le_refl _) (Nat.le_refl _) ⟨q, rfl, rfl⟩
  · refine tt_tableIn (off := 39) (tgt := 40) hf dX0_made_1 (by decide) (by decide) (by decide) rfl (by decide) ?_
    refine tt_newM1 hf (by decide) (by decide) dX0_made_40 (fun q => ?_)
    refine tt_dup hf dX0_made_43 rfl ?_
    refine tt_callIN (n0 := 0) (As := []) (rest := [.ref q]) (host := "SumColours") hf cx2_init q126 (hf.N.1 ("SumColours", 15, ⟨"SumColours$Loose", "<init>", "()V"⟩, "SumColours") (by decide +kernel)) q74 q125 rfl (by decide +kernel) rfl ⟨rfl, rfl⟩ (by decide) (by decide) (Nat.le_of_ble_eq_true rfl) dX0_made_44 rfl (kk_v (fun w hw => ?_))
    subst hw
    exact tt_aret hf hrT dX0_made_47 (Nat.le_refl _) (Nat.le_refl _) ⟨q, rfl, rfl⟩
  · refine tt_tableIn (off := 47) (tgt := 48) hf dX0_made_1 (by decide) (by decide) (by decide) rfl (by decide) ?_
    refine tt_newM2 hf (by decide) (by decide) dX0_made_48 (fun q => ?_)
    refine tt_dup hf dX0_made_51 rfl ?_
    refine tt_callIN (n0 := 0) (As := []) (rest := [.ref q]) (host := "SumColours") hf cx3_init q136 (hf.N.1 ("SumColours", 18, ⟨"SumColours$Free", "<init>", "()V"⟩, "SumColours") (by decide +kernel)) q75 q135 rfl (by decide +kernel) rfl ⟨rfl, rfl⟩ (by decide) (by decide) (Nat.le_of_ble_eq_true rfl) dX0_made_52 rfl (kk_v (fun w hw => ?_))
    subst hw
    exact tt_aret hf hrT dX0_made_55 (Nat.le_refl _) (Nat.le_refl _) ⟨q, rfl, rfl⟩
  · refine tt_tableIn (off := 55) (tgt := 56) hf dX0_made_1 (by decide) (by decide) (by decide) rfl (by decide) ?_
    refine tt_newM3 hf (by decide) (by decide) dX0_made_56 (fun q => ?_)
    refine tt_dup hf dX0_made_59 rfl ?_
    refine tt_callIN (n0 := 0) (As := []) (rest := [.ref q]) (host := "SumColours") hf cx4_init q146 (hf.N.1 ("SumColours", 21, ⟨"SumColours$Shy", "<init>", "()V"⟩, "SumColours") (by decide +kernel)) q76 q145 rfl (by decide +kernel) rfl ⟨rfl, rfl⟩ (by decide) (by decide) (Nat.le_of_ble_eq_true rfl) dX0_made_60 rfl (kk_v (fun w hw => ?_))
    subst hw
    exact tt_aret hf hrT dX0_made_63 (Nat.le_refl _) (Nat.le_refl _) ⟨q, rfl, rfl⟩
  · refine tt_tableOut (tgt := 64) hf dX0_made_1 (by decide) (by decide) (by decide) ?_
    refine tt_newM4 hf (by decide) (by decide) dX0_made_64 (fun q => ?_)
    refine tt_dup hf dX0_made_67 rfl ?_
    refine tt_callIN (n0 := 0) (As := []) (rest := [.ref q]) (host := "SumColours") hf cx5_init q156 (hf.N.1 ("SumColours", 24, ⟨"SumColours$Lone", "<init>", "()V"⟩, "SumColours") (by decide +kernel)) q77 q155 rfl (by decide +kernel) rfl ⟨rfl, rfl⟩ (by decide) (by decide) (Nat.le_of_ble_eq_true rfl) dX0_made_68 rfl (kk_v (fun w hw => ?_))
    subst hw
    exact tt_aret hf hrT dX0_made_71 (Nat.le_refl _) (Nat.le_refl _) ⟨q, rfl, rfl⟩
theorem tt_pool {Γ : tX} {R : Room} {nL k n : Nat} {Q : State → Prop} {pc : Nat} {lv : List (Nat × Value)} {st : List Value} {o : Nat} {ax : Nat → Nat} {num kpt : Int → Option Nat} {many cols chg brd old : Int} {page : Int → Int} {pgM told enD : Int} {row : Int → Int} {ways far : Int} {hav : Int → Int} {wtd : Int} {fnd : Int → Int} {mdT wnT : Int} {sN sW sC : Int → Int} {sM drw : Int} {kN kW kC : Int → Int} {kS kG kB : Int} {hh : Int64} {L : List Nat} {mf : Nat → Nat × Int × Int × Int} {q : Nat} {m : Nat × Int × Int × Int} (kk : q ∉ L → T Γ R nL k n Q (xW (xg Γ) o ax num kpt many cols chg brd old page pgM told enD row ways far hav wtd fnd mdT wnT sN sW sC sM drw kN kW kC kS kG kB hh ((L ++ [q])) ((va_up mf q m))) pc lv st) : T Γ R nL k n Q ((xW (xg Γ) o ax num kpt many cols chg brd old page pgM told enD row ways far hav wtd fnd mdT wnT sN sW sC sM drw kN kW kC kS kG kB hh L mf) ++ [(q, mE m)]) pc lv st := by
  intro H locs ls hP hD hS hl
  have hq : q ∉ L := va_pl_fresh2 hD
  have e : (xW (xg Γ) o ax num kpt many cols chg brd old page pgM told enD row ways far hav wtd fnd mdT wnT sN sW sC sM drw kN kW kC kS kG kB hh L mf) ++ [(q, mE m)] = xW (xg Γ) o ax num kpt many cols chg brd old page pgM told enD row ways far hav wtd fnd mdT wnT sN sW sC sM drw kN kW kC kS kG kB hh ((L ++ [q])) ((va_up mf q m)) := by
    have h1 := va_pl_push (L := L) (f := fun a => mE (mf a)) (e := mE m) hq
    have h2 : va_up (fun a => mE (mf a)) q (mE m) = fun b => mE (va_up mf q m b) := by
      funext b
      by_cases p : b = q
      · subst p; rw [va_up_self, va_up_self]
      · rw [va_up_ne _ _ p, va_up_ne _ _ p]
    rw [h2] at h1
    unfold xW
    rw [List.append_assoc, h1]
  rw [e] at hP hD
  exact kk hq H locs ls hP hD hS hl
