/-! drawing; the digest -/
theorem tt_topl {Γ : tX} {R : Room} {nL k n : Nat} {Q : State → Prop} {ws : va_W} {pc : Nat} {lv : List (Nat × Value)} {st : List Value} {x x' : Int64} (h : x = x') (kk : T Γ R nL k n Q ws pc lv (.long x' :: st)) : T Γ R nL k n Q ws pc lv (.long x :: st) := h ▸ kk
theorem lN_andm {n : Nat} (hn : n < 2 ^ 64) : lN n &&& 2147483647 = lN (n % 2147483648) := by
  have e : (2147483647 : Int64) = lN (2 ^ 31 - 1) := rfl
  rw [e]
  apply Int64.toBitVec_inj.mp
  rw [Int64.toBitVec_and]
  show BitVec.ofNat 64 n &&& BitVec.ofNat 64 (2 ^ 31 - 1) = BitVec.ofNat 64 (n % 2147483648)
  apply BitVec.eq_of_toNat_eq
  rw [BitVec.toNat_and, BitVec.toNat_ofNat, BitVec.toNat_ofNat, BitVec.toNat_ofNat, Nat.mod_eq_of_lt hn, Nat.mod_eq_of_lt (show 2 ^ 31 - 1 < 2 ^ 64 by decide), Nat.and_two_pow_sub_one_eq_mod, Nat.mod_eq_of_lt (show n % 2147483648 < 2 ^ 64 by omega)]
def dzN (z : Nat) : Nat := (1103515245 * z + 12345) % 2147483648
theorem dzN_lt (z : Nat) : dzN z < 2147483648 := Nat.mod_lt _ (by decide)
theorem draw_z {z : Nat} (h : z < 2147483648) : ((1103515245 : Int64) * lN z + (12345 : Int64)) &&& (2147483647 : Int64) = lN (dzN z) := by
  have e1 : (1103515245 : Int64) = lN 1103515245 := rfl
  have e2 : (12345 : Int64) = lN 12345 := rfl
  rw [e1, e2, lN_mul, lN_add, lN_andm (by omega)]
  rfl
theorem iI_nI {z : Int} (h : 0 ≤ z) : iI z = nI z.toNat := by
  show Int32.ofInt z = Int32.ofNat z.toNat
  rw [← Int32.ofInt_eq_ofNat]
  congr 1
  omega
theorem nI_iI (n : Nat) : nI n = iI (n : Int) := by
  show Int32.ofNat n = Int32.ofInt n
  rw [Int32.ofInt_eq_ofNat]
theorem iI_long {z : Int} (h : 0 ≤ z) (h2 : z ≤ 2147483647) : (iI z).toInt64 = lN z.toNat := by
  rw [iI_nI h, nI_l (by omega)]
def fl (cols : Int) : Nat → Nat × (Int → Int) → Nat × (Int → Int)
  | 0, s => s
  | n + 1, s => if (fl cols n s).2 ((n : Int) + 1) = -1 then (dzN (fl cols n s).1, uI (fl cols n s).2 ((n : Int) + 1) ((dzN (fl cols n s).1 / 65536 % cols.toNat : Nat) : Int)) else fl cols n s
theorem fl_s {cols n : Int} {s : Nat × (Int → Int)} (hn : 1 ≤ n) : fl cols n.toNat s = if (fl cols (n - 1).toNat s).2 n = -1 then (dzN (fl cols (n - 1).toNat s).1, uI (fl cols (n - 1).toNat s).2 n ((dzN (fl cols (n - 1).toNat s).1 / 65536 % cols.toNat : Nat) : Int)) else fl cols (n - 1).toNat s := by
  obtain ⟨j, rfl⟩ : ∃ j : Nat, n = (j : Int) + 1 := ⟨(n - 1).toNat, by omega⟩
  rw [show ((j : Int) + 1).toNat = j + 1 by omega, show ((j : Int) + 1 - 1).toNat = j by omega]
  rfl
theorem fl_cg {cols many : Int} {z : Nat} {r r' : Int → Int} (h : ∀ i, 1 ≤ i → i ≤ many → r i = r' i) : ∀ n : Nat, (n : Int) ≤ many → (fl cols n (z, r)).1 = (fl cols n (z, r')).1 ∧ ∀ i, 1 ≤ i → i ≤ many → (fl cols n (z, r)).2 i = (fl cols n (z, r')).2 i
  | 0, _ => ⟨rfl, h⟩
  | n + 1, hn => by
    obtain ⟨g1, g2⟩ := fl_cg (cols := cols) (z := z) h n (by omega)
    have e := g2 ((n : Int) + 1) (by omega) (by omega)
    simp only [fl]
    rw [e, g1]
    split
    · refine ⟨rfl, fun i h1 h2 => ?_⟩
      dsimp only
      by_cases q : i = (n : Int) + 1
      · subst q; rw [uI_s, uI_s]
      · rw [uI_n q, uI_n q]; exact g2 i h1 h2
    · exact ⟨g1, g2⟩
def pnS (kd co : Int → Int) (cols many : Int) (z : Nat) : Nat × Int := ((fl cols many.toNat (z, co)).1, bu kd (fl cols many.toNat (z, co)).2 many.toNat)
def pnN (kd co : Int → Int) (cols many : Int) (z0 : Nat) : Nat → Nat × Int × Int
  | 0 => (z0, 0, 0)
  | k + 1 => ((pnS kd co cols many (pnN kd co cols many z0 k).1).1, (pnN kd co cols many z0 k).2.1 + (if (pnS kd co cols many (pnN kd co cols many z0 k).1).2 = 0 then 1 else 0), (pnN kd co cols many z0 k).2.2 + (pnS kd co cols many (pnN kd co cols many z0 k).1).2)
theorem pnN_s {kd co : Int → Int} {cols many k : Int} {z0 : Nat} (hk : 0 ≤ k) : pnN kd co cols many z0 (k + 1).toNat = ((pnS kd co cols many (pnN kd co cols many z0 k.toNat).1).1, (pnN kd co cols many z0 k.toNat).2.1 + (if (pnS kd co cols many (pnN kd co cols many z0 k.toNat).1).2 = 0 then 1 else 0), (pnN kd co cols many z0 k.toNat).2.2 + (pnS kd co cols many (pnN kd co cols many z0 k.toNat).1).2) := by
  obtain ⟨j, rfl⟩ : ∃ j : Nat, k = j := ⟨k.toNat, by omega⟩
  rfl
def pnE (kd co : Int → Int) (cols many ti sd wh : Int) : Int := if wh = 0 then (pnN kd co cols many sd.toNat ti.toNat).2.1 else if wh = 1 then (pnN kd co cols many sd.toNat ti.toNat).2.2 else ((pnN kd co cols many sd.toNat ti.toNat).1 : Int)
def hx (h : Int64) (r : Int) : Int64 := 31 * h + (iI r).toInt64
def dgS (nm : Int → Int → Int) (od : Int → Int → Int) (h : Int64) (n : Int) : Int64 := hx (hx (hx (hx (hx (hx (hx (hx h (nm n 0)) (nm n 1)) (nm n 2)) (nm n 3)) (nm n 4)) (nm n 5)) (od n 0)) (od n 1)
def dgN (nm : Int → Int → Int) (od : Int → Int → Int) : Nat → Int64
  | 0 => 1321
  | n + 1 => dgS nm od (dgN nm od n) ((n : Int) + 1)
theorem dgN_s {nm od : Int → Int → Int} {n : Int} (hn : 1 ≤ n) : dgN nm od n.toNat = dgS nm od (dgN nm od (n - 1).toNat) n := by
  obtain ⟨j, rfl⟩ : ∃ j : Nat, n = (j : Int) + 1 := ⟨(n - 1).toNat, by omega⟩
  rw [show ((j : Int) + 1).toNat = j + 1 by omega, show ((j : Int) + 1 - 1).toNat = j by omega]
  rfl
def pgH (page : Int → Int) (h : Int64) : Nat → Int64
  | 0 => h
  | k + 1 => hx (pgH page h k) (page k)
theorem pgH_s {page : Int → Int} {h : Int64} {k : Int} (hk : 0 ≤ k) : pgH page h (k + 1).toNat = hx (pgH page h k.toNat) (page k) := by
  obtain ⟨j, rfl⟩ : ∃ j : Nat, k = j := ⟨k.toNat, by omega⟩
  rfl
def bdH (kd co : Int → Int) (cols many : Int) (h : Int64) : Int64 := hx (hx (hx (hx (hx (hx h (wyE kd co cols many 0)) (wyE kd co cols many 1)) (wyE kd co cols many 2)) (mdE kd co cols many)) (wnsE kd co cols many 0)) (wnsE kd co cols many 1)
def ctH (f : Int → Int) (h : Int64) : Int64 := hx (hx (hx (hx (hx (hx (hx (hx (hx h (f 0)) (f 1)) (f 2)) (f 3)) (f 4)) (f 5)) (f 6)) (f 7)) (f 8)
def dgE (kd co : Int → Int) (cols many : Int) (sN sW sC : Int → Int) (sM chg pgM brd : Int) (page : Int → Int) : Int64 :=
  ctH (ctE kd co cols many chg sM pgM brd) (pgH page (if 0 < many then bdH kd co cols many (dgN (nmE kd co cols many sN sW sC sM) (fun n u => odE (cnt (WL kd co cols many) n 0) ((WL kd co cols many).length : Int) u) many.toNat) else dgN (nmE kd co cols many sN sW sC sM) (fun n u => odE (cnt (WL kd co cols many) n 0) ((WL kd co cols many).length : Int) u) many.toNat) pgM.toNat)
set_option maxHeartbeats 4000000 in
set_option maxRecDepth 100000 in
theorem cm_image {l : Launch} {g : tG} {o : Nat} {ax : Nat → Nat} {brd many cols : Int} {kd co : Int → Int} {chg sM : Int} {sN sW sC : Int → Int} {pgM : Int} {page : Int → Int} {whl nwN : Int} {now oft wtd : Int → Int} {ways : Int} {svd trn cAt wAt : Int → Int} {seed : Int64} {isK kB kG kS : Int} {kK kO kN kW kC : Int → Int} {hh : Int64}  (hm : 0 ≤ many ∧ many ≤ 10) (hch : 0 ≤ chg ∧ chg ≤ 999) : Ce l g yX6_image (ws_ yX6_image cX6_image 2 (Option.some Jvm.ClassFile.FieldType.int)) (rmL 1) [.ref o] (mW g o ax brd many cols kd co chg sM sN sW sC pgM page whl nwN now oft wtd ways svd trn cAt wAt seed isK kB kG kS kK kO kN kW kC hh) (if ¬ many = 0 then chg else -103) (mW g o ax brd many cols kd co chg sM sN sW sC pgM page whl nwN now oft wtd ways svd trn cAt wAt seed (if ¬ many = 0 then 1 else isK) (if ¬ many = 0 then brd else kB) (if ¬ many = 0 then chg else kG) (if ¬ many = 0 then sM else kS) (if ¬ many = 0 then mixF (many + 1) kd kK else kK) (if ¬ many = 0 then mixF (many + 1) co kO else kO) (if ¬ many = 0 then cpF 6 sN kN else kN) (if ¬ many = 0 then cpF 6 sW kW else kW) (if ¬ many = 0 then cpF 6 sC kC else kC) hh) := by
  refine Ct.of (by decide) (Nat.le_of_ble_eq_true rfl) ?_
  intro Γ hl hg hf hrT
  subst hl hg
  have hf : Fx Γ RX6 cX6_image 2 := hf
  show T Γ (rmL 1) 2 0 0 (Qe Γ (rmL 1) _) _ 0 [(0, .ref o)] []
  refine tt_aload_n hf 0 dX6_image_0 rfl ?_
  refine gm_many hf dX6_image_1 ?_
  refine tt_if_ne (tgt := 10) hf dX6_image_4 (by decide) (by omega) (fun c4 => ?_) (fun c4 => ?_)
  · refine tt_aload_n hf 0 dX6_image_10 rfl ?_
    refine tt_iconst hf dX6_image_11 ?_
    refine pm_isK hf dX6_image_12 (by omega) ?_
    refine tt_aload_n hf 0 dX6_image_15 rfl ?_
    refine tt_aload_n hf 0 dX6_image_16 rfl ?_
    refine gm_brd hf dX6_image_17 ?_
    refine pm_kB hf dX6_image_20 ?_
    refine tt_aload_n hf 0 dX6_image_23 rfl ?_
    refine tt_aload_n hf 0 dX6_image_24 rfl ?_
    refine gm_chg hf dX6_image_25 ?_
    refine pm_kG hf dX6_image_28 ?_
    refine tt_aload_n hf 0 dX6_image_31 rfl ?_
    refine tt_aload_n hf 0 dX6_image_32 rfl ?_
    refine gm_sM hf dX6_image_33 ?_
    refine pm_kS hf dX6_image_36 ?_
    refine tt_iconst hf dX6_image_39 ?_
    refine tt_istore_n (lv' := [(1, .int (iI 1)), (0, .ref o)]) hf dX6_image_40 (by decide) rfl ?_
    have hcn : ¬ many = 0 := c4
    have lp : ∀ (N : Nat) (i : Int) (a0 : Int → Int) (a1 : Int → Int), (1 ≤ i ∧ i ≤ many + 1) → (a0 = mixF i kd kK) → (a1 = mixF i co kO) → (11 - i).toNat < N → T Γ (rmL 1) 2 0 0 (Qe Γ (rmL 1) (fun vv w => ∃ r : Int, vv = some (.int (iI r)) ∧ iR r ∧ r = (if ¬ many = 0 then chg else -103) ∧ w = mW (xg Γ) o ax brd many cols kd co chg sM sN sW sC pgM page whl nwN now oft wtd ways svd trn cAt wAt seed (if ¬ many = 0 then 1 else isK) (if ¬ many = 0 then brd else kB) (if ¬ many = 0 then chg else kG) (if ¬ many = 0 then sM else kS) (if ¬ many = 0 then mixF (many + 1) kd kK else kK) (if ¬ many = 0 then mixF (many + 1) co kO else kO) (if ¬ many = 0 then cpF 6 sN kN else kN) (if ¬ many = 0 then cpF 6 sW kW else kW) (if ¬ many = 0 then cpF 6 sC kC else kC) hh)) (mW (xg Γ) o ax brd many cols kd co chg sM sN sW sC pgM page whl nwN now oft wtd ways svd trn cAt wAt seed 1 brd chg sM a0 a1 kN kW kC hh) 41 [(0, .ref o), (1, .int (iI i))] [] := by
      intro N
      induction N with
      | zero => intro i a0 a1 hi ha0 ha1 hN; exact absurd hN (Nat.not_lt_zero _)
      | succ N ih =>
        intro i a0 a1 hi ha0 ha1 hN
        refine tt_iload_n hf 1 dX6_image_41 rfl ?_
        refine tt_aload_n hf 0 dX6_image_42 rfl ?_
        refine gm_many hf dX6_image_43 ?_
        refine tt_icmp_gt (tgt := 79) hf dX6_image_46 (by decide) (by omega) (by omega) (fun c46 => ?_) (fun c46 => ?_)
        · refine tt_iconst hf dX6_image_79 ?_
          refine tt_istore_n (lv' := [(1, .int (iI 0)), (0, .ref o)]) hf dX6_image_80 (by decide) rfl ?_
          have ei : i = many + 1 := by omega
          rw [ei] at ha0 ha1
          have lq : ∀ (N : Nat) (q : Int) (b0 : Int → Int) (b1 : Int → Int) (b2 : Int → Int), (0 ≤ q ∧ q ≤ 6) → (b0 = cpF q sN kN) → (b1 = cpF q sW kW) → (b2 = cpF q sC kC) → (7 - q).toNat < N → T Γ (rmL 1) 2 0 0 (Qe Γ (rmL 1) (fun vv w => ∃ r : Int, vv = some (.int (iI r)) ∧ iR r ∧ r = (if ¬ many = 0 then chg else -103) ∧ w = mW (xg Γ) o ax brd many cols kd co chg sM sN sW sC pgM page whl nwN now oft wtd ways svd trn cAt wAt seed (if ¬ many = 0 then 1 else isK) (if ¬ many = 0 then brd else kB) (if ¬ many = 0 then chg else kG) (if ¬ many = 0 then sM else kS) (if ¬ many = 0 then mixF (many + 1) kd kK else kK) (if ¬ many = 0 then mixF (many + 1) co kO else kO) (if ¬ many = 0 then cpF 6 sN kN else kN) (if ¬ many = 0 then cpF 6 sW kW else kW) (if ¬ many = 0 then cpF 6 sC kC else kC) hh)) (mW (xg Γ) o ax brd many cols kd co chg sM sN sW sC pgM page whl nwN now oft wtd ways svd trn cAt wAt seed 1 brd chg sM a0 a1 b0 b1 b2 hh) 81 [(0, .ref o), (1, .int (iI q))] [] := by
            intro N
            induction N with
            | zero => intro q b0 b1 b2 hq hb0 hb1 hb2 hN; exact absurd hN (Nat.not_lt_zero _)
            | succ N ih =>
              intro q b0 b1 b2 hq hb0 hb1 hb2 hN
              refine tt_iload_n hf 1 dX6_image_81 rfl ?_
              refine tt_bipush hf dX6_image_82 (by decide) ?_
              refine tt_icmp_ge (tgt := 129) hf dX6_image_84 (by decide) (by omega) (by omega) (fun c84 => ?_) (fun c84 => ?_)
              · refine tt_aload_n hf 0 dX6_image_129 rfl ?_
                refine gm_chg hf dX6_image_130 ?_
                have eq : q = 6 := by omega
                rw [eq] at hb0 hb1 hb2
                exact tt_ireti hf hrT dX6_image_133 (Nat.le_refl _) (Nat.le_refl _) (by omega) ⟨(by rw [if_pos hcn]), (by rw [if_pos hcn, if_pos hcn, if_pos hcn, if_pos hcn, if_pos hcn, if_pos hcn, if_pos hcn, if_pos hcn, if_pos hcn, ← ha0, ← ha1, ← hb0, ← hb1, ← hb2])⟩
              · refine tt_aload_n hf 0 dX6_image_87 rfl ?_
                refine gm_kN hf dX6_image_88 ?_
                refine tt_iload_n hf 1 dX6_image_91 rfl ?_
                refine tt_aload_n hf 0 dX6_image_92 rfl ?_
                refine gm_sN hf dX6_image_93 ?_
                refine tt_iload_n hf 1 dX6_image_96 rfl ?_
                refine lm_sN hf (by omega) dX6_image_97 ?_
                refine sm_kN hf (by omega) dX6_image_98 ?_
                refine tt_aload_n hf 0 dX6_image_99 rfl ?_
                refine gm_kW hf dX6_image_100 ?_
                refine tt_iload_n hf 1 dX6_image_103 rfl ?_
                refine tt_aload_n hf 0 dX6_image_104 rfl ?_
                refine gm_sW hf dX6_image_105 ?_
                refine tt_iload_n hf 1 dX6_image_108 rfl ?_
                refine lm_sW hf (by omega) dX6_image_109 ?_
                refine sm_kW hf (by omega) dX6_image_110 ?_
                refine tt_aload_n hf 0 dX6_image_111 rfl ?_
                refine gm_kC hf dX6_image_112 ?_
                refine tt_iload_n hf 1 dX6_image_115 rfl ?_
                refine tt_aload_n hf 0 dX6_image_116 rfl ?_
                refine gm_sC hf dX6_image_117 ?_
                refine tt_iload_n hf 1 dX6_image_120 rfl ?_
                refine lm_sC hf (by omega) dX6_image_121 ?_
                refine sm_kC hf (by omega) dX6_image_122 ?_
                refine tt_iinc (lv' := [(1, .int (iI (q + 1))), (0, .ref o)]) hf 1 dX6_image_123 rfl (by decide) rfl ?_
                refine tt_goto (tgt := 81) hf dX6_image_126 (by decide) ?_
                refine tt_sub [1, 0] rfl ?_
                exact ih (q + 1) (uI b0 q (sN q)) (uI b1 q (sW q)) (uI b2 q (sC q)) (by omega) (by rw [hb0]; exact cpF_s (by omega) rfl) (by rw [hb1]; exact cpF_s (by omega) rfl) (by rw [hb2]; exact cpF_s (by omega) rfl) (by omega)
          refine tt_sub [1, 0] rfl ?_
          exact lq _ 0 kN kW kC (by omega) cpF_0.symm cpF_0.symm cpF_0.symm (Nat.lt_succ_self _)
        · refine tt_aload_n hf 0 dX6_image_49 rfl ?_
          refine gm_kK hf dX6_image_50 ?_
          refine tt_iload_n hf 1 dX6_image_53 rfl ?_
          refine tt_aload_n hf 0 dX6_image_54 rfl ?_
          refine gm_kd hf dX6_image_55 ?_
          refine tt_iload_n hf 1 dX6_image_58 rfl ?_
          refine lm_kd hf (by omega) dX6_image_59 ?_
          refine sm_kK hf (by omega) dX6_image_60 ?_
          refine tt_aload_n hf 0 dX6_image_61 rfl ?_
          refine gm_kO hf dX6_image_62 ?_
          refine tt_iload_n hf 1 dX6_image_65 rfl ?_
          refine tt_aload_n hf 0 dX6_image_66 rfl ?_
          refine gm_co hf dX6_image_67 ?_
          refine tt_iload_n hf 1 dX6_image_70 rfl ?_
          refine lm_co hf (by omega) dX6_image_71 ?_
          refine sm_kO hf (by omega) dX6_image_72 ?_
          refine tt_iinc (lv' := [(1, .int (iI (i + 1))), (0, .ref o)]) hf 1 dX6_image_73 rfl (by decide) rfl ?_
          refine tt_goto (tgt := 41) hf dX6_image_76 (by decide) ?_
          refine tt_sub [1, 0] rfl ?_
          exact ih (i + 1) (uI a0 i (kd i)) (uI a1 i (co i)) (by omega) (by rw [ha0]; exact mixF_s (by omega) rfl) (by rw [ha1]; exact mixF_s (by omega) rfl) (by omega)
    refine tt_sub [1, 0] rfl ?_
    exact lp _ 1 kK kO (by omega) mixF_1.symm mixF_1.symm (Nat.lt_succ_self _)
  · refine tt_bipush hf dX6_image_7 (by decide) ?_
    have hcn : ¬ (¬ many = 0) := fun q => q c4
    exact tt_ireti hf hrT dX6_image_9 (Nat.le_refl _) (Nat.le_refl _) (by omega) ⟨(by rw [if_neg hcn]), (by rw [if_neg hcn, if_neg hcn, if_neg hcn, if_neg hcn, if_neg hcn, if_neg hcn, if_neg hcn, if_neg hcn, if_neg hcn])⟩
set_option maxHeartbeats 4000000 in
set_option maxRecDepth 100000 in
theorem cm_restore {l : Launch} {g : tG} {o : Nat} {ax : Nat → Nat} {brd many cols : Int} {kd co : Int → Int} {chg sM : Int} {sN sW sC : Int → Int} {pgM : Int} {page : Int → Int} {whl nwN : Int} {now oft wtd : Int → Int} {ways : Int} {svd trn cAt wAt : Int → Int} {seed : Int64} {isK kB kG kS : Int} {kK kO kN kW kC : Int → Int} {hh : Int64}  (hm : 0 ≤ many ∧ many ≤ 10) (hkG : 0 ≤ kG ∧ kG ≤ 999) (hkB : iR kB) (hbr : iR brd) (hik : isK = 0 ∨ isK = 1) : Ce l g yX6_restore (ws_ yX6_restore cX6_restore 2 (Option.some Jvm.ClassFile.FieldType.int)) (rmL 1) [.ref o] (mW g o ax brd many cols kd co chg sM sN sW sC pgM page whl nwN now oft wtd ways svd trn cAt wAt seed isK kB kG kS kK kO kN kW kC hh) (if ¬ isK = 0 ∧ kB = brd then kG else -103) (mW g o ax brd many cols (if ¬ isK = 0 ∧ kB = brd then mixF (many + 1) kK kd else kd) (if ¬ isK = 0 ∧ kB = brd then mixF (many + 1) kO co else co) (if ¬ isK = 0 ∧ kB = brd then kG else chg) (if ¬ isK = 0 ∧ kB = brd then kS else sM) (if ¬ isK = 0 ∧ kB = brd then cpF 6 kN sN else sN) (if ¬ isK = 0 ∧ kB = brd then cpF 6 kW sW else sW) (if ¬ isK = 0 ∧ kB = brd then cpF 6 kC sC else sC) pgM page whl nwN now oft wtd ways svd trn cAt wAt seed isK kB kG kS kK kO kN kW kC hh) := by
  refine Ct.of (by decide) (Nat.le_of_ble_eq_true rfl) ?_
  intro Γ hl hg hf hrT
  subst hl hg
  have hf : Fx Γ RX6 cX6_restore 2 := hf
  show T Γ (rmL 1) 2 0 0 (Qe Γ (rmL 1) _) _ 0 [(0, .ref o)] []
  refine tt_aload_n hf 0 dX6_restore_0 rfl ?_
  refine gm_isK hf dX6_restore_1 ?_
  refine tt_if_eq (tgt := 18) hf dX6_restore_4 (by decide) (by omega) (fun c4 => ?_) (fun c4 => ?_)
  · refine tt_bipush hf dX6_restore_18 (by decide) ?_
    have hcn : ¬ (¬ isK = 0 ∧ kB = brd) := by intro q; exact q.1 c4
    exact tt_ireti hf hrT dX6_restore_20 (Nat.le_refl _) (Nat.le_refl _) (by omega) ⟨(by rw [if_neg hcn]), (by rw [if_neg hcn, if_neg hcn, if_neg hcn, if_neg hcn, if_neg hcn, if_neg hcn, if_neg hcn])⟩
  · refine tt_aload_n hf 0 dX6_restore_7 rfl ?_
    refine gm_kB hf dX6_restore_8 ?_
    refine tt_aload_n hf 0 dX6_restore_11 rfl ?_
    refine gm_brd hf dX6_restore_12 ?_
    refine tt_icmp_eq (tgt := 21) hf dX6_restore_15 (by decide) (by omega) (by omega) (fun c15 => ?_) (fun c15 => ?_)
    · refine tt_aload_n hf 0 dX6_restore_21 rfl ?_
      refine tt_aload_n hf 0 dX6_restore_22 rfl ?_
      refine gm_kG hf dX6_restore_23 ?_
      refine pm_chg hf dX6_restore_26 ?_
      refine tt_aload_n hf 0 dX6_restore_29 rfl ?_
      refine tt_aload_n hf 0 dX6_restore_30 rfl ?_
      refine gm_kS hf dX6_restore_31 ?_
      refine pm_sM hf dX6_restore_34 ?_
      refine tt_iconst hf dX6_restore_37 ?_
      refine tt_istore_n (lv' := [(1, .int (iI 1)), (0, .ref o)]) hf dX6_restore_38 (by decide) rfl ?_
      have hcn : ¬ isK = 0 ∧ kB = brd := ⟨c4, c15⟩
      have lp : ∀ (N : Nat) (i : Int) (a0 : Int → Int) (a1 : Int → Int), (1 ≤ i ∧ i ≤ many + 1) → (a0 = mixF i kK kd) → (a1 = mixF i kO co) → (11 - i).toNat < N → T Γ (rmL 1) 2 0 0 (Qe Γ (rmL 1) (fun vv w => ∃ r : Int, vv = some (.int (iI r)) ∧ iR r ∧ r = (if ¬ isK = 0 ∧ kB = brd then kG else -103) ∧ w = mW (xg Γ) o ax brd many cols (if ¬ isK = 0 ∧ kB = brd then mixF (many + 1) kK kd else kd) (if ¬ isK = 0 ∧ kB = brd then mixF (many + 1) kO co else co) (if ¬ isK = 0 ∧ kB = brd then kG else chg) (if ¬ isK = 0 ∧ kB = brd then kS else sM) (if ¬ isK = 0 ∧ kB = brd then cpF 6 kN sN else sN) (if ¬ isK = 0 ∧ kB = brd then cpF 6 kW sW else sW) (if ¬ isK = 0 ∧ kB = brd then cpF 6 kC sC else sC) pgM page whl nwN now oft wtd ways svd trn cAt wAt seed isK kB kG kS kK kO kN kW kC hh)) (mW (xg Γ) o ax brd many cols a0 a1 kG kS sN sW sC pgM page whl nwN now oft wtd ways svd trn cAt wAt seed isK kB kG kS kK kO kN kW kC hh) 39 [(0, .ref o), (1, .int (iI i))] [] := by
        intro N
        induction N with
        | zero => intro i a0 a1 hi ha0 ha1 hN; exact absurd hN (Nat.not_lt_zero _)
        | succ N ih =>
          intro i a0 a1 hi ha0 ha1 hN
          refine tt_iload_n hf 1 dX6_restore_39 rfl ?_
          refine tt_aload_n hf 0 dX6_restore_40 rfl ?_
          refine gm_many hf dX6_restore_41 ?_
          refine tt_icmp_gt (tgt := 77) hf dX6_restore_44 (by decide) (by omega) (by omega) (fun c44 => ?_) (fun c44 => ?_)
          · refine tt_iconst hf dX6_restore_77 ?_
            refine tt_istore_n (lv' := [(1, .int (iI 0)), (0, .ref o)]) hf dX6_restore_78 (by decide) rfl ?_
            have ei : i = many + 1 := by omega
            rw [ei] at ha0 ha1
            have lq : ∀ (N : Nat) (q : Int) (b0 : Int → Int) (b1 : Int → Int) (b2 : Int → Int), (0 ≤ q ∧ q ≤ 6) → (b0 = cpF q kN sN) → (b1 = cpF q kW sW) → (b2 = cpF q kC sC) → (7 - q).toNat < N → T Γ (rmL 1) 2 0 0 (Qe Γ (rmL 1) (fun vv w => ∃ r : Int, vv = some (.int (iI r)) ∧ iR r ∧ r = (if ¬ isK = 0 ∧ kB = brd then kG else -103) ∧ w = mW (xg Γ) o ax brd many cols (if ¬ isK = 0 ∧ kB = brd then mixF (many + 1) kK kd else kd) (if ¬ isK = 0 ∧ kB = brd then mixF (many + 1) kO co else co) (if ¬ isK = 0 ∧ kB = brd then kG else chg) (if ¬ isK = 0 ∧ kB = brd then kS else sM) (if ¬ isK = 0 ∧ kB = brd then cpF 6 kN sN else sN) (if ¬ isK = 0 ∧ kB = brd then cpF 6 kW sW else sW) (if ¬ isK = 0 ∧ kB = brd then cpF 6 kC sC else sC) pgM page whl nwN now oft wtd ways svd trn cAt wAt seed isK kB kG kS kK kO kN kW kC hh)) (mW (xg Γ) o ax brd many cols a0 a1 kG kS b0 b1 b2 pgM page whl nwN now oft wtd ways svd trn cAt wAt seed isK kB kG kS kK kO kN kW kC hh) 79 [(0, .ref o), (1, .int (iI q))] [] := by
              intro N
              induction N with
              | zero => intro q b0 b1 b2 hq hb0 hb1 hb2 hN; exact absurd hN (Nat.not_lt_zero _)
              | succ N ih =>
                intro q b0 b1 b2 hq hb0 hb1 hb2 hN
                refine tt_iload_n hf 1 dX6_restore_79 rfl ?_
                refine tt_bipush hf dX6_restore_80 (by decide) ?_
                refine tt_icmp_ge (tgt := 127) hf dX6_restore_82 (by decide) (by omega) (by omega) (fun c82 => ?_) (fun c82 => ?_)
                · refine tt_aload_n hf 0 dX6_restore_127 rfl ?_
                  refine gm_chg hf dX6_restore_128 ?_
                  have eq : q = 6 := by omega
                  rw [eq] at hb0 hb1 hb2
                  exact tt_ireti hf hrT dX6_restore_131 (Nat.le_refl _) (Nat.le_refl _) (by omega) ⟨(by rw [if_pos hcn]), (by rw [if_pos hcn, if_pos hcn, if_pos hcn, if_pos hcn, if_pos hcn, if_pos hcn, if_pos hcn, ← ha0, ← ha1, ← hb0, ← hb1, ← hb2])⟩
                · refine tt_aload_n hf 0 dX6_restore_85 rfl ?_
                  refine gm_sN hf dX6_restore_86 ?_
                  refine tt_iload_n hf 1 dX6_restore_89 rfl ?_
                  refine tt_aload_n hf 0 dX6_restore_90 rfl ?_
                  refine gm_kN hf dX6_restore_91 ?_
                  refine tt_iload_n hf 1 dX6_restore_94 rfl ?_
                  refine lm_kN hf (by omega) dX6_restore_95 ?_
                  refine sm_sN hf (by omega) dX6_restore_96 ?_
                  refine tt_aload_n hf 0 dX6_restore_97 rfl ?_
                  refine gm_sW hf dX6_restore_98 ?_
                  refine tt_iload_n hf 1 dX6_restore_101 rfl ?_
                  refine tt_aload_n hf 0 dX6_restore_102 rfl ?_
                  refine gm_kW hf dX6_restore_103 ?_
                  refine tt_iload_n hf 1 dX6_restore_106 rfl ?_
                  refine lm_kW hf (by omega) dX6_restore_107 ?_
                  refine sm_sW hf (by omega) dX6_restore_108 ?_
                  refine tt_aload_n hf 0 dX6_restore_109 rfl ?_
                  refine gm_sC hf dX6_restore_110 ?_
                  refine tt_iload_n hf 1 dX6_restore_113 rfl ?_
                  refine tt_aload_n hf 0 dX6_restore_114 rfl ?_
                  refine gm_kC hf dX6_restore_115 ?_
                  refine tt_iload_n hf 1 dX6_restore_118 rfl ?_
                  refine lm_kC hf (by omega) dX6_restore_119 ?_
                  refine sm_sC hf (by omega) dX6_restore_120 ?_
                  refine tt_iinc (lv' := [(1, .int (iI (q + 1))), (0, .ref o)]) hf 1 dX6_restore_121 rfl (by decide) rfl ?_
                  refine tt_goto (tgt := 79) hf dX6_restore_124 (by decide) ?_
                  refine tt_sub [1, 0] rfl ?_
                  exact ih (q + 1) (uI b0 q (kN q)) (uI b1 q (kW q)) (uI b2 q (kC q)) (by omega) (by rw [hb0]; exact cpF_s (by omega) rfl) (by rw [hb1]; exact cpF_s (by omega) rfl) (by rw [hb2]; exact cpF_s (by omega) rfl) (by omega)
            refine tt_sub [1, 0] rfl ?_
            exact lq _ 0 sN sW sC (by omega) cpF_0.symm cpF_0.symm cpF_0.symm (Nat.lt_succ_self _)
          · refine tt_aload_n hf 0 dX6_restore_47 rfl ?_
            refine gm_kd hf dX6_restore_48 ?_
            refine tt_iload_n hf 1 dX6_restore_51 rfl ?_
            refine tt_aload_n hf 0 dX6_restore_52 rfl ?_
            refine gm_kK hf dX6_restore_53 ?_
            refine tt_iload_n hf 1 dX6_restore_56 rfl ?_
            refine lm_kK hf (by omega) dX6_restore_57 ?_
            refine sm_kd hf (by omega) dX6_restore_58 ?_
            refine tt_aload_n hf 0 dX6_restore_59 rfl ?_
            refine gm_co hf dX6_restore_60 ?_
            refine tt_iload_n hf 1 dX6_restore_63 rfl ?_
            refine tt_aload_n hf 0 dX6_restore_64 rfl ?_
            refine gm_kO hf dX6_restore_65 ?_
            refine tt_iload_n hf 1 dX6_restore_68 rfl ?_
            refine lm_kO hf (by omega) dX6_restore_69 ?_
            refine sm_co hf (by omega) dX6_restore_70 ?_
            refine tt_iinc (lv' := [(1, .int (iI (i + 1))), (0, .ref o)]) hf 1 dX6_restore_71 rfl (by decide) rfl ?_
            refine tt_goto (tgt := 39) hf dX6_restore_74 (by decide) ?_
            refine tt_sub [1, 0] rfl ?_
            exact ih (i + 1) (uI a0 i (kK i)) (uI a1 i (kO i)) (by omega) (by rw [ha0]; exact mixF_s (by omega) rfl) (by rw [ha1]; exact mixF_s (by omega) rfl) (by omega)
      refine tt_sub [1, 0] rfl ?_
      exact lp _ 1 kd co (by omega) mixF_1.symm mixF_1.symm (Nat.lt_succ_self _)
    · refine tt_bipush hf dX6_restore_18 (by decide) ?_
      have hcn : ¬ (¬ isK = 0 ∧ kB = brd) := by intro q; exact c15 q.2
      exact tt_ireti hf hrT dX6_restore_20 (Nat.le_refl _) (Nat.le_refl _) (by omega) ⟨(by rw [if_neg hcn]), (by rw [if_neg hcn, if_neg hcn, if_neg hcn, if_neg hcn, if_neg hcn, if_neg hcn, if_neg hcn])⟩
set_option maxHeartbeats 4000000 in
set_option maxRecDepth 100000 in
theorem cm_numberNow {l : Launch} {g : tG} {o : Nat} {ax : Nat → Nat} {brd many cols : Int} {kd co : Int → Int} {chg sM : Int} {sN sW sC : Int → Int} {pgM : Int} {page : Int → Int} {whl nwN : Int} {now oft wtd : Int → Int} {ways : Int} {svd trn cAt wAt : Int → Int} {seed : Int64} {isK kB kG kS : Int} {kK kO kN kW kC : Int → Int} {hh : Int64} {v wh : Int} (hm : 0 ≤ many ∧ many ≤ 10) (hkd : ∀ i, 0 ≤ kd i ∧ kd i ≤ 4) (hnow : ∀ i, -1 ≤ now i ∧ now i ≤ 2) (hco : ∀ i, -1 ≤ co i ∧ co i ≤ 2) (hc : 2 ≤ cols ∧ cols ≤ 3) (hcc : ∀ i, 1 ≤ i → i ≤ many → co i ≤ cols - 1) (hsM : 0 ≤ sM ∧ sM ≤ 6) (hsN : ∀ i, 0 ≤ sN i ∧ sN i ≤ 10) (hsW : ∀ i, 0 ≤ sW i ∧ sW i ≤ 2) (hsC : ∀ i, 0 ≤ sC i ∧ sC i ≤ 1) (hv : 1 ≤ v ∧ v ≤ many) (hwh : 0 ≤ wh ∧ wh ≤ 5) : Ci l g yX6_numberNow (ws_ yX6_numberNow cX6_numberNow 3 (Option.some Jvm.ClassFile.FieldType.int)) (rmL 6) [.ref o, .int (iI v), .int (iI wh)] (mW g o ax brd many cols kd co chg sM sN sW sC pgM page whl nwN now oft wtd ways svd trn cAt wAt seed isK kB kG kS kK kO kN kW kC hh) (fun r w => ∃ (now1 oft1 wtd1 : Int → Int) (ways1 : Int), (∀ i, -1 ≤ now1 i ∧ now1 i ≤ 2) ∧ r = nmE kd co cols many sN sW sC sM v wh ∧ w = mW g o ax brd many cols kd co chg sM sN sW sC pgM page whl nwN now1 oft1 wtd1 ways1 svd trn cAt wAt seed isK kB kG kS kK kO kN kW kC hh) := by
  refine Ct.of (by decide) (Nat.le_of_ble_eq_true rfl) ?_
  intro Γ hl hg hf hrT
  subst hl hg
  have hf : Fx Γ RX6 cX6_numberNow 3 := hf
  show T Γ (rmL 6) 3 0 0 (Qe Γ (rmL 6) _) _ 0 [(0, .ref o), (1, .int (iI v)), (2, .int (iI wh))] []
  have hq1 := hkd v
  have hq2 := hco v
  have hle : (WL kd co cols many).length ≤ 59049 := WL_le (kd := kd) (co := co) (many := many) hc.2 hm.2 (fun _ => 0)
  refine tt_iload_n hf 2 dX6_numberNow_0 rfl ?_
  by_cases s1_0 : wh = 0
  · refine tt_tableIn (off := 35) (tgt := 36) hf dX6_numberNow_1 (by omega) (by omega) (by omega) (by rw [s1_0]; rfl) (by decide) ?_
    refine tt_aload_n hf 0 dX6_numberNow_36 rfl ?_
    refine gm_kd hf dX6_numberNow_37 ?_
    refine tt_iload_n hf 1 dX6_numberNow_40 rfl ?_
    refine lm_kd hf (by omega) dX6_numberNow_41 ?_
    exact tt_ireti hf hrT dX6_numberNow_42 (Nat.le_refl _) (Nat.le_refl _) (by omega) ⟨now, oft, wtd, ways, hnow, by unfold nmE; rw [if_pos s1_0], rfl⟩
  by_cases s1_1 : wh = 1
  · refine tt_tableIn (off := 42) (tgt := 43) hf dX6_numberNow_1 (by omega) (by omega) (by omega) (by rw [s1_1]; rfl) (by decide) ?_
    refine tt_aload_n hf 0 dX6_numberNow_43 rfl ?_
    refine gm_co hf dX6_numberNow_44 ?_
    refine tt_iload_n hf 1 dX6_numberNow_47 rfl ?_
    refine lm_co hf (by omega) dX6_numberNow_48 ?_
    exact tt_ireti hf hrT dX6_numberNow_49 (Nat.le_refl _) (Nat.le_refl _) (by omega) ⟨now, oft, wtd, ways, hnow, by unfold nmE; rw [if_neg s1_0, if_pos s1_1], rfl⟩
  by_cases s1_2 : wh = 2
  · refine tt_tableIn (off := 49) (tgt := 50) hf dX6_numberNow_1 (by omega) (by omega) (by omega) (by rw [s1_2]; rfl) (by decide) ?_
    refine tt_aload_n hf 0 dX6_numberNow_50 rfl ?_
    refine tt_iconst hf dX6_numberNow_51 ?_
    refine tt_callV0 (As := [.int (iI (-1))]) (rest := []) (q0 := 0) (ci := 6) hf (cm_layWays hm hkd hnow hco hc hcc (by omega)) lk_X6_X6_layWays hd_X6_layWays rfl rfl rfl ⟨rfl, rfl⟩ (by decide) (by decide) (Nat.le_of_ble_eq_true rfl) dX6_numberNow_52 rfl (kk_i (fun r52 w hr52 hp52 => ?_))
    obtain ⟨now1, oft1, wtd1, hok1, hcn1, hwt1, hrl1, rfl⟩ := hp52
    refine tt_pop hf dX6_numberNow_55 rfl ?_
    refine tt_aload_n hf 0 dX6_numberNow_56 rfl ?_
    refine tt_iload_n hf 1 dX6_numberNow_57 rfl ?_
    refine tt_callV0 (As := [.int (iI v)]) (rest := []) (q0 := 0) (ci := 6) hf (cm_sureOf hc (by omega) (by omega) (fun c h1 h2 => by have := hcn1 v c (by omega) (by omega) h1 h2; have := cnt_rng (WL kd co cols many) v c; omega)) lk_X6_X6_sureOf hd_X6_sureOf rfl rfl rfl ⟨rfl, rfl⟩ (by decide) (by decide) (Nat.le_of_ble_eq_true rfl) dX6_numberNow_58 rfl (kk_i (fun r58 w hr58 hp58 => ?_))
    obtain ⟨hsu, rfl⟩ := hp58
    have hsE := su_uniq hc hco hcc (by omega) (by omega) hcn1 hsu
    exact tt_ireti hf hrT dX6_numberNow_61 (Nat.le_refl _) (Nat.le_refl _) hr58 ⟨now1, oft1, wtd1, _, hok1.1, by unfold nmE; rw [if_neg s1_0, if_neg s1_1, if_pos s1_2]; exact hsE, rfl⟩
  by_cases s1_3 : wh = 3
  · refine tt_tableIn (off := 61) (tgt := 62) hf dX6_numberNow_1 (by omega) (by omega) (by omega) (by rw [s1_3]; rfl) (by decide) ?_
    refine tt_aload_n hf 0 dX6_numberNow_62 rfl ?_
    refine tt_iload_n hf 1 dX6_numberNow_63 rfl ?_
    refine tt_callV0 (As := [.int (iI v)]) (rest := []) (q0 := 0) (ci := 6) hf (cm_sortsOf hsM hsN hsW hsC (by omega)) lk_X6_X6_sortsOf hd_X6_sortsOf rfl rfl rfl ⟨rfl, rfl⟩ (by decide) (by decide) (Nat.le_of_ble_eq_true rfl) dX6_numberNow_64 rfl (kk_e (fun r64 => ?_))
    exact tt_ireti hf hrT dX6_numberNow_67 (Nat.le_refl _) (Nat.le_refl _) r64 ⟨now, oft, wtd, ways, hnow, by unfold nmE; rw [if_neg s1_0, if_neg s1_1, if_neg s1_2, if_pos s1_3], rfl⟩
  by_cases s1_4 : wh = 4
  · refine tt_tableIn (off := 67) (tgt := 68) hf dX6_numberNow_1 (by omega) (by omega) (by omega) (by rw [s1_4]; rfl) (by decide) ?_
    refine tt_aload_n hf 0 dX6_numberNow_68 rfl ?_
    refine tt_iload_n hf 1 dX6_numberNow_69 rfl ?_
    refine tt_callV0 (As := [.int (iI v)]) (rest := []) (q0 := 0) (ci := 6) hf (cm_askOf hsM hsN hsW hsC (by omega)) lk_X6_X6_askOf hd_X6_askOf rfl rfl rfl ⟨rfl, rfl⟩ (by decide) (by decide) (Nat.le_of_ble_eq_true rfl) dX6_numberNow_70 rfl (kk_e (fun r70 => ?_))
    exact tt_ireti hf hrT dX6_numberNow_73 (Nat.le_refl _) (Nat.le_refl _) r70 ⟨now, oft, wtd, ways, hnow, by unfold nmE; rw [if_neg s1_0, if_neg s1_1, if_neg s1_2, if_neg s1_3, if_pos s1_4], rfl⟩
  · refine tt_tableOut (tgt := 74) hf dX6_numberNow_1 (by omega) (by omega) (by decide) ?_
    refine tt_aload_n hf 0 dX6_numberNow_74 rfl ?_
    refine tt_iload_n hf 1 dX6_numberNow_75 rfl ?_
    refine tt_callV0 (As := [.int (iI v)]) (rest := []) (q0 := 0) (ci := 6) hf (cm_badOf hm hkd hnow hco (by omega)) lk_X6_X6_badOf hd_X6_badOf rfl rfl rfl ⟨rfl, rfl⟩ (by decide) (by decide) (Nat.le_of_ble_eq_true rfl) dX6_numberNow_76 rfl (kk_e (fun r76 => ?_))
    exact tt_ireti hf hrT dX6_numberNow_79 (Nat.le_refl _) (Nat.le_refl _) r76 ⟨lay many co now, oft, wtd, ways, lay_rng hco hnow, by unfold nmE; rw [if_neg s1_0, if_neg s1_1, if_neg s1_2, if_neg s1_3, if_neg s1_4]; exact boN_cg (by omega) _ (fun i h1 h2 => lay_in hm.2 i h1 (by omega)), rfl⟩
set_option maxHeartbeats 4000000 in
set_option maxRecDepth 100000 in
theorem cm_number {l : Launch} {g : tG} {o : Nat} {ax : Nat → Nat} {brd many cols : Int} {kd co : Int → Int} {chg sM : Int} {sN sW sC : Int → Int} {pgM : Int} {page : Int → Int} {whl nwN : Int} {now oft wtd : Int → Int} {ways : Int} {svd trn cAt wAt : Int → Int} {seed : Int64} {isK kB kG kS : Int} {kK kO kN kW kC : Int → Int} {hh : Int64} {v wh : Int} (hm : 0 ≤ many ∧ many ≤ 10) (hkd : ∀ i, 0 ≤ kd i ∧ kd i ≤ 4) (hnow : ∀ i, -1 ≤ now i ∧ now i ≤ 2) (hco : ∀ i, -1 ≤ co i ∧ co i ≤ 2) (hcm : 0 < many → 2 ≤ cols ∧ cols ≤ 3) (hcc : ∀ i, 1 ≤ i → i ≤ many → co i ≤ cols - 1) (hsM : 0 ≤ sM ∧ sM ≤ 6) (hsN : ∀ i, 0 ≤ sN i ∧ sN i ≤ 10) (hsW : ∀ i, 0 ≤ sW i ∧ sW i ≤ 2) (hsC : ∀ i, 0 ≤ sC i ∧ sC i ≤ 1) (hv : iR v) (hwh : iR wh) : Ci l g yX6_number (ws_ yX6_number cX6_number 3 (Option.some Jvm.ClassFile.FieldType.int)) (rmL 7) [.ref o, .int (iI v), .int (iI wh)] (mW g o ax brd many cols kd co chg sM sN sW sC pgM page whl nwN now oft wtd ways svd trn cAt wAt seed isK kB kG kS kK kO kN kW kC hh) (fun r w => ∃ (now1 oft1 wtd1 : Int → Int) (ways1 : Int), (∀ i, -1 ≤ now1 i ∧ now1 i ≤ 2) ∧ r = (if 1 ≤ v ∧ v ≤ many then (if 0 ≤ wh ∧ wh ≤ 5 then nmE kd co cols many sN sW sC sM v wh else -102) else -101) ∧ w = mW g o ax brd many cols kd co chg sM sN sW sC pgM page whl nwN now1 oft1 wtd1 ways1 svd trn cAt wAt seed isK kB kG kS kK kO kN kW kC hh) := by
  refine Ct.of (by decide) (Nat.le_of_ble_eq_true rfl) ?_
  intro Γ hl hg hf hrT
  subst hl hg
  have hf : Fx Γ RX6 cX6_number 3 := hf
  show T Γ (rmL 7) 3 0 0 (Qe Γ (rmL 7) _) _ 0 [(0, .ref o), (1, .int (iI v)), (2, .int (iI wh))] []
  refine tt_aload_n hf 0 dX6_number_0 rfl ?_
  refine tt_iload_n hf 1 dX6_number_1 rfl ?_
  refine tt_callV0 (As := [.int (iI v)]) (rest := []) (q0 := 0) (ci := 6) hf (cm_isNumber (by omega) hm) lk_X6_X6_isNumber hd_X6_isNumber rfl rfl rfl ⟨rfl, rfl⟩ (by decide) (by decide) (Nat.le_of_ble_eq_true rfl) dX6_number_2 rfl (kk_e (fun r2 => ?_))
  refine tt_ifb_ne (tgt := 13) hf dX6_number_5 (by decide) (fun c5 => ?_) (fun c5 => ?_)
  · refine tt_iload_n hf 2 dX6_number_13 rfl ?_
    refine tt_iconst hf dX6_number_14 ?_
    refine tt_iconst hf dX6_number_15 ?_
    refine tt_callS0 (As := [.int (iI wh), .int (iI 0), .int (iI 5)]) (rest := []) hf (cm_within (by omega) (by omega) (by omega)) lk_X6_X6_within hd_X6_within rfl ⟨rfl, rfl⟩ (by decide) (by decide) (Nat.le_of_ble_eq_true rfl) dX6_number_16 rfl (kk_e (fun r16 => ?_))
    refine tt_ifb_eq (tgt := 31) hf dX6_number_19 (by decide) (fun c19 => ?_) (fun c19 => ?_)
    · refine tt_bipush hf dX6_number_31 (by decide) ?_
      exact tt_ireti hf hrT dX6_number_33 (Nat.le_refl _) (Nat.le_refl _) (by omega) ⟨now, oft, wtd, ways, hnow, by rw [if_pos c5, if_neg c19], rfl⟩
    · refine tt_aload_n hf 0 dX6_number_22 rfl ?_
      refine tt_iload_n hf 1 dX6_number_23 rfl ?_
      refine tt_iload_n hf 2 dX6_number_24 rfl ?_
      refine tt_callV0 (As := [.int (iI v), .int (iI wh)]) (rest := []) (q0 := 0) (ci := 6) hf (cm_numberNow hm hkd hnow hco (hcm (by omega)) hcc hsM hsN hsW hsC (by omega) (by omega)) lk_X6_X6_numberNow hd_X6_numberNow rfl rfl rfl ⟨rfl, rfl⟩ (by decide) (by decide) (Nat.le_of_ble_eq_true rfl) dX6_number_25 rfl (kk_i (fun r25 w hr25 hp25 => ?_))
      obtain ⟨now1, oft1, wtd1, ways1, hnw1, hrl1, rfl⟩ := hp25
      refine tt_goto (tgt := 33) hf dX6_number_28 (by decide) ?_
      exact tt_ireti hf hrT dX6_number_33 (Nat.le_refl _) (Nat.le_refl _) hr25 ⟨now1, oft1, wtd1, ways1, hnw1, by rw [hrl1, if_pos c5, if_pos c19], rfl⟩
  · refine tt_bipush hf dX6_number_8 (by decide) ?_
    refine tt_goto (tgt := 33) hf dX6_number_10 (by decide) ?_
    exact tt_ireti hf hrT dX6_number_33 (Nat.le_refl _) (Nat.le_refl _) (by omega) ⟨now, oft, wtd, ways, hnow, by rw [if_neg c5], rfl⟩
set_option maxHeartbeats 4000000 in
set_option maxRecDepth 100000 in
theorem cm_howMany {l : Launch} {g : tG} {o : Nat} {ax : Nat → Nat} {brd many cols : Int} {kd co : Int → Int} {chg sM : Int} {sN sW sC : Int → Int} {pgM : Int} {page : Int → Int} {whl nwN : Int} {now oft wtd : Int → Int} {ways : Int} {svd trn cAt wAt : Int → Int} {seed : Int64} {isK kB kG kS : Int} {kK kO kN kW kC : Int → Int} {hh : Int64} {wh : Int} (hm : 0 ≤ many ∧ many ≤ 10) (hkd : ∀ i, 0 ≤ kd i ∧ kd i ≤ 4) (hnow : ∀ i, -1 ≤ now i ∧ now i ≤ 2) (hco : ∀ i, -1 ≤ co i ∧ co i ≤ 2) (hcl3 : 0 ≤ cols ∧ cols ≤ 3) (hch : 0 ≤ chg ∧ chg ≤ 999) (hsM : 0 ≤ sM ∧ sM ≤ 6) (hpg : 0 ≤ pgM ∧ pgM ≤ 26) (hbr : 0 ≤ brd ∧ brd ≤ 1000000) (hwh : iR wh) : Ci l g yX6_howMany (ws_ yX6_howMany cX6_howMany 2 (Option.some Jvm.ClassFile.FieldType.int)) (rmL 6) [.ref o, .int (iI wh)] (mW g o ax brd many cols kd co chg sM sN sW sC pgM page whl nwN now oft wtd ways svd trn cAt wAt seed isK kB kG kS kK kO kN kW kC hh) (fun r w => ∃ now1 : Int → Int, (∀ i, -1 ≤ now1 i ∧ now1 i ≤ 2) ∧ r = ctE kd co cols many chg sM pgM brd wh ∧ w = mW g o ax brd many cols kd co chg sM sN sW sC pgM page whl nwN now1 oft wtd ways svd trn cAt wAt seed isK kB kG kS kK kO kN kW kC hh) := by
  refine Ct.of (by decide) (Nat.le_of_ble_eq_true rfl) ?_
  intro Γ hl hg hf hrT
  subst hl hg
  have hf : Fx Γ RX6 cX6_howMany 2 := hf
  show T Γ (rmL 6) 2 0 0 (Qe Γ (rmL 6) _) _ 0 [(0, .ref o), (1, .int (iI wh))] []
  refine tt_iload_n hf 1 dX6_howMany_0 rfl ?_
  by_cases s1_0 : wh = 0
  · refine tt_tableIn (off := 51) (tgt := 52) hf dX6_howMany_1 (by omega) (by omega) (by omega) (by rw [s1_0]; rfl) (by decide) ?_
    refine tt_aload_n hf 0 dX6_howMany_52 rfl ?_
    refine gm_many hf dX6_howMany_53 ?_
    exact tt_ireti hf hrT dX6_howMany_56 (Nat.le_refl _) (Nat.le_refl _) (by omega) ⟨now, hnow, by unfold ctE; rw [if_pos s1_0], rfl⟩
  by_cases s1_1 : wh = 1
  · refine tt_tableIn (off := 56) (tgt := 57) hf dX6_howMany_1 (by omega) (by omega) (by omega) (by rw [s1_1]; rfl) (by decide) ?_
    refine tt_aload_n hf 0 dX6_howMany_57 rfl ?_
    refine gm_cols hf dX6_howMany_58 ?_
    exact tt_ireti hf hrT dX6_howMany_61 (Nat.le_refl _) (Nat.le_refl _) (by omega) ⟨now, hnow, by unfold ctE; rw [if_neg s1_0, if_pos s1_1], rfl⟩
  by_cases s1_2 : wh = 2
  · refine tt_tableIn (off := 61) (tgt := 62) hf dX6_howMany_1 (by omega) (by omega) (by omega) (by rw [s1_2]; rfl) (by decide) ?_
    refine tt_aload_n hf 0 dX6_howMany_62 rfl ?_
    refine tt_callV0 (As := []) (rest := []) (q0 := 0) (ci := 6) hf (cm_bare hm hco) lk_X6_X6_bare hd_X6_bare rfl rfl rfl ⟨rfl, rfl⟩ (by decide) (by decide) (Nat.le_of_ble_eq_true rfl) dX6_howMany_63 rfl (kk_e (fun r63 => ?_))
    exact tt_ireti hf hrT dX6_howMany_66 (Nat.le_refl _) (Nat.le_refl _) r63 ⟨now, hnow, by unfold ctE; rw [if_neg s1_0, if_neg s1_1, if_pos s1_2], rfl⟩
  by_cases s1_3 : wh = 3
  · refine tt_tableIn (off := 66) (tgt := 67) hf dX6_howMany_1 (by omega) (by omega) (by omega) (by rw [s1_3]; rfl) (by decide) ?_
    refine tt_aload_n hf 0 dX6_howMany_67 rfl ?_
    refine tt_callV0 (As := []) (rest := []) (q0 := 0) (ci := 6) hf (cm_badNow hm hkd hnow hco) lk_X6_X6_badNow hd_X6_badNow rfl rfl rfl ⟨rfl, rfl⟩ (by decide) (by decide) (Nat.le_of_ble_eq_true rfl) dX6_howMany_68 rfl (kk_e (fun r68 => ?_))
    exact tt_ireti hf hrT dX6_howMany_71 (Nat.le_refl _) (Nat.le_refl _) r68 ⟨lay many co now, lay_rng hco hnow, by unfold ctE; rw [if_neg s1_0, if_neg s1_1, if_neg s1_2, if_pos s1_3]; exact bu_cg _ (fun i h1 h2 => lay_in hm.2 i h1 (by omega)), rfl⟩
  by_cases s1_4 : wh = 4
  · refine tt_tableIn (off := 71) (tgt := 72) hf dX6_howMany_1 (by omega) (by omega) (by omega) (by rw [s1_4]; rfl) (by decide) ?_
    refine tt_aload_n hf 0 dX6_howMany_72 rfl ?_
    refine tt_callV0 (As := []) (rest := []) (q0 := 0) (ci := 6) hf (cm_threes hm) lk_X6_X6_threes hd_X6_threes rfl rfl rfl ⟨rfl, rfl⟩ (by decide) (by decide) (Nat.le_of_ble_eq_true rfl) dX6_howMany_73 rfl (kk_e (fun r73 => ?_))
    exact tt_ireti hf hrT dX6_howMany_76 (Nat.le_refl _) (Nat.le_refl _) r73 ⟨now, hnow, by unfold ctE; rw [if_neg s1_0, if_neg s1_1, if_neg s1_2, if_neg s1_3, if_pos s1_4], rfl⟩
  by_cases s1_5 : wh = 5
  · refine tt_tableIn (off := 76) (tgt := 77) hf dX6_howMany_1 (by omega) (by omega) (by omega) (by rw [s1_5]; rfl) (by decide) ?_
    refine tt_aload_n hf 0 dX6_howMany_77 rfl ?_
    refine gm_chg hf dX6_howMany_78 ?_
    exact tt_ireti hf hrT dX6_howMany_81 (Nat.le_refl _) (Nat.le_refl _) (by omega) ⟨now, hnow, by unfold ctE; rw [if_neg s1_0, if_neg s1_1, if_neg s1_2, if_neg s1_3, if_neg s1_4, if_pos s1_5], rfl⟩
  by_cases s1_6 : wh = 6
  · refine tt_tableIn (off := 81) (tgt := 82) hf dX6_howMany_1 (by omega) (by omega) (by omega) (by rw [s1_6]; rfl) (by decide) ?_
    refine tt_aload_n hf 0 dX6_howMany_82 rfl ?_
    refine gm_sM hf dX6_howMany_83 ?_
    exact tt_ireti hf hrT dX6_howMany_86 (Nat.le_refl _) (Nat.le_refl _) (by omega) ⟨now, hnow, by unfold ctE; rw [if_neg s1_0, if_neg s1_1, if_neg s1_2, if_neg s1_3, if_neg s1_4, if_neg s1_5, if_pos s1_6], rfl⟩
  by_cases s1_7 : wh = 7
  · refine tt_tableIn (off := 86) (tgt := 87) hf dX6_howMany_1 (by omega) (by omega) (by omega) (by rw [s1_7]; rfl) (by decide) ?_
    refine tt_aload_n hf 0 dX6_howMany_87 rfl ?_
    refine gm_pgM hf dX6_howMany_88 ?_
    exact tt_ireti hf hrT dX6_howMany_91 (Nat.le_refl _) (Nat.le_refl _) (by omega) ⟨now, hnow, by unfold ctE; rw [if_neg s1_0, if_neg s1_1, if_neg s1_2, if_neg s1_3, if_neg s1_4, if_neg s1_5, if_neg s1_6, if_pos s1_7], rfl⟩
  by_cases s1_8 : wh = 8
  · refine tt_tableIn (off := 91) (tgt := 92) hf dX6_howMany_1 (by omega) (by omega) (by omega) (by rw [s1_8]; rfl) (by decide) ?_
    refine tt_aload_n hf 0 dX6_howMany_92 rfl ?_
    refine gm_brd hf dX6_howMany_93 ?_
    exact tt_ireti hf hrT dX6_howMany_96 (Nat.le_refl _) (Nat.le_refl _) (by omega) ⟨now, hnow, by unfold ctE; rw [if_neg s1_0, if_neg s1_1, if_neg s1_2, if_neg s1_3, if_neg s1_4, if_neg s1_5, if_neg s1_6, if_neg s1_7, if_pos s1_8], rfl⟩
  · refine tt_tableOut (tgt := 97) hf dX6_howMany_1 (by omega) (by omega) (by decide) ?_
    refine tt_bipush hf dX6_howMany_97 (by decide) ?_
    exact tt_ireti hf hrT dX6_howMany_99 (Nat.le_refl _) (Nat.le_refl _) (by omega) ⟨now, hnow, by unfold ctE; rw [if_neg s1_0, if_neg s1_1, if_neg s1_2, if_neg s1_3, if_neg s1_4, if_neg s1_5, if_neg s1_6, if_neg s1_7, if_neg s1_8], rfl⟩
set_option maxHeartbeats 4000000 in
set_option maxRecDepth 100000 in
theorem cm_count {l : Launch} {g : tG} {o : Nat} {ax : Nat → Nat} {brd many cols : Int} {kd co : Int → Int} {chg sM : Int} {sN sW sC : Int → Int} {pgM : Int} {page : Int → Int} {whl nwN : Int} {now oft wtd : Int → Int} {ways : Int} {svd trn cAt wAt : Int → Int} {seed : Int64} {isK kB kG kS : Int} {kK kO kN kW kC : Int → Int} {hh : Int64} {wh : Int} (hm : 0 ≤ many ∧ many ≤ 10) (hkd : ∀ i, 0 ≤ kd i ∧ kd i ≤ 4) (hnow : ∀ i, -1 ≤ now i ∧ now i ≤ 2) (hco : ∀ i, -1 ≤ co i ∧ co i ≤ 2) (hcl3 : 0 ≤ cols ∧ cols ≤ 3) (hch : 0 ≤ chg ∧ chg ≤ 999) (hsM : 0 ≤ sM ∧ sM ≤ 6) (hpg : 0 ≤ pgM ∧ pgM ≤ 26) (hbr : 0 ≤ brd ∧ brd ≤ 1000000) (hwh : iR wh) : Ci l g yX6_count (ws_ yX6_count cX6_count 2 (Option.some Jvm.ClassFile.FieldType.int)) (rmL 7) [.ref o, .int (iI wh)] (mW g o ax brd many cols kd co chg sM sN sW sC pgM page whl nwN now oft wtd ways svd trn cAt wAt seed isK kB kG kS kK kO kN kW kC hh) (fun r w => ∃ now1 : Int → Int, (∀ i, -1 ≤ now1 i ∧ now1 i ≤ 2) ∧ r = ctE kd co cols many chg sM pgM brd wh ∧ w = mW g o ax brd many cols kd co chg sM sN sW sC pgM page whl nwN now1 oft wtd ways svd trn cAt wAt seed isK kB kG kS kK kO kN kW kC hh) := by
  refine Ct.of (by decide) (Nat.le_of_ble_eq_true rfl) ?_
  intro Γ hl hg hf hrT
  subst hl hg
  have hf : Fx Γ RX6 cX6_count 2 := hf
  show T Γ (rmL 7) 2 0 0 (Qe Γ (rmL 7) _) _ 0 [(0, .ref o), (1, .int (iI wh))] []
  refine tt_aload_n hf 0 dX6_count_0 rfl ?_
  refine tt_iload_n hf 1 dX6_count_1 rfl ?_
  refine tt_callV0 (As := [.int (iI wh)]) (rest := []) (q0 := 0) (ci := 6) hf (cm_howMany hm hkd hnow hco hcl3 hch hsM hpg hbr (by omega)) lk_X6_X6_howMany hd_X6_howMany rfl rfl rfl ⟨rfl, rfl⟩ (by decide) (by decide) (Nat.le_of_ble_eq_true rfl) dX6_count_2 rfl (kk_i (fun r2 w hr2 hp2 => ?_))
  obtain ⟨now1, hnw1, hrl1, rfl⟩ := hp2
  exact tt_ireti hf hrT dX6_count_5 (Nat.le_refl _) (Nat.le_refl _) hr2 ⟨now1, hnw1, hrl1, rfl⟩
set_option maxHeartbeats 4000000 in
set_option maxRecDepth 100000 in
theorem cm_draw {l : Launch} {g : tG} {o : Nat} {ax : Nat → Nat} {brd many cols : Int} {kd co : Int → Int} {chg sM : Int} {sN sW sC : Int → Int} {pgM : Int} {page : Int → Int} {whl nwN : Int} {now oft wtd : Int → Int} {ways : Int} {svd trn cAt wAt : Int → Int} {isK kB kG kS : Int} {kK kO kN kW kC : Int → Int} {hh : Int64} {d : Int} {z : Nat} (hz : z < 2147483648) (hd : 2 ≤ d ∧ d ≤ 3) : Ce l g yX6_draw (ws_ yX6_draw cX6_draw 2 (Option.some Jvm.ClassFile.FieldType.int)) (rmL 1) [.ref o, .int (iI d)] (mW g o ax brd many cols kd co chg sM sN sW sC pgM page whl nwN now oft wtd ways svd trn cAt wAt (lN z) isK kB kG kS kK kO kN kW kC hh) (((dzN z / 65536 % d.toNat : Nat) : Int)) (mW g o ax brd many cols kd co chg sM sN sW sC pgM page whl nwN now oft wtd ways svd trn cAt wAt (lN (dzN z)) isK kB kG kS kK kO kN kW kC hh) := by
  refine Ct.of (by decide) (Nat.le_of_ble_eq_true rfl) ?_
  intro Γ hl hg hf hrT
  subst hl hg
  have hf : Fx Γ RX6 cX6_draw 2 := hf
  show T Γ (rmL 1) 2 0 0 (Qe Γ (rmL 1) _) _ 0 [(0, .ref o), (1, .int (iI d))] []
  have hzl := dzN_lt z
  have hml := Nat.mod_lt (dzN z / 65536) (show d.toNat > 0 by omega)
  refine tt_aload_n hf 0 dX6_draw_0 rfl ?_
  refine tt_ldc2 hf q1028 dX6_draw_1 ?_
  refine tt_aload_n hf 0 dX6_draw_4 rfl ?_
  refine gm_seed hf dX6_draw_5 ?_
  refine tt_lmul hf dX6_draw_8 ?_
  refine tt_ldc2 hf q1029 dX6_draw_9 ?_
  refine tt_ladd hf dX6_draw_12 ?_
  refine tt_ldc2 hf q1030 dX6_draw_13 ?_
  refine tt_land hf dX6_draw_16 ?_
  refine tt_topl (x' := lN (dzN z)) (draw_z hz) ?_
  refine pm_seed hf dX6_draw_17 ?_
  refine tt_aload_n hf 0 dX6_draw_20 rfl ?_
  refine gm_seed hf dX6_draw_21 ?_
  refine tt_ldc2 hf q1031 dX6_draw_24 ?_
  refine tt_ldiv hf dX6_draw_27 (by decide) ?_
  refine tt_topl (x' := lN (dzN z / 65536)) (pk_lDiv (b := 65536) (by omega) (by decide) (by decide)) ?_
  refine tt_iload_n hf 1 dX6_draw_28 rfl ?_
  refine tt_i2l hf dX6_draw_29 ?_
  refine tt_topl (x' := lN d.toNat) (iI_long (by omega) (by omega)) ?_
  refine tt_lrem hf dX6_draw_30 (by intro q; have := (lN_eq (a := d.toNat) (b := 0) (by omega) (by omega)).mp q; omega) ?_
  refine tt_topl (x' := lN (dzN z / 65536 % d.toNat)) (pk_lRem (by omega) (by omega) (by omega)) ?_
  refine tt_l2i (z := ((dzN z / 65536 % d.toNat : Nat) : Int)) hf dX6_draw_31 ((lN_i _).trans (nI_iI _)) ?_
  exact tt_ireti hf hrT dX6_draw_32 (Nat.le_refl _) (Nat.le_refl _) (by omega) ⟨rfl, rfl⟩
set_option maxHeartbeats 4000000 in
set_option maxRecDepth 100000 in
theorem cm_paintingsNow {l : Launch} {g : tG} {o : Nat} {ax : Nat → Nat} {brd many cols : Int} {kd co : Int → Int} {chg sM : Int} {sN sW sC : Int → Int} {pgM : Int} {page : Int → Int} {whl nwN : Int} {now oft wtd : Int → Int} {ways : Int} {svd trn cAt wAt : Int → Int} {seed : Int64} {isK kB kG kS : Int} {kK kO kN kW kC : Int → Int} {hh : Int64} {ti sd wh : Int} (hm : 0 ≤ many ∧ many ≤ 10) (hkd : ∀ i, 0 ≤ kd i ∧ kd i ≤ 4) (hnow : ∀ i, -1 ≤ now i ∧ now i ≤ 2) (hco : ∀ i, -1 ≤ co i ∧ co i ≤ 2) (hc : 2 ≤ cols ∧ cols ≤ 3) (hcc : ∀ i, 1 ≤ i → i ≤ many → co i ≤ cols - 1) (hti : 1 ≤ ti ∧ ti ≤ 40) (hsd : 0 ≤ sd ∧ sd ≤ 2147483647) (hwh : 0 ≤ wh ∧ wh ≤ 2) : Ci l g yX6_paintingsNow (ws_ yX6_paintingsNow cX6_paintingsNow 8 (Option.some Jvm.ClassFile.FieldType.int)) (rmL 5) [.ref o, .int (iI ti), .int (iI sd), .int (iI wh)] (mW g o ax brd many cols kd co chg sM sN sW sC pgM page whl nwN now oft wtd ways svd trn cAt wAt seed isK kB kG kS kK kO kN kW kC hh) (fun r w => ∃ (now1 : Int → Int) (seed1 : Int64), (∀ i, -1 ≤ now1 i ∧ now1 i ≤ 2) ∧ r = pnE kd co cols many ti sd wh ∧ w = mW g o ax brd many cols kd co chg sM sN sW sC pgM page whl nwN now1 oft wtd ways svd trn cAt wAt seed1 isK kB kG kS kK kO kN kW kC hh) := by
  refine Ct.of (by decide) (Nat.le_of_ble_eq_true rfl) ?_
  intro Γ hl hg hf hrT
  subst hl hg
  have hf : Fx Γ RX6 cX6_paintingsNow 8 := hf
  show T Γ (rmL 5) 8 0 0 (Qe Γ (rmL 5) _) _ 0 [(0, .ref o), (1, .int (iI ti)), (2, .int (iI sd)), (3, .int (iI wh))] []
  refine tt_aload_n hf 0 dX6_paintingsNow_0 rfl ?_
  refine tt_iload_n hf 2 dX6_paintingsNow_1 rfl ?_
  refine tt_i2l hf dX6_paintingsNow_2 ?_
  refine tt_topl (x' := lN sd.toNat) (iI_long (by omega) (by omega)) ?_
  refine pm_seed hf dX6_paintingsNow_3 ?_
  refine tt_iconst hf dX6_paintingsNow_6 ?_
  refine tt_istore (lv' := [(4, .int (iI 0)), (0, .ref o), (1, .int (iI ti)), (2, .int (iI sd)), (3, .int (iI wh))]) hf dX6_paintingsNow_7 (by decide) rfl ?_
  refine tt_iconst hf dX6_paintingsNow_9 ?_
  refine tt_istore (lv' := [(5, .int (iI 0)), (4, .int (iI 0)), (0, .ref o), (1, .int (iI ti)), (2, .int (iI sd)), (3, .int (iI wh))]) hf dX6_paintingsNow_10 (by decide) rfl ?_
  refine tt_iconst hf dX6_paintingsNow_12 ?_
  refine tt_istore (lv' := [(6, .int (iI 0)), (5, .int (iI 0)), (4, .int (iI 0)), (0, .ref o), (1, .int (iI ti)), (2, .int (iI sd)), (3, .int (iI wh))]) hf dX6_paintingsNow_13 (by decide) rfl ?_
  have lp : ∀ (N : Nat) (we : Int) (al : Int) (k : Int) (nw : Int → Int) (z : Nat), (0 ≤ k ∧ k ≤ ti) → (pnN kd co cols many sd.toNat k.toNat = (z, we, al)) → (∀ i, -1 ≤ nw i ∧ nw i ≤ 2) → (z < 2147483648) → (0 ≤ we ∧ we ≤ k ∧ 0 ≤ al ∧ al ≤ 100 * k) → (41 - k).toNat < N → T Γ (rmL 5) 8 0 0 (Qe Γ (rmL 5) (fun vv w => ∃ r : Int, vv = some (.int (iI r)) ∧ iR r ∧ (∃ (now1 : Int → Int) (seed1 : Int64), (∀ i, -1 ≤ now1 i ∧ now1 i ≤ 2) ∧ r = pnE kd co cols many ti sd wh ∧ w = mW (xg Γ) o ax brd many cols kd co chg sM sN sW sC pgM page whl nwN now1 oft wtd ways svd trn cAt wAt seed1 isK kB kG kS kK kO kN kW kC hh))) (mW (xg Γ) o ax brd many cols kd co chg sM sN sW sC pgM page whl nwN nw oft wtd ways svd trn cAt wAt (lN z) isK kB kG kS kK kO kN kW kC hh) 15 [(0, .ref o), (1, .int (iI ti)), (2, .int (iI sd)), (3, .int (iI wh)), (4, .int (iI we)), (5, .int (iI al)), (6, .int (iI k))] [] := by
    intro N
    induction N with
    | zero => intro we al k nw z hk hst hnw hz hrg hN; exact absurd hN (Nat.not_lt_zero _)
    | succ N ih =>
      intro we al k nw z hk hst hnw hz hrg hN
      have ihO := ih
      refine tt_iload hf 6 dX6_paintingsNow_15 rfl ?_
      refine tt_iload_n hf 1 dX6_paintingsNow_17 rfl ?_
      refine tt_icmp_ge (tgt := 117) hf dX6_paintingsNow_18 (by decide) (by omega) (by omega) (fun c18 => ?_) (fun c18 => ?_)
      · refine tt_iload_n hf 3 dX6_paintingsNow_117 rfl ?_
        refine tt_if_ne (tgt := 126) hf dX6_paintingsNow_118 (by decide) (by omega) (fun c118 => ?_) (fun c118 => ?_)
        · refine tt_iload_n hf 3 dX6_paintingsNow_126 rfl ?_
          refine tt_iconst hf dX6_paintingsNow_127 ?_
          refine tt_icmp_ne (tgt := 136) hf dX6_paintingsNow_128 (by decide) (by omega) (by omega) (fun c128 => ?_) (fun c128 => ?_)
          · refine tt_aload_n hf 0 dX6_paintingsNow_136 rfl ?_
            refine gm_seed hf dX6_paintingsNow_137 ?_
            refine tt_l2i (z := (z : Int)) hf dX6_paintingsNow_140 ((lN_i _).trans (nI_iI _)) ?_
            have ek : k.toNat = ti.toNat := by omega
            rw [ek] at hst
            exact tt_ireti hf hrT dX6_paintingsNow_141 (Nat.le_refl _) (Nat.le_refl _) (by omega) ⟨nw, lN z, hnw, by unfold pnE; rw [if_neg c118, if_neg c128, hst], rfl⟩
          · refine tt_iload hf 5 dX6_paintingsNow_131 rfl ?_
            refine tt_goto (tgt := 141) hf dX6_paintingsNow_133 (by decide) ?_
            have ek : k.toNat = ti.toNat := by omega
            rw [ek] at hst
            exact tt_ireti hf hrT dX6_paintingsNow_141 (Nat.le_refl _) (Nat.le_refl _) (by omega) ⟨nw, lN z, hnw, by unfold pnE; rw [if_neg c118, if_pos c128, hst], rfl⟩
        · refine tt_iload hf 4 dX6_paintingsNow_121 rfl ?_
          refine tt_goto (tgt := 141) hf dX6_paintingsNow_123 (by decide) ?_
          have ek : k.toNat = ti.toNat := by omega
          rw [ek] at hst
          exact tt_ireti hf hrT dX6_paintingsNow_141 (Nat.le_refl _) (Nat.le_refl _) (by omega) ⟨nw, lN z, hnw, by unfold pnE; rw [if_pos c118, hst], rfl⟩
      · refine tt_aload_n hf 0 dX6_paintingsNow_21 rfl ?_
        refine tt_callV0 (As := []) (rest := []) (q0 := 0) (ci := 6) hf (cm_layNow hm) lk_X6_X6_layNow hd_X6_layNow rfl rfl rfl ⟨rfl, rfl⟩ (by decide) (by decide) (Nat.le_of_ble_eq_true rfl) dX6_paintingsNow_22 rfl (kk_v (fun w hw => ?_))
        subst hw
        refine tt_iconst hf dX6_paintingsNow_25 ?_
        refine tt_istore (lv' := [(7, .int (iI 1)), (0, .ref o), (1, .int (iI ti)), (2, .int (iI sd)), (3, .int (iI wh)), (4, .int (iI we)), (5, .int (iI al)), (6, .int (iI k))]) hf dX6_paintingsNow_26 (by decide) rfl ?_
        have lq : ∀ (N : Nat) (i : Int) (n2 : Int → Int) (z2 : Nat), (1 ≤ i ∧ i ≤ many + 1) → (fl cols (i - 1).toNat (z, (lay many co nw)) = (z2, n2)) → (∀ i, -1 ≤ n2 i ∧ n2 i ≤ 2) → (z2 < 2147483648) → (11 - i).toNat < N → T Γ (rmL 5) 8 0 0 (Qe Γ (rmL 5) (fun vv w => ∃ r : Int, vv = some (.int (iI r)) ∧ iR r ∧ (∃ (now1 : Int → Int) (seed1 : Int64), (∀ i, -1 ≤ now1 i ∧ now1 i ≤ 2) ∧ r = pnE kd co cols many ti sd wh ∧ w = mW (xg Γ) o ax brd many cols kd co chg sM sN sW sC pgM page whl nwN now1 oft wtd ways svd trn cAt wAt seed1 isK kB kG kS kK kO kN kW kC hh))) (mW (xg Γ) o ax brd many cols kd co chg sM sN sW sC pgM page whl nwN n2 oft wtd ways svd trn cAt wAt (lN z2) isK kB kG kS kK kO kN kW kC hh) 28 [(0, .ref o), (1, .int (iI ti)), (2, .int (iI sd)), (3, .int (iI wh)), (4, .int (iI we)), (5, .int (iI al)), (6, .int (iI k)), (7, .int (iI i))] [] := by
          intro N
          induction N with
          | zero => intro i n2 z2 hi hfl hn2 hz2 hN; exact absurd hN (Nat.not_lt_zero _)
          | succ N ih =>
            intro i n2 z2 hi hfl hn2 hz2 hN
            refine tt_iload hf 7 dX6_paintingsNow_28 rfl ?_
            refine tt_aload_n hf 0 dX6_paintingsNow_30 rfl ?_
            refine gm_many hf dX6_paintingsNow_31 ?_
            refine tt_icmp_gt (tgt := 79) hf dX6_paintingsNow_34 (by decide) (by omega) (by omega) (fun c34 => ?_) (fun c34 => ?_)
            · have hfl : fl cols many.toNat (z, (lay many co nw)) = (z2, n2) := by rw [← hfl, show i - 1 = many by omega]
              have hcg := fl_cg (cols := cols) (z := z) (r := (lay many co nw)) (r' := co) (many := many) (lay_in hm.2) many.toNat (by omega)
              rw [hfl] at hcg
              have hp1 : (pnS kd co cols many z).1 = z2 := hcg.1.symm
              have hp2 : (pnS kd co cols many z).2 = bu kd n2 many.toNat := (bu_cg _ (fun i h1 h2 => (hcg.2 i h1 (by omega)).symm))
              have hbr := bu_rng kd n2 many.toNat
              have hbq : (many.toNat : Int) * (many.toNat : Int) ≤ 10 * 10 := Int.mul_le_mul (by omega) (by omega) (by omega) (by omega)
              refine tt_aload_n hf 0 dX6_paintingsNow_79 rfl ?_
              refine tt_aload_n hf 0 dX6_paintingsNow_80 rfl ?_
              refine gm_many hf dX6_paintingsNow_81 ?_
              refine tt_callV0 (As := [.int (iI many)]) (rest := []) (q0 := 0) (ci := 6) hf (cm_badUpTo hkd hn2 (by omega)) lk_X6_X6_badUpTo hd_X6_badUpTo rfl rfl rfl ⟨rfl, rfl⟩ (by decide) (by decide) (Nat.le_of_ble_eq_true rfl) dX6_paintingsNow_84 rfl (kk_e (fun r84 => ?_))
              refine tt_istore (lv' := [(7, .int (iI (bu kd n2 many.toNat))), (0, .ref o), (1, .int (iI ti)), (2, .int (iI sd)), (3, .int (iI wh)), (4, .int (iI we)), (5, .int (iI al)), (6, .int (iI k))]) hf dX6_paintingsNow_87 (by decide) rfl ?_
              refine tt_iload hf 5 dX6_paintingsNow_89 rfl ?_
              refine tt_iload hf 0 dX6_paintingsNow_91 rfl ?_
              refine tt_if_ne (tgt := 100) hf dX6_paintingsNow_93 (by decide) (by omega) (fun c93 => ?_) (fun c93 => ?_)
              · refine tt_iconst hf dX6_paintingsNow_100 ?_
                refine tt_iadd hf dX6_paintingsNow_101 ?_
                refine tt_istore (lv' := [(4, .int (iI (we + 0))), (7, .int (iI (bu kd n2 many.toNat))), (0, .ref o), (1, .int (iI ti)), (2, .int (iI sd)), (3, .int (iI wh)), (5, .int (iI al)), (6, .int (iI k))]) hf dX6_paintingsNow_102 (by decide) rfl ?_
                refine tt_iload hf 6 dX6_paintingsNow_104 rfl ?_
                refine tt_iload hf 1 dX6_paintingsNow_106 rfl ?_
                refine tt_iadd hf dX6_paintingsNow_108 ?_
                refine tt_istore (lv' := [(5, .int (iI (al + (bu kd n2 many.toNat)))), (4, .int (iI (we + 0))), (7, .int (iI (bu kd n2 many.toNat))), (0, .ref o), (1, .int (iI ti)), (2, .int (iI sd)), (3, .int (iI wh)), (6, .int (iI k))]) hf dX6_paintingsNow_109 (by decide) rfl ?_
                refine tt_iinc (lv' := [(6, .int (iI (k + 1))), (5, .int (iI (al + (bu kd n2 many.toNat)))), (4, .int (iI (we + 0))), (7, .int (iI (bu kd n2 many.toNat))), (0, .ref o), (1, .int (iI ti)), (2, .int (iI sd)), (3, .int (iI wh))]) hf 7 dX6_paintingsNow_111 rfl (by decide) rfl ?_
                refine tt_goto (tgt := 15) hf dX6_paintingsNow_114 (by decide) ?_
                refine tt_sub [4, 5, 6, 7, 2, 1, 0] rfl ?_
                exact ihO (we + 0) (al + (bu kd n2 many.toNat)) (k + 1) n2 z2 (by omega) (by rw [pnN_s (by omega), hst]; simp only []; rw [hp1, hp2, if_neg c93]) hn2 hz2 (by omega) (by omega)
              · refine tt_iconst hf dX6_paintingsNow_96 ?_
                refine tt_goto (tgt := 101) hf dX6_paintingsNow_97 (by decide) ?_
                refine tt_iadd hf dX6_paintingsNow_101 ?_
                refine tt_istore (lv' := [(4, .int (iI (we + 1))), (7, .int (iI (bu kd n2 many.toNat))), (0, .ref o), (1, .int (iI ti)), (2, .int (iI sd)), (3, .int (iI wh)), (5, .int (iI al)), (6, .int (iI k))]) hf dX6_paintingsNow_102 (by decide) rfl ?_
                refine tt_iload hf 6 dX6_paintingsNow_104 rfl ?_
                refine tt_iload hf 1 dX6_paintingsNow_106 rfl ?_
                refine tt_iadd hf dX6_paintingsNow_108 ?_
                refine tt_istore (lv' := [(5, .int (iI (al + (bu kd n2 many.toNat)))), (4, .int (iI (we + 1))), (7, .int (iI (bu kd n2 many.toNat))), (0, .ref o), (1, .int (iI ti)), (2, .int (iI sd)), (3, .int (iI wh)), (6, .int (iI k))]) hf dX6_paintingsNow_109 (by decide) rfl ?_
                refine tt_iinc (lv' := [(6, .int (iI (k + 1))), (5, .int (iI (al + (bu kd n2 many.toNat)))), (4, .int (iI (we + 1))), (7, .int (iI (bu kd n2 many.toNat))), (0, .ref o), (1, .int (iI ti)), (2, .int (iI sd)), (3, .int (iI wh))]) hf 7 dX6_paintingsNow_111 rfl (by decide) rfl ?_
                refine tt_goto (tgt := 15) hf dX6_paintingsNow_114 (by decide) ?_
                refine tt_sub [4, 5, 6, 7, 2, 1, 0] rfl ?_
                exact ihO (we + 1) (al + (bu kd n2 many.toNat)) (k + 1) n2 z2 (by omega) (by rw [pnN_s (by omega), hst]; simp only []; rw [hp1, hp2, if_pos c93]) hn2 hz2 (by omega) (by omega)
            · have hqn := hn2 i
              refine tt_aload_n hf 0 dX6_paintingsNow_37 rfl ?_
              refine gm_now hf dX6_paintingsNow_38 ?_
              refine tt_iload hf 7 dX6_paintingsNow_41 rfl ?_
              refine tt_aload_n hf 0 dX6_paintingsNow_43 rfl ?_
              refine gm_now hf dX6_paintingsNow_44 ?_
              refine tt_iload hf 7 dX6_paintingsNow_47 rfl ?_
              refine lm_now hf (by omega) dX6_paintingsNow_49 ?_
              refine tt_iconst hf dX6_paintingsNow_50 ?_
              refine tt_icmp_ne (tgt := 65) hf dX6_paintingsNow_51 (by decide) (by omega) (by omega) (fun c51 => ?_) (fun c51 => ?_)
              · refine tt_aload_n hf 0 dX6_paintingsNow_65 rfl ?_
                refine gm_now hf dX6_paintingsNow_66 ?_
                refine tt_iload hf 7 dX6_paintingsNow_69 rfl ?_
                refine lm_now hf (by omega) dX6_paintingsNow_71 ?_
                refine sm_now hf (by omega) dX6_paintingsNow_72 ?_
                refine tt_iinc (lv' := [(7, .int (iI (i + 1))), (0, .ref o), (1, .int (iI ti)), (2, .int (iI sd)), (3, .int (iI wh)), (4, .int (iI we)), (5, .int (iI al)), (6, .int (iI k))]) hf 7 dX6_paintingsNow_73 rfl (by decide) rfl ?_
                refine tt_goto (tgt := 28) hf dX6_paintingsNow_76 (by decide) ?_
                refine tt_sub [1, 2, 3, 4, 5, 6, 7, 0] rfl ?_
                exact ih (i + 1) (uI n2 i (n2 i)) z2 (by omega) (by rw [Int.add_sub_cancel, fl_s (n := i) (by omega), hfl, if_neg c51]; exact congrArg (Prod.mk z2) (uI_e rfl).symm) (rng_u hn2 (hn2 i)) hz2 (by omega)
              · refine tt_aload_n hf 0 dX6_paintingsNow_54 rfl ?_
                refine tt_aload_n hf 0 dX6_paintingsNow_55 rfl ?_
                refine gm_cols hf dX6_paintingsNow_56 ?_
                refine tt_callV0 (As := [.int (iI cols)]) (rest := [.int (iI i), .ref (ax 14)]) (q0 := 0) (ci := 6) hf (cm_draw hz2 (by omega)) lk_X6_X6_draw hd_X6_draw rfl rfl rfl ⟨rfl, rfl⟩ (by decide) (by decide) (Nat.le_of_ble_eq_true rfl) dX6_paintingsNow_59 rfl (kk_e (fun r59 => ?_))
                refine tt_goto (tgt := 72) hf dX6_paintingsNow_62 (by decide) ?_
                refine sm_now hf (by omega) dX6_paintingsNow_72 ?_
                refine tt_iinc (lv' := [(7, .int (iI (i + 1))), (0, .ref o), (1, .int (iI ti)), (2, .int (iI sd)), (3, .int (iI wh)), (4, .int (iI we)), (5, .int (iI al)), (6, .int (iI k))]) hf 7 dX6_paintingsNow_73 rfl (by decide) rfl ?_
                refine tt_goto (tgt := 28) hf dX6_paintingsNow_76 (by decide) ?_
                refine tt_sub [1, 2, 3, 4, 5, 6, 7, 0] rfl ?_
                exact ih (i + 1) (uI n2 i ((dzN z2 / 65536 % cols.toNat : Nat) : Int)) (dzN z2) (by omega) (by rw [Int.add_sub_cancel, fl_s (n := i) (by omega), hfl, if_pos c51]) (rng_u hn2 (by have := Nat.mod_lt (dzN z2 / 65536) (show cols.toNat > 0 by omega); omega)) (dzN_lt _) (by omega)
        refine tt_sub [1, 2, 3, 4, 5, 6, 7, 0] rfl ?_
        exact lq _ 1 (lay many co nw) z (by omega) rfl (lay_rng hco hnw) hz (Nat.lt_succ_self _)
  refine tt_sub [3, 4, 5, 6, 2, 1, 0] rfl ?_
  exact lp _ 0 0 0 now sd.toNat (by omega) rfl hnow (by omega) (by omega) (Nat.lt_succ_self _)
set_option maxHeartbeats 4000000 in
set_option maxRecDepth 100000 in
theorem cm_paintings {l : Launch} {g : tG} {o : Nat} {ax : Nat → Nat} {brd many cols : Int} {kd co : Int → Int} {chg sM : Int} {sN sW sC : Int → Int} {pgM : Int} {page : Int → Int} {whl nwN : Int} {now oft wtd : Int → Int} {ways : Int} {svd trn cAt wAt : Int → Int} {seed : Int64} {isK kB kG kS : Int} {kK kO kN kW kC : Int → Int} {hh : Int64} {ti sd wh : Int} (hm : 0 ≤ many ∧ many ≤ 10) (hkd : ∀ i, 0 ≤ kd i ∧ kd i ≤ 4) (hnow : ∀ i, -1 ≤ now i ∧ now i ≤ 2) (hco : ∀ i, -1 ≤ co i ∧ co i ≤ 2) (hcm : 0 < many → 2 ≤ cols ∧ cols ≤ 3) (hcc : ∀ i, 1 ≤ i → i ≤ many → co i ≤ cols - 1) (hti : iR ti) (hsd : iR sd) (hwh : iR wh) : Ci l g yX6_paintings (ws_ yX6_paintings cX6_paintings 4 (Option.some Jvm.ClassFile.FieldType.int)) (rmL 6) [.ref o, .int (iI ti), .int (iI sd), .int (iI wh)] (mW g o ax brd many cols kd co chg sM sN sW sC pgM page whl nwN now oft wtd ways svd trn cAt wAt seed isK kB kG kS kK kO kN kW kC hh) (fun r w => ∃ (now1 : Int → Int) (seed1 : Int64), (∀ i, -1 ≤ now1 i ∧ now1 i ≤ 2) ∧ r = (if (1 ≤ ti ∧ ti ≤ 40) ∧ 0 ≤ sd ∧ 0 ≤ wh ∧ wh ≤ 2 then (if many = 0 then -103 else pnE kd co cols many ti sd wh) else -102) ∧ w = mW g o ax brd many cols kd co chg sM sN sW sC pgM page whl nwN now1 oft wtd ways svd trn cAt wAt seed1 isK kB kG kS kK kO kN kW kC hh) := by
  refine Ct.of (by decide) (Nat.le_of_ble_eq_true rfl) ?_
  intro Γ hl hg hf hrT
  subst hl hg
  have hf : Fx Γ RX6 cX6_paintings 4 := hf
  show T Γ (rmL 6) 4 0 0 (Qe Γ (rmL 6) _) _ 0 [(0, .ref o), (1, .int (iI ti)), (2, .int (iI sd)), (3, .int (iI wh))] []
  refine tt_iload_n hf 1 dX6_paintings_0 rfl ?_
  refine tt_iconst hf dX6_paintings_1 ?_
  refine tt_bipush hf dX6_paintings_2 (by decide) ?_
  refine tt_callS0 (As := [.int (iI ti), .int (iI 1), .int (iI 40)]) (rest := []) hf (cm_within (by omega) (by omega) (by omega)) lk_X6_X6_within hd_X6_within rfl ⟨rfl, rfl⟩ (by decide) (by decide) (Nat.le_of_ble_eq_true rfl) dX6_paintings_4 rfl (kk_e (fun r4 => ?_))
  refine tt_ifb_eq (tgt := 23) hf dX6_paintings_7 (by decide) (fun c7 => ?_) (fun c7 => ?_)
  · refine tt_bipush hf dX6_paintings_23 (by decide) ?_
    exact tt_ireti hf hrT dX6_paintings_25 (Nat.le_refl _) (Nat.le_refl _) (by omega) ⟨now, seed, hnow, by rw [if_neg (fun q => c7 q.1)], rfl⟩
  · refine tt_iload_n hf 2 dX6_paintings_10 rfl ?_
    refine tt_if_lt (tgt := 23) hf dX6_paintings_11 (by decide) (by omega) (fun c11 => ?_) (fun c11 => ?_)
    · refine tt_bipush hf dX6_paintings_23 (by decide) ?_
      exact tt_ireti hf hrT dX6_paintings_25 (Nat.le_refl _) (Nat.le_refl _) (by omega) ⟨now, seed, hnow, by rw [if_neg (fun q => absurd q.2.1 (by omega))], rfl⟩
    · refine tt_iload_n hf 3 dX6_paintings_14 rfl ?_
      refine tt_iconst hf dX6_paintings_15 ?_
      refine tt_iconst hf dX6_paintings_16 ?_
      refine tt_callS0 (As := [.int (iI wh), .int (iI 0), .int (iI 2)]) (rest := []) hf (cm_within (by omega) (by omega) (by omega)) lk_X6_X6_within hd_X6_within rfl ⟨rfl, rfl⟩ (by decide) (by decide) (Nat.le_of_ble_eq_true rfl) dX6_paintings_17 rfl (kk_e (fun r17 => ?_))
      refine tt_ifb_ne (tgt := 26) hf dX6_paintings_20 (by decide) (fun c20 => ?_) (fun c20 => ?_)
      · refine tt_aload_n hf 0 dX6_paintings_26 rfl ?_
        refine gm_many hf dX6_paintings_27 ?_
        refine tt_if_ne (tgt := 38) hf dX6_paintings_30 (by decide) (by omega) (fun c30 => ?_) (fun c30 => ?_)
        · refine tt_aload_n hf 0 dX6_paintings_38 rfl ?_
          refine tt_iload_n hf 1 dX6_paintings_39 rfl ?_
          refine tt_iload_n hf 2 dX6_paintings_40 rfl ?_
          refine tt_iload_n hf 3 dX6_paintings_41 rfl ?_
          refine tt_callV0 (As := [.int (iI ti), .int (iI sd), .int (iI wh)]) (rest := []) (q0 := 0) (ci := 6) hf (cm_paintingsNow hm hkd hnow hco (hcm (by omega)) hcc (by omega) (by omega) (by omega)) lk_X6_X6_paintingsNow hd_X6_paintingsNow rfl rfl rfl ⟨rfl, rfl⟩ (by decide) (by decide) (Nat.le_of_ble_eq_true rfl) dX6_paintings_42 rfl (kk_i (fun r42 w hr42 hp42 => ?_))
          obtain ⟨now1, seed1, hnw1, hrl1, rfl⟩ := hp42
          exact tt_ireti hf hrT dX6_paintings_45 (Nat.le_refl _) (Nat.le_refl _) hr42 ⟨now1, seed1, hnw1, by rw [hrl1, if_pos ⟨c7, by omega, c20⟩, if_neg c30], rfl⟩
        · refine tt_bipush hf dX6_paintings_33 (by decide) ?_
          refine tt_goto (tgt := 45) hf dX6_paintings_35 (by decide) ?_
          exact tt_ireti hf hrT dX6_paintings_45 (Nat.le_refl _) (Nat.le_refl _) (by omega) ⟨now, seed, hnow, by rw [if_pos ⟨c7, by omega, c20⟩, if_pos c30], rfl⟩
      · refine tt_bipush hf dX6_paintings_23 (by decide) ?_
        exact tt_ireti hf hrT dX6_paintings_25 (Nat.le_refl _) (Nat.le_refl _) (by omega) ⟨now, seed, hnow, by rw [if_neg (fun q => c20 q.2.2)], rfl⟩
set_option maxHeartbeats 4000000 in
set_option maxRecDepth 100000 in
theorem cm_mix {l : Launch} {g : tG} {o : Nat} {ax : Nat → Nat} {brd many cols : Int} {kd co : Int → Int} {chg sM : Int} {sN sW sC : Int → Int} {pgM : Int} {page : Int → Int} {whl nwN : Int} {now oft wtd : Int → Int} {ways : Int} {svd trn cAt wAt : Int → Int} {seed : Int64} {isK kB kG kS : Int} {kK kO kN kW kC : Int → Int} {hh : Int64} {v : Int64}  : Cv l g yX6_mix (ws_ yX6_mix cX6_mix 3 (Option.none : Option Jvm.ClassFile.FieldType)) (rmL 1) [.ref o, .long v] (mW g o ax brd many cols kd co chg sM sN sW sC pgM page whl nwN now oft wtd ways svd trn cAt wAt seed isK kB kG kS kK kO kN kW kC hh) (fun w => w = mW g o ax brd many cols kd co chg sM sN sW sC pgM page whl nwN now oft wtd ways svd trn cAt wAt seed isK kB kG kS kK kO kN kW kC (31 * hh + v)) := by
  refine Ct.of (by decide) (Nat.le_of_ble_eq_true rfl) ?_
  intro Γ hl hg hf hrT
  subst hl hg
  have hf : Fx Γ RX6 cX6_mix 3 := hf
  show T Γ (rmL 1) 3 0 0 (Qe Γ (rmL 1) _) _ 0 [(0, .ref o), (1, .long v)] []
  refine tt_aload_n hf 0 dX6_mix_0 rfl ?_
  refine tt_ldc2 hf q1065 dX6_mix_1 ?_
  refine tt_aload_n hf 0 dX6_mix_4 rfl ?_
  refine gm_hh hf dX6_mix_5 ?_
  refine tt_lmul hf dX6_mix_8 ?_
  refine tt_lload_n hf 1 dX6_mix_9 rfl ?_
  refine tt_ladd hf dX6_mix_10 ?_
  refine pm_hh hf dX6_mix_11 ?_
  exact tt_vretv hf hrT dX6_mix_14 (Nat.le_refl _) (Nat.le_refl _) rfl
