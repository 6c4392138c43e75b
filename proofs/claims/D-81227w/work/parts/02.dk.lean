/-! DECODE ROWS BY BYTES: one lemma an opcode; a method's code is cut into short pieces once, and a row reads its own piece alone. -/
set_option maxRecDepth 100000
/-- the code has just these bytes from pc on -/
def DkAt (code : ByteArray) (pc : Nat) (bs : List UInt8) : Prop := ∀ (j : Nat) (b : UInt8), bs[j]? = some b → code.data.toList[pc + j]? = some b
/-- the piece W has the bytes bs from its place j on -/
def dkIn (W : List UInt8) (j : Nat) (bs : List UInt8) : Bool := decide ((W.drop j).take bs.length = bs)
theorem dk_seg {l W T : List UInt8} {o o2 : Nat} (h : l.drop o = W ++ T) (n : Nat) (hn : W.length = n) (ho : o + n = o2) : l.drop o2 = T := by
  subst ho
  rw [← List.drop_drop, h, List.drop_left' hn]
theorem dk_at {code : ByteArray} {W T bs : List UInt8} {o pc : Nat} (h : code.data.toList.drop o = W ++ T) (j : Nat) (hp : o + j = pc) (hw : dkIn W j bs = true) : DkAt code pc bs := by
  subst hp
  intro i b e
  have h1 := of_decide_eq_true hw
  have h2 : i < bs.length := (List.getElem?_eq_some_iff.mp e).1
  have h3 : W[j + i]? = some b := by
    rw [← h1, List.getElem?_take, if_pos h2, List.getElem?_drop] at e
    exact e
  have h4 : j + i < W.length := (List.getElem?_eq_some_iff.mp h3).1
  have h5 : (code.data.toList.drop o)[j + i]? = some b := by
    rw [h, List.getElem?_append_left h4]
    exact h3
  rw [List.getElem?_drop, ← Nat.add_assoc] at h5
  exact h5
theorem dk_u1 {A : ByteArray} {p : Nat} {b : UInt8} (h : A.data.toList[p]? = some b) : (Reader.u1 : Reader DecodeError Nat) A p = .ok (b.toNat, p + 1) := by
  obtain ⟨h1, h2⟩ := List.getElem?_eq_some_iff.mp h
  have h3 : p < A.size := by simpa using h1
  have h4 : A[p]'h3 = b := h2
  have e : (Reader.u1 : Reader DecodeError Nat) A p = (if h : p < A.size then .ok (A[p].toNat, p + 1) else .error (HasTruncated.truncated p)) := by
    show (do if h : p < A.size then do set (p + 1); Pure.pure A[p].toNat else MonadExcept.throw (HasTruncated.truncated p) : Reader DecodeError Nat) A p = _
    by_cases hi : p < A.size
    · rw [dif_pos hi, dif_pos hi]; rfl
    · rw [dif_neg hi, dif_neg hi]; rfl
  rw [e, dif_pos h3, h4]
theorem dk_bind {α β : Type} {r : Reader DecodeError α} {f : α → Reader DecodeError β} {A : ByteArray} {p s : Nat} {a : α} (h : r A p = .ok (a, s)) : (r >>= f) A p = f a A s := by
  show (do let (a, s) ← r A p; f a A s : Except DecodeError (β × Nat)) = _
  rw [h]
  rfl
theorem dk_map {α β : Type} {r : Reader DecodeError α} {g : α → β} {A : ByteArray} {p s : Nat} {a : α} (h : r A p = .ok (a, s)) : (g <$> r) A p = .ok (g a, s) := by
  show (do let (a, s) ← r A p; .ok (g a, s) : Except DecodeError (β × Nat)) = _
  rw [h]
  rfl
theorem dk_u2 {A : ByteArray} {p : Nat} {a b : UInt8} (h : A.data.toList[p]? = some a) (h2 : A.data.toList[p + 1]? = some b) : (Reader.u2 : Reader DecodeError Nat) A p = .ok (a.toNat * 256 + b.toNat, p + 2) := by
  show (Reader.u1 >>= fun hi => Reader.u1 >>= fun lo => Pure.pure (hi * 256 + lo) : Reader DecodeError Nat) A p = _
  rw [dk_bind (dk_u1 h), dk_bind (dk_u1 h2)]
  rfl
theorem dk_of {code : ByteArray} {pc n : Nat} {i : Instr} (h : Decoder.instr pc code pc = .ok (i, pc + n)) : decode code pc = .ok (i, n) := by
  have e : decode code pc = (match Decoder.instr pc code pc with | .error x => .error x | .ok (j, s) => .ok (j, s - pc)) := by
    show (do let (j, s) ← Decoder.instr pc code pc; Pure.pure (j, s - pc) : Except DecodeError (Instr × Nat)) = _
    cases Decoder.instr pc code pc <;> rfl
  rw [e, h]
  show Except.ok (i, pc + n - pc) = _
  rw [Nat.add_sub_cancel_left]
theorem dk_2 {code : ByteArray} {pc : Nat} (h : DkAt code pc [2]) : decode code pc = .ok (.iconst (-1), 1) := dk_of ((dk_bind (dk_u1 (h 0 _ rfl))).trans rfl)
theorem dk_3 {code : ByteArray} {pc : Nat} (h : DkAt code pc [3]) : decode code pc = .ok (.iconst 0, 1) := dk_of ((dk_bind (dk_u1 (h 0 _ rfl))).trans rfl)
theorem dk_4 {code : ByteArray} {pc : Nat} (h : DkAt code pc [4]) : decode code pc = .ok (.iconst 1, 1) := dk_of ((dk_bind (dk_u1 (h 0 _ rfl))).trans rfl)
theorem dk_5 {code : ByteArray} {pc : Nat} (h : DkAt code pc [5]) : decode code pc = .ok (.iconst 2, 1) := dk_of ((dk_bind (dk_u1 (h 0 _ rfl))).trans rfl)
theorem dk_6 {code : ByteArray} {pc : Nat} (h : DkAt code pc [6]) : decode code pc = .ok (.iconst 3, 1) := dk_of ((dk_bind (dk_u1 (h 0 _ rfl))).trans rfl)
theorem dk_7 {code : ByteArray} {pc : Nat} (h : DkAt code pc [7]) : decode code pc = .ok (.iconst 4, 1) := dk_of ((dk_bind (dk_u1 (h 0 _ rfl))).trans rfl)
theorem dk_8 {code : ByteArray} {pc : Nat} (h : DkAt code pc [8]) : decode code pc = .ok (.iconst 5, 1) := dk_of ((dk_bind (dk_u1 (h 0 _ rfl))).trans rfl)
theorem dk_9 {code : ByteArray} {pc : Nat} (h : DkAt code pc [9]) : decode code pc = .ok (.lconst 0, 1) := dk_of ((dk_bind (dk_u1 (h 0 _ rfl))).trans rfl)
theorem dk_10 {code : ByteArray} {pc : Nat} (h : DkAt code pc [10]) : decode code pc = .ok (.lconst 1, 1) := dk_of ((dk_bind (dk_u1 (h 0 _ rfl))).trans rfl)
theorem dk_16 {code : ByteArray} {pc : Nat} (a : UInt8) (h : DkAt code pc [16, a]) : decode code pc = .ok (.bipush (Reader.signed 8 a.toNat), 2) := dk_of ((dk_bind (dk_u1 (h 0 _ rfl))).trans ((dk_bind (dk_map (dk_u1 (h 1 _ rfl)))).trans rfl))
theorem dk_17 {code : ByteArray} {pc : Nat} (a b : UInt8) (h : DkAt code pc [17, a, b]) : decode code pc = .ok (.sipush (Reader.signed 16 (a.toNat * 256 + b.toNat)), 3) := dk_of ((dk_bind (dk_u1 (h 0 _ rfl))).trans ((dk_bind (dk_map (dk_u2 (h 1 _ rfl) (h 2 _ rfl)))).trans rfl))
theorem dk_18 {code : ByteArray} {pc : Nat} (a : UInt8) (h : DkAt code pc [18, a]) : decode code pc = .ok (.ldc a.toNat, 2) := dk_of ((dk_bind (dk_u1 (h 0 _ rfl))).trans ((dk_bind (dk_u1 (h 1 _ rfl))).trans rfl))
theorem dk_19 {code : ByteArray} {pc : Nat} (a b : UInt8) (h : DkAt code pc [19, a, b]) : decode code pc = .ok (.ldc_w (a.toNat * 256 + b.toNat), 3) := dk_of ((dk_bind (dk_u1 (h 0 _ rfl))).trans ((dk_bind (dk_u2 (h 1 _ rfl) (h 2 _ rfl))).trans rfl))
theorem dk_20 {code : ByteArray} {pc : Nat} (a b : UInt8) (h : DkAt code pc [20, a, b]) : decode code pc = .ok (.ldc2_w (a.toNat * 256 + b.toNat), 3) := dk_of ((dk_bind (dk_u1 (h 0 _ rfl))).trans ((dk_bind (dk_u2 (h 1 _ rfl) (h 2 _ rfl))).trans rfl))
theorem dk_21 {code : ByteArray} {pc : Nat} (a : UInt8) (h : DkAt code pc [21, a]) : decode code pc = .ok (.iload a.toNat, 2) := dk_of ((dk_bind (dk_u1 (h 0 _ rfl))).trans ((dk_bind (dk_u1 (h 1 _ rfl))).trans rfl))
theorem dk_22 {code : ByteArray} {pc : Nat} (a : UInt8) (h : DkAt code pc [22, a]) : decode code pc = .ok (.lload a.toNat, 2) := dk_of ((dk_bind (dk_u1 (h 0 _ rfl))).trans ((dk_bind (dk_u1 (h 1 _ rfl))).trans rfl))
theorem dk_25 {code : ByteArray} {pc : Nat} (a : UInt8) (h : DkAt code pc [25, a]) : decode code pc = .ok (.aload a.toNat, 2) := dk_of ((dk_bind (dk_u1 (h 0 _ rfl))).trans ((dk_bind (dk_u1 (h 1 _ rfl))).trans rfl))
theorem dk_26 {code : ByteArray} {pc : Nat} (h : DkAt code pc [26]) : decode code pc = .ok (.iload_n 0, 1) := dk_of ((dk_bind (dk_u1 (h 0 _ rfl))).trans rfl)
theorem dk_27 {code : ByteArray} {pc : Nat} (h : DkAt code pc [27]) : decode code pc = .ok (.iload_n 1, 1) := dk_of ((dk_bind (dk_u1 (h 0 _ rfl))).trans rfl)
theorem dk_28 {code : ByteArray} {pc : Nat} (h : DkAt code pc [28]) : decode code pc = .ok (.iload_n 2, 1) := dk_of ((dk_bind (dk_u1 (h 0 _ rfl))).trans rfl)
theorem dk_29 {code : ByteArray} {pc : Nat} (h : DkAt code pc [29]) : decode code pc = .ok (.iload_n 3, 1) := dk_of ((dk_bind (dk_u1 (h 0 _ rfl))).trans rfl)
theorem dk_30 {code : ByteArray} {pc : Nat} (h : DkAt code pc [30]) : decode code pc = .ok (.lload_n 0, 1) := dk_of ((dk_bind (dk_u1 (h 0 _ rfl))).trans rfl)
theorem dk_31 {code : ByteArray} {pc : Nat} (h : DkAt code pc [31]) : decode code pc = .ok (.lload_n 1, 1) := dk_of ((dk_bind (dk_u1 (h 0 _ rfl))).trans rfl)
theorem dk_32 {code : ByteArray} {pc : Nat} (h : DkAt code pc [32]) : decode code pc = .ok (.lload_n 2, 1) := dk_of ((dk_bind (dk_u1 (h 0 _ rfl))).trans rfl)
theorem dk_42 {code : ByteArray} {pc : Nat} (h : DkAt code pc [42]) : decode code pc = .ok (.aload_n 0, 1) := dk_of ((dk_bind (dk_u1 (h 0 _ rfl))).trans rfl)
theorem dk_43 {code : ByteArray} {pc : Nat} (h : DkAt code pc [43]) : decode code pc = .ok (.aload_n 1, 1) := dk_of ((dk_bind (dk_u1 (h 0 _ rfl))).trans rfl)
theorem dk_44 {code : ByteArray} {pc : Nat} (h : DkAt code pc [44]) : decode code pc = .ok (.aload_n 2, 1) := dk_of ((dk_bind (dk_u1 (h 0 _ rfl))).trans rfl)
theorem dk_46 {code : ByteArray} {pc : Nat} (h : DkAt code pc [46]) : decode code pc = .ok (.iaload, 1) := dk_of ((dk_bind (dk_u1 (h 0 _ rfl))).trans rfl)
theorem dk_50 {code : ByteArray} {pc : Nat} (h : DkAt code pc [50]) : decode code pc = .ok (.aaload, 1) := dk_of ((dk_bind (dk_u1 (h 0 _ rfl))).trans rfl)
theorem dk_51 {code : ByteArray} {pc : Nat} (h : DkAt code pc [51]) : decode code pc = .ok (.baload, 1) := dk_of ((dk_bind (dk_u1 (h 0 _ rfl))).trans rfl)
theorem dk_54 {code : ByteArray} {pc : Nat} (a : UInt8) (h : DkAt code pc [54, a]) : decode code pc = .ok (.istore a.toNat, 2) := dk_of ((dk_bind (dk_u1 (h 0 _ rfl))).trans ((dk_bind (dk_u1 (h 1 _ rfl))).trans rfl))
theorem dk_58 {code : ByteArray} {pc : Nat} (a : UInt8) (h : DkAt code pc [58, a]) : decode code pc = .ok (.astore a.toNat, 2) := dk_of ((dk_bind (dk_u1 (h 0 _ rfl))).trans ((dk_bind (dk_u1 (h 1 _ rfl))).trans rfl))
theorem dk_59 {code : ByteArray} {pc : Nat} (h : DkAt code pc [59]) : decode code pc = .ok (.istore_n 0, 1) := dk_of ((dk_bind (dk_u1 (h 0 _ rfl))).trans rfl)
theorem dk_60 {code : ByteArray} {pc : Nat} (h : DkAt code pc [60]) : decode code pc = .ok (.istore_n 1, 1) := dk_of ((dk_bind (dk_u1 (h 0 _ rfl))).trans rfl)
theorem dk_61 {code : ByteArray} {pc : Nat} (h : DkAt code pc [61]) : decode code pc = .ok (.istore_n 2, 1) := dk_of ((dk_bind (dk_u1 (h 0 _ rfl))).trans rfl)
theorem dk_62 {code : ByteArray} {pc : Nat} (h : DkAt code pc [62]) : decode code pc = .ok (.istore_n 3, 1) := dk_of ((dk_bind (dk_u1 (h 0 _ rfl))).trans rfl)
theorem dk_76 {code : ByteArray} {pc : Nat} (h : DkAt code pc [76]) : decode code pc = .ok (.astore_n 1, 1) := dk_of ((dk_bind (dk_u1 (h 0 _ rfl))).trans rfl)
theorem dk_77 {code : ByteArray} {pc : Nat} (h : DkAt code pc [77]) : decode code pc = .ok (.astore_n 2, 1) := dk_of ((dk_bind (dk_u1 (h 0 _ rfl))).trans rfl)
theorem dk_78 {code : ByteArray} {pc : Nat} (h : DkAt code pc [78]) : decode code pc = .ok (.astore_n 3, 1) := dk_of ((dk_bind (dk_u1 (h 0 _ rfl))).trans rfl)
theorem dk_79 {code : ByteArray} {pc : Nat} (h : DkAt code pc [79]) : decode code pc = .ok (.iastore, 1) := dk_of ((dk_bind (dk_u1 (h 0 _ rfl))).trans rfl)
theorem dk_83 {code : ByteArray} {pc : Nat} (h : DkAt code pc [83]) : decode code pc = .ok (.aastore, 1) := dk_of ((dk_bind (dk_u1 (h 0 _ rfl))).trans rfl)
theorem dk_84 {code : ByteArray} {pc : Nat} (h : DkAt code pc [84]) : decode code pc = .ok (.bastore, 1) := dk_of ((dk_bind (dk_u1 (h 0 _ rfl))).trans rfl)
theorem dk_87 {code : ByteArray} {pc : Nat} (h : DkAt code pc [87]) : decode code pc = .ok (.pop, 1) := dk_of ((dk_bind (dk_u1 (h 0 _ rfl))).trans rfl)
theorem dk_89 {code : ByteArray} {pc : Nat} (h : DkAt code pc [89]) : decode code pc = .ok (.dup, 1) := dk_of ((dk_bind (dk_u1 (h 0 _ rfl))).trans rfl)
theorem dk_92 {code : ByteArray} {pc : Nat} (h : DkAt code pc [92]) : decode code pc = .ok (.dup2, 1) := dk_of ((dk_bind (dk_u1 (h 0 _ rfl))).trans rfl)
theorem dk_96 {code : ByteArray} {pc : Nat} (h : DkAt code pc [96]) : decode code pc = .ok (.iadd, 1) := dk_of ((dk_bind (dk_u1 (h 0 _ rfl))).trans rfl)
theorem dk_97 {code : ByteArray} {pc : Nat} (h : DkAt code pc [97]) : decode code pc = .ok (.ladd, 1) := dk_of ((dk_bind (dk_u1 (h 0 _ rfl))).trans rfl)
theorem dk_100 {code : ByteArray} {pc : Nat} (h : DkAt code pc [100]) : decode code pc = .ok (.isub, 1) := dk_of ((dk_bind (dk_u1 (h 0 _ rfl))).trans rfl)
theorem dk_104 {code : ByteArray} {pc : Nat} (h : DkAt code pc [104]) : decode code pc = .ok (.imul, 1) := dk_of ((dk_bind (dk_u1 (h 0 _ rfl))).trans rfl)
theorem dk_105 {code : ByteArray} {pc : Nat} (h : DkAt code pc [105]) : decode code pc = .ok (.lmul, 1) := dk_of ((dk_bind (dk_u1 (h 0 _ rfl))).trans rfl)
theorem dk_108 {code : ByteArray} {pc : Nat} (h : DkAt code pc [108]) : decode code pc = .ok (.idiv, 1) := dk_of ((dk_bind (dk_u1 (h 0 _ rfl))).trans rfl)
theorem dk_109 {code : ByteArray} {pc : Nat} (h : DkAt code pc [109]) : decode code pc = .ok (.ldiv, 1) := dk_of ((dk_bind (dk_u1 (h 0 _ rfl))).trans rfl)
theorem dk_112 {code : ByteArray} {pc : Nat} (h : DkAt code pc [112]) : decode code pc = .ok (.irem, 1) := dk_of ((dk_bind (dk_u1 (h 0 _ rfl))).trans rfl)
theorem dk_113 {code : ByteArray} {pc : Nat} (h : DkAt code pc [113]) : decode code pc = .ok (.lrem, 1) := dk_of ((dk_bind (dk_u1 (h 0 _ rfl))).trans rfl)
theorem dk_120 {code : ByteArray} {pc : Nat} (h : DkAt code pc [120]) : decode code pc = .ok (.ishl, 1) := dk_of ((dk_bind (dk_u1 (h 0 _ rfl))).trans rfl)
theorem dk_122 {code : ByteArray} {pc : Nat} (h : DkAt code pc [122]) : decode code pc = .ok (.ishr, 1) := dk_of ((dk_bind (dk_u1 (h 0 _ rfl))).trans rfl)
theorem dk_124 {code : ByteArray} {pc : Nat} (h : DkAt code pc [124]) : decode code pc = .ok (.iushr, 1) := dk_of ((dk_bind (dk_u1 (h 0 _ rfl))).trans rfl)
theorem dk_126 {code : ByteArray} {pc : Nat} (h : DkAt code pc [126]) : decode code pc = .ok (.iand, 1) := dk_of ((dk_bind (dk_u1 (h 0 _ rfl))).trans rfl)
theorem dk_127 {code : ByteArray} {pc : Nat} (h : DkAt code pc [127]) : decode code pc = .ok (.land, 1) := dk_of ((dk_bind (dk_u1 (h 0 _ rfl))).trans rfl)
theorem dk_128 {code : ByteArray} {pc : Nat} (h : DkAt code pc [128]) : decode code pc = .ok (.ior, 1) := dk_of ((dk_bind (dk_u1 (h 0 _ rfl))).trans rfl)
theorem dk_130 {code : ByteArray} {pc : Nat} (h : DkAt code pc [130]) : decode code pc = .ok (.ixor, 1) := dk_of ((dk_bind (dk_u1 (h 0 _ rfl))).trans rfl)
theorem dk_132 {code : ByteArray} {pc : Nat} (a b : UInt8) (h : DkAt code pc [132, a, b]) : decode code pc = .ok (.iinc a.toNat (Reader.signed 8 b.toNat), 3) := dk_of ((dk_bind (dk_u1 (h 0 _ rfl))).trans ((dk_bind (dk_u1 (h 1 _ rfl))).trans ((dk_bind (dk_map (dk_u1 (h 2 _ rfl)))).trans rfl)))
theorem dk_133 {code : ByteArray} {pc : Nat} (h : DkAt code pc [133]) : decode code pc = .ok (.i2l, 1) := dk_of ((dk_bind (dk_u1 (h 0 _ rfl))).trans rfl)
theorem dk_136 {code : ByteArray} {pc : Nat} (h : DkAt code pc [136]) : decode code pc = .ok (.l2i, 1) := dk_of ((dk_bind (dk_u1 (h 0 _ rfl))).trans rfl)
theorem dk_145 {code : ByteArray} {pc : Nat} (h : DkAt code pc [145]) : decode code pc = .ok (.i2b, 1) := dk_of ((dk_bind (dk_u1 (h 0 _ rfl))).trans rfl)
theorem dk_148 {code : ByteArray} {pc : Nat} (h : DkAt code pc [148]) : decode code pc = .ok (.lcmp, 1) := dk_of ((dk_bind (dk_u1 (h 0 _ rfl))).trans rfl)
theorem dk_153 {code : ByteArray} {pc : Nat} (a b : UInt8) (h : DkAt code pc [153, a, b]) : decode code pc = .ok (.ifCond .eq (Reader.signed 16 (a.toNat * 256 + b.toNat)), 3) := dk_of ((dk_bind (dk_u1 (h 0 _ rfl))).trans ((dk_bind (dk_map (dk_u2 (h 1 _ rfl) (h 2 _ rfl)))).trans rfl))
theorem dk_154 {code : ByteArray} {pc : Nat} (a b : UInt8) (h : DkAt code pc [154, a, b]) : decode code pc = .ok (.ifCond .ne (Reader.signed 16 (a.toNat * 256 + b.toNat)), 3) := dk_of ((dk_bind (dk_u1 (h 0 _ rfl))).trans ((dk_bind (dk_map (dk_u2 (h 1 _ rfl) (h 2 _ rfl)))).trans rfl))
theorem dk_155 {code : ByteArray} {pc : Nat} (a b : UInt8) (h : DkAt code pc [155, a, b]) : decode code pc = .ok (.ifCond .lt (Reader.signed 16 (a.toNat * 256 + b.toNat)), 3) := dk_of ((dk_bind (dk_u1 (h 0 _ rfl))).trans ((dk_bind (dk_map (dk_u2 (h 1 _ rfl) (h 2 _ rfl)))).trans rfl))
theorem dk_157 {code : ByteArray} {pc : Nat} (a b : UInt8) (h : DkAt code pc [157, a, b]) : decode code pc = .ok (.ifCond .gt (Reader.signed 16 (a.toNat * 256 + b.toNat)), 3) := dk_of ((dk_bind (dk_u1 (h 0 _ rfl))).trans ((dk_bind (dk_map (dk_u2 (h 1 _ rfl) (h 2 _ rfl)))).trans rfl))
theorem dk_158 {code : ByteArray} {pc : Nat} (a b : UInt8) (h : DkAt code pc [158, a, b]) : decode code pc = .ok (.ifCond .le (Reader.signed 16 (a.toNat * 256 + b.toNat)), 3) := dk_of ((dk_bind (dk_u1 (h 0 _ rfl))).trans ((dk_bind (dk_map (dk_u2 (h 1 _ rfl) (h 2 _ rfl)))).trans rfl))
theorem dk_159 {code : ByteArray} {pc : Nat} (a b : UInt8) (h : DkAt code pc [159, a, b]) : decode code pc = .ok (.if_icmp .eq (Reader.signed 16 (a.toNat * 256 + b.toNat)), 3) := dk_of ((dk_bind (dk_u1 (h 0 _ rfl))).trans ((dk_bind (dk_map (dk_u2 (h 1 _ rfl) (h 2 _ rfl)))).trans rfl))
theorem dk_160 {code : ByteArray} {pc : Nat} (a b : UInt8) (h : DkAt code pc [160, a, b]) : decode code pc = .ok (.if_icmp .ne (Reader.signed 16 (a.toNat * 256 + b.toNat)), 3) := dk_of ((dk_bind (dk_u1 (h 0 _ rfl))).trans ((dk_bind (dk_map (dk_u2 (h 1 _ rfl) (h 2 _ rfl)))).trans rfl))
theorem dk_161 {code : ByteArray} {pc : Nat} (a b : UInt8) (h : DkAt code pc [161, a, b]) : decode code pc = .ok (.if_icmp .lt (Reader.signed 16 (a.toNat * 256 + b.toNat)), 3) := dk_of ((dk_bind (dk_u1 (h 0 _ rfl))).trans ((dk_bind (dk_map (dk_u2 (h 1 _ rfl) (h 2 _ rfl)))).trans rfl))
theorem dk_162 {code : ByteArray} {pc : Nat} (a b : UInt8) (h : DkAt code pc [162, a, b]) : decode code pc = .ok (.if_icmp .ge (Reader.signed 16 (a.toNat * 256 + b.toNat)), 3) := dk_of ((dk_bind (dk_u1 (h 0 _ rfl))).trans ((dk_bind (dk_map (dk_u2 (h 1 _ rfl) (h 2 _ rfl)))).trans rfl))
theorem dk_163 {code : ByteArray} {pc : Nat} (a b : UInt8) (h : DkAt code pc [163, a, b]) : decode code pc = .ok (.if_icmp .gt (Reader.signed 16 (a.toNat * 256 + b.toNat)), 3) := dk_of ((dk_bind (dk_u1 (h 0 _ rfl))).trans ((dk_bind (dk_map (dk_u2 (h 1 _ rfl) (h 2 _ rfl)))).trans rfl))
theorem dk_164 {code : ByteArray} {pc : Nat} (a b : UInt8) (h : DkAt code pc [164, a, b]) : decode code pc = .ok (.if_icmp .le (Reader.signed 16 (a.toNat * 256 + b.toNat)), 3) := dk_of ((dk_bind (dk_u1 (h 0 _ rfl))).trans ((dk_bind (dk_map (dk_u2 (h 1 _ rfl) (h 2 _ rfl)))).trans rfl))
theorem dk_167 {code : ByteArray} {pc : Nat} (a b : UInt8) (h : DkAt code pc [167, a, b]) : decode code pc = .ok (.goto (Reader.signed 16 (a.toNat * 256 + b.toNat)), 3) := dk_of ((dk_bind (dk_u1 (h 0 _ rfl))).trans ((dk_bind (dk_map (dk_u2 (h 1 _ rfl) (h 2 _ rfl)))).trans rfl))
theorem dk_172 {code : ByteArray} {pc : Nat} (h : DkAt code pc [172]) : decode code pc = .ok (.ireturn, 1) := dk_of ((dk_bind (dk_u1 (h 0 _ rfl))).trans rfl)
theorem dk_173 {code : ByteArray} {pc : Nat} (h : DkAt code pc [173]) : decode code pc = .ok (.lreturn, 1) := dk_of ((dk_bind (dk_u1 (h 0 _ rfl))).trans rfl)
theorem dk_176 {code : ByteArray} {pc : Nat} (h : DkAt code pc [176]) : decode code pc = .ok (.areturn, 1) := dk_of ((dk_bind (dk_u1 (h 0 _ rfl))).trans rfl)
theorem dk_177 {code : ByteArray} {pc : Nat} (h : DkAt code pc [177]) : decode code pc = .ok (.return_, 1) := dk_of ((dk_bind (dk_u1 (h 0 _ rfl))).trans rfl)
theorem dk_178 {code : ByteArray} {pc : Nat} (a b : UInt8) (h : DkAt code pc [178, a, b]) : decode code pc = .ok (.getstatic (a.toNat * 256 + b.toNat), 3) := dk_of ((dk_bind (dk_u1 (h 0 _ rfl))).trans ((dk_bind (dk_u2 (h 1 _ rfl) (h 2 _ rfl))).trans rfl))
theorem dk_180 {code : ByteArray} {pc : Nat} (a b : UInt8) (h : DkAt code pc [180, a, b]) : decode code pc = .ok (.getfield (a.toNat * 256 + b.toNat), 3) := dk_of ((dk_bind (dk_u1 (h 0 _ rfl))).trans ((dk_bind (dk_u2 (h 1 _ rfl) (h 2 _ rfl))).trans rfl))
theorem dk_181 {code : ByteArray} {pc : Nat} (a b : UInt8) (h : DkAt code pc [181, a, b]) : decode code pc = .ok (.putfield (a.toNat * 256 + b.toNat), 3) := dk_of ((dk_bind (dk_u1 (h 0 _ rfl))).trans ((dk_bind (dk_u2 (h 1 _ rfl) (h 2 _ rfl))).trans rfl))
theorem dk_182 {code : ByteArray} {pc : Nat} (a b : UInt8) (h : DkAt code pc [182, a, b]) : decode code pc = .ok (.invokevirtual (a.toNat * 256 + b.toNat), 3) := dk_of ((dk_bind (dk_u1 (h 0 _ rfl))).trans ((dk_bind (dk_u2 (h 1 _ rfl) (h 2 _ rfl))).trans rfl))
theorem dk_183 {code : ByteArray} {pc : Nat} (a b : UInt8) (h : DkAt code pc [183, a, b]) : decode code pc = .ok (.invokespecial (a.toNat * 256 + b.toNat), 3) := dk_of ((dk_bind (dk_u1 (h 0 _ rfl))).trans ((dk_bind (dk_u2 (h 1 _ rfl) (h 2 _ rfl))).trans rfl))
theorem dk_184 {code : ByteArray} {pc : Nat} (a b : UInt8) (h : DkAt code pc [184, a, b]) : decode code pc = .ok (.invokestatic (a.toNat * 256 + b.toNat), 3) := dk_of ((dk_bind (dk_u1 (h 0 _ rfl))).trans ((dk_bind (dk_u2 (h 1 _ rfl) (h 2 _ rfl))).trans rfl))
theorem dk_187 {code : ByteArray} {pc : Nat} (a b : UInt8) (h : DkAt code pc [187, a, b]) : decode code pc = .ok (.new (a.toNat * 256 + b.toNat), 3) := dk_of ((dk_bind (dk_u1 (h 0 _ rfl))).trans ((dk_bind (dk_u2 (h 1 _ rfl) (h 2 _ rfl))).trans rfl))
theorem dk_188_4 {code : ByteArray} {pc : Nat} (h : DkAt code pc [188, 4]) : decode code pc = .ok (.newarray .boolean, 2) := dk_of ((dk_bind (dk_u1 (h 0 _ rfl))).trans ((dk_bind (dk_u1 (h 1 _ rfl))).trans rfl))
theorem dk_188_8 {code : ByteArray} {pc : Nat} (h : DkAt code pc [188, 8]) : decode code pc = .ok (.newarray .byte, 2) := dk_of ((dk_bind (dk_u1 (h 0 _ rfl))).trans ((dk_bind (dk_u1 (h 1 _ rfl))).trans rfl))
theorem dk_188_10 {code : ByteArray} {pc : Nat} (h : DkAt code pc [188, 10]) : decode code pc = .ok (.newarray .int, 2) := dk_of ((dk_bind (dk_u1 (h 0 _ rfl))).trans ((dk_bind (dk_u1 (h 1 _ rfl))).trans rfl))
theorem dk_189 {code : ByteArray} {pc : Nat} (a b : UInt8) (h : DkAt code pc [189, a, b]) : decode code pc = .ok (.anewarray (a.toNat * 256 + b.toNat), 3) := dk_of ((dk_bind (dk_u1 (h 0 _ rfl))).trans ((dk_bind (dk_u2 (h 1 _ rfl) (h 2 _ rfl))).trans rfl))
theorem dk_190 {code : ByteArray} {pc : Nat} (h : DkAt code pc [190]) : decode code pc = .ok (.arraylength, 1) := dk_of ((dk_bind (dk_u1 (h 0 _ rfl))).trans rfl)
theorem dk_192 {code : ByteArray} {pc : Nat} (a b : UInt8) (h : DkAt code pc [192, a, b]) : decode code pc = .ok (.checkcast (a.toNat * 256 + b.toNat), 3) := dk_of ((dk_bind (dk_u1 (h 0 _ rfl))).trans ((dk_bind (dk_u2 (h 1 _ rfl) (h 2 _ rfl))).trans rfl))

/-! java/lang/Math -/
set_option maxRecDepth 100000
def RJ0 : String := "java/lang/Math"
abbrev cJ0_max : ByteArray := prog_13_method_65_code
def yJ0_max : MethodName := ⟨RJ0, "max", "(II)I"⟩
def dkwJ0_max_0 : List UInt8 := [26, 27, 161, 0, 7, 26, 167, 0, 4, 27, 172]
abbrev dktJ0_max_0 : List UInt8 := dkwJ0_max_0 ++ []
theorem dksJ0_max_0 : cJ0_max.data.toList.drop 0 = dktJ0_max_0 := by decide +kernel
theorem dJ0_max_0 : decode cJ0_max 0 = .ok (.iload_n 0, 1) := dk_26 (dk_at dksJ0_max_0 0 rfl rfl)
theorem dJ0_max_1 : decode cJ0_max 1 = .ok (.iload_n 1, 1) := dk_27 (dk_at dksJ0_max_0 1 rfl rfl)
theorem dJ0_max_2 : decode cJ0_max 2 = .ok (.if_icmp .lt 7, 3) := dk_161 0 7 (dk_at dksJ0_max_0 2 rfl rfl)
theorem dJ0_max_5 : decode cJ0_max 5 = .ok (.iload_n 0, 1) := dk_26 (dk_at dksJ0_max_0 5 rfl rfl)
theorem dJ0_max_6 : decode cJ0_max 6 = .ok (.goto 4, 3) := dk_167 0 4 (dk_at dksJ0_max_0 6 rfl rfl)
theorem dJ0_max_9 : decode cJ0_max 9 = .ok (.iload_n 1, 1) := dk_27 (dk_at dksJ0_max_0 9 rfl rfl)
theorem dJ0_max_10 : decode cJ0_max 10 = .ok (.ireturn, 1) := dk_172 (dk_at dksJ0_max_0 10 rfl rfl)
abbrev cJ0_min : ByteArray := prog_13_method_69_code
def yJ0_min : MethodName := ⟨RJ0, "min", "(II)I"⟩
def dkwJ0_min_0 : List UInt8 := [26, 27, 163, 0, 7, 26, 167, 0, 4, 27, 172]
abbrev dktJ0_min_0 : List UInt8 := dkwJ0_min_0 ++ []
theorem dksJ0_min_0 : cJ0_min.data.toList.drop 0 = dktJ0_min_0 := by decide +kernel
theorem dJ0_min_0 : decode cJ0_min 0 = .ok (.iload_n 0, 1) := dk_26 (dk_at dksJ0_min_0 0 rfl rfl)
theorem dJ0_min_1 : decode cJ0_min 1 = .ok (.iload_n 1, 1) := dk_27 (dk_at dksJ0_min_0 1 rfl rfl)
theorem dJ0_min_2 : decode cJ0_min 2 = .ok (.if_icmp .gt 7, 3) := dk_163 0 7 (dk_at dksJ0_min_0 2 rfl rfl)
theorem dJ0_min_5 : decode cJ0_min 5 = .ok (.iload_n 0, 1) := dk_26 (dk_at dksJ0_min_0 5 rfl rfl)
theorem dJ0_min_6 : decode cJ0_min 6 = .ok (.goto 4, 3) := dk_167 0 4 (dk_at dksJ0_min_0 6 rfl rfl)
theorem dJ0_min_9 : decode cJ0_min 9 = .ok (.iload_n 1, 1) := dk_27 (dk_at dksJ0_min_0 9 rfl rfl)
theorem dJ0_min_10 : decode cJ0_min 10 = .ok (.ireturn, 1) := dk_172 (dk_at dksJ0_min_0 10 rfl rfl)
theorem q79 : (Jvm.Cond.initialized "java/lang/Math") ∈ lw_all := lw_g (lw_at lw_m1 8 rfl) rfl
theorem q374 : (Jvm.Cond.static ({ cls := "java/lang/Math", name := "max", desc := "(II)I" } : Jvm.MethodName)) ∈ lw_all := lw_g (lw_at lw_m2 63 rfl) rfl
theorem q375 : (Jvm.Cond.code ({ cls := "java/lang/Math", name := "max", desc := "(II)I" } : Jvm.MethodName) prog_13_method_65_code (2 : Nat) (Option.some Jvm.ClassFile.FieldType.int)) ∈ lw_all := lw_g (lw_at lw_m2 64 rfl) rfl
theorem q382 : (Jvm.Cond.static ({ cls := "java/lang/Math", name := "min", desc := "(II)I" } : Jvm.MethodName)) ∈ lw_all := lw_g (lw_at lw_m2 71 rfl) rfl
theorem q383 : (Jvm.Cond.code ({ cls := "java/lang/Math", name := "min", desc := "(II)I" } : Jvm.MethodName) prog_13_method_69_code (2 : Nat) (Option.some Jvm.ClassFile.FieldType.int)) ∈ lw_all := lw_g (lw_at lw_m2 72 rfl) rfl

/-! java/lang/Integer -/
set_option maxRecDepth 100000
def RJ1 : String := "java/lang/Integer"
abbrev cJ1_bitCount : ByteArray := prog_12_method_49_code
def yJ1_bitCount : MethodName := ⟨RJ1, "bitCount", "(I)I"⟩
def dkwJ1_bitCount_2 : List UInt8 := [26, 16, 63, 126, 172]
abbrev dktJ1_bitCount_2 : List UInt8 := dkwJ1_bitCount_2 ++ []
def dkwJ1_bitCount_1 : List UInt8 := [26, 26, 7, 124, 96, 19, 1, 11, 126, 59, 26, 26, 16, 8, 124, 96, 59, 26, 26, 16, 16, 124, 96, 59]
abbrev dktJ1_bitCount_1 : List UInt8 := dkwJ1_bitCount_1 ++ dktJ1_bitCount_2
def dkwJ1_bitCount_0 : List UInt8 := [26, 26, 4, 124, 19, 1, 9, 126, 100, 59, 26, 19, 1, 10, 126, 26, 5, 124, 19, 1, 10, 126, 96, 59]
abbrev dktJ1_bitCount_0 : List UInt8 := dkwJ1_bitCount_0 ++ dktJ1_bitCount_1
theorem dksJ1_bitCount_0 : cJ1_bitCount.data.toList.drop 0 = dktJ1_bitCount_0 := by decide +kernel
theorem dksJ1_bitCount_1 : cJ1_bitCount.data.toList.drop 24 = dktJ1_bitCount_1 := dk_seg dksJ1_bitCount_0 24 rfl rfl
theorem dksJ1_bitCount_2 : cJ1_bitCount.data.toList.drop 48 = dktJ1_bitCount_2 := dk_seg dksJ1_bitCount_1 24 rfl rfl
theorem dJ1_bitCount_0 : decode cJ1_bitCount 0 = .ok (.iload_n 0, 1) := dk_26 (dk_at dksJ1_bitCount_0 0 rfl rfl)
theorem dJ1_bitCount_1 : decode cJ1_bitCount 1 = .ok (.iload_n 0, 1) := dk_26 (dk_at dksJ1_bitCount_0 1 rfl rfl)
theorem dJ1_bitCount_2 : decode cJ1_bitCount 2 = .ok (.iconst 1, 1) := dk_4 (dk_at dksJ1_bitCount_0 2 rfl rfl)
theorem dJ1_bitCount_3 : decode cJ1_bitCount 3 = .ok (.iushr, 1) := dk_124 (dk_at dksJ1_bitCount_0 3 rfl rfl)
theorem dJ1_bitCount_4 : decode cJ1_bitCount 4 = .ok (.ldc_w 265, 3) := dk_19 1 9 (dk_at dksJ1_bitCount_0 4 rfl rfl)
theorem dJ1_bitCount_7 : decode cJ1_bitCount 7 = .ok (.iand, 1) := dk_126 (dk_at dksJ1_bitCount_0 7 rfl rfl)
theorem dJ1_bitCount_8 : decode cJ1_bitCount 8 = .ok (.isub, 1) := dk_100 (dk_at dksJ1_bitCount_0 8 rfl rfl)
theorem dJ1_bitCount_9 : decode cJ1_bitCount 9 = .ok (.istore_n 0, 1) := dk_59 (dk_at dksJ1_bitCount_0 9 rfl rfl)
theorem dJ1_bitCount_10 : decode cJ1_bitCount 10 = .ok (.iload_n 0, 1) := dk_26 (dk_at dksJ1_bitCount_0 10 rfl rfl)
theorem dJ1_bitCount_11 : decode cJ1_bitCount 11 = .ok (.ldc_w 266, 3) := dk_19 1 10 (dk_at dksJ1_bitCount_0 11 rfl rfl)
theorem dJ1_bitCount_14 : decode cJ1_bitCount 14 = .ok (.iand, 1) := dk_126 (dk_at dksJ1_bitCount_0 14 rfl rfl)
theorem dJ1_bitCount_15 : decode cJ1_bitCount 15 = .ok (.iload_n 0, 1) := dk_26 (dk_at dksJ1_bitCount_0 15 rfl rfl)
theorem dJ1_bitCount_16 : decode cJ1_bitCount 16 = .ok (.iconst 2, 1) := dk_5 (dk_at dksJ1_bitCount_0 16 rfl rfl)
theorem dJ1_bitCount_17 : decode cJ1_bitCount 17 = .ok (.iushr, 1) := dk_124 (dk_at dksJ1_bitCount_0 17 rfl rfl)
theorem dJ1_bitCount_18 : decode cJ1_bitCount 18 = .ok (.ldc_w 266, 3) := dk_19 1 10 (dk_at dksJ1_bitCount_0 18 rfl rfl)
theorem dJ1_bitCount_21 : decode cJ1_bitCount 21 = .ok (.iand, 1) := dk_126 (dk_at dksJ1_bitCount_0 21 rfl rfl)
theorem dJ1_bitCount_22 : decode cJ1_bitCount 22 = .ok (.iadd, 1) := dk_96 (dk_at dksJ1_bitCount_0 22 rfl rfl)
theorem dJ1_bitCount_23 : decode cJ1_bitCount 23 = .ok (.istore_n 0, 1) := dk_59 (dk_at dksJ1_bitCount_0 23 rfl rfl)
theorem dJ1_bitCount_24 : decode cJ1_bitCount 24 = .ok (.iload_n 0, 1) := dk_26 (dk_at dksJ1_bitCount_1 0 rfl rfl)
theorem dJ1_bitCount_25 : decode cJ1_bitCount 25 = .ok (.iload_n 0, 1) := dk_26 (dk_at dksJ1_bitCount_1 1 rfl rfl)
theorem dJ1_bitCount_26 : decode cJ1_bitCount 26 = .ok (.iconst 4, 1) := dk_7 (dk_at dksJ1_bitCount_1 2 rfl rfl)
theorem dJ1_bitCount_27 : decode cJ1_bitCount 27 = .ok (.iushr, 1) := dk_124 (dk_at dksJ1_bitCount_1 3 rfl rfl)
theorem dJ1_bitCount_28 : decode cJ1_bitCount 28 = .ok (.iadd, 1) := dk_96 (dk_at dksJ1_bitCount_1 4 rfl rfl)
theorem dJ1_bitCount_29 : decode cJ1_bitCount 29 = .ok (.ldc_w 267, 3) := dk_19 1 11 (dk_at dksJ1_bitCount_1 5 rfl rfl)
theorem dJ1_bitCount_32 : decode cJ1_bitCount 32 = .ok (.iand, 1) := dk_126 (dk_at dksJ1_bitCount_1 8 rfl rfl)
theorem dJ1_bitCount_33 : decode cJ1_bitCount 33 = .ok (.istore_n 0, 1) := dk_59 (dk_at dksJ1_bitCount_1 9 rfl rfl)
theorem dJ1_bitCount_34 : decode cJ1_bitCount 34 = .ok (.iload_n 0, 1) := dk_26 (dk_at dksJ1_bitCount_1 10 rfl rfl)
theorem dJ1_bitCount_35 : decode cJ1_bitCount 35 = .ok (.iload_n 0, 1) := dk_26 (dk_at dksJ1_bitCount_1 11 rfl rfl)
theorem dJ1_bitCount_36 : decode cJ1_bitCount 36 = .ok (.bipush 8, 2) := dk_16 8 (dk_at dksJ1_bitCount_1 12 rfl rfl)
theorem dJ1_bitCount_38 : decode cJ1_bitCount 38 = .ok (.iushr, 1) := dk_124 (dk_at dksJ1_bitCount_1 14 rfl rfl)
theorem dJ1_bitCount_39 : decode cJ1_bitCount 39 = .ok (.iadd, 1) := dk_96 (dk_at dksJ1_bitCount_1 15 rfl rfl)
theorem dJ1_bitCount_40 : decode cJ1_bitCount 40 = .ok (.istore_n 0, 1) := dk_59 (dk_at dksJ1_bitCount_1 16 rfl rfl)
theorem dJ1_bitCount_41 : decode cJ1_bitCount 41 = .ok (.iload_n 0, 1) := dk_26 (dk_at dksJ1_bitCount_1 17 rfl rfl)
theorem dJ1_bitCount_42 : decode cJ1_bitCount 42 = .ok (.iload_n 0, 1) := dk_26 (dk_at dksJ1_bitCount_1 18 rfl rfl)
theorem dJ1_bitCount_43 : decode cJ1_bitCount 43 = .ok (.bipush 16, 2) := dk_16 16 (dk_at dksJ1_bitCount_1 19 rfl rfl)
theorem dJ1_bitCount_45 : decode cJ1_bitCount 45 = .ok (.iushr, 1) := dk_124 (dk_at dksJ1_bitCount_1 21 rfl rfl)
theorem dJ1_bitCount_46 : decode cJ1_bitCount 46 = .ok (.iadd, 1) := dk_96 (dk_at dksJ1_bitCount_1 22 rfl rfl)
theorem dJ1_bitCount_47 : decode cJ1_bitCount 47 = .ok (.istore_n 0, 1) := dk_59 (dk_at dksJ1_bitCount_1 23 rfl rfl)
theorem dJ1_bitCount_48 : decode cJ1_bitCount 48 = .ok (.iload_n 0, 1) := dk_26 (dk_at dksJ1_bitCount_2 0 rfl rfl)
theorem dJ1_bitCount_49 : decode cJ1_bitCount 49 = .ok (.bipush 63, 2) := dk_16 63 (dk_at dksJ1_bitCount_2 1 rfl rfl)
theorem dJ1_bitCount_51 : decode cJ1_bitCount 51 = .ok (.iand, 1) := dk_126 (dk_at dksJ1_bitCount_2 3 rfl rfl)
theorem dJ1_bitCount_52 : decode cJ1_bitCount 52 = .ok (.ireturn, 1) := dk_172 (dk_at dksJ1_bitCount_2 4 rfl rfl)
theorem q80 : (Jvm.Cond.initialized "java/lang/Integer") ∈ lw_all := lw_g (lw_at lw_m1 9 rfl) rfl
theorem q538 : (Jvm.Cond.static ({ cls := "java/lang/Integer", name := "bitCount", desc := "(I)I" } : Jvm.MethodName)) ∈ lw_all := lw_g (lw_at lw_m2 227 rfl) rfl
theorem q539 : (Jvm.Cond.code ({ cls := "java/lang/Integer", name := "bitCount", desc := "(I)I" } : Jvm.MethodName) prog_12_method_49_code (1 : Nat) (Option.some Jvm.ClassFile.FieldType.int)) ∈ lw_all := lw_g (lw_at lw_m2 228 rfl) rfl
theorem q540 : (Jvm.Cond.constant "java/lang/Integer" (265 : Nat) (1431655765 : Int32)) ∈ lw_all := lw_g (lw_at lw_m2 229 rfl) rfl
theorem q541 : (Jvm.Cond.constant "java/lang/Integer" (266 : Nat) (858993459 : Int32)) ∈ lw_all := lw_g (lw_at lw_m2 230 rfl) rfl
theorem q542 : (Jvm.Cond.constant "java/lang/Integer" (267 : Nat) (252645135 : Int32)) ∈ lw_all := lw_g (lw_at lw_m2 231 rfl) rfl

/-! SumColours$Member -/
set_option maxRecDepth 100000
def RX1 : String := "SumColours$Member"
def TX1 : u_T := fun k => match k with
  | 0 => ("SumColours$Member", "name", "I", false)
  | 1 => ("SumColours$Member", "colour", "I", false)
  | _ => ("SumColours$Member", "keptColour", "I", false)
def tyX1 : Nat → FieldType := fun k => match k with
  | 0 => .int
  | 1 => .int
  | _ => .int
abbrev wsX10 : List Cond := u_ws RX1 TX1 3
theorem nmX1 : ∀ a, a < 3 → ∀ b, b < 3 → a ≠ b → (TX1 a).2.1 ≠ (TX1 b).2.1 := by decide +kernel
theorem tyX1_ok : ∀ k, k < 3 → parseFieldDescriptor (TX1 k).2.2.1 = some (tyX1 k) := by decide +kernel
abbrev cX1_init : ByteArray := prog_6_method_1_code
def yX1_init : MethodName := ⟨RX1, "<init>", "()V"⟩
theorem dX1_init_0 : decode cX1_init 0 = .ok (.aload_n 0, 1) := by decide +kernel
theorem dX1_init_1 : decode cX1_init 1 = .ok (.invokespecial 1, 3) := by decide +kernel
theorem dX1_init_4 : decode cX1_init 4 = .ok (.return_, 1) := by decide +kernel
abbrev cX1_isPart : ByteArray := prog_6_method_3_code
def yX1_isPart : MethodName := ⟨RX1, "isPart", "()Z"⟩
theorem dX1_isPart_0 : decode cX1_isPart 0 = .ok (.iconst 1, 1) := by decide +kernel
theorem dX1_isPart_1 : decode cX1_isPart 1 = .ok (.ireturn, 1) := by decide +kernel
abbrev cX1_isMinding : ByteArray := prog_6_method_4_code
def yX1_isMinding : MethodName := ⟨RX1, "isMinding", "(Z)Z"⟩
theorem dX1_isMinding_0 : decode cX1_isMinding 0 = .ok (.iconst 1, 1) := by decide +kernel
theorem dX1_isMinding_1 : decode cX1_isMinding 1 = .ok (.ireturn, 1) := by decide +kernel
abbrev cX1_kind : ByteArray := prog_6_method_2_code
def yX1_kind : MethodName := ⟨RX1, "kind", "()I"⟩
theorem dX1_kind_0 : decode cX1_kind 0 = .ok (.iconst 0, 1) := by decide +kernel
theorem dX1_kind_1 : decode cX1_kind 1 = .ok (.ireturn, 1) := by decide +kernel
abbrev cX1_be : ByteArray := prog_6_method_5_code
def yX1_be : MethodName := ⟨RX1, "be", "(LSumColours$Member;)V"⟩
def dkwX1_be_0 : List UInt8 := [42, 43, 180, 0, 7, 181, 0, 7, 42, 43, 180, 0, 13, 181, 0, 13, 177]
abbrev dktX1_be_0 : List UInt8 := dkwX1_be_0 ++ []
theorem dksX1_be_0 : cX1_be.data.toList.drop 0 = dktX1_be_0 := by decide +kernel
theorem dX1_be_0 : decode cX1_be 0 = .ok (.aload_n 0, 1) := dk_42 (dk_at dksX1_be_0 0 rfl rfl)
theorem dX1_be_1 : decode cX1_be 1 = .ok (.aload_n 1, 1) := dk_43 (dk_at dksX1_be_0 1 rfl rfl)
theorem dX1_be_2 : decode cX1_be 2 = .ok (.getfield 7, 3) := dk_180 0 7 (dk_at dksX1_be_0 2 rfl rfl)
theorem dX1_be_5 : decode cX1_be 5 = .ok (.putfield 7, 3) := dk_181 0 7 (dk_at dksX1_be_0 5 rfl rfl)
theorem dX1_be_8 : decode cX1_be 8 = .ok (.aload_n 0, 1) := dk_42 (dk_at dksX1_be_0 8 rfl rfl)
theorem dX1_be_9 : decode cX1_be 9 = .ok (.aload_n 1, 1) := dk_43 (dk_at dksX1_be_0 9 rfl rfl)
theorem dX1_be_10 : decode cX1_be 10 = .ok (.getfield 13, 3) := dk_180 0 13 (dk_at dksX1_be_0 10 rfl rfl)
theorem dX1_be_13 : decode cX1_be 13 = .ok (.putfield 13, 3) := dk_181 0 13 (dk_at dksX1_be_0 13 rfl rfl)
theorem dX1_be_16 : decode cX1_be 16 = .ok (.return_, 1) := dk_177 (dk_at dksX1_be_0 16 rfl rfl)
theorem q73 : (Jvm.Cond.initialized "SumColours$Member") ∈ lw_all := lw_g (lw_at lw_m1 2 rfl) rfl
theorem q97 : (Jvm.Cond.instantiable "SumColours$Member" (3 : Nat)) ∈ lw_all := lw_g (lw_at lw_m1 26 rfl) rfl
theorem q99 : (Jvm.Cond.instanceMethod ({ cls := "SumColours$Member", name := "<init>", desc := "()V" } : Jvm.MethodName)) ∈ lw_all := lw_g (lw_at lw_m1 28 rfl) rfl
theorem q100 : (Jvm.Cond.code ({ cls := "SumColours$Member", name := "<init>", desc := "()V" } : Jvm.MethodName) prog_6_method_1_code (1 : Nat) (Option.none : Option Jvm.ClassFile.FieldType)) ∈ lw_all := lw_g (lw_at lw_m1 29 rfl) rfl
theorem q101 : (Jvm.Cond.methodLink "SumColours$Member" (1 : Nat) ({ cls := "java/lang/Object", name := "<init>", desc := "()V" } : Jvm.MethodName)) ∈ lw_all := lw_g (lw_at lw_m1 30 rfl) rfl
theorem q102 : (Jvm.Cond.fieldLink "SumColours$Member" (7 : Nat) "SumColours$Member" "name" "I") ∈ lw_all := lw_g (lw_at lw_m1 31 rfl) rfl
theorem q112 : (Jvm.Cond.fieldLink "SumColours$Member" (13 : Nat) "SumColours$Member" "colour" "I") ∈ lw_all := lw_g (lw_at lw_m1 41 rfl) rfl
theorem q115 : (Jvm.Cond.lays "SumColours$Member" "SumColours$Member" "name" "I") ∈ lw_all := lw_g (lw_at lw_m1 44 rfl) rfl
theorem q116 : (Jvm.Cond.soleField "SumColours$Member" "name") ∈ lw_all := lw_g (lw_at lw_m1 45 rfl) rfl
theorem q117 : (Jvm.Cond.lays "SumColours$Member" "SumColours$Member" "colour" "I") ∈ lw_all := lw_g (lw_at lw_m1 46 rfl) rfl
theorem q118 : (Jvm.Cond.soleField "SumColours$Member" "colour") ∈ lw_all := lw_g (lw_at lw_m1 47 rfl) rfl
theorem q119 : (Jvm.Cond.lays "SumColours$Member" "SumColours$Member" "keptColour" "I") ∈ lw_all := lw_g (lw_at lw_m1 48 rfl) rfl
theorem q120 : (Jvm.Cond.soleField "SumColours$Member" "keptColour") ∈ lw_all := lw_g (lw_at lw_m1 49 rfl) rfl
theorem q121 : (Jvm.Cond.superclass "SumColours$Member" "java/lang/Object") ∈ lw_all := lw_g (lw_at lw_m1 50 rfl) rfl
theorem q338 : (Jvm.Cond.instanceMethod ({ cls := "SumColours$Member", name := "isPart", desc := "()Z" } : Jvm.MethodName)) ∈ lw_all := lw_g (lw_at lw_m2 27 rfl) rfl
theorem q339 : (Jvm.Cond.selects "SumColours$Member" ({ cls := "SumColours$Member", name := "isPart", desc := "()Z" } : Jvm.MethodName) ({ cls := "SumColours$Member", name := "isPart", desc := "()Z" } : Jvm.MethodName)) ∈ lw_all := lw_g (lw_at lw_m2 28 rfl) rfl
theorem q340 : (Jvm.Cond.sameMethod "SumColours$Member" "SumColours$Member" "isPart" "()Z") ∈ lw_all := lw_g (lw_at lw_m2 29 rfl) rfl
theorem q346 : (Jvm.Cond.code ({ cls := "SumColours$Member", name := "isPart", desc := "()Z" } : Jvm.MethodName) prog_6_method_3_code (1 : Nat) (Option.some Jvm.ClassFile.FieldType.boolean)) ∈ lw_all := lw_g (lw_at lw_m2 35 rfl) rfl
theorem q350 : (Jvm.Cond.instanceMethod ({ cls := "SumColours$Member", name := "isMinding", desc := "(Z)Z" } : Jvm.MethodName)) ∈ lw_all := lw_g (lw_at lw_m2 39 rfl) rfl
theorem q351 : (Jvm.Cond.selects "SumColours$Member" ({ cls := "SumColours$Member", name := "isMinding", desc := "(Z)Z" } : Jvm.MethodName) ({ cls := "SumColours$Member", name := "isMinding", desc := "(Z)Z" } : Jvm.MethodName)) ∈ lw_all := lw_g (lw_at lw_m2 40 rfl) rfl
theorem q352 : (Jvm.Cond.sameMethod "SumColours$Member" "SumColours$Member" "isMinding" "(Z)Z") ∈ lw_all := lw_g (lw_at lw_m2 41 rfl) rfl
theorem q357 : (Jvm.Cond.code ({ cls := "SumColours$Member", name := "isMinding", desc := "(Z)Z" } : Jvm.MethodName) prog_6_method_4_code (2 : Nat) (Option.some Jvm.ClassFile.FieldType.boolean)) ∈ lw_all := lw_g (lw_at lw_m2 46 rfl) rfl
theorem q367 : (Jvm.Cond.declares ({ cls := "SumColours$Member", name := "isMinding", desc := "(Z)Z" } : Jvm.MethodName)) ∈ lw_tbl := lw_at lw_m2 56 rfl
theorem q456 : (Jvm.Cond.instanceMethod ({ cls := "SumColours$Member", name := "kind", desc := "()I" } : Jvm.MethodName)) ∈ lw_all := lw_g (lw_at lw_m2 145 rfl) rfl
theorem q457 : (Jvm.Cond.selects "SumColours$Member" ({ cls := "SumColours$Member", name := "kind", desc := "()I" } : Jvm.MethodName) ({ cls := "SumColours$Member", name := "kind", desc := "()I" } : Jvm.MethodName)) ∈ lw_all := lw_g (lw_at lw_m2 146 rfl) rfl
theorem q458 : (Jvm.Cond.sameMethod "SumColours$Member" "SumColours$Member" "kind" "()I") ∈ lw_all := lw_g (lw_at lw_m2 147 rfl) rfl
theorem q472 : (Jvm.Cond.code ({ cls := "SumColours$Member", name := "kind", desc := "()I" } : Jvm.MethodName) prog_6_method_2_code (1 : Nat) (Option.some Jvm.ClassFile.FieldType.int)) ∈ lw_all := lw_g (lw_at lw_m2 161 rfl) rfl
theorem q489 : (Jvm.Cond.unhidden "SumColours$Member" "isSo" "(I)Z") ∈ lw_tbl := lw_at lw_m2 178 rfl
theorem q501 : (Jvm.Cond.publicMethod ({ cls := "SumColours$Member", name := "isPart", desc := "()Z" } : Jvm.MethodName)) ∈ lw_tbl := lw_at lw_m2 190 rfl
theorem q509 : (Jvm.Cond.castable "SumColours$Member" "SumColours$Counts") ∈ lw_tbl := lw_at lw_m2 198 rfl
theorem q510 : (Jvm.Cond.selects "SumColours$Member" ({ cls := "SumColours$Counts", name := "isPart", desc := "()Z" } : Jvm.MethodName) ({ cls := "SumColours$Member", name := "isPart", desc := "()Z" } : Jvm.MethodName)) ∈ lw_all := lw_g (lw_at lw_m2 199 rfl) rfl
theorem q511 : (Jvm.Cond.unhidden "SumColours$Member" "isPart" "()Z") ∈ lw_tbl := lw_at lw_m2 200 rfl
theorem q528 : (Jvm.Cond.selects "SumColours$Member" ({ cls := "SumColours$Counts", name := "isMinding", desc := "(Z)Z" } : Jvm.MethodName) ({ cls := "SumColours$Member", name := "isMinding", desc := "(Z)Z" } : Jvm.MethodName)) ∈ lw_all := lw_g (lw_at lw_m2 217 rfl) rfl
theorem q529 : (Jvm.Cond.unhidden "SumColours$Member" "isMinding" "(Z)Z") ∈ lw_tbl := lw_at lw_m2 218 rfl
theorem q530 : (Jvm.Cond.publicMethod ({ cls := "SumColours$Member", name := "isMinding", desc := "(Z)Z" } : Jvm.MethodName)) ∈ lw_tbl := lw_at lw_m2 219 rfl
theorem q637 : (Jvm.Cond.instanceMethod ({ cls := "SumColours$Member", name := "be", desc := "(LSumColours$Member;)V" } : Jvm.MethodName)) ∈ lw_all := lw_g (lw_at lw_m3 86 rfl) rfl
theorem q638 : (Jvm.Cond.selects "SumColours$Member" ({ cls := "SumColours$Member", name := "be", desc := "(LSumColours$Member;)V" } : Jvm.MethodName) ({ cls := "SumColours$Member", name := "be", desc := "(LSumColours$Member;)V" } : Jvm.MethodName)) ∈ lw_all := lw_g (lw_at lw_m3 87 rfl) rfl
theorem q639 : (Jvm.Cond.sameMethod "SumColours$Member" "SumColours$Member" "be" "(LSumColours$Member;)V") ∈ lw_all := lw_g (lw_at lw_m3 88 rfl) rfl
theorem q644 : (Jvm.Cond.code ({ cls := "SumColours$Member", name := "be", desc := "(LSumColours$Member;)V" } : Jvm.MethodName) prog_6_method_5_code (2 : Nat) (Option.none : Option Jvm.ClassFile.FieldType)) ∈ lw_all := lw_g (lw_at lw_m3 93 rfl) rfl
theorem in_X1 : ∀ w ∈ wsX10, w ∈ lw_all := lw_in wsX10 [115, 117, 119] (by decide +kernel) (by decide +kernel)

/-! SumColours$Loose -/
set_option maxRecDepth 100000
def RX2 : String := "SumColours$Loose"
def TX2 : u_T := fun k => match k with
  | 0 => ("SumColours$Member", "name", "I", false)
  | 1 => ("SumColours$Member", "colour", "I", false)
  | _ => ("SumColours$Member", "keptColour", "I", false)
def tyX2 : Nat → FieldType := fun k => match k with
  | 0 => .int
  | 1 => .int
  | _ => .int
abbrev wsX20 : List Cond := u_ws RX2 TX2 3
theorem nmX2 : ∀ a, a < 3 → ∀ b, b < 3 → a ≠ b → (TX2 a).2.1 ≠ (TX2 b).2.1 := by decide +kernel
theorem tyX2_ok : ∀ k, k < 3 → parseFieldDescriptor (TX2 k).2.2.1 = some (tyX2 k) := by decide +kernel
abbrev cX2_init : ByteArray := prog_5_method_1_code
def yX2_init : MethodName := ⟨RX2, "<init>", "()V"⟩
theorem dX2_init_0 : decode cX2_init 0 = .ok (.aload_n 0, 1) := by decide +kernel
theorem dX2_init_1 : decode cX2_init 1 = .ok (.invokespecial 1, 3) := by decide +kernel
theorem dX2_init_4 : decode cX2_init 4 = .ok (.return_, 1) := by decide +kernel
abbrev cX2_isMinding : ByteArray := prog_5_method_3_code
def yX2_isMinding : MethodName := ⟨RX2, "isMinding", "(Z)Z"⟩
def dkwX2_isMinding_0 : List UInt8 := [42, 27, 183, 0, 7, 153, 0, 11, 27, 154, 0, 7, 4, 167, 0, 4, 3, 172]
abbrev dktX2_isMinding_0 : List UInt8 := dkwX2_isMinding_0 ++ []
theorem dksX2_isMinding_0 : cX2_isMinding.data.toList.drop 0 = dktX2_isMinding_0 := by decide +kernel
theorem dX2_isMinding_0 : decode cX2_isMinding 0 = .ok (.aload_n 0, 1) := dk_42 (dk_at dksX2_isMinding_0 0 rfl rfl)
theorem dX2_isMinding_1 : decode cX2_isMinding 1 = .ok (.iload_n 1, 1) := dk_27 (dk_at dksX2_isMinding_0 1 rfl rfl)
theorem dX2_isMinding_2 : decode cX2_isMinding 2 = .ok (.invokespecial 7, 3) := dk_183 0 7 (dk_at dksX2_isMinding_0 2 rfl rfl)
theorem dX2_isMinding_5 : decode cX2_isMinding 5 = .ok (.ifCond .eq 11, 3) := dk_153 0 11 (dk_at dksX2_isMinding_0 5 rfl rfl)
theorem dX2_isMinding_8 : decode cX2_isMinding 8 = .ok (.iload_n 1, 1) := dk_27 (dk_at dksX2_isMinding_0 8 rfl rfl)
theorem dX2_isMinding_9 : decode cX2_isMinding 9 = .ok (.ifCond .ne 7, 3) := dk_154 0 7 (dk_at dksX2_isMinding_0 9 rfl rfl)
theorem dX2_isMinding_12 : decode cX2_isMinding 12 = .ok (.iconst 1, 1) := dk_4 (dk_at dksX2_isMinding_0 12 rfl rfl)
theorem dX2_isMinding_13 : decode cX2_isMinding 13 = .ok (.goto 4, 3) := dk_167 0 4 (dk_at dksX2_isMinding_0 13 rfl rfl)
theorem dX2_isMinding_16 : decode cX2_isMinding 16 = .ok (.iconst 0, 1) := dk_3 (dk_at dksX2_isMinding_0 16 rfl rfl)
theorem dX2_isMinding_17 : decode cX2_isMinding 17 = .ok (.ireturn, 1) := dk_172 (dk_at dksX2_isMinding_0 17 rfl rfl)
abbrev cX2_kind : ByteArray := prog_5_method_2_code
def yX2_kind : MethodName := ⟨RX2, "kind", "()I"⟩
theorem dX2_kind_0 : decode cX2_kind 0 = .ok (.iconst 1, 1) := by decide +kernel
theorem dX2_kind_1 : decode cX2_kind 1 = .ok (.ireturn, 1) := by decide +kernel
theorem q74 : (Jvm.Cond.initialized "SumColours$Loose") ∈ lw_all := lw_g (lw_at lw_m1 3 rfl) rfl
theorem q105 : (Jvm.Cond.sameField "SumColours$Loose" "SumColours$Member" "name" "I") ∈ lw_all := lw_g (lw_at lw_m1 34 rfl) rfl
theorem q123 : (Jvm.Cond.instantiable "SumColours$Loose" (3 : Nat)) ∈ lw_all := lw_g (lw_at lw_m1 52 rfl) rfl
theorem q125 : (Jvm.Cond.instanceMethod ({ cls := "SumColours$Loose", name := "<init>", desc := "()V" } : Jvm.MethodName)) ∈ lw_all := lw_g (lw_at lw_m1 54 rfl) rfl
theorem q126 : (Jvm.Cond.code ({ cls := "SumColours$Loose", name := "<init>", desc := "()V" } : Jvm.MethodName) prog_5_method_1_code (1 : Nat) (Option.none : Option Jvm.ClassFile.FieldType)) ∈ lw_all := lw_g (lw_at lw_m1 55 rfl) rfl
theorem q127 : (Jvm.Cond.methodLinkNest "SumColours$Loose" (1 : Nat) ({ cls := "SumColours$Member", name := "<init>", desc := "()V" } : Jvm.MethodName) "SumColours") ∈ lw_tbl := lw_at lw_m1 56 rfl
theorem q128 : (Jvm.Cond.lays "SumColours$Loose" "SumColours$Member" "name" "I") ∈ lw_all := lw_g (lw_at lw_m1 57 rfl) rfl
theorem q129 : (Jvm.Cond.lays "SumColours$Loose" "SumColours$Member" "colour" "I") ∈ lw_all := lw_g (lw_at lw_m1 58 rfl) rfl
theorem q130 : (Jvm.Cond.lays "SumColours$Loose" "SumColours$Member" "keptColour" "I") ∈ lw_all := lw_g (lw_at lw_m1 59 rfl) rfl
theorem q131 : (Jvm.Cond.superclass "SumColours$Loose" "SumColours$Member") ∈ lw_all := lw_g (lw_at lw_m1 60 rfl) rfl
theorem q347 : (Jvm.Cond.selects "SumColours$Loose" ({ cls := "SumColours$Member", name := "isPart", desc := "()Z" } : Jvm.MethodName) ({ cls := "SumColours$Member", name := "isPart", desc := "()Z" } : Jvm.MethodName)) ∈ lw_all := lw_g (lw_at lw_m2 36 rfl) rfl
theorem q368 : (Jvm.Cond.selects "SumColours$Loose" ({ cls := "SumColours$Member", name := "isMinding", desc := "(Z)Z" } : Jvm.MethodName) ({ cls := "SumColours$Loose", name := "isMinding", desc := "(Z)Z" } : Jvm.MethodName)) ∈ lw_all := lw_g (lw_at lw_m2 57 rfl) rfl
theorem q369 : (Jvm.Cond.instanceMethod ({ cls := "SumColours$Loose", name := "isMinding", desc := "(Z)Z" } : Jvm.MethodName)) ∈ lw_all := lw_g (lw_at lw_m2 58 rfl) rfl
theorem q370 : (Jvm.Cond.code ({ cls := "SumColours$Loose", name := "isMinding", desc := "(Z)Z" } : Jvm.MethodName) prog_5_method_3_code (2 : Nat) (Option.some Jvm.ClassFile.FieldType.boolean)) ∈ lw_all := lw_g (lw_at lw_m2 59 rfl) rfl
theorem q371 : (Jvm.Cond.methodLink "SumColours$Loose" (7 : Nat) ({ cls := "SumColours$Member", name := "isMinding", desc := "(Z)Z" } : Jvm.MethodName)) ∈ lw_all := lw_g (lw_at lw_m2 60 rfl) rfl
theorem q468 : (Jvm.Cond.selects "SumColours$Loose" ({ cls := "SumColours$Member", name := "kind", desc := "()I" } : Jvm.MethodName) ({ cls := "SumColours$Loose", name := "kind", desc := "()I" } : Jvm.MethodName)) ∈ lw_all := lw_g (lw_at lw_m2 157 rfl) rfl
theorem q469 : (Jvm.Cond.instanceMethod ({ cls := "SumColours$Loose", name := "kind", desc := "()I" } : Jvm.MethodName)) ∈ lw_all := lw_g (lw_at lw_m2 158 rfl) rfl
theorem q470 : (Jvm.Cond.code ({ cls := "SumColours$Loose", name := "kind", desc := "()I" } : Jvm.MethodName) prog_5_method_2_code (1 : Nat) (Option.some Jvm.ClassFile.FieldType.int)) ∈ lw_all := lw_g (lw_at lw_m2 159 rfl) rfl
theorem q488 : (Jvm.Cond.unhidden "SumColours$Loose" "isSo" "(I)Z") ∈ lw_tbl := lw_at lw_m2 177 rfl
theorem q506 : (Jvm.Cond.castable "SumColours$Loose" "SumColours$Counts") ∈ lw_tbl := lw_at lw_m2 195 rfl
theorem q507 : (Jvm.Cond.selects "SumColours$Loose" ({ cls := "SumColours$Counts", name := "isPart", desc := "()Z" } : Jvm.MethodName) ({ cls := "SumColours$Member", name := "isPart", desc := "()Z" } : Jvm.MethodName)) ∈ lw_all := lw_g (lw_at lw_m2 196 rfl) rfl
theorem q508 : (Jvm.Cond.unhidden "SumColours$Loose" "isPart" "()Z") ∈ lw_tbl := lw_at lw_m2 197 rfl
theorem q525 : (Jvm.Cond.selects "SumColours$Loose" ({ cls := "SumColours$Counts", name := "isMinding", desc := "(Z)Z" } : Jvm.MethodName) ({ cls := "SumColours$Loose", name := "isMinding", desc := "(Z)Z" } : Jvm.MethodName)) ∈ lw_all := lw_g (lw_at lw_m2 214 rfl) rfl
theorem q526 : (Jvm.Cond.unhidden "SumColours$Loose" "isMinding" "(Z)Z") ∈ lw_tbl := lw_at lw_m2 215 rfl
theorem q527 : (Jvm.Cond.publicMethod ({ cls := "SumColours$Loose", name := "isMinding", desc := "(Z)Z" } : Jvm.MethodName)) ∈ lw_tbl := lw_at lw_m2 216 rfl
theorem q642 : (Jvm.Cond.selects "SumColours$Loose" ({ cls := "SumColours$Member", name := "be", desc := "(LSumColours$Member;)V" } : Jvm.MethodName) ({ cls := "SumColours$Member", name := "be", desc := "(LSumColours$Member;)V" } : Jvm.MethodName)) ∈ lw_all := lw_g (lw_at lw_m3 91 rfl) rfl
theorem q1075 : (Jvm.Cond.castable "SumColours$Loose" "SumColours$Member") ∈ lw_tbl := lw_at lw_m5 44 rfl
theorem in_X2 : ∀ w ∈ wsX20, w ∈ lw_all := lw_in wsX20 [128, 129, 130] (by decide +kernel) (by decide +kernel)

/-! SumColours$Free -/
set_option maxRecDepth 100000
def RX3 : String := "SumColours$Free"
def TX3 : u_T := fun k => match k with
  | 0 => ("SumColours$Member", "name", "I", false)
  | 1 => ("SumColours$Member", "colour", "I", false)
  | _ => ("SumColours$Member", "keptColour", "I", false)
def tyX3 : Nat → FieldType := fun k => match k with
  | 0 => .int
  | 1 => .int
  | _ => .int
abbrev wsX30 : List Cond := u_ws RX3 TX3 3
theorem nmX3 : ∀ a, a < 3 → ∀ b, b < 3 → a ≠ b → (TX3 a).2.1 ≠ (TX3 b).2.1 := by decide +kernel
theorem tyX3_ok : ∀ k, k < 3 → parseFieldDescriptor (TX3 k).2.2.1 = some (tyX3 k) := by decide +kernel
abbrev cX3_init : ByteArray := prog_3_method_1_code
def yX3_init : MethodName := ⟨RX3, "<init>", "()V"⟩
theorem dX3_init_0 : decode cX3_init 0 = .ok (.aload_n 0, 1) := by decide +kernel
theorem dX3_init_1 : decode cX3_init 1 = .ok (.invokespecial 1, 3) := by decide +kernel
theorem dX3_init_4 : decode cX3_init 4 = .ok (.return_, 1) := by decide +kernel
abbrev cX3_isMinding : ByteArray := prog_3_method_3_code
def yX3_isMinding : MethodName := ⟨RX3, "isMinding", "(Z)Z"⟩
def dkwX3_isMinding_0 : List UInt8 := [42, 27, 183, 0, 7, 154, 0, 7, 4, 167, 0, 4, 3, 172]
abbrev dktX3_isMinding_0 : List UInt8 := dkwX3_isMinding_0 ++ []
theorem dksX3_isMinding_0 : cX3_isMinding.data.toList.drop 0 = dktX3_isMinding_0 := by decide +kernel
theorem dX3_isMinding_0 : decode cX3_isMinding 0 = .ok (.aload_n 0, 1) := dk_42 (dk_at dksX3_isMinding_0 0 rfl rfl)
theorem dX3_isMinding_1 : decode cX3_isMinding 1 = .ok (.iload_n 1, 1) := dk_27 (dk_at dksX3_isMinding_0 1 rfl rfl)
theorem dX3_isMinding_2 : decode cX3_isMinding 2 = .ok (.invokespecial 7, 3) := dk_183 0 7 (dk_at dksX3_isMinding_0 2 rfl rfl)
theorem dX3_isMinding_5 : decode cX3_isMinding 5 = .ok (.ifCond .ne 7, 3) := dk_154 0 7 (dk_at dksX3_isMinding_0 5 rfl rfl)
theorem dX3_isMinding_8 : decode cX3_isMinding 8 = .ok (.iconst 1, 1) := dk_4 (dk_at dksX3_isMinding_0 8 rfl rfl)
theorem dX3_isMinding_9 : decode cX3_isMinding 9 = .ok (.goto 4, 3) := dk_167 0 4 (dk_at dksX3_isMinding_0 9 rfl rfl)
theorem dX3_isMinding_12 : decode cX3_isMinding 12 = .ok (.iconst 0, 1) := dk_3 (dk_at dksX3_isMinding_0 12 rfl rfl)
theorem dX3_isMinding_13 : decode cX3_isMinding 13 = .ok (.ireturn, 1) := dk_172 (dk_at dksX3_isMinding_0 13 rfl rfl)
abbrev cX3_kind : ByteArray := prog_3_method_2_code
def yX3_kind : MethodName := ⟨RX3, "kind", "()I"⟩
theorem dX3_kind_0 : decode cX3_kind 0 = .ok (.iconst 2, 1) := by decide +kernel
theorem dX3_kind_1 : decode cX3_kind 1 = .ok (.ireturn, 1) := by decide +kernel
theorem q75 : (Jvm.Cond.initialized "SumColours$Free") ∈ lw_all := lw_g (lw_at lw_m1 4 rfl) rfl
theorem q107 : (Jvm.Cond.sameField "SumColours$Free" "SumColours$Member" "name" "I") ∈ lw_all := lw_g (lw_at lw_m1 36 rfl) rfl
theorem q133 : (Jvm.Cond.instantiable "SumColours$Free" (3 : Nat)) ∈ lw_all := lw_g (lw_at lw_m1 62 rfl) rfl
theorem q135 : (Jvm.Cond.instanceMethod ({ cls := "SumColours$Free", name := "<init>", desc := "()V" } : Jvm.MethodName)) ∈ lw_all := lw_g (lw_at lw_m1 64 rfl) rfl
theorem q136 : (Jvm.Cond.code ({ cls := "SumColours$Free", name := "<init>", desc := "()V" } : Jvm.MethodName) prog_3_method_1_code (1 : Nat) (Option.none : Option Jvm.ClassFile.FieldType)) ∈ lw_all := lw_g (lw_at lw_m1 65 rfl) rfl
theorem q137 : (Jvm.Cond.methodLinkNest "SumColours$Free" (1 : Nat) ({ cls := "SumColours$Member", name := "<init>", desc := "()V" } : Jvm.MethodName) "SumColours") ∈ lw_tbl := lw_at lw_m1 66 rfl
theorem q138 : (Jvm.Cond.lays "SumColours$Free" "SumColours$Member" "name" "I") ∈ lw_all := lw_g (lw_at lw_m1 67 rfl) rfl
theorem q139 : (Jvm.Cond.lays "SumColours$Free" "SumColours$Member" "colour" "I") ∈ lw_all := lw_g (lw_at lw_m1 68 rfl) rfl
theorem q140 : (Jvm.Cond.lays "SumColours$Free" "SumColours$Member" "keptColour" "I") ∈ lw_all := lw_g (lw_at lw_m1 69 rfl) rfl
theorem q141 : (Jvm.Cond.superclass "SumColours$Free" "SumColours$Member") ∈ lw_all := lw_g (lw_at lw_m1 70 rfl) rfl
theorem q341 : (Jvm.Cond.selects "SumColours$Free" ({ cls := "SumColours$Member", name := "isPart", desc := "()Z" } : Jvm.MethodName) ({ cls := "SumColours$Member", name := "isPart", desc := "()Z" } : Jvm.MethodName)) ∈ lw_all := lw_g (lw_at lw_m2 30 rfl) rfl
theorem q353 : (Jvm.Cond.selects "SumColours$Free" ({ cls := "SumColours$Member", name := "isMinding", desc := "(Z)Z" } : Jvm.MethodName) ({ cls := "SumColours$Free", name := "isMinding", desc := "(Z)Z" } : Jvm.MethodName)) ∈ lw_all := lw_g (lw_at lw_m2 42 rfl) rfl
theorem q354 : (Jvm.Cond.instanceMethod ({ cls := "SumColours$Free", name := "isMinding", desc := "(Z)Z" } : Jvm.MethodName)) ∈ lw_all := lw_g (lw_at lw_m2 43 rfl) rfl
theorem q355 : (Jvm.Cond.code ({ cls := "SumColours$Free", name := "isMinding", desc := "(Z)Z" } : Jvm.MethodName) prog_3_method_3_code (2 : Nat) (Option.some Jvm.ClassFile.FieldType.boolean)) ∈ lw_all := lw_g (lw_at lw_m2 44 rfl) rfl
theorem q356 : (Jvm.Cond.methodLink "SumColours$Free" (7 : Nat) ({ cls := "SumColours$Member", name := "isMinding", desc := "(Z)Z" } : Jvm.MethodName)) ∈ lw_all := lw_g (lw_at lw_m2 45 rfl) rfl
theorem q459 : (Jvm.Cond.selects "SumColours$Free" ({ cls := "SumColours$Member", name := "kind", desc := "()I" } : Jvm.MethodName) ({ cls := "SumColours$Free", name := "kind", desc := "()I" } : Jvm.MethodName)) ∈ lw_all := lw_g (lw_at lw_m2 148 rfl) rfl
theorem q460 : (Jvm.Cond.instanceMethod ({ cls := "SumColours$Free", name := "kind", desc := "()I" } : Jvm.MethodName)) ∈ lw_all := lw_g (lw_at lw_m2 149 rfl) rfl
theorem q461 : (Jvm.Cond.code ({ cls := "SumColours$Free", name := "kind", desc := "()I" } : Jvm.MethodName) prog_3_method_2_code (1 : Nat) (Option.some Jvm.ClassFile.FieldType.int)) ∈ lw_all := lw_g (lw_at lw_m2 150 rfl) rfl
theorem q486 : (Jvm.Cond.unhidden "SumColours$Free" "isSo" "(I)Z") ∈ lw_tbl := lw_at lw_m2 175 rfl
theorem q498 : (Jvm.Cond.castable "SumColours$Free" "SumColours$Counts") ∈ lw_tbl := lw_at lw_m2 187 rfl
theorem q499 : (Jvm.Cond.selects "SumColours$Free" ({ cls := "SumColours$Counts", name := "isPart", desc := "()Z" } : Jvm.MethodName) ({ cls := "SumColours$Member", name := "isPart", desc := "()Z" } : Jvm.MethodName)) ∈ lw_all := lw_g (lw_at lw_m2 188 rfl) rfl
theorem q500 : (Jvm.Cond.unhidden "SumColours$Free" "isPart" "()Z") ∈ lw_tbl := lw_at lw_m2 189 rfl
theorem q519 : (Jvm.Cond.selects "SumColours$Free" ({ cls := "SumColours$Counts", name := "isMinding", desc := "(Z)Z" } : Jvm.MethodName) ({ cls := "SumColours$Free", name := "isMinding", desc := "(Z)Z" } : Jvm.MethodName)) ∈ lw_all := lw_g (lw_at lw_m2 208 rfl) rfl
theorem q520 : (Jvm.Cond.unhidden "SumColours$Free" "isMinding" "(Z)Z") ∈ lw_tbl := lw_at lw_m2 209 rfl
theorem q521 : (Jvm.Cond.publicMethod ({ cls := "SumColours$Free", name := "isMinding", desc := "(Z)Z" } : Jvm.MethodName)) ∈ lw_tbl := lw_at lw_m2 210 rfl
theorem q640 : (Jvm.Cond.selects "SumColours$Free" ({ cls := "SumColours$Member", name := "be", desc := "(LSumColours$Member;)V" } : Jvm.MethodName) ({ cls := "SumColours$Member", name := "be", desc := "(LSumColours$Member;)V" } : Jvm.MethodName)) ∈ lw_all := lw_g (lw_at lw_m3 89 rfl) rfl
theorem q1073 : (Jvm.Cond.castable "SumColours$Free" "SumColours$Member") ∈ lw_tbl := lw_at lw_m5 42 rfl
theorem in_X3 : ∀ w ∈ wsX30, w ∈ lw_all := lw_in wsX30 [138, 139, 140] (by decide +kernel) (by decide +kernel)

/-! SumColours$Shy -/
set_option maxRecDepth 100000
def RX4 : String := "SumColours$Shy"
def TX4 : u_T := fun k => match k with
  | 0 => ("SumColours$Member", "name", "I", false)
  | 1 => ("SumColours$Member", "colour", "I", false)
  | _ => ("SumColours$Member", "keptColour", "I", false)
def tyX4 : Nat → FieldType := fun k => match k with
  | 0 => .int
  | 1 => .int
  | _ => .int
abbrev wsX40 : List Cond := u_ws RX4 TX4 3
theorem nmX4 : ∀ a, a < 3 → ∀ b, b < 3 → a ≠ b → (TX4 a).2.1 ≠ (TX4 b).2.1 := by decide +kernel
theorem tyX4_ok : ∀ k, k < 3 → parseFieldDescriptor (TX4 k).2.2.1 = some (tyX4 k) := by decide +kernel
abbrev cX4_init : ByteArray := prog_7_method_1_code
def yX4_init : MethodName := ⟨RX4, "<init>", "()V"⟩
theorem dX4_init_0 : decode cX4_init 0 = .ok (.aload_n 0, 1) := by decide +kernel
theorem dX4_init_1 : decode cX4_init 1 = .ok (.invokespecial 1, 3) := by decide +kernel
theorem dX4_init_4 : decode cX4_init 4 = .ok (.return_, 1) := by decide +kernel
abbrev cX4_isPart : ByteArray := prog_7_method_3_code
def yX4_isPart : MethodName := ⟨RX4, "isPart", "()Z"⟩
def dkwX4_isPart_0 : List UInt8 := [42, 183, 0, 7, 154, 0, 7, 4, 167, 0, 4, 3, 172]
abbrev dktX4_isPart_0 : List UInt8 := dkwX4_isPart_0 ++ []
theorem dksX4_isPart_0 : cX4_isPart.data.toList.drop 0 = dktX4_isPart_0 := by decide +kernel
theorem dX4_isPart_0 : decode cX4_isPart 0 = .ok (.aload_n 0, 1) := dk_42 (dk_at dksX4_isPart_0 0 rfl rfl)
theorem dX4_isPart_1 : decode cX4_isPart 1 = .ok (.invokespecial 7, 3) := dk_183 0 7 (dk_at dksX4_isPart_0 1 rfl rfl)
theorem dX4_isPart_4 : decode cX4_isPart 4 = .ok (.ifCond .ne 7, 3) := dk_154 0 7 (dk_at dksX4_isPart_0 4 rfl rfl)
theorem dX4_isPart_7 : decode cX4_isPart 7 = .ok (.iconst 1, 1) := dk_4 (dk_at dksX4_isPart_0 7 rfl rfl)
theorem dX4_isPart_8 : decode cX4_isPart 8 = .ok (.goto 4, 3) := dk_167 0 4 (dk_at dksX4_isPart_0 8 rfl rfl)
theorem dX4_isPart_11 : decode cX4_isPart 11 = .ok (.iconst 0, 1) := dk_3 (dk_at dksX4_isPart_0 11 rfl rfl)
theorem dX4_isPart_12 : decode cX4_isPart 12 = .ok (.ireturn, 1) := dk_172 (dk_at dksX4_isPart_0 12 rfl rfl)
abbrev cX4_kind : ByteArray := prog_7_method_2_code
def yX4_kind : MethodName := ⟨RX4, "kind", "()I"⟩
theorem dX4_kind_0 : decode cX4_kind 0 = .ok (.iconst 3, 1) := by decide +kernel
theorem dX4_kind_1 : decode cX4_kind 1 = .ok (.ireturn, 1) := by decide +kernel
theorem q76 : (Jvm.Cond.initialized "SumColours$Shy") ∈ lw_all := lw_g (lw_at lw_m1 5 rfl) rfl
theorem q109 : (Jvm.Cond.sameField "SumColours$Shy" "SumColours$Member" "name" "I") ∈ lw_all := lw_g (lw_at lw_m1 38 rfl) rfl
theorem q143 : (Jvm.Cond.instantiable "SumColours$Shy" (3 : Nat)) ∈ lw_all := lw_g (lw_at lw_m1 72 rfl) rfl
theorem q145 : (Jvm.Cond.instanceMethod ({ cls := "SumColours$Shy", name := "<init>", desc := "()V" } : Jvm.MethodName)) ∈ lw_all := lw_g (lw_at lw_m1 74 rfl) rfl
theorem q146 : (Jvm.Cond.code ({ cls := "SumColours$Shy", name := "<init>", desc := "()V" } : Jvm.MethodName) prog_7_method_1_code (1 : Nat) (Option.none : Option Jvm.ClassFile.FieldType)) ∈ lw_all := lw_g (lw_at lw_m1 75 rfl) rfl
theorem q147 : (Jvm.Cond.methodLinkNest "SumColours$Shy" (1 : Nat) ({ cls := "SumColours$Member", name := "<init>", desc := "()V" } : Jvm.MethodName) "SumColours") ∈ lw_tbl := lw_at lw_m1 76 rfl
theorem q148 : (Jvm.Cond.lays "SumColours$Shy" "SumColours$Member" "name" "I") ∈ lw_all := lw_g (lw_at lw_m1 77 rfl) rfl
theorem q149 : (Jvm.Cond.lays "SumColours$Shy" "SumColours$Member" "colour" "I") ∈ lw_all := lw_g (lw_at lw_m1 78 rfl) rfl
theorem q150 : (Jvm.Cond.lays "SumColours$Shy" "SumColours$Member" "keptColour" "I") ∈ lw_all := lw_g (lw_at lw_m1 79 rfl) rfl
theorem q151 : (Jvm.Cond.superclass "SumColours$Shy" "SumColours$Member") ∈ lw_all := lw_g (lw_at lw_m1 80 rfl) rfl
theorem q343 : (Jvm.Cond.instanceMethod ({ cls := "SumColours$Shy", name := "isPart", desc := "()Z" } : Jvm.MethodName)) ∈ lw_all := lw_g (lw_at lw_m2 32 rfl) rfl
theorem q344 : (Jvm.Cond.code ({ cls := "SumColours$Shy", name := "isPart", desc := "()Z" } : Jvm.MethodName) prog_7_method_3_code (1 : Nat) (Option.some Jvm.ClassFile.FieldType.boolean)) ∈ lw_all := lw_g (lw_at lw_m2 33 rfl) rfl
theorem q345 : (Jvm.Cond.methodLink "SumColours$Shy" (7 : Nat) ({ cls := "SumColours$Member", name := "isPart", desc := "()Z" } : Jvm.MethodName)) ∈ lw_all := lw_g (lw_at lw_m2 34 rfl) rfl
theorem q348 : (Jvm.Cond.selects "SumColours$Shy" ({ cls := "SumColours$Member", name := "isPart", desc := "()Z" } : Jvm.MethodName) ({ cls := "SumColours$Shy", name := "isPart", desc := "()Z" } : Jvm.MethodName)) ∈ lw_all := lw_g (lw_at lw_m2 37 rfl) rfl
theorem q363 : (Jvm.Cond.declares ({ cls := "SumColours$Shy", name := "isPart", desc := "()Z" } : Jvm.MethodName)) ∈ lw_tbl := lw_at lw_m2 52 rfl
theorem q366 : (Jvm.Cond.sameMethod "SumColours$Shy" "SumColours$Member" "isMinding" "(Z)Z") ∈ lw_all := lw_g (lw_at lw_m2 55 rfl) rfl
theorem q372 : (Jvm.Cond.selects "SumColours$Shy" ({ cls := "SumColours$Member", name := "isMinding", desc := "(Z)Z" } : Jvm.MethodName) ({ cls := "SumColours$Member", name := "isMinding", desc := "(Z)Z" } : Jvm.MethodName)) ∈ lw_all := lw_g (lw_at lw_m2 61 rfl) rfl
theorem q466 : (Jvm.Cond.instanceMethod ({ cls := "SumColours$Shy", name := "kind", desc := "()I" } : Jvm.MethodName)) ∈ lw_all := lw_g (lw_at lw_m2 155 rfl) rfl
theorem q467 : (Jvm.Cond.code ({ cls := "SumColours$Shy", name := "kind", desc := "()I" } : Jvm.MethodName) prog_7_method_2_code (1 : Nat) (Option.some Jvm.ClassFile.FieldType.int)) ∈ lw_all := lw_g (lw_at lw_m2 156 rfl) rfl
theorem q471 : (Jvm.Cond.selects "SumColours$Shy" ({ cls := "SumColours$Member", name := "kind", desc := "()I" } : Jvm.MethodName) ({ cls := "SumColours$Shy", name := "kind", desc := "()I" } : Jvm.MethodName)) ∈ lw_all := lw_g (lw_at lw_m2 160 rfl) rfl
theorem q490 : (Jvm.Cond.unhidden "SumColours$Shy" "isSo" "(I)Z") ∈ lw_tbl := lw_at lw_m2 179 rfl
theorem q505 : (Jvm.Cond.publicMethod ({ cls := "SumColours$Shy", name := "isPart", desc := "()Z" } : Jvm.MethodName)) ∈ lw_tbl := lw_at lw_m2 194 rfl
theorem q512 : (Jvm.Cond.castable "SumColours$Shy" "SumColours$Counts") ∈ lw_tbl := lw_at lw_m2 201 rfl
theorem q513 : (Jvm.Cond.selects "SumColours$Shy" ({ cls := "SumColours$Counts", name := "isPart", desc := "()Z" } : Jvm.MethodName) ({ cls := "SumColours$Shy", name := "isPart", desc := "()Z" } : Jvm.MethodName)) ∈ lw_all := lw_g (lw_at lw_m2 202 rfl) rfl
theorem q514 : (Jvm.Cond.unhidden "SumColours$Shy" "isPart" "()Z") ∈ lw_tbl := lw_at lw_m2 203 rfl
theorem q531 : (Jvm.Cond.selects "SumColours$Shy" ({ cls := "SumColours$Counts", name := "isMinding", desc := "(Z)Z" } : Jvm.MethodName) ({ cls := "SumColours$Member", name := "isMinding", desc := "(Z)Z" } : Jvm.MethodName)) ∈ lw_all := lw_g (lw_at lw_m2 220 rfl) rfl
theorem q532 : (Jvm.Cond.unhidden "SumColours$Shy" "isMinding" "(Z)Z") ∈ lw_tbl := lw_at lw_m2 221 rfl
theorem q643 : (Jvm.Cond.selects "SumColours$Shy" ({ cls := "SumColours$Member", name := "be", desc := "(LSumColours$Member;)V" } : Jvm.MethodName) ({ cls := "SumColours$Member", name := "be", desc := "(LSumColours$Member;)V" } : Jvm.MethodName)) ∈ lw_all := lw_g (lw_at lw_m3 92 rfl) rfl
theorem q1070 : (Jvm.Cond.sameMethod "SumColours$Shy" "SumColours$Shy" "kind" "()I") ∈ lw_all := lw_g (lw_at lw_m5 39 rfl) rfl
theorem q1076 : (Jvm.Cond.castable "SumColours$Shy" "SumColours$Member") ∈ lw_tbl := lw_at lw_m5 45 rfl
theorem in_X4 : ∀ w ∈ wsX40, w ∈ lw_all := lw_in wsX40 [148, 149, 150] (by decide +kernel) (by decide +kernel)

/-! SumColours$Lone -/
set_option maxRecDepth 100000
def RX5 : String := "SumColours$Lone"
def TX5 : u_T := fun k => match k with
  | 0 => ("SumColours$Member", "name", "I", false)
  | 1 => ("SumColours$Member", "colour", "I", false)
  | _ => ("SumColours$Member", "keptColour", "I", false)
def tyX5 : Nat → FieldType := fun k => match k with
  | 0 => .int
  | 1 => .int
  | _ => .int
abbrev wsX50 : List Cond := u_ws RX5 TX5 3
theorem nmX5 : ∀ a, a < 3 → ∀ b, b < 3 → a ≠ b → (TX5 a).2.1 ≠ (TX5 b).2.1 := by decide +kernel
theorem tyX5_ok : ∀ k, k < 3 → parseFieldDescriptor (TX5 k).2.2.1 = some (tyX5 k) := by decide +kernel
abbrev cX5_init : ByteArray := prog_4_method_1_code
def yX5_init : MethodName := ⟨RX5, "<init>", "()V"⟩
theorem dX5_init_0 : decode cX5_init 0 = .ok (.aload_n 0, 1) := by decide +kernel
theorem dX5_init_1 : decode cX5_init 1 = .ok (.invokespecial 1, 3) := by decide +kernel
theorem dX5_init_4 : decode cX5_init 4 = .ok (.return_, 1) := by decide +kernel
abbrev cX5_isMinding : ByteArray := prog_4_method_3_code
def yX5_isMinding : MethodName := ⟨RX5, "isMinding", "(Z)Z"⟩
def dkwX5_isMinding_0 : List UInt8 := [42, 182, 0, 11, 153, 0, 15, 42, 27, 183, 0, 17, 153, 0, 7, 4, 167, 0, 4, 3, 172]
abbrev dktX5_isMinding_0 : List UInt8 := dkwX5_isMinding_0 ++ []
theorem dksX5_isMinding_0 : cX5_isMinding.data.toList.drop 0 = dktX5_isMinding_0 := by decide +kernel
theorem dX5_isMinding_0 : decode cX5_isMinding 0 = .ok (.aload_n 0, 1) := dk_42 (dk_at dksX5_isMinding_0 0 rfl rfl)
theorem dX5_isMinding_1 : decode cX5_isMinding 1 = .ok (.invokevirtual 11, 3) := dk_182 0 11 (dk_at dksX5_isMinding_0 1 rfl rfl)
theorem dX5_isMinding_4 : decode cX5_isMinding 4 = .ok (.ifCond .eq 15, 3) := dk_153 0 15 (dk_at dksX5_isMinding_0 4 rfl rfl)
theorem dX5_isMinding_7 : decode cX5_isMinding 7 = .ok (.aload_n 0, 1) := dk_42 (dk_at dksX5_isMinding_0 7 rfl rfl)
theorem dX5_isMinding_8 : decode cX5_isMinding 8 = .ok (.iload_n 1, 1) := dk_27 (dk_at dksX5_isMinding_0 8 rfl rfl)
theorem dX5_isMinding_9 : decode cX5_isMinding 9 = .ok (.invokespecial 17, 3) := dk_183 0 17 (dk_at dksX5_isMinding_0 9 rfl rfl)
theorem dX5_isMinding_12 : decode cX5_isMinding 12 = .ok (.ifCond .eq 7, 3) := dk_153 0 7 (dk_at dksX5_isMinding_0 12 rfl rfl)
theorem dX5_isMinding_15 : decode cX5_isMinding 15 = .ok (.iconst 1, 1) := dk_4 (dk_at dksX5_isMinding_0 15 rfl rfl)
theorem dX5_isMinding_16 : decode cX5_isMinding 16 = .ok (.goto 4, 3) := dk_167 0 4 (dk_at dksX5_isMinding_0 16 rfl rfl)
theorem dX5_isMinding_19 : decode cX5_isMinding 19 = .ok (.iconst 0, 1) := dk_3 (dk_at dksX5_isMinding_0 19 rfl rfl)
theorem dX5_isMinding_20 : decode cX5_isMinding 20 = .ok (.ireturn, 1) := dk_172 (dk_at dksX5_isMinding_0 20 rfl rfl)
abbrev cX5_kind : ByteArray := prog_4_method_2_code
def yX5_kind : MethodName := ⟨RX5, "kind", "()I"⟩
def dkwX5_kind_0 : List UInt8 := [4, 42, 183, 0, 7, 96, 172]
abbrev dktX5_kind_0 : List UInt8 := dkwX5_kind_0 ++ []
theorem dksX5_kind_0 : cX5_kind.data.toList.drop 0 = dktX5_kind_0 := by decide +kernel
theorem dX5_kind_0 : decode cX5_kind 0 = .ok (.iconst 1, 1) := dk_4 (dk_at dksX5_kind_0 0 rfl rfl)
theorem dX5_kind_1 : decode cX5_kind 1 = .ok (.aload_n 0, 1) := dk_42 (dk_at dksX5_kind_0 1 rfl rfl)
theorem dX5_kind_2 : decode cX5_kind 2 = .ok (.invokespecial 7, 3) := dk_183 0 7 (dk_at dksX5_kind_0 2 rfl rfl)
theorem dX5_kind_5 : decode cX5_kind 5 = .ok (.iadd, 1) := dk_96 (dk_at dksX5_kind_0 5 rfl rfl)
theorem dX5_kind_6 : decode cX5_kind 6 = .ok (.ireturn, 1) := dk_172 (dk_at dksX5_kind_0 6 rfl rfl)
theorem q77 : (Jvm.Cond.initialized "SumColours$Lone") ∈ lw_all := lw_g (lw_at lw_m1 6 rfl) rfl
theorem q111 : (Jvm.Cond.sameField "SumColours$Lone" "SumColours$Member" "name" "I") ∈ lw_all := lw_g (lw_at lw_m1 40 rfl) rfl
theorem q153 : (Jvm.Cond.instantiable "SumColours$Lone" (3 : Nat)) ∈ lw_all := lw_g (lw_at lw_m1 82 rfl) rfl
theorem q155 : (Jvm.Cond.instanceMethod ({ cls := "SumColours$Lone", name := "<init>", desc := "()V" } : Jvm.MethodName)) ∈ lw_all := lw_g (lw_at lw_m1 84 rfl) rfl
theorem q156 : (Jvm.Cond.code ({ cls := "SumColours$Lone", name := "<init>", desc := "()V" } : Jvm.MethodName) prog_4_method_1_code (1 : Nat) (Option.none : Option Jvm.ClassFile.FieldType)) ∈ lw_all := lw_g (lw_at lw_m1 85 rfl) rfl
theorem q157 : (Jvm.Cond.methodLinkNest "SumColours$Lone" (1 : Nat) ({ cls := "SumColours$Shy", name := "<init>", desc := "()V" } : Jvm.MethodName) "SumColours") ∈ lw_tbl := lw_at lw_m1 86 rfl
theorem q158 : (Jvm.Cond.lays "SumColours$Lone" "SumColours$Member" "name" "I") ∈ lw_all := lw_g (lw_at lw_m1 87 rfl) rfl
theorem q159 : (Jvm.Cond.lays "SumColours$Lone" "SumColours$Member" "colour" "I") ∈ lw_all := lw_g (lw_at lw_m1 88 rfl) rfl
theorem q160 : (Jvm.Cond.lays "SumColours$Lone" "SumColours$Member" "keptColour" "I") ∈ lw_all := lw_g (lw_at lw_m1 89 rfl) rfl
theorem q161 : (Jvm.Cond.superclass "SumColours$Lone" "SumColours$Shy") ∈ lw_all := lw_g (lw_at lw_m1 90 rfl) rfl
theorem q342 : (Jvm.Cond.selects "SumColours$Lone" ({ cls := "SumColours$Member", name := "isPart", desc := "()Z" } : Jvm.MethodName) ({ cls := "SumColours$Shy", name := "isPart", desc := "()Z" } : Jvm.MethodName)) ∈ lw_all := lw_g (lw_at lw_m2 31 rfl) rfl
theorem q358 : (Jvm.Cond.selects "SumColours$Lone" ({ cls := "SumColours$Member", name := "isMinding", desc := "(Z)Z" } : Jvm.MethodName) ({ cls := "SumColours$Lone", name := "isMinding", desc := "(Z)Z" } : Jvm.MethodName)) ∈ lw_all := lw_g (lw_at lw_m2 47 rfl) rfl
theorem q359 : (Jvm.Cond.instanceMethod ({ cls := "SumColours$Lone", name := "isMinding", desc := "(Z)Z" } : Jvm.MethodName)) ∈ lw_all := lw_g (lw_at lw_m2 48 rfl) rfl
theorem q360 : (Jvm.Cond.code ({ cls := "SumColours$Lone", name := "isMinding", desc := "(Z)Z" } : Jvm.MethodName) prog_4_method_3_code (2 : Nat) (Option.some Jvm.ClassFile.FieldType.boolean)) ∈ lw_all := lw_g (lw_at lw_m2 49 rfl) rfl
theorem q361 : (Jvm.Cond.methodLink "SumColours$Lone" (11 : Nat) ({ cls := "SumColours$Lone", name := "isPart", desc := "()Z" } : Jvm.MethodName)) ∈ lw_all := lw_g (lw_at lw_m2 50 rfl) rfl
theorem q362 : (Jvm.Cond.sameMethod "SumColours$Lone" "SumColours$Shy" "isPart" "()Z") ∈ lw_all := lw_g (lw_at lw_m2 51 rfl) rfl
theorem q364 : (Jvm.Cond.selects "SumColours$Lone" ({ cls := "SumColours$Lone", name := "isPart", desc := "()Z" } : Jvm.MethodName) ({ cls := "SumColours$Shy", name := "isPart", desc := "()Z" } : Jvm.MethodName)) ∈ lw_all := lw_g (lw_at lw_m2 53 rfl) rfl
theorem q365 : (Jvm.Cond.methodLink "SumColours$Lone" (17 : Nat) ({ cls := "SumColours$Shy", name := "isMinding", desc := "(Z)Z" } : Jvm.MethodName)) ∈ lw_all := lw_g (lw_at lw_m2 54 rfl) rfl
theorem q462 : (Jvm.Cond.selects "SumColours$Lone" ({ cls := "SumColours$Member", name := "kind", desc := "()I" } : Jvm.MethodName) ({ cls := "SumColours$Lone", name := "kind", desc := "()I" } : Jvm.MethodName)) ∈ lw_all := lw_g (lw_at lw_m2 151 rfl) rfl
theorem q463 : (Jvm.Cond.instanceMethod ({ cls := "SumColours$Lone", name := "kind", desc := "()I" } : Jvm.MethodName)) ∈ lw_all := lw_g (lw_at lw_m2 152 rfl) rfl
theorem q464 : (Jvm.Cond.code ({ cls := "SumColours$Lone", name := "kind", desc := "()I" } : Jvm.MethodName) prog_4_method_2_code (1 : Nat) (Option.some Jvm.ClassFile.FieldType.int)) ∈ lw_all := lw_g (lw_at lw_m2 153 rfl) rfl
theorem q465 : (Jvm.Cond.methodLink "SumColours$Lone" (7 : Nat) ({ cls := "SumColours$Shy", name := "kind", desc := "()I" } : Jvm.MethodName)) ∈ lw_all := lw_g (lw_at lw_m2 154 rfl) rfl
theorem q487 : (Jvm.Cond.unhidden "SumColours$Lone" "isSo" "(I)Z") ∈ lw_tbl := lw_at lw_m2 176 rfl
theorem q502 : (Jvm.Cond.castable "SumColours$Lone" "SumColours$Counts") ∈ lw_tbl := lw_at lw_m2 191 rfl
theorem q503 : (Jvm.Cond.selects "SumColours$Lone" ({ cls := "SumColours$Counts", name := "isPart", desc := "()Z" } : Jvm.MethodName) ({ cls := "SumColours$Shy", name := "isPart", desc := "()Z" } : Jvm.MethodName)) ∈ lw_all := lw_g (lw_at lw_m2 192 rfl) rfl
theorem q504 : (Jvm.Cond.unhidden "SumColours$Lone" "isPart" "()Z") ∈ lw_tbl := lw_at lw_m2 193 rfl
theorem q522 : (Jvm.Cond.selects "SumColours$Lone" ({ cls := "SumColours$Counts", name := "isMinding", desc := "(Z)Z" } : Jvm.MethodName) ({ cls := "SumColours$Lone", name := "isMinding", desc := "(Z)Z" } : Jvm.MethodName)) ∈ lw_all := lw_g (lw_at lw_m2 211 rfl) rfl
theorem q523 : (Jvm.Cond.unhidden "SumColours$Lone" "isMinding" "(Z)Z") ∈ lw_tbl := lw_at lw_m2 212 rfl
theorem q524 : (Jvm.Cond.publicMethod ({ cls := "SumColours$Lone", name := "isMinding", desc := "(Z)Z" } : Jvm.MethodName)) ∈ lw_tbl := lw_at lw_m2 213 rfl
theorem q641 : (Jvm.Cond.selects "SumColours$Lone" ({ cls := "SumColours$Member", name := "be", desc := "(LSumColours$Member;)V" } : Jvm.MethodName) ({ cls := "SumColours$Member", name := "be", desc := "(LSumColours$Member;)V" } : Jvm.MethodName)) ∈ lw_all := lw_g (lw_at lw_m3 90 rfl) rfl
theorem q1074 : (Jvm.Cond.castable "SumColours$Lone" "SumColours$Member") ∈ lw_tbl := lw_at lw_m5 43 rfl
theorem q1077 : (Jvm.Cond.castable "SumColours$Lone" "SumColours$Shy") ∈ lw_tbl := lw_at lw_m5 46 rfl
theorem in_X5 : ∀ w ∈ wsX50, w ∈ lw_all := lw_in wsX50 [158, 159, 160] (by decide +kernel) (by decide +kernel)

/-! SumColours$Counts -/
set_option maxRecDepth 100000
def RX7 : String := "SumColours$Counts"
abbrev cX7_isSo : ByteArray := prog_2_method_3_code
def yX7_isSo : MethodName := ⟨RX7, "isSo", "(I)Z"⟩
def dkwX7_isSo_1 : List UInt8 := [3, 185, 0, 7, 2, 0, 172]
abbrev dktX7_isSo_1 : List UInt8 := dkwX7_isSo_1 ++ []
def dkwX7_isSo_0 : List UInt8 := [27, 5, 160, 0, 12, 42, 185, 0, 1, 1, 0, 167, 0, 19, 42, 27, 4, 160, 0, 7, 4, 167, 0, 4]
abbrev dktX7_isSo_0 : List UInt8 := dkwX7_isSo_0 ++ dktX7_isSo_1
theorem dksX7_isSo_0 : cX7_isSo.data.toList.drop 0 = dktX7_isSo_0 := by decide +kernel
theorem dksX7_isSo_1 : cX7_isSo.data.toList.drop 24 = dktX7_isSo_1 := dk_seg dksX7_isSo_0 24 rfl rfl
theorem dX7_isSo_0 : decode cX7_isSo 0 = .ok (.iload_n 1, 1) := dk_27 (dk_at dksX7_isSo_0 0 rfl rfl)
theorem dX7_isSo_1 : decode cX7_isSo 1 = .ok (.iconst 2, 1) := dk_5 (dk_at dksX7_isSo_0 1 rfl rfl)
theorem dX7_isSo_2 : decode cX7_isSo 2 = .ok (.if_icmp .ne 12, 3) := dk_160 0 12 (dk_at dksX7_isSo_0 2 rfl rfl)
theorem dX7_isSo_5 : decode cX7_isSo 5 = .ok (.aload_n 0, 1) := dk_42 (dk_at dksX7_isSo_0 5 rfl rfl)
theorem dX7_isSo_6 : decode cX7_isSo 6 = .ok (.invokeinterface 1 1, 5) := by decide +kernel
theorem dX7_isSo_11 : decode cX7_isSo 11 = .ok (.goto 19, 3) := dk_167 0 19 (dk_at dksX7_isSo_0 11 rfl rfl)
theorem dX7_isSo_14 : decode cX7_isSo 14 = .ok (.aload_n 0, 1) := dk_42 (dk_at dksX7_isSo_0 14 rfl rfl)
theorem dX7_isSo_15 : decode cX7_isSo 15 = .ok (.iload_n 1, 1) := dk_27 (dk_at dksX7_isSo_0 15 rfl rfl)
theorem dX7_isSo_16 : decode cX7_isSo 16 = .ok (.iconst 1, 1) := dk_4 (dk_at dksX7_isSo_0 16 rfl rfl)
theorem dX7_isSo_17 : decode cX7_isSo 17 = .ok (.if_icmp .ne 7, 3) := dk_160 0 7 (dk_at dksX7_isSo_0 17 rfl rfl)
theorem dX7_isSo_20 : decode cX7_isSo 20 = .ok (.iconst 1, 1) := dk_4 (dk_at dksX7_isSo_0 20 rfl rfl)
theorem dX7_isSo_21 : decode cX7_isSo 21 = .ok (.goto 4, 3) := dk_167 0 4 (dk_at dksX7_isSo_0 21 rfl rfl)
theorem dX7_isSo_24 : decode cX7_isSo 24 = .ok (.iconst 0, 1) := dk_3 (dk_at dksX7_isSo_1 0 rfl rfl)
theorem dX7_isSo_25 : decode cX7_isSo 25 = .ok (.invokeinterface 7 2, 5) := by decide +kernel
theorem dX7_isSo_30 : decode cX7_isSo 30 = .ok (.ireturn, 1) := dk_172 (dk_at dksX7_isSo_1 6 rfl rfl)
theorem q485 : (Jvm.Cond.declares ({ cls := "SumColours$Counts", name := "isSo", desc := "(I)Z" } : Jvm.MethodName)) ∈ lw_tbl := lw_at lw_m2 174 rfl
theorem q491 : (Jvm.Cond.instanceMethod ({ cls := "SumColours$Counts", name := "isSo", desc := "(I)Z" } : Jvm.MethodName)) ∈ lw_all := lw_g (lw_at lw_m2 180 rfl) rfl
theorem q492 : (Jvm.Cond.publicMethod ({ cls := "SumColours$Counts", name := "isSo", desc := "(I)Z" } : Jvm.MethodName)) ∈ lw_tbl := lw_at lw_m2 181 rfl
theorem q493 : (Jvm.Cond.code ({ cls := "SumColours$Counts", name := "isSo", desc := "(I)Z" } : Jvm.MethodName) prog_2_method_3_code (2 : Nat) (Option.some Jvm.ClassFile.FieldType.boolean)) ∈ lw_all := lw_g (lw_at lw_m2 182 rfl) rfl
theorem q494 : (Jvm.Cond.interfaceEntry "SumColours$Counts" (1 : Nat)) ∈ lw_tbl := lw_at lw_m2 183 rfl
theorem q495 : (Jvm.Cond.methodLink "SumColours$Counts" (1 : Nat) ({ cls := "SumColours$Counts", name := "isPart", desc := "()Z" } : Jvm.MethodName)) ∈ lw_all := lw_g (lw_at lw_m2 184 rfl) rfl
theorem q496 : (Jvm.Cond.interfaceMethod "SumColours$Counts" "SumColours$Counts" "isPart" "()Z") ∈ lw_tbl := lw_at lw_m2 185 rfl
theorem q497 : (Jvm.Cond.declares ({ cls := "SumColours$Counts", name := "isPart", desc := "()Z" } : Jvm.MethodName)) ∈ lw_tbl := lw_at lw_m2 186 rfl
theorem q515 : (Jvm.Cond.interfaceEntry "SumColours$Counts" (7 : Nat)) ∈ lw_tbl := lw_at lw_m2 204 rfl
theorem q516 : (Jvm.Cond.methodLink "SumColours$Counts" (7 : Nat) ({ cls := "SumColours$Counts", name := "isMinding", desc := "(Z)Z" } : Jvm.MethodName)) ∈ lw_all := lw_g (lw_at lw_m2 205 rfl) rfl
theorem q517 : (Jvm.Cond.interfaceMethod "SumColours$Counts" "SumColours$Counts" "isMinding" "(Z)Z") ∈ lw_tbl := lw_at lw_m2 206 rfl
theorem q518 : (Jvm.Cond.declares ({ cls := "SumColours$Counts", name := "isMinding", desc := "(Z)Z" } : Jvm.MethodName)) ∈ lw_tbl := lw_at lw_m2 207 rfl
theorem q1072 : (Jvm.Cond.initialized "SumColours$Counts") ∈ lw_all := lw_g (lw_at lw_m5 41 rfl) rfl

theorem q96 : (Jvm.Cond.arrayOver (Jvm.ClassFile.FieldType.object "SumColours$Member")) ∈ lw_tbl := lw_at lw_m1 25 rfl
set_option maxRecDepth 100000
theorem q259 : (Jvm.Cond.arrayClass Jvm.ClassFile.FieldType.int) ∈ lw_all := lw_g (lw_at lw_m1 188 rfl) rfl
theorem q260 : (Jvm.Cond.arrayClass Jvm.ClassFile.FieldType.boolean) ∈ lw_all := lw_g (lw_at lw_m1 189 rfl) rfl
theorem q615 : (Jvm.Cond.arrayClass Jvm.ClassFile.FieldType.byte) ∈ lw_all := lw_g (lw_at lw_m3 64 rfl) rfl

theorem q86 : (Jvm.Cond.initialized "java/lang/System") ∈ lw_all := lw_g (lw_at lw_m1 15 rfl) rfl
set_option maxRecDepth 100000
theorem q675 : (Jvm.Cond.static ({ cls := "java/lang/System", name := "arraycopy", desc := "(Ljava/lang/Object;ILjava/lang/Object;II)V" } : Jvm.MethodName)) ∈ lw_all := lw_g (lw_at lw_m3 124 rfl) rfl
theorem q676 : (Jvm.Cond.native ({ cls := "java/lang/System", name := "arraycopy", desc := "(Ljava/lang/Object;ILjava/lang/Object;II)V" } : Jvm.MethodName)) ∈ lw_all := lw_g (lw_at lw_m3 125 rfl) rfl

/-! java/lang/Object -/
set_option maxRecDepth 100000
def RJ7 : String := "java/lang/Object"
abbrev cJ7_init : ByteArray := object_method_1_code
def yJ7_init : MethodName := ⟨RJ7, "<init>", "()V"⟩
theorem dJ7_init_0 : decode cJ7_init 0 = .ok (.return_, 1) := by decide +kernel
theorem q93 : (Jvm.Cond.instanceMethod ({ cls := "java/lang/Object", name := "<init>", desc := "()V" } : Jvm.MethodName)) ∈ lw_all := lw_g (lw_at lw_m1 22 rfl) rfl
theorem q94 : (Jvm.Cond.code ({ cls := "java/lang/Object", name := "<init>", desc := "()V" } : Jvm.MethodName) object_method_1_code (1 : Nat) (Option.none : Option Jvm.ClassFile.FieldType)) ∈ lw_all := lw_g (lw_at lw_m1 23 rfl) rfl
