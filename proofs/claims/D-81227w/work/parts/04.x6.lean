/-! SumColoursModel -/
set_option maxRecDepth 100000
def RX6 : String := "SumColoursModel"
def TX6 : u_T := fun k => match k with
  | 0 => ("SumColoursModel", "boards", "I", false)
  | 1 => ("SumColoursModel", "numbers", "I", false)
  | 2 => ("SumColoursModel", "colours", "I", false)
  | 3 => ("SumColoursModel", "kindOf", "[I", true)
  | 4 => ("SumColoursModel", "colourOf", "[I", true)
  | 5 => ("SumColoursModel", "changes", "I", false)
  | 6 => ("SumColoursModel", "seen", "I", false)
  | 7 => ("SumColoursModel", "seenNumber", "[I", true)
  | 8 => ("SumColoursModel", "seenWhat", "[I", true)
  | 9 => ("SumColoursModel", "seenCould", "[I", true)
  | 10 => ("SumColoursModel", "pageLength", "I", false)
  | 11 => ("SumColoursModel", "page", "[B", true)
  | 12 => ("SumColoursModel", "isWhole", "Z", false)
  | 13 => ("SumColoursModel", "newNumbers", "I", false)
  | 14 => ("SumColoursModel", "now", "[I", true)
  | 15 => ("SumColoursModel", "often", "[I", true)
  | 16 => ("SumColoursModel", "wanted", "[I", true)
  | 17 => ("SumColoursModel", "ways", "I", false)
  | 18 => ("SumColoursModel", "saved", "[I", true)
  | 19 => ("SumColoursModel", "turnOf", "[I", true)
  | 20 => ("SumColoursModel", "colourAt", "[I", true)
  | 21 => ("SumColoursModel", "winAt", "[I", true)
  | 22 => ("SumColoursModel", "seedNow", "J", false)
  | 23 => ("SumColoursModel", "isKept", "Z", false)
  | 24 => ("SumColoursModel", "keptBoard", "I", false)
  | 25 => ("SumColoursModel", "keptChanges", "I", false)
  | 26 => ("SumColoursModel", "keptSeen", "I", false)
  | 27 => ("SumColoursModel", "keptKind", "[I", true)
  | 28 => ("SumColoursModel", "keptColour", "[I", true)
  | 29 => ("SumColoursModel", "keptNumber", "[I", true)
  | 30 => ("SumColoursModel", "keptWhat", "[I", true)
  | 31 => ("SumColoursModel", "keptCould", "[I", true)
  | _ => ("SumColoursModel", "h", "J", false)
def tyX6 : Nat → FieldType := fun k => match k with
  | 0 => .int
  | 1 => .int
  | 2 => .int
  | 3 => .array .int
  | 4 => .array .int
  | 5 => .int
  | 6 => .int
  | 7 => .array .int
  | 8 => .array .int
  | 9 => .array .int
  | 10 => .int
  | 11 => .array .byte
  | 12 => .boolean
  | 13 => .int
  | 14 => .array .int
  | 15 => .array .int
  | 16 => .array .int
  | 17 => .int
  | 18 => .array .int
  | 19 => .array .int
  | 20 => .array .int
  | 21 => .array .int
  | 22 => .long
  | 23 => .boolean
  | 24 => .int
  | 25 => .int
  | 26 => .int
  | 27 => .array .int
  | 28 => .array .int
  | 29 => .array .int
  | 30 => .array .int
  | 31 => .array .int
  | _ => .long
abbrev wsX60 : List Cond := u_ws RX6 TX6 33
set_option maxRecDepth 100000 in
theorem nmX6 : ∀ a, a < 33 → ∀ b, b < 33 → a ≠ b → (TX6 a).2.1 ≠ (TX6 b).2.1 := by decide +kernel
set_option maxRecDepth 100000 in
theorem tyX6_ok : ∀ k, k < 33 → parseFieldDescriptor (TX6 k).2.2.1 = some (tyX6 k) := by decide +kernel
abbrev cX6_init : ByteArray := prog_9_method_1_code
def yX6_init : MethodName := ⟨RX6, "<init>", "()V"⟩
def dkwX6_init_6 : List UInt8 := [188, 10, 181, 0, 62, 177]
abbrev dktX6_init_6 : List UInt8 := dkwX6_init_6 ++ []
def dkwX6_init_5 : List UInt8 := [188, 10, 181, 0, 53, 42, 16, 6, 188, 10, 181, 0, 56, 42, 16, 6, 188, 10, 181, 0, 59, 42, 16, 6]
abbrev dktX6_init_5 : List UInt8 := dkwX6_init_5 ++ dktX6_init_6
def dkwX6_init_4 : List UInt8 := [188, 10, 181, 0, 44, 42, 16, 11, 188, 10, 181, 0, 47, 42, 16, 11, 188, 10, 181, 0, 50, 42, 16, 11]
abbrev dktX6_init_4 : List UInt8 := dkwX6_init_4 ++ dktX6_init_5
def dkwX6_init_3 : List UInt8 := [188, 10, 181, 0, 35, 42, 16, 11, 188, 10, 181, 0, 38, 42, 16, 11, 188, 10, 181, 0, 41, 42, 16, 11]
abbrev dktX6_init_3 : List UInt8 := dkwX6_init_3 ++ dktX6_init_4
def dkwX6_init_2 : List UInt8 := [188, 8, 181, 0, 25, 42, 16, 11, 188, 10, 181, 0, 29, 42, 16, 33, 188, 10, 181, 0, 32, 42, 16, 11]
abbrev dktX6_init_2 : List UInt8 := dkwX6_init_2 ++ dktX6_init_3
def dkwX6_init_1 : List UInt8 := [188, 10, 181, 0, 16, 42, 16, 6, 188, 10, 181, 0, 19, 42, 16, 6, 188, 10, 181, 0, 22, 42, 16, 26]
abbrev dktX6_init_1 : List UInt8 := dkwX6_init_1 ++ dktX6_init_2
def dkwX6_init_0 : List UInt8 := [42, 183, 0, 1, 42, 16, 11, 188, 10, 181, 0, 7, 42, 16, 11, 188, 10, 181, 0, 13, 42, 16, 6]
abbrev dktX6_init_0 : List UInt8 := dkwX6_init_0 ++ dktX6_init_1
theorem dksX6_init_0 : cX6_init.data.toList.drop 0 = dktX6_init_0 := by decide +kernel
theorem dksX6_init_1 : cX6_init.data.toList.drop 23 = dktX6_init_1 := dk_seg dksX6_init_0 23 rfl rfl
theorem dksX6_init_2 : cX6_init.data.toList.drop 47 = dktX6_init_2 := dk_seg dksX6_init_1 24 rfl rfl
theorem dksX6_init_3 : cX6_init.data.toList.drop 71 = dktX6_init_3 := dk_seg dksX6_init_2 24 rfl rfl
theorem dksX6_init_4 : cX6_init.data.toList.drop 95 = dktX6_init_4 := dk_seg dksX6_init_3 24 rfl rfl
theorem dksX6_init_5 : cX6_init.data.toList.drop 119 = dktX6_init_5 := dk_seg dksX6_init_4 24 rfl rfl
theorem dksX6_init_6 : cX6_init.data.toList.drop 143 = dktX6_init_6 := dk_seg dksX6_init_5 24 rfl rfl
theorem dX6_init_0 : decode cX6_init 0 = .ok (.aload_n 0, 1) := dk_42 (dk_at dksX6_init_0 0 rfl rfl)
theorem dX6_init_1 : decode cX6_init 1 = .ok (.invokespecial 1, 3) := dk_183 0 1 (dk_at dksX6_init_0 1 rfl rfl)
theorem dX6_init_4 : decode cX6_init 4 = .ok (.aload_n 0, 1) := dk_42 (dk_at dksX6_init_0 4 rfl rfl)
theorem dX6_init_5 : decode cX6_init 5 = .ok (.bipush 11, 2) := dk_16 11 (dk_at dksX6_init_0 5 rfl rfl)
theorem dX6_init_7 : decode cX6_init 7 = .ok (.newarray .int, 2) := dk_188_10 (dk_at dksX6_init_0 7 rfl rfl)
theorem dX6_init_9 : decode cX6_init 9 = .ok (.putfield 7, 3) := dk_181 0 7 (dk_at dksX6_init_0 9 rfl rfl)
theorem dX6_init_12 : decode cX6_init 12 = .ok (.aload_n 0, 1) := dk_42 (dk_at dksX6_init_0 12 rfl rfl)
theorem dX6_init_13 : decode cX6_init 13 = .ok (.bipush 11, 2) := dk_16 11 (dk_at dksX6_init_0 13 rfl rfl)
theorem dX6_init_15 : decode cX6_init 15 = .ok (.newarray .int, 2) := dk_188_10 (dk_at dksX6_init_0 15 rfl rfl)
theorem dX6_init_17 : decode cX6_init 17 = .ok (.putfield 13, 3) := dk_181 0 13 (dk_at dksX6_init_0 17 rfl rfl)
theorem dX6_init_20 : decode cX6_init 20 = .ok (.aload_n 0, 1) := dk_42 (dk_at dksX6_init_0 20 rfl rfl)
theorem dX6_init_21 : decode cX6_init 21 = .ok (.bipush 6, 2) := dk_16 6 (dk_at dksX6_init_0 21 rfl rfl)
theorem dX6_init_23 : decode cX6_init 23 = .ok (.newarray .int, 2) := dk_188_10 (dk_at dksX6_init_1 0 rfl rfl)
theorem dX6_init_25 : decode cX6_init 25 = .ok (.putfield 16, 3) := dk_181 0 16 (dk_at dksX6_init_1 2 rfl rfl)
theorem dX6_init_28 : decode cX6_init 28 = .ok (.aload_n 0, 1) := dk_42 (dk_at dksX6_init_1 5 rfl rfl)
theorem dX6_init_29 : decode cX6_init 29 = .ok (.bipush 6, 2) := dk_16 6 (dk_at dksX6_init_1 6 rfl rfl)
theorem dX6_init_31 : decode cX6_init 31 = .ok (.newarray .int, 2) := dk_188_10 (dk_at dksX6_init_1 8 rfl rfl)
theorem dX6_init_33 : decode cX6_init 33 = .ok (.putfield 19, 3) := dk_181 0 19 (dk_at dksX6_init_1 10 rfl rfl)
theorem dX6_init_36 : decode cX6_init 36 = .ok (.aload_n 0, 1) := dk_42 (dk_at dksX6_init_1 13 rfl rfl)
theorem dX6_init_37 : decode cX6_init 37 = .ok (.bipush 6, 2) := dk_16 6 (dk_at dksX6_init_1 14 rfl rfl)
theorem dX6_init_39 : decode cX6_init 39 = .ok (.newarray .int, 2) := dk_188_10 (dk_at dksX6_init_1 16 rfl rfl)
theorem dX6_init_41 : decode cX6_init 41 = .ok (.putfield 22, 3) := dk_181 0 22 (dk_at dksX6_init_1 18 rfl rfl)
theorem dX6_init_44 : decode cX6_init 44 = .ok (.aload_n 0, 1) := dk_42 (dk_at dksX6_init_1 21 rfl rfl)
theorem dX6_init_45 : decode cX6_init 45 = .ok (.bipush 26, 2) := dk_16 26 (dk_at dksX6_init_1 22 rfl rfl)
theorem dX6_init_47 : decode cX6_init 47 = .ok (.newarray .byte, 2) := dk_188_8 (dk_at dksX6_init_2 0 rfl rfl)
theorem dX6_init_49 : decode cX6_init 49 = .ok (.putfield 25, 3) := dk_181 0 25 (dk_at dksX6_init_2 2 rfl rfl)
theorem dX6_init_52 : decode cX6_init 52 = .ok (.aload_n 0, 1) := dk_42 (dk_at dksX6_init_2 5 rfl rfl)
theorem dX6_init_53 : decode cX6_init 53 = .ok (.bipush 11, 2) := dk_16 11 (dk_at dksX6_init_2 6 rfl rfl)
theorem dX6_init_55 : decode cX6_init 55 = .ok (.newarray .int, 2) := dk_188_10 (dk_at dksX6_init_2 8 rfl rfl)
theorem dX6_init_57 : decode cX6_init 57 = .ok (.putfield 29, 3) := dk_181 0 29 (dk_at dksX6_init_2 10 rfl rfl)
theorem dX6_init_60 : decode cX6_init 60 = .ok (.aload_n 0, 1) := dk_42 (dk_at dksX6_init_2 13 rfl rfl)
theorem dX6_init_61 : decode cX6_init 61 = .ok (.bipush 33, 2) := dk_16 33 (dk_at dksX6_init_2 14 rfl rfl)
theorem dX6_init_63 : decode cX6_init 63 = .ok (.newarray .int, 2) := dk_188_10 (dk_at dksX6_init_2 16 rfl rfl)
theorem dX6_init_65 : decode cX6_init 65 = .ok (.putfield 32, 3) := dk_181 0 32 (dk_at dksX6_init_2 18 rfl rfl)
theorem dX6_init_68 : decode cX6_init 68 = .ok (.aload_n 0, 1) := dk_42 (dk_at dksX6_init_2 21 rfl rfl)
theorem dX6_init_69 : decode cX6_init 69 = .ok (.bipush 11, 2) := dk_16 11 (dk_at dksX6_init_2 22 rfl rfl)
theorem dX6_init_71 : decode cX6_init 71 = .ok (.newarray .int, 2) := dk_188_10 (dk_at dksX6_init_3 0 rfl rfl)
theorem dX6_init_73 : decode cX6_init 73 = .ok (.putfield 35, 3) := dk_181 0 35 (dk_at dksX6_init_3 2 rfl rfl)
theorem dX6_init_76 : decode cX6_init 76 = .ok (.aload_n 0, 1) := dk_42 (dk_at dksX6_init_3 5 rfl rfl)
theorem dX6_init_77 : decode cX6_init 77 = .ok (.bipush 11, 2) := dk_16 11 (dk_at dksX6_init_3 6 rfl rfl)
theorem dX6_init_79 : decode cX6_init 79 = .ok (.newarray .int, 2) := dk_188_10 (dk_at dksX6_init_3 8 rfl rfl)
theorem dX6_init_81 : decode cX6_init 81 = .ok (.putfield 38, 3) := dk_181 0 38 (dk_at dksX6_init_3 10 rfl rfl)
theorem dX6_init_84 : decode cX6_init 84 = .ok (.aload_n 0, 1) := dk_42 (dk_at dksX6_init_3 13 rfl rfl)
theorem dX6_init_85 : decode cX6_init 85 = .ok (.bipush 11, 2) := dk_16 11 (dk_at dksX6_init_3 14 rfl rfl)
theorem dX6_init_87 : decode cX6_init 87 = .ok (.newarray .int, 2) := dk_188_10 (dk_at dksX6_init_3 16 rfl rfl)
theorem dX6_init_89 : decode cX6_init 89 = .ok (.putfield 41, 3) := dk_181 0 41 (dk_at dksX6_init_3 18 rfl rfl)
theorem dX6_init_92 : decode cX6_init 92 = .ok (.aload_n 0, 1) := dk_42 (dk_at dksX6_init_3 21 rfl rfl)
theorem dX6_init_93 : decode cX6_init 93 = .ok (.bipush 11, 2) := dk_16 11 (dk_at dksX6_init_3 22 rfl rfl)
theorem dX6_init_95 : decode cX6_init 95 = .ok (.newarray .int, 2) := dk_188_10 (dk_at dksX6_init_4 0 rfl rfl)
theorem dX6_init_97 : decode cX6_init 97 = .ok (.putfield 44, 3) := dk_181 0 44 (dk_at dksX6_init_4 2 rfl rfl)
theorem dX6_init_100 : decode cX6_init 100 = .ok (.aload_n 0, 1) := dk_42 (dk_at dksX6_init_4 5 rfl rfl)
theorem dX6_init_101 : decode cX6_init 101 = .ok (.bipush 11, 2) := dk_16 11 (dk_at dksX6_init_4 6 rfl rfl)
theorem dX6_init_103 : decode cX6_init 103 = .ok (.newarray .int, 2) := dk_188_10 (dk_at dksX6_init_4 8 rfl rfl)
theorem dX6_init_105 : decode cX6_init 105 = .ok (.putfield 47, 3) := dk_181 0 47 (dk_at dksX6_init_4 10 rfl rfl)
theorem dX6_init_108 : decode cX6_init 108 = .ok (.aload_n 0, 1) := dk_42 (dk_at dksX6_init_4 13 rfl rfl)
theorem dX6_init_109 : decode cX6_init 109 = .ok (.bipush 11, 2) := dk_16 11 (dk_at dksX6_init_4 14 rfl rfl)
theorem dX6_init_111 : decode cX6_init 111 = .ok (.newarray .int, 2) := dk_188_10 (dk_at dksX6_init_4 16 rfl rfl)
theorem dX6_init_113 : decode cX6_init 113 = .ok (.putfield 50, 3) := dk_181 0 50 (dk_at dksX6_init_4 18 rfl rfl)
theorem dX6_init_116 : decode cX6_init 116 = .ok (.aload_n 0, 1) := dk_42 (dk_at dksX6_init_4 21 rfl rfl)
theorem dX6_init_117 : decode cX6_init 117 = .ok (.bipush 11, 2) := dk_16 11 (dk_at dksX6_init_4 22 rfl rfl)
theorem dX6_init_119 : decode cX6_init 119 = .ok (.newarray .int, 2) := dk_188_10 (dk_at dksX6_init_5 0 rfl rfl)
theorem dX6_init_121 : decode cX6_init 121 = .ok (.putfield 53, 3) := dk_181 0 53 (dk_at dksX6_init_5 2 rfl rfl)
theorem dX6_init_124 : decode cX6_init 124 = .ok (.aload_n 0, 1) := dk_42 (dk_at dksX6_init_5 5 rfl rfl)
theorem dX6_init_125 : decode cX6_init 125 = .ok (.bipush 6, 2) := dk_16 6 (dk_at dksX6_init_5 6 rfl rfl)
theorem dX6_init_127 : decode cX6_init 127 = .ok (.newarray .int, 2) := dk_188_10 (dk_at dksX6_init_5 8 rfl rfl)
theorem dX6_init_129 : decode cX6_init 129 = .ok (.putfield 56, 3) := dk_181 0 56 (dk_at dksX6_init_5 10 rfl rfl)
theorem dX6_init_132 : decode cX6_init 132 = .ok (.aload_n 0, 1) := dk_42 (dk_at dksX6_init_5 13 rfl rfl)
theorem dX6_init_133 : decode cX6_init 133 = .ok (.bipush 6, 2) := dk_16 6 (dk_at dksX6_init_5 14 rfl rfl)
theorem dX6_init_135 : decode cX6_init 135 = .ok (.newarray .int, 2) := dk_188_10 (dk_at dksX6_init_5 16 rfl rfl)
theorem dX6_init_137 : decode cX6_init 137 = .ok (.putfield 59, 3) := dk_181 0 59 (dk_at dksX6_init_5 18 rfl rfl)
theorem dX6_init_140 : decode cX6_init 140 = .ok (.aload_n 0, 1) := dk_42 (dk_at dksX6_init_5 21 rfl rfl)
theorem dX6_init_141 : decode cX6_init 141 = .ok (.bipush 6, 2) := dk_16 6 (dk_at dksX6_init_5 22 rfl rfl)
theorem dX6_init_143 : decode cX6_init 143 = .ok (.newarray .int, 2) := dk_188_10 (dk_at dksX6_init_6 0 rfl rfl)
theorem dX6_init_145 : decode cX6_init 145 = .ok (.putfield 62, 3) := dk_181 0 62 (dk_at dksX6_init_6 2 rfl rfl)
theorem dX6_init_148 : decode cX6_init 148 = .ok (.return_, 1) := dk_177 (dk_at dksX6_init_6 5 rfl rfl)
abbrev cX6_letter : ByteArray := prog_9_method_6_code
def yX6_letter : MethodName := ⟨RX6, "letter", "(I)I"⟩
def dkwX6_letter_2 : List UInt8 := [42, 180, 0, 69, 172]
abbrev dktX6_letter_2 : List UInt8 := dkwX6_letter_2 ++ []
def dkwX6_letter_1 : List UInt8 := [16, 152, 172, 42, 180, 0, 25, 42, 180, 0, 69, 27, 145, 84, 42, 89, 180, 0, 69, 4, 96, 181, 0, 69]
abbrev dktX6_letter_1 : List UInt8 := dkwX6_letter_1 ++ dktX6_letter_2
def dkwX6_letter_0 : List UInt8 := [27, 16, 32, 16, 126, 184, 0, 65, 154, 0, 6, 16, 154, 172, 42, 180, 0, 69, 16, 26, 160, 0, 6]
abbrev dktX6_letter_0 : List UInt8 := dkwX6_letter_0 ++ dktX6_letter_1
theorem dksX6_letter_0 : cX6_letter.data.toList.drop 0 = dktX6_letter_0 := by decide +kernel
theorem dksX6_letter_1 : cX6_letter.data.toList.drop 23 = dktX6_letter_1 := dk_seg dksX6_letter_0 23 rfl rfl
theorem dksX6_letter_2 : cX6_letter.data.toList.drop 47 = dktX6_letter_2 := dk_seg dksX6_letter_1 24 rfl rfl
theorem dX6_letter_0 : decode cX6_letter 0 = .ok (.iload_n 1, 1) := dk_27 (dk_at dksX6_letter_0 0 rfl rfl)
theorem dX6_letter_1 : decode cX6_letter 1 = .ok (.bipush 32, 2) := dk_16 32 (dk_at dksX6_letter_0 1 rfl rfl)
theorem dX6_letter_3 : decode cX6_letter 3 = .ok (.bipush 126, 2) := dk_16 126 (dk_at dksX6_letter_0 3 rfl rfl)
theorem dX6_letter_5 : decode cX6_letter 5 = .ok (.invokestatic 65, 3) := dk_184 0 65 (dk_at dksX6_letter_0 5 rfl rfl)
theorem dX6_letter_8 : decode cX6_letter 8 = .ok (.ifCond .ne 6, 3) := dk_154 0 6 (dk_at dksX6_letter_0 8 rfl rfl)
theorem dX6_letter_11 : decode cX6_letter 11 = .ok (.bipush (-102), 2) := dk_16 154 (dk_at dksX6_letter_0 11 rfl rfl)
theorem dX6_letter_13 : decode cX6_letter 13 = .ok (.ireturn, 1) := dk_172 (dk_at dksX6_letter_0 13 rfl rfl)
theorem dX6_letter_14 : decode cX6_letter 14 = .ok (.aload_n 0, 1) := dk_42 (dk_at dksX6_letter_0 14 rfl rfl)
theorem dX6_letter_15 : decode cX6_letter 15 = .ok (.getfield 69, 3) := dk_180 0 69 (dk_at dksX6_letter_0 15 rfl rfl)
theorem dX6_letter_18 : decode cX6_letter 18 = .ok (.bipush 26, 2) := dk_16 26 (dk_at dksX6_letter_0 18 rfl rfl)
theorem dX6_letter_20 : decode cX6_letter 20 = .ok (.if_icmp .ne 6, 3) := dk_160 0 6 (dk_at dksX6_letter_0 20 rfl rfl)
theorem dX6_letter_23 : decode cX6_letter 23 = .ok (.bipush (-104), 2) := dk_16 152 (dk_at dksX6_letter_1 0 rfl rfl)
theorem dX6_letter_25 : decode cX6_letter 25 = .ok (.ireturn, 1) := dk_172 (dk_at dksX6_letter_1 2 rfl rfl)
theorem dX6_letter_26 : decode cX6_letter 26 = .ok (.aload_n 0, 1) := dk_42 (dk_at dksX6_letter_1 3 rfl rfl)
theorem dX6_letter_27 : decode cX6_letter 27 = .ok (.getfield 25, 3) := dk_180 0 25 (dk_at dksX6_letter_1 4 rfl rfl)
theorem dX6_letter_30 : decode cX6_letter 30 = .ok (.aload_n 0, 1) := dk_42 (dk_at dksX6_letter_1 7 rfl rfl)
theorem dX6_letter_31 : decode cX6_letter 31 = .ok (.getfield 69, 3) := dk_180 0 69 (dk_at dksX6_letter_1 8 rfl rfl)
theorem dX6_letter_34 : decode cX6_letter 34 = .ok (.iload_n 1, 1) := dk_27 (dk_at dksX6_letter_1 11 rfl rfl)
theorem dX6_letter_35 : decode cX6_letter 35 = .ok (.i2b, 1) := dk_145 (dk_at dksX6_letter_1 12 rfl rfl)
theorem dX6_letter_36 : decode cX6_letter 36 = .ok (.bastore, 1) := dk_84 (dk_at dksX6_letter_1 13 rfl rfl)
theorem dX6_letter_37 : decode cX6_letter 37 = .ok (.aload_n 0, 1) := dk_42 (dk_at dksX6_letter_1 14 rfl rfl)
theorem dX6_letter_38 : decode cX6_letter 38 = .ok (.dup, 1) := dk_89 (dk_at dksX6_letter_1 15 rfl rfl)
theorem dX6_letter_39 : decode cX6_letter 39 = .ok (.getfield 69, 3) := dk_180 0 69 (dk_at dksX6_letter_1 16 rfl rfl)
theorem dX6_letter_42 : decode cX6_letter 42 = .ok (.iconst 1, 1) := dk_4 (dk_at dksX6_letter_1 19 rfl rfl)
theorem dX6_letter_43 : decode cX6_letter 43 = .ok (.iadd, 1) := dk_96 (dk_at dksX6_letter_1 20 rfl rfl)
theorem dX6_letter_44 : decode cX6_letter 44 = .ok (.putfield 69, 3) := dk_181 0 69 (dk_at dksX6_letter_1 21 rfl rfl)
theorem dX6_letter_47 : decode cX6_letter 47 = .ok (.aload_n 0, 1) := dk_42 (dk_at dksX6_letter_2 0 rfl rfl)
theorem dX6_letter_48 : decode cX6_letter 48 = .ok (.getfield 69, 3) := dk_180 0 69 (dk_at dksX6_letter_2 1 rfl rfl)
theorem dX6_letter_51 : decode cX6_letter 51 = .ok (.ireturn, 1) := dk_172 (dk_at dksX6_letter_2 4 rfl rfl)
abbrev cX6_within : ByteArray := prog_9_method_3_code
def yX6_within : MethodName := ⟨RX6, "within", "(III)Z"⟩
def dkwX6_within_0 : List UInt8 := [26, 27, 161, 0, 12, 26, 28, 163, 0, 7, 4, 167, 0, 4, 3, 172]
abbrev dktX6_within_0 : List UInt8 := dkwX6_within_0 ++ []
theorem dksX6_within_0 : cX6_within.data.toList.drop 0 = dktX6_within_0 := by decide +kernel
theorem dX6_within_0 : decode cX6_within 0 = .ok (.iload_n 0, 1) := dk_26 (dk_at dksX6_within_0 0 rfl rfl)
theorem dX6_within_1 : decode cX6_within 1 = .ok (.iload_n 1, 1) := dk_27 (dk_at dksX6_within_0 1 rfl rfl)
theorem dX6_within_2 : decode cX6_within 2 = .ok (.if_icmp .lt 12, 3) := dk_161 0 12 (dk_at dksX6_within_0 2 rfl rfl)
theorem dX6_within_5 : decode cX6_within 5 = .ok (.iload_n 0, 1) := dk_26 (dk_at dksX6_within_0 5 rfl rfl)
theorem dX6_within_6 : decode cX6_within 6 = .ok (.iload_n 2, 1) := dk_28 (dk_at dksX6_within_0 6 rfl rfl)
theorem dX6_within_7 : decode cX6_within 7 = .ok (.if_icmp .gt 7, 3) := dk_163 0 7 (dk_at dksX6_within_0 7 rfl rfl)
theorem dX6_within_10 : decode cX6_within 10 = .ok (.iconst 1, 1) := dk_4 (dk_at dksX6_within_0 10 rfl rfl)
theorem dX6_within_11 : decode cX6_within 11 = .ok (.goto 4, 3) := dk_167 0 4 (dk_at dksX6_within_0 11 rfl rfl)
theorem dX6_within_14 : decode cX6_within 14 = .ok (.iconst 0, 1) := dk_3 (dk_at dksX6_within_0 14 rfl rfl)
theorem dX6_within_15 : decode cX6_within 15 = .ok (.ireturn, 1) := dk_172 (dk_at dksX6_within_0 15 rfl rfl)
abbrev cX6_blank : ByteArray := prog_9_method_7_code
def yX6_blank : MethodName := ⟨RX6, "blank", "()I"⟩
def dkwX6_blank_0 : List UInt8 := [42, 180, 0, 69, 60, 42, 3, 181, 0, 69, 27, 172]
abbrev dktX6_blank_0 : List UInt8 := dkwX6_blank_0 ++ []
theorem dksX6_blank_0 : cX6_blank.data.toList.drop 0 = dktX6_blank_0 := by decide +kernel
theorem dX6_blank_0 : decode cX6_blank 0 = .ok (.aload_n 0, 1) := dk_42 (dk_at dksX6_blank_0 0 rfl rfl)
theorem dX6_blank_1 : decode cX6_blank 1 = .ok (.getfield 69, 3) := dk_180 0 69 (dk_at dksX6_blank_0 1 rfl rfl)
theorem dX6_blank_4 : decode cX6_blank 4 = .ok (.istore_n 1, 1) := dk_60 (dk_at dksX6_blank_0 4 rfl rfl)
theorem dX6_blank_5 : decode cX6_blank 5 = .ok (.aload_n 0, 1) := dk_42 (dk_at dksX6_blank_0 5 rfl rfl)
theorem dX6_blank_6 : decode cX6_blank 6 = .ok (.iconst 0, 1) := dk_3 (dk_at dksX6_blank_0 6 rfl rfl)
theorem dX6_blank_7 : decode cX6_blank 7 = .ok (.putfield 69, 3) := dk_181 0 69 (dk_at dksX6_blank_0 7 rfl rfl)
theorem dX6_blank_10 : decode cX6_blank 10 = .ok (.iload_n 1, 1) := dk_27 (dk_at dksX6_blank_0 10 rfl rfl)
theorem dX6_blank_11 : decode cX6_blank 11 = .ok (.ireturn, 1) := dk_172 (dk_at dksX6_blank_0 11 rfl rfl)
abbrev cX6_fault : ByteArray := prog_9_method_13_code
def yX6_fault : MethodName := ⟨RX6, "fault", "()I"⟩
theorem dX6_fault_0 : decode cX6_fault 0 = .ok (.aload_n 0, 1) := by decide +kernel
theorem dX6_fault_1 : decode cX6_fault 1 = .ok (.invokevirtual 95, 3) := by decide +kernel
theorem dX6_fault_4 : decode cX6_fault 4 = .ok (.ireturn, 1) := by decide +kernel
abbrev cX6_read : ByteArray := prog_9_method_12_code
def yX6_read : MethodName := ⟨RX6, "read", "()I"⟩
def dkwX6_read_3 : List UInt8 := [96, 27, 182, 0, 91, 172]
abbrev dktX6_read_3 : List UInt8 := dkwX6_read_3 ++ []
def dkwX6_read_2 : List UInt8 := [61, 42, 180, 0, 73, 7, 161, 0, 13, 42, 28, 182, 0, 76, 16, 59, 159, 0, 5, 28, 172, 42, 28, 4]
abbrev dktX6_read_2 : List UInt8 := dkwX6_read_2 ++ dktX6_read_3
def dkwX6_read_1 : List UInt8 := [184, 0, 65, 154, 0, 5, 3, 172, 42, 4, 182, 0, 76, 16, 59, 159, 0, 5, 4, 172, 42, 182, 0, 87]
abbrev dktX6_read_1 : List UInt8 := dkwX6_read_1 ++ dktX6_read_2
def dkwX6_read_0 : List UInt8 := [42, 3, 181, 0, 83, 42, 3, 181, 0, 73, 42, 3, 182, 0, 76, 16, 48, 100, 60, 27, 5, 6]
abbrev dktX6_read_0 : List UInt8 := dkwX6_read_0 ++ dktX6_read_1
theorem dksX6_read_0 : cX6_read.data.toList.drop 0 = dktX6_read_0 := by decide +kernel
theorem dksX6_read_1 : cX6_read.data.toList.drop 22 = dktX6_read_1 := dk_seg dksX6_read_0 22 rfl rfl
theorem dksX6_read_2 : cX6_read.data.toList.drop 46 = dktX6_read_2 := dk_seg dksX6_read_1 24 rfl rfl
theorem dksX6_read_3 : cX6_read.data.toList.drop 70 = dktX6_read_3 := dk_seg dksX6_read_2 24 rfl rfl
theorem dX6_read_0 : decode cX6_read 0 = .ok (.aload_n 0, 1) := dk_42 (dk_at dksX6_read_0 0 rfl rfl)
theorem dX6_read_1 : decode cX6_read 1 = .ok (.iconst 0, 1) := dk_3 (dk_at dksX6_read_0 1 rfl rfl)
theorem dX6_read_2 : decode cX6_read 2 = .ok (.putfield 83, 3) := dk_181 0 83 (dk_at dksX6_read_0 2 rfl rfl)
theorem dX6_read_5 : decode cX6_read 5 = .ok (.aload_n 0, 1) := dk_42 (dk_at dksX6_read_0 5 rfl rfl)
theorem dX6_read_6 : decode cX6_read 6 = .ok (.iconst 0, 1) := dk_3 (dk_at dksX6_read_0 6 rfl rfl)
theorem dX6_read_7 : decode cX6_read 7 = .ok (.putfield 73, 3) := dk_181 0 73 (dk_at dksX6_read_0 7 rfl rfl)
theorem dX6_read_10 : decode cX6_read 10 = .ok (.aload_n 0, 1) := dk_42 (dk_at dksX6_read_0 10 rfl rfl)
theorem dX6_read_11 : decode cX6_read 11 = .ok (.iconst 0, 1) := dk_3 (dk_at dksX6_read_0 11 rfl rfl)
theorem dX6_read_12 : decode cX6_read 12 = .ok (.invokevirtual 76, 3) := dk_182 0 76 (dk_at dksX6_read_0 12 rfl rfl)
theorem dX6_read_15 : decode cX6_read 15 = .ok (.bipush 48, 2) := dk_16 48 (dk_at dksX6_read_0 15 rfl rfl)
theorem dX6_read_17 : decode cX6_read 17 = .ok (.isub, 1) := dk_100 (dk_at dksX6_read_0 17 rfl rfl)
theorem dX6_read_18 : decode cX6_read 18 = .ok (.istore_n 1, 1) := dk_60 (dk_at dksX6_read_0 18 rfl rfl)
theorem dX6_read_19 : decode cX6_read 19 = .ok (.iload_n 1, 1) := dk_27 (dk_at dksX6_read_0 19 rfl rfl)
theorem dX6_read_20 : decode cX6_read 20 = .ok (.iconst 2, 1) := dk_5 (dk_at dksX6_read_0 20 rfl rfl)
theorem dX6_read_21 : decode cX6_read 21 = .ok (.iconst 3, 1) := dk_6 (dk_at dksX6_read_0 21 rfl rfl)
theorem dX6_read_22 : decode cX6_read 22 = .ok (.invokestatic 65, 3) := dk_184 0 65 (dk_at dksX6_read_1 0 rfl rfl)
theorem dX6_read_25 : decode cX6_read 25 = .ok (.ifCond .ne 5, 3) := dk_154 0 5 (dk_at dksX6_read_1 3 rfl rfl)
theorem dX6_read_28 : decode cX6_read 28 = .ok (.iconst 0, 1) := dk_3 (dk_at dksX6_read_1 6 rfl rfl)
theorem dX6_read_29 : decode cX6_read 29 = .ok (.ireturn, 1) := dk_172 (dk_at dksX6_read_1 7 rfl rfl)
theorem dX6_read_30 : decode cX6_read 30 = .ok (.aload_n 0, 1) := dk_42 (dk_at dksX6_read_1 8 rfl rfl)
theorem dX6_read_31 : decode cX6_read 31 = .ok (.iconst 1, 1) := dk_4 (dk_at dksX6_read_1 9 rfl rfl)
theorem dX6_read_32 : decode cX6_read 32 = .ok (.invokevirtual 76, 3) := dk_182 0 76 (dk_at dksX6_read_1 10 rfl rfl)
theorem dX6_read_35 : decode cX6_read 35 = .ok (.bipush 59, 2) := dk_16 59 (dk_at dksX6_read_1 13 rfl rfl)
theorem dX6_read_37 : decode cX6_read 37 = .ok (.if_icmp .eq 5, 3) := dk_159 0 5 (dk_at dksX6_read_1 15 rfl rfl)
theorem dX6_read_40 : decode cX6_read 40 = .ok (.iconst 1, 1) := dk_4 (dk_at dksX6_read_1 18 rfl rfl)
theorem dX6_read_41 : decode cX6_read 41 = .ok (.ireturn, 1) := dk_172 (dk_at dksX6_read_1 19 rfl rfl)
theorem dX6_read_42 : decode cX6_read 42 = .ok (.aload_n 0, 1) := dk_42 (dk_at dksX6_read_1 20 rfl rfl)
theorem dX6_read_43 : decode cX6_read 43 = .ok (.invokevirtual 87, 3) := dk_182 0 87 (dk_at dksX6_read_1 21 rfl rfl)
theorem dX6_read_46 : decode cX6_read 46 = .ok (.istore_n 2, 1) := dk_61 (dk_at dksX6_read_2 0 rfl rfl)
theorem dX6_read_47 : decode cX6_read 47 = .ok (.aload_n 0, 1) := dk_42 (dk_at dksX6_read_2 1 rfl rfl)
theorem dX6_read_48 : decode cX6_read 48 = .ok (.getfield 73, 3) := dk_180 0 73 (dk_at dksX6_read_2 2 rfl rfl)
theorem dX6_read_51 : decode cX6_read 51 = .ok (.iconst 4, 1) := dk_7 (dk_at dksX6_read_2 5 rfl rfl)
theorem dX6_read_52 : decode cX6_read 52 = .ok (.if_icmp .lt 13, 3) := dk_161 0 13 (dk_at dksX6_read_2 6 rfl rfl)
theorem dX6_read_55 : decode cX6_read 55 = .ok (.aload_n 0, 1) := dk_42 (dk_at dksX6_read_2 9 rfl rfl)
theorem dX6_read_56 : decode cX6_read 56 = .ok (.iload_n 2, 1) := dk_28 (dk_at dksX6_read_2 10 rfl rfl)
theorem dX6_read_57 : decode cX6_read 57 = .ok (.invokevirtual 76, 3) := dk_182 0 76 (dk_at dksX6_read_2 11 rfl rfl)
theorem dX6_read_60 : decode cX6_read 60 = .ok (.bipush 59, 2) := dk_16 59 (dk_at dksX6_read_2 14 rfl rfl)
theorem dX6_read_62 : decode cX6_read 62 = .ok (.if_icmp .eq 5, 3) := dk_159 0 5 (dk_at dksX6_read_2 16 rfl rfl)
theorem dX6_read_65 : decode cX6_read 65 = .ok (.iload_n 2, 1) := dk_28 (dk_at dksX6_read_2 19 rfl rfl)
theorem dX6_read_66 : decode cX6_read 66 = .ok (.ireturn, 1) := dk_172 (dk_at dksX6_read_2 20 rfl rfl)
theorem dX6_read_67 : decode cX6_read 67 = .ok (.aload_n 0, 1) := dk_42 (dk_at dksX6_read_2 21 rfl rfl)
theorem dX6_read_68 : decode cX6_read 68 = .ok (.iload_n 2, 1) := dk_28 (dk_at dksX6_read_2 22 rfl rfl)
theorem dX6_read_69 : decode cX6_read 69 = .ok (.iconst 1, 1) := dk_4 (dk_at dksX6_read_2 23 rfl rfl)
theorem dX6_read_70 : decode cX6_read 70 = .ok (.iadd, 1) := dk_96 (dk_at dksX6_read_3 0 rfl rfl)
theorem dX6_read_71 : decode cX6_read 71 = .ok (.iload_n 1, 1) := dk_27 (dk_at dksX6_read_3 1 rfl rfl)
theorem dX6_read_72 : decode cX6_read 72 = .ok (.invokevirtual 91, 3) := dk_182 0 91 (dk_at dksX6_read_3 2 rfl rfl)
theorem dX6_read_75 : decode cX6_read 75 = .ok (.ireturn, 1) := dk_172 (dk_at dksX6_read_3 5 rfl rfl)
abbrev cX6_at : ByteArray := prog_9_method_9_code
def yX6_at : MethodName := ⟨RX6, "at", "(I)I"⟩
def dkwX6_at_0 : List UInt8 := [27, 42, 180, 0, 69, 162, 0, 12, 42, 180, 0, 25, 27, 51, 167, 0, 4, 3, 172]
abbrev dktX6_at_0 : List UInt8 := dkwX6_at_0 ++ []
theorem dksX6_at_0 : cX6_at.data.toList.drop 0 = dktX6_at_0 := by decide +kernel
theorem dX6_at_0 : decode cX6_at 0 = .ok (.iload_n 1, 1) := dk_27 (dk_at dksX6_at_0 0 rfl rfl)
theorem dX6_at_1 : decode cX6_at 1 = .ok (.aload_n 0, 1) := dk_42 (dk_at dksX6_at_0 1 rfl rfl)
theorem dX6_at_2 : decode cX6_at 2 = .ok (.getfield 69, 3) := dk_180 0 69 (dk_at dksX6_at_0 2 rfl rfl)
theorem dX6_at_5 : decode cX6_at 5 = .ok (.if_icmp .ge 12, 3) := dk_162 0 12 (dk_at dksX6_at_0 5 rfl rfl)
theorem dX6_at_8 : decode cX6_at 8 = .ok (.aload_n 0, 1) := dk_42 (dk_at dksX6_at_0 8 rfl rfl)
theorem dX6_at_9 : decode cX6_at 9 = .ok (.getfield 25, 3) := dk_180 0 25 (dk_at dksX6_at_0 9 rfl rfl)
theorem dX6_at_12 : decode cX6_at 12 = .ok (.iload_n 1, 1) := dk_27 (dk_at dksX6_at_0 12 rfl rfl)
theorem dX6_at_13 : decode cX6_at 13 = .ok (.baload, 1) := dk_51 (dk_at dksX6_at_0 13 rfl rfl)
theorem dX6_at_14 : decode cX6_at 14 = .ok (.goto 4, 3) := dk_167 0 4 (dk_at dksX6_at_0 14 rfl rfl)
theorem dX6_at_17 : decode cX6_at 17 = .ok (.iconst 0, 1) := dk_3 (dk_at dksX6_at_0 17 rfl rfl)
theorem dX6_at_18 : decode cX6_at 18 = .ok (.ireturn, 1) := dk_172 (dk_at dksX6_at_0 18 rfl rfl)
abbrev cX6_readKinds : ByteArray := prog_9_method_10_code
def yX6_readKinds : MethodName := ⟨RX6, "readKinds", "()I"⟩
def dkwX6_readKinds_1 : List UInt8 := [89, 180, 0, 73, 4, 96, 181, 0, 73, 132, 1, 1, 167, 255, 222, 27, 172]
abbrev dktX6_readKinds_1 : List UInt8 := dkwX6_readKinds_1 ++ []
def dkwX6_readKinds_0 : List UInt8 := [5, 60, 42, 180, 0, 73, 16, 10, 162, 0, 31, 42, 27, 182, 0, 76, 184, 0, 80, 2, 159, 0, 19, 42]
abbrev dktX6_readKinds_0 : List UInt8 := dkwX6_readKinds_0 ++ dktX6_readKinds_1
theorem dksX6_readKinds_0 : cX6_readKinds.data.toList.drop 0 = dktX6_readKinds_0 := by decide +kernel
theorem dksX6_readKinds_1 : cX6_readKinds.data.toList.drop 24 = dktX6_readKinds_1 := dk_seg dksX6_readKinds_0 24 rfl rfl
theorem dX6_readKinds_0 : decode cX6_readKinds 0 = .ok (.iconst 2, 1) := dk_5 (dk_at dksX6_readKinds_0 0 rfl rfl)
theorem dX6_readKinds_1 : decode cX6_readKinds 1 = .ok (.istore_n 1, 1) := dk_60 (dk_at dksX6_readKinds_0 1 rfl rfl)
theorem dX6_readKinds_2 : decode cX6_readKinds 2 = .ok (.aload_n 0, 1) := dk_42 (dk_at dksX6_readKinds_0 2 rfl rfl)
theorem dX6_readKinds_3 : decode cX6_readKinds 3 = .ok (.getfield 73, 3) := dk_180 0 73 (dk_at dksX6_readKinds_0 3 rfl rfl)
theorem dX6_readKinds_6 : decode cX6_readKinds 6 = .ok (.bipush 10, 2) := dk_16 10 (dk_at dksX6_readKinds_0 6 rfl rfl)
theorem dX6_readKinds_8 : decode cX6_readKinds 8 = .ok (.if_icmp .ge 31, 3) := dk_162 0 31 (dk_at dksX6_readKinds_0 8 rfl rfl)
theorem dX6_readKinds_11 : decode cX6_readKinds 11 = .ok (.aload_n 0, 1) := dk_42 (dk_at dksX6_readKinds_0 11 rfl rfl)
theorem dX6_readKinds_12 : decode cX6_readKinds 12 = .ok (.iload_n 1, 1) := dk_27 (dk_at dksX6_readKinds_0 12 rfl rfl)
theorem dX6_readKinds_13 : decode cX6_readKinds 13 = .ok (.invokevirtual 76, 3) := dk_182 0 76 (dk_at dksX6_readKinds_0 13 rfl rfl)
theorem dX6_readKinds_16 : decode cX6_readKinds 16 = .ok (.invokestatic 80, 3) := dk_184 0 80 (dk_at dksX6_readKinds_0 16 rfl rfl)
theorem dX6_readKinds_19 : decode cX6_readKinds 19 = .ok (.iconst (-1), 1) := dk_2 (dk_at dksX6_readKinds_0 19 rfl rfl)
theorem dX6_readKinds_20 : decode cX6_readKinds 20 = .ok (.if_icmp .eq 19, 3) := dk_159 0 19 (dk_at dksX6_readKinds_0 20 rfl rfl)
theorem dX6_readKinds_23 : decode cX6_readKinds 23 = .ok (.aload_n 0, 1) := dk_42 (dk_at dksX6_readKinds_0 23 rfl rfl)
theorem dX6_readKinds_24 : decode cX6_readKinds 24 = .ok (.dup, 1) := dk_89 (dk_at dksX6_readKinds_1 0 rfl rfl)
theorem dX6_readKinds_25 : decode cX6_readKinds 25 = .ok (.getfield 73, 3) := dk_180 0 73 (dk_at dksX6_readKinds_1 1 rfl rfl)
theorem dX6_readKinds_28 : decode cX6_readKinds 28 = .ok (.iconst 1, 1) := dk_4 (dk_at dksX6_readKinds_1 4 rfl rfl)
theorem dX6_readKinds_29 : decode cX6_readKinds 29 = .ok (.iadd, 1) := dk_96 (dk_at dksX6_readKinds_1 5 rfl rfl)
theorem dX6_readKinds_30 : decode cX6_readKinds 30 = .ok (.putfield 73, 3) := dk_181 0 73 (dk_at dksX6_readKinds_1 6 rfl rfl)
theorem dX6_readKinds_33 : decode cX6_readKinds 33 = .ok (.iinc 1 1, 3) := dk_132 1 1 (dk_at dksX6_readKinds_1 9 rfl rfl)
theorem dX6_readKinds_36 : decode cX6_readKinds 36 = .ok (.goto (-34), 3) := dk_167 255 222 (dk_at dksX6_readKinds_1 12 rfl rfl)
theorem dX6_readKinds_39 : decode cX6_readKinds 39 = .ok (.iload_n 1, 1) := dk_27 (dk_at dksX6_readKinds_1 15 rfl rfl)
theorem dX6_readKinds_40 : decode cX6_readKinds 40 = .ok (.ireturn, 1) := dk_172 (dk_at dksX6_readKinds_1 16 rfl rfl)
abbrev cX6_kindBy : ByteArray := prog_9_method_8_code
def yX6_kindBy : MethodName := ⟨RX6, "kindBy", "(I)I"⟩
def dkwX6_kindBy_2 : List UInt8 := [3, 172, 4, 172, 5, 172, 6, 172, 7, 172, 2, 172]
abbrev dktX6_kindBy_2 : List UInt8 := dkwX6_kindBy_2 ++ []
def dkwX6_kindBy_1 : List UInt8 := [170, 0, 0, 0, 0, 0, 81, 0, 0, 0, 102, 0, 0, 0, 115, 0, 0, 0, 75, 0, 0, 0, 81, 0, 0, 0, 81, 0, 0, 0, 81, 0, 0, 0, 81, 0, 0, 0, 81, 0, 0, 0, 73, 0, 0, 0, 81, 0, 0, 0, 71, 0, 0, 0, 79, 0, 0, 0, 81, 0, 0, 0, 81, 0, 0, 0, 81, 0, 0, 0, 77]
abbrev dktX6_kindBy_1 : List UInt8 := dkwX6_kindBy_1 ++ dktX6_kindBy_2
def dkwX6_kindBy_0 : List UInt8 := [26]
abbrev dktX6_kindBy_0 : List UInt8 := dkwX6_kindBy_0 ++ dktX6_kindBy_1
theorem dksX6_kindBy_0 : cX6_kindBy.data.toList.drop 0 = dktX6_kindBy_0 := by decide +kernel
theorem dksX6_kindBy_1 : cX6_kindBy.data.toList.drop 1 = dktX6_kindBy_1 := dk_seg dksX6_kindBy_0 1 rfl rfl
theorem dksX6_kindBy_2 : cX6_kindBy.data.toList.drop 72 = dktX6_kindBy_2 := dk_seg dksX6_kindBy_1 71 rfl rfl
theorem dX6_kindBy_0 : decode cX6_kindBy 0 = .ok (.iload_n 0, 1) := dk_26 (dk_at dksX6_kindBy_0 0 rfl rfl)
theorem dX6_kindBy_1 : decode cX6_kindBy 1 = .ok (.tableswitch 81 102 115 #[75, 81, 81, 81, 81, 81, 73, 81, 71, 79, 81, 81, 81, 77], 71) := by decide +kernel
theorem dX6_kindBy_72 : decode cX6_kindBy 72 = .ok (.iconst 0, 1) := dk_3 (dk_at dksX6_kindBy_2 0 rfl rfl)
theorem dX6_kindBy_73 : decode cX6_kindBy 73 = .ok (.ireturn, 1) := dk_172 (dk_at dksX6_kindBy_2 1 rfl rfl)
theorem dX6_kindBy_74 : decode cX6_kindBy 74 = .ok (.iconst 1, 1) := dk_4 (dk_at dksX6_kindBy_2 2 rfl rfl)
theorem dX6_kindBy_75 : decode cX6_kindBy 75 = .ok (.ireturn, 1) := dk_172 (dk_at dksX6_kindBy_2 3 rfl rfl)
theorem dX6_kindBy_76 : decode cX6_kindBy 76 = .ok (.iconst 2, 1) := dk_5 (dk_at dksX6_kindBy_2 4 rfl rfl)
theorem dX6_kindBy_77 : decode cX6_kindBy 77 = .ok (.ireturn, 1) := dk_172 (dk_at dksX6_kindBy_2 5 rfl rfl)
theorem dX6_kindBy_78 : decode cX6_kindBy 78 = .ok (.iconst 3, 1) := dk_6 (dk_at dksX6_kindBy_2 6 rfl rfl)
theorem dX6_kindBy_79 : decode cX6_kindBy 79 = .ok (.ireturn, 1) := dk_172 (dk_at dksX6_kindBy_2 7 rfl rfl)
theorem dX6_kindBy_80 : decode cX6_kindBy 80 = .ok (.iconst 4, 1) := dk_7 (dk_at dksX6_kindBy_2 8 rfl rfl)
theorem dX6_kindBy_81 : decode cX6_kindBy 81 = .ok (.ireturn, 1) := dk_172 (dk_at dksX6_kindBy_2 9 rfl rfl)
theorem dX6_kindBy_82 : decode cX6_kindBy 82 = .ok (.iconst (-1), 1) := dk_2 (dk_at dksX6_kindBy_2 10 rfl rfl)
theorem dX6_kindBy_83 : decode cX6_kindBy 83 = .ok (.ireturn, 1) := dk_172 (dk_at dksX6_kindBy_2 11 rfl rfl)
abbrev cX6_readSigns : ByteArray := prog_9_method_11_code
def yX6_readSigns : MethodName := ⟨RX6, "readSigns", "(II)I"⟩
def dkwX6_readSigns_3 : List UInt8 := [181, 0, 83, 29, 172]
abbrev dktX6_readSigns_3 : List UInt8 := dkwX6_readSigns_3 ++ []
def dkwX6_readSigns_2 : List UInt8 := [27, 42, 180, 0, 73, 96, 160, 0, 15, 29, 42, 180, 0, 69, 160, 0, 7, 4, 167, 0, 4, 3]
abbrev dktX6_readSigns_2 : List UInt8 := dkwX6_readSigns_2 ++ dktX6_readSigns_3
def dkwX6_readSigns_1 : List UInt8 := [182, 0, 76, 16, 97, 100, 3, 28, 4, 100, 184, 0, 65, 153, 0, 9, 132, 3, 1, 167, 255, 215, 42, 29]
abbrev dktX6_readSigns_1 : List UInt8 := dkwX6_readSigns_1 ++ dktX6_readSigns_2
def dkwX6_readSigns_0 : List UInt8 := [27, 62, 29, 27, 42, 180, 0, 73, 96, 162, 0, 37, 42, 29, 182, 0, 76, 16, 46, 159, 0, 21, 42, 29]
abbrev dktX6_readSigns_0 : List UInt8 := dkwX6_readSigns_0 ++ dktX6_readSigns_1
theorem dksX6_readSigns_0 : cX6_readSigns.data.toList.drop 0 = dktX6_readSigns_0 := by decide +kernel
theorem dksX6_readSigns_1 : cX6_readSigns.data.toList.drop 24 = dktX6_readSigns_1 := dk_seg dksX6_readSigns_0 24 rfl rfl
theorem dksX6_readSigns_2 : cX6_readSigns.data.toList.drop 48 = dktX6_readSigns_2 := dk_seg dksX6_readSigns_1 24 rfl rfl
theorem dksX6_readSigns_3 : cX6_readSigns.data.toList.drop 70 = dktX6_readSigns_3 := dk_seg dksX6_readSigns_2 22 rfl rfl
theorem dX6_readSigns_0 : decode cX6_readSigns 0 = .ok (.iload_n 1, 1) := dk_27 (dk_at dksX6_readSigns_0 0 rfl rfl)
theorem dX6_readSigns_1 : decode cX6_readSigns 1 = .ok (.istore_n 3, 1) := dk_62 (dk_at dksX6_readSigns_0 1 rfl rfl)
theorem dX6_readSigns_2 : decode cX6_readSigns 2 = .ok (.iload_n 3, 1) := dk_29 (dk_at dksX6_readSigns_0 2 rfl rfl)
theorem dX6_readSigns_3 : decode cX6_readSigns 3 = .ok (.iload_n 1, 1) := dk_27 (dk_at dksX6_readSigns_0 3 rfl rfl)
theorem dX6_readSigns_4 : decode cX6_readSigns 4 = .ok (.aload_n 0, 1) := dk_42 (dk_at dksX6_readSigns_0 4 rfl rfl)
theorem dX6_readSigns_5 : decode cX6_readSigns 5 = .ok (.getfield 73, 3) := dk_180 0 73 (dk_at dksX6_readSigns_0 5 rfl rfl)
theorem dX6_readSigns_8 : decode cX6_readSigns 8 = .ok (.iadd, 1) := dk_96 (dk_at dksX6_readSigns_0 8 rfl rfl)
theorem dX6_readSigns_9 : decode cX6_readSigns 9 = .ok (.if_icmp .ge 37, 3) := dk_162 0 37 (dk_at dksX6_readSigns_0 9 rfl rfl)
theorem dX6_readSigns_12 : decode cX6_readSigns 12 = .ok (.aload_n 0, 1) := dk_42 (dk_at dksX6_readSigns_0 12 rfl rfl)
theorem dX6_readSigns_13 : decode cX6_readSigns 13 = .ok (.iload_n 3, 1) := dk_29 (dk_at dksX6_readSigns_0 13 rfl rfl)
theorem dX6_readSigns_14 : decode cX6_readSigns 14 = .ok (.invokevirtual 76, 3) := dk_182 0 76 (dk_at dksX6_readSigns_0 14 rfl rfl)
theorem dX6_readSigns_17 : decode cX6_readSigns 17 = .ok (.bipush 46, 2) := dk_16 46 (dk_at dksX6_readSigns_0 17 rfl rfl)
theorem dX6_readSigns_19 : decode cX6_readSigns 19 = .ok (.if_icmp .eq 21, 3) := dk_159 0 21 (dk_at dksX6_readSigns_0 19 rfl rfl)
theorem dX6_readSigns_22 : decode cX6_readSigns 22 = .ok (.aload_n 0, 1) := dk_42 (dk_at dksX6_readSigns_0 22 rfl rfl)
theorem dX6_readSigns_23 : decode cX6_readSigns 23 = .ok (.iload_n 3, 1) := dk_29 (dk_at dksX6_readSigns_0 23 rfl rfl)
theorem dX6_readSigns_24 : decode cX6_readSigns 24 = .ok (.invokevirtual 76, 3) := dk_182 0 76 (dk_at dksX6_readSigns_1 0 rfl rfl)
theorem dX6_readSigns_27 : decode cX6_readSigns 27 = .ok (.bipush 97, 2) := dk_16 97 (dk_at dksX6_readSigns_1 3 rfl rfl)
theorem dX6_readSigns_29 : decode cX6_readSigns 29 = .ok (.isub, 1) := dk_100 (dk_at dksX6_readSigns_1 5 rfl rfl)
theorem dX6_readSigns_30 : decode cX6_readSigns 30 = .ok (.iconst 0, 1) := dk_3 (dk_at dksX6_readSigns_1 6 rfl rfl)
theorem dX6_readSigns_31 : decode cX6_readSigns 31 = .ok (.iload_n 2, 1) := dk_28 (dk_at dksX6_readSigns_1 7 rfl rfl)
theorem dX6_readSigns_32 : decode cX6_readSigns 32 = .ok (.iconst 1, 1) := dk_4 (dk_at dksX6_readSigns_1 8 rfl rfl)
theorem dX6_readSigns_33 : decode cX6_readSigns 33 = .ok (.isub, 1) := dk_100 (dk_at dksX6_readSigns_1 9 rfl rfl)
theorem dX6_readSigns_34 : decode cX6_readSigns 34 = .ok (.invokestatic 65, 3) := dk_184 0 65 (dk_at dksX6_readSigns_1 10 rfl rfl)
theorem dX6_readSigns_37 : decode cX6_readSigns 37 = .ok (.ifCond .eq 9, 3) := dk_153 0 9 (dk_at dksX6_readSigns_1 13 rfl rfl)
theorem dX6_readSigns_40 : decode cX6_readSigns 40 = .ok (.iinc 3 1, 3) := dk_132 3 1 (dk_at dksX6_readSigns_1 16 rfl rfl)
theorem dX6_readSigns_43 : decode cX6_readSigns 43 = .ok (.goto (-41), 3) := dk_167 255 215 (dk_at dksX6_readSigns_1 19 rfl rfl)
theorem dX6_readSigns_46 : decode cX6_readSigns 46 = .ok (.aload_n 0, 1) := dk_42 (dk_at dksX6_readSigns_1 22 rfl rfl)
theorem dX6_readSigns_47 : decode cX6_readSigns 47 = .ok (.iload_n 3, 1) := dk_29 (dk_at dksX6_readSigns_1 23 rfl rfl)
theorem dX6_readSigns_48 : decode cX6_readSigns 48 = .ok (.iload_n 1, 1) := dk_27 (dk_at dksX6_readSigns_2 0 rfl rfl)
theorem dX6_readSigns_49 : decode cX6_readSigns 49 = .ok (.aload_n 0, 1) := dk_42 (dk_at dksX6_readSigns_2 1 rfl rfl)
theorem dX6_readSigns_50 : decode cX6_readSigns 50 = .ok (.getfield 73, 3) := dk_180 0 73 (dk_at dksX6_readSigns_2 2 rfl rfl)
theorem dX6_readSigns_53 : decode cX6_readSigns 53 = .ok (.iadd, 1) := dk_96 (dk_at dksX6_readSigns_2 5 rfl rfl)
theorem dX6_readSigns_54 : decode cX6_readSigns 54 = .ok (.if_icmp .ne 15, 3) := dk_160 0 15 (dk_at dksX6_readSigns_2 6 rfl rfl)
theorem dX6_readSigns_57 : decode cX6_readSigns 57 = .ok (.iload_n 3, 1) := dk_29 (dk_at dksX6_readSigns_2 9 rfl rfl)
theorem dX6_readSigns_58 : decode cX6_readSigns 58 = .ok (.aload_n 0, 1) := dk_42 (dk_at dksX6_readSigns_2 10 rfl rfl)
theorem dX6_readSigns_59 : decode cX6_readSigns 59 = .ok (.getfield 69, 3) := dk_180 0 69 (dk_at dksX6_readSigns_2 11 rfl rfl)
theorem dX6_readSigns_62 : decode cX6_readSigns 62 = .ok (.if_icmp .ne 7, 3) := dk_160 0 7 (dk_at dksX6_readSigns_2 14 rfl rfl)
theorem dX6_readSigns_65 : decode cX6_readSigns 65 = .ok (.iconst 1, 1) := dk_4 (dk_at dksX6_readSigns_2 17 rfl rfl)
theorem dX6_readSigns_66 : decode cX6_readSigns 66 = .ok (.goto 4, 3) := dk_167 0 4 (dk_at dksX6_readSigns_2 18 rfl rfl)
theorem dX6_readSigns_69 : decode cX6_readSigns 69 = .ok (.iconst 0, 1) := dk_3 (dk_at dksX6_readSigns_2 21 rfl rfl)
theorem dX6_readSigns_70 : decode cX6_readSigns 70 = .ok (.putfield 83, 3) := dk_181 0 83 (dk_at dksX6_readSigns_3 0 rfl rfl)
theorem dX6_readSigns_73 : decode cX6_readSigns 73 = .ok (.iload_n 3, 1) := dk_29 (dk_at dksX6_readSigns_3 3 rfl rfl)
theorem dX6_readSigns_74 : decode cX6_readSigns 74 = .ok (.ireturn, 1) := dk_172 (dk_at dksX6_readSigns_3 4 rfl rfl)
abbrev cX6_board : ByteArray := prog_9_method_14_code
def yX6_board : MethodName := ⟨RX6, "board", "()I"⟩
def dkwX6_board_5 : List UInt8 := [3, 181, 0, 110, 42, 3, 181, 0, 69, 42, 180, 0, 101, 172]
abbrev dktX6_board_5 : List UInt8 := dkwX6_board_5 ++ []
def dkwX6_board_4 : List UInt8 := [100, 79, 132, 1, 1, 167, 255, 194, 42, 3, 181, 0, 104, 42, 89, 180, 0, 107, 4, 96, 181, 0, 107, 42]
abbrev dktX6_board_4 : List UInt8 := dkwX6_board_4 ++ dktX6_board_5
def dkwX6_board_3 : List UInt8 := [96, 51, 184, 0, 80, 79, 42, 180, 0, 13, 27, 28, 16, 46, 160, 0, 7, 2, 167, 0, 7, 28, 16, 97]
abbrev dktX6_board_3 : List UInt8 := dkwX6_board_3 ++ dktX6_board_4
def dkwX6_board_2 : List UInt8 := [180, 0, 25, 5, 42, 180, 0, 101, 96, 27, 96, 51, 61, 42, 180, 0, 7, 27, 42, 180, 0, 25, 4, 27]
abbrev dktX6_board_2 : List UInt8 := dkwX6_board_2 ++ dktX6_board_3
def dkwX6_board_1 : List UInt8 := [100, 181, 0, 98, 42, 42, 180, 0, 73, 181, 0, 101, 4, 60, 27, 42, 180, 0, 101, 163, 0, 60, 42]
abbrev dktX6_board_1 : List UInt8 := dkwX6_board_1 ++ dktX6_board_2
def dkwX6_board_0 : List UInt8 := [42, 182, 0, 95, 87, 42, 180, 0, 83, 154, 0, 6, 16, 153, 172, 42, 42, 180, 0, 25, 3, 51, 16, 48]
abbrev dktX6_board_0 : List UInt8 := dkwX6_board_0 ++ dktX6_board_1
theorem dksX6_board_0 : cX6_board.data.toList.drop 0 = dktX6_board_0 := by decide +kernel
theorem dksX6_board_1 : cX6_board.data.toList.drop 24 = dktX6_board_1 := dk_seg dksX6_board_0 24 rfl rfl
theorem dksX6_board_2 : cX6_board.data.toList.drop 47 = dktX6_board_2 := dk_seg dksX6_board_1 23 rfl rfl
theorem dksX6_board_3 : cX6_board.data.toList.drop 71 = dktX6_board_3 := dk_seg dksX6_board_2 24 rfl rfl
theorem dksX6_board_4 : cX6_board.data.toList.drop 95 = dktX6_board_4 := dk_seg dksX6_board_3 24 rfl rfl
theorem dksX6_board_5 : cX6_board.data.toList.drop 119 = dktX6_board_5 := dk_seg dksX6_board_4 24 rfl rfl
theorem dX6_board_0 : decode cX6_board 0 = .ok (.aload_n 0, 1) := dk_42 (dk_at dksX6_board_0 0 rfl rfl)
theorem dX6_board_1 : decode cX6_board 1 = .ok (.invokevirtual 95, 3) := dk_182 0 95 (dk_at dksX6_board_0 1 rfl rfl)
theorem dX6_board_4 : decode cX6_board 4 = .ok (.pop, 1) := dk_87 (dk_at dksX6_board_0 4 rfl rfl)
theorem dX6_board_5 : decode cX6_board 5 = .ok (.aload_n 0, 1) := dk_42 (dk_at dksX6_board_0 5 rfl rfl)
theorem dX6_board_6 : decode cX6_board 6 = .ok (.getfield 83, 3) := dk_180 0 83 (dk_at dksX6_board_0 6 rfl rfl)
theorem dX6_board_9 : decode cX6_board 9 = .ok (.ifCond .ne 6, 3) := dk_154 0 6 (dk_at dksX6_board_0 9 rfl rfl)
theorem dX6_board_12 : decode cX6_board 12 = .ok (.bipush (-103), 2) := dk_16 153 (dk_at dksX6_board_0 12 rfl rfl)
theorem dX6_board_14 : decode cX6_board 14 = .ok (.ireturn, 1) := dk_172 (dk_at dksX6_board_0 14 rfl rfl)
theorem dX6_board_15 : decode cX6_board 15 = .ok (.aload_n 0, 1) := dk_42 (dk_at dksX6_board_0 15 rfl rfl)
theorem dX6_board_16 : decode cX6_board 16 = .ok (.aload_n 0, 1) := dk_42 (dk_at dksX6_board_0 16 rfl rfl)
theorem dX6_board_17 : decode cX6_board 17 = .ok (.getfield 25, 3) := dk_180 0 25 (dk_at dksX6_board_0 17 rfl rfl)
theorem dX6_board_20 : decode cX6_board 20 = .ok (.iconst 0, 1) := dk_3 (dk_at dksX6_board_0 20 rfl rfl)
theorem dX6_board_21 : decode cX6_board 21 = .ok (.baload, 1) := dk_51 (dk_at dksX6_board_0 21 rfl rfl)
theorem dX6_board_22 : decode cX6_board 22 = .ok (.bipush 48, 2) := dk_16 48 (dk_at dksX6_board_0 22 rfl rfl)
theorem dX6_board_24 : decode cX6_board 24 = .ok (.isub, 1) := dk_100 (dk_at dksX6_board_1 0 rfl rfl)
theorem dX6_board_25 : decode cX6_board 25 = .ok (.putfield 98, 3) := dk_181 0 98 (dk_at dksX6_board_1 1 rfl rfl)
theorem dX6_board_28 : decode cX6_board 28 = .ok (.aload_n 0, 1) := dk_42 (dk_at dksX6_board_1 4 rfl rfl)
theorem dX6_board_29 : decode cX6_board 29 = .ok (.aload_n 0, 1) := dk_42 (dk_at dksX6_board_1 5 rfl rfl)
theorem dX6_board_30 : decode cX6_board 30 = .ok (.getfield 73, 3) := dk_180 0 73 (dk_at dksX6_board_1 6 rfl rfl)
theorem dX6_board_33 : decode cX6_board 33 = .ok (.putfield 101, 3) := dk_181 0 101 (dk_at dksX6_board_1 9 rfl rfl)
theorem dX6_board_36 : decode cX6_board 36 = .ok (.iconst 1, 1) := dk_4 (dk_at dksX6_board_1 12 rfl rfl)
theorem dX6_board_37 : decode cX6_board 37 = .ok (.istore_n 1, 1) := dk_60 (dk_at dksX6_board_1 13 rfl rfl)
theorem dX6_board_38 : decode cX6_board 38 = .ok (.iload_n 1, 1) := dk_27 (dk_at dksX6_board_1 14 rfl rfl)
theorem dX6_board_39 : decode cX6_board 39 = .ok (.aload_n 0, 1) := dk_42 (dk_at dksX6_board_1 15 rfl rfl)
theorem dX6_board_40 : decode cX6_board 40 = .ok (.getfield 101, 3) := dk_180 0 101 (dk_at dksX6_board_1 16 rfl rfl)
theorem dX6_board_43 : decode cX6_board 43 = .ok (.if_icmp .gt 60, 3) := dk_163 0 60 (dk_at dksX6_board_1 19 rfl rfl)
theorem dX6_board_46 : decode cX6_board 46 = .ok (.aload_n 0, 1) := dk_42 (dk_at dksX6_board_1 22 rfl rfl)
theorem dX6_board_47 : decode cX6_board 47 = .ok (.getfield 25, 3) := dk_180 0 25 (dk_at dksX6_board_2 0 rfl rfl)
theorem dX6_board_50 : decode cX6_board 50 = .ok (.iconst 2, 1) := dk_5 (dk_at dksX6_board_2 3 rfl rfl)
theorem dX6_board_51 : decode cX6_board 51 = .ok (.aload_n 0, 1) := dk_42 (dk_at dksX6_board_2 4 rfl rfl)
theorem dX6_board_52 : decode cX6_board 52 = .ok (.getfield 101, 3) := dk_180 0 101 (dk_at dksX6_board_2 5 rfl rfl)
theorem dX6_board_55 : decode cX6_board 55 = .ok (.iadd, 1) := dk_96 (dk_at dksX6_board_2 8 rfl rfl)
theorem dX6_board_56 : decode cX6_board 56 = .ok (.iload_n 1, 1) := dk_27 (dk_at dksX6_board_2 9 rfl rfl)
theorem dX6_board_57 : decode cX6_board 57 = .ok (.iadd, 1) := dk_96 (dk_at dksX6_board_2 10 rfl rfl)
theorem dX6_board_58 : decode cX6_board 58 = .ok (.baload, 1) := dk_51 (dk_at dksX6_board_2 11 rfl rfl)
theorem dX6_board_59 : decode cX6_board 59 = .ok (.istore_n 2, 1) := dk_61 (dk_at dksX6_board_2 12 rfl rfl)
theorem dX6_board_60 : decode cX6_board 60 = .ok (.aload_n 0, 1) := dk_42 (dk_at dksX6_board_2 13 rfl rfl)
theorem dX6_board_61 : decode cX6_board 61 = .ok (.getfield 7, 3) := dk_180 0 7 (dk_at dksX6_board_2 14 rfl rfl)
theorem dX6_board_64 : decode cX6_board 64 = .ok (.iload_n 1, 1) := dk_27 (dk_at dksX6_board_2 17 rfl rfl)
theorem dX6_board_65 : decode cX6_board 65 = .ok (.aload_n 0, 1) := dk_42 (dk_at dksX6_board_2 18 rfl rfl)
theorem dX6_board_66 : decode cX6_board 66 = .ok (.getfield 25, 3) := dk_180 0 25 (dk_at dksX6_board_2 19 rfl rfl)
theorem dX6_board_69 : decode cX6_board 69 = .ok (.iconst 1, 1) := dk_4 (dk_at dksX6_board_2 22 rfl rfl)
theorem dX6_board_70 : decode cX6_board 70 = .ok (.iload_n 1, 1) := dk_27 (dk_at dksX6_board_2 23 rfl rfl)
theorem dX6_board_71 : decode cX6_board 71 = .ok (.iadd, 1) := dk_96 (dk_at dksX6_board_3 0 rfl rfl)
theorem dX6_board_72 : decode cX6_board 72 = .ok (.baload, 1) := dk_51 (dk_at dksX6_board_3 1 rfl rfl)
theorem dX6_board_73 : decode cX6_board 73 = .ok (.invokestatic 80, 3) := dk_184 0 80 (dk_at dksX6_board_3 2 rfl rfl)
theorem dX6_board_76 : decode cX6_board 76 = .ok (.iastore, 1) := dk_79 (dk_at dksX6_board_3 5 rfl rfl)
theorem dX6_board_77 : decode cX6_board 77 = .ok (.aload_n 0, 1) := dk_42 (dk_at dksX6_board_3 6 rfl rfl)
theorem dX6_board_78 : decode cX6_board 78 = .ok (.getfield 13, 3) := dk_180 0 13 (dk_at dksX6_board_3 7 rfl rfl)
theorem dX6_board_81 : decode cX6_board 81 = .ok (.iload_n 1, 1) := dk_27 (dk_at dksX6_board_3 10 rfl rfl)
theorem dX6_board_82 : decode cX6_board 82 = .ok (.iload_n 2, 1) := dk_28 (dk_at dksX6_board_3 11 rfl rfl)
theorem dX6_board_83 : decode cX6_board 83 = .ok (.bipush 46, 2) := dk_16 46 (dk_at dksX6_board_3 12 rfl rfl)
theorem dX6_board_85 : decode cX6_board 85 = .ok (.if_icmp .ne 7, 3) := dk_160 0 7 (dk_at dksX6_board_3 14 rfl rfl)
theorem dX6_board_88 : decode cX6_board 88 = .ok (.iconst (-1), 1) := dk_2 (dk_at dksX6_board_3 17 rfl rfl)
theorem dX6_board_89 : decode cX6_board 89 = .ok (.goto 7, 3) := dk_167 0 7 (dk_at dksX6_board_3 18 rfl rfl)
theorem dX6_board_92 : decode cX6_board 92 = .ok (.iload_n 2, 1) := dk_28 (dk_at dksX6_board_3 21 rfl rfl)
theorem dX6_board_93 : decode cX6_board 93 = .ok (.bipush 97, 2) := dk_16 97 (dk_at dksX6_board_3 22 rfl rfl)
theorem dX6_board_95 : decode cX6_board 95 = .ok (.isub, 1) := dk_100 (dk_at dksX6_board_4 0 rfl rfl)
theorem dX6_board_96 : decode cX6_board 96 = .ok (.iastore, 1) := dk_79 (dk_at dksX6_board_4 1 rfl rfl)
theorem dX6_board_97 : decode cX6_board 97 = .ok (.iinc 1 1, 3) := dk_132 1 1 (dk_at dksX6_board_4 2 rfl rfl)
theorem dX6_board_100 : decode cX6_board 100 = .ok (.goto (-62), 3) := dk_167 255 194 (dk_at dksX6_board_4 5 rfl rfl)
theorem dX6_board_103 : decode cX6_board 103 = .ok (.aload_n 0, 1) := dk_42 (dk_at dksX6_board_4 8 rfl rfl)
theorem dX6_board_104 : decode cX6_board 104 = .ok (.iconst 0, 1) := dk_3 (dk_at dksX6_board_4 9 rfl rfl)
theorem dX6_board_105 : decode cX6_board 105 = .ok (.putfield 104, 3) := dk_181 0 104 (dk_at dksX6_board_4 10 rfl rfl)
theorem dX6_board_108 : decode cX6_board 108 = .ok (.aload_n 0, 1) := dk_42 (dk_at dksX6_board_4 13 rfl rfl)
theorem dX6_board_109 : decode cX6_board 109 = .ok (.dup, 1) := dk_89 (dk_at dksX6_board_4 14 rfl rfl)
theorem dX6_board_110 : decode cX6_board 110 = .ok (.getfield 107, 3) := dk_180 0 107 (dk_at dksX6_board_4 15 rfl rfl)
theorem dX6_board_113 : decode cX6_board 113 = .ok (.iconst 1, 1) := dk_4 (dk_at dksX6_board_4 18 rfl rfl)
theorem dX6_board_114 : decode cX6_board 114 = .ok (.iadd, 1) := dk_96 (dk_at dksX6_board_4 19 rfl rfl)
theorem dX6_board_115 : decode cX6_board 115 = .ok (.putfield 107, 3) := dk_181 0 107 (dk_at dksX6_board_4 20 rfl rfl)
theorem dX6_board_118 : decode cX6_board 118 = .ok (.aload_n 0, 1) := dk_42 (dk_at dksX6_board_4 23 rfl rfl)
theorem dX6_board_119 : decode cX6_board 119 = .ok (.iconst 0, 1) := dk_3 (dk_at dksX6_board_5 0 rfl rfl)
theorem dX6_board_120 : decode cX6_board 120 = .ok (.putfield 110, 3) := dk_181 0 110 (dk_at dksX6_board_5 1 rfl rfl)
theorem dX6_board_123 : decode cX6_board 123 = .ok (.aload_n 0, 1) := dk_42 (dk_at dksX6_board_5 4 rfl rfl)
theorem dX6_board_124 : decode cX6_board 124 = .ok (.iconst 0, 1) := dk_3 (dk_at dksX6_board_5 5 rfl rfl)
theorem dX6_board_125 : decode cX6_board 125 = .ok (.putfield 69, 3) := dk_181 0 69 (dk_at dksX6_board_5 6 rfl rfl)
theorem dX6_board_128 : decode cX6_board 128 = .ok (.aload_n 0, 1) := dk_42 (dk_at dksX6_board_5 9 rfl rfl)
theorem dX6_board_129 : decode cX6_board 129 = .ok (.getfield 101, 3) := dk_180 0 101 (dk_at dksX6_board_5 10 rfl rfl)
theorem dX6_board_132 : decode cX6_board 132 = .ok (.ireturn, 1) := dk_172 (dk_at dksX6_board_5 13 rfl rfl)
abbrev cX6_number : ByteArray := prog_9_method_26_code
def yX6_number : MethodName := ⟨RX6, "number", "(II)I"⟩
def dkwX6_number_1 : List UInt8 := [28, 182, 0, 152, 167, 0, 5, 16, 154, 172]
abbrev dktX6_number_1 : List UInt8 := dkwX6_number_1 ++ []
def dkwX6_number_0 : List UInt8 := [42, 27, 182, 0, 149, 154, 0, 8, 16, 155, 167, 0, 23, 28, 3, 8, 184, 0, 65, 153, 0, 12, 42, 27]
abbrev dktX6_number_0 : List UInt8 := dkwX6_number_0 ++ dktX6_number_1
theorem dksX6_number_0 : cX6_number.data.toList.drop 0 = dktX6_number_0 := by decide +kernel
theorem dksX6_number_1 : cX6_number.data.toList.drop 24 = dktX6_number_1 := dk_seg dksX6_number_0 24 rfl rfl
theorem dX6_number_0 : decode cX6_number 0 = .ok (.aload_n 0, 1) := dk_42 (dk_at dksX6_number_0 0 rfl rfl)
theorem dX6_number_1 : decode cX6_number 1 = .ok (.iload_n 1, 1) := dk_27 (dk_at dksX6_number_0 1 rfl rfl)
theorem dX6_number_2 : decode cX6_number 2 = .ok (.invokevirtual 149, 3) := dk_182 0 149 (dk_at dksX6_number_0 2 rfl rfl)
theorem dX6_number_5 : decode cX6_number 5 = .ok (.ifCond .ne 8, 3) := dk_154 0 8 (dk_at dksX6_number_0 5 rfl rfl)
theorem dX6_number_8 : decode cX6_number 8 = .ok (.bipush (-101), 2) := dk_16 155 (dk_at dksX6_number_0 8 rfl rfl)
theorem dX6_number_10 : decode cX6_number 10 = .ok (.goto 23, 3) := dk_167 0 23 (dk_at dksX6_number_0 10 rfl rfl)
theorem dX6_number_13 : decode cX6_number 13 = .ok (.iload_n 2, 1) := dk_28 (dk_at dksX6_number_0 13 rfl rfl)
theorem dX6_number_14 : decode cX6_number 14 = .ok (.iconst 0, 1) := dk_3 (dk_at dksX6_number_0 14 rfl rfl)
theorem dX6_number_15 : decode cX6_number 15 = .ok (.iconst 5, 1) := dk_8 (dk_at dksX6_number_0 15 rfl rfl)
theorem dX6_number_16 : decode cX6_number 16 = .ok (.invokestatic 65, 3) := dk_184 0 65 (dk_at dksX6_number_0 16 rfl rfl)
theorem dX6_number_19 : decode cX6_number 19 = .ok (.ifCond .eq 12, 3) := dk_153 0 12 (dk_at dksX6_number_0 19 rfl rfl)
theorem dX6_number_22 : decode cX6_number 22 = .ok (.aload_n 0, 1) := dk_42 (dk_at dksX6_number_0 22 rfl rfl)
theorem dX6_number_23 : decode cX6_number 23 = .ok (.iload_n 1, 1) := dk_27 (dk_at dksX6_number_0 23 rfl rfl)
theorem dX6_number_24 : decode cX6_number 24 = .ok (.iload_n 2, 1) := dk_28 (dk_at dksX6_number_1 0 rfl rfl)
theorem dX6_number_25 : decode cX6_number 25 = .ok (.invokevirtual 152, 3) := dk_182 0 152 (dk_at dksX6_number_1 1 rfl rfl)
theorem dX6_number_28 : decode cX6_number 28 = .ok (.goto 5, 3) := dk_167 0 5 (dk_at dksX6_number_1 4 rfl rfl)
theorem dX6_number_31 : decode cX6_number 31 = .ok (.bipush (-102), 2) := dk_16 154 (dk_at dksX6_number_1 7 rfl rfl)
theorem dX6_number_33 : decode cX6_number 33 = .ok (.ireturn, 1) := dk_172 (dk_at dksX6_number_1 9 rfl rfl)
abbrev cX6_isNumber : ByteArray := prog_9_method_15_code
def yX6_isNumber : MethodName := ⟨RX6, "isNumber", "(I)Z"⟩
def dkwX6_isNumber_0 : List UInt8 := [27, 4, 42, 180, 0, 101, 184, 0, 65, 172]
abbrev dktX6_isNumber_0 : List UInt8 := dkwX6_isNumber_0 ++ []
theorem dksX6_isNumber_0 : cX6_isNumber.data.toList.drop 0 = dktX6_isNumber_0 := by decide +kernel
theorem dX6_isNumber_0 : decode cX6_isNumber 0 = .ok (.iload_n 1, 1) := dk_27 (dk_at dksX6_isNumber_0 0 rfl rfl)
theorem dX6_isNumber_1 : decode cX6_isNumber 1 = .ok (.iconst 1, 1) := dk_4 (dk_at dksX6_isNumber_0 1 rfl rfl)
theorem dX6_isNumber_2 : decode cX6_isNumber 2 = .ok (.aload_n 0, 1) := dk_42 (dk_at dksX6_isNumber_0 2 rfl rfl)
theorem dX6_isNumber_3 : decode cX6_isNumber 3 = .ok (.getfield 101, 3) := dk_180 0 101 (dk_at dksX6_isNumber_0 3 rfl rfl)
theorem dX6_isNumber_6 : decode cX6_isNumber 6 = .ok (.invokestatic 65, 3) := dk_184 0 65 (dk_at dksX6_isNumber_0 6 rfl rfl)
theorem dX6_isNumber_9 : decode cX6_isNumber 9 = .ok (.ireturn, 1) := dk_172 (dk_at dksX6_isNumber_0 9 rfl rfl)
abbrev cX6_numberNow : ByteArray := prog_9_method_25_code
def yX6_numberNow : MethodName := ⟨RX6, "numberNow", "(II)I"⟩
def dkwX6_numberNow_3 : List UInt8 := [182, 0, 137, 172, 42, 27, 182, 0, 140, 172, 42, 27, 182, 0, 143, 172, 42, 27, 182, 0, 146, 172]
abbrev dktX6_numberNow_3 : List UInt8 := dkwX6_numberNow_3 ++ []
def dkwX6_numberNow_2 : List UInt8 := [42, 180, 0, 7, 27, 46, 172, 42, 180, 0, 13, 27, 46, 172, 42, 2, 182, 0, 134, 87, 42, 27]
abbrev dktX6_numberNow_2 : List UInt8 := dkwX6_numberNow_2 ++ dktX6_numberNow_3
def dkwX6_numberNow_1 : List UInt8 := [170, 0, 0, 0, 0, 0, 73, 0, 0, 0, 0, 0, 0, 0, 4, 0, 0, 0, 35, 0, 0, 0, 42, 0, 0, 0, 49, 0, 0, 0, 61, 0, 0, 0, 67]
abbrev dktX6_numberNow_1 : List UInt8 := dkwX6_numberNow_1 ++ dktX6_numberNow_2
def dkwX6_numberNow_0 : List UInt8 := [28]
abbrev dktX6_numberNow_0 : List UInt8 := dkwX6_numberNow_0 ++ dktX6_numberNow_1
theorem dksX6_numberNow_0 : cX6_numberNow.data.toList.drop 0 = dktX6_numberNow_0 := by decide +kernel
theorem dksX6_numberNow_1 : cX6_numberNow.data.toList.drop 1 = dktX6_numberNow_1 := dk_seg dksX6_numberNow_0 1 rfl rfl
theorem dksX6_numberNow_2 : cX6_numberNow.data.toList.drop 36 = dktX6_numberNow_2 := dk_seg dksX6_numberNow_1 35 rfl rfl
theorem dksX6_numberNow_3 : cX6_numberNow.data.toList.drop 58 = dktX6_numberNow_3 := dk_seg dksX6_numberNow_2 22 rfl rfl
theorem dX6_numberNow_0 : decode cX6_numberNow 0 = .ok (.iload_n 2, 1) := dk_28 (dk_at dksX6_numberNow_0 0 rfl rfl)
theorem dX6_numberNow_1 : decode cX6_numberNow 1 = .ok (.tableswitch 73 0 4 #[35, 42, 49, 61, 67], 35) := by decide +kernel
theorem dX6_numberNow_36 : decode cX6_numberNow 36 = .ok (.aload_n 0, 1) := dk_42 (dk_at dksX6_numberNow_2 0 rfl rfl)
theorem dX6_numberNow_37 : decode cX6_numberNow 37 = .ok (.getfield 7, 3) := dk_180 0 7 (dk_at dksX6_numberNow_2 1 rfl rfl)
theorem dX6_numberNow_40 : decode cX6_numberNow 40 = .ok (.iload_n 1, 1) := dk_27 (dk_at dksX6_numberNow_2 4 rfl rfl)
theorem dX6_numberNow_41 : decode cX6_numberNow 41 = .ok (.iaload, 1) := dk_46 (dk_at dksX6_numberNow_2 5 rfl rfl)
theorem dX6_numberNow_42 : decode cX6_numberNow 42 = .ok (.ireturn, 1) := dk_172 (dk_at dksX6_numberNow_2 6 rfl rfl)
theorem dX6_numberNow_43 : decode cX6_numberNow 43 = .ok (.aload_n 0, 1) := dk_42 (dk_at dksX6_numberNow_2 7 rfl rfl)
theorem dX6_numberNow_44 : decode cX6_numberNow 44 = .ok (.getfield 13, 3) := dk_180 0 13 (dk_at dksX6_numberNow_2 8 rfl rfl)
theorem dX6_numberNow_47 : decode cX6_numberNow 47 = .ok (.iload_n 1, 1) := dk_27 (dk_at dksX6_numberNow_2 11 rfl rfl)
theorem dX6_numberNow_48 : decode cX6_numberNow 48 = .ok (.iaload, 1) := dk_46 (dk_at dksX6_numberNow_2 12 rfl rfl)
theorem dX6_numberNow_49 : decode cX6_numberNow 49 = .ok (.ireturn, 1) := dk_172 (dk_at dksX6_numberNow_2 13 rfl rfl)
theorem dX6_numberNow_50 : decode cX6_numberNow 50 = .ok (.aload_n 0, 1) := dk_42 (dk_at dksX6_numberNow_2 14 rfl rfl)
theorem dX6_numberNow_51 : decode cX6_numberNow 51 = .ok (.iconst (-1), 1) := dk_2 (dk_at dksX6_numberNow_2 15 rfl rfl)
theorem dX6_numberNow_52 : decode cX6_numberNow 52 = .ok (.invokevirtual 134, 3) := dk_182 0 134 (dk_at dksX6_numberNow_2 16 rfl rfl)
theorem dX6_numberNow_55 : decode cX6_numberNow 55 = .ok (.pop, 1) := dk_87 (dk_at dksX6_numberNow_2 19 rfl rfl)
theorem dX6_numberNow_56 : decode cX6_numberNow 56 = .ok (.aload_n 0, 1) := dk_42 (dk_at dksX6_numberNow_2 20 rfl rfl)
theorem dX6_numberNow_57 : decode cX6_numberNow 57 = .ok (.iload_n 1, 1) := dk_27 (dk_at dksX6_numberNow_2 21 rfl rfl)
theorem dX6_numberNow_58 : decode cX6_numberNow 58 = .ok (.invokevirtual 137, 3) := dk_182 0 137 (dk_at dksX6_numberNow_3 0 rfl rfl)
theorem dX6_numberNow_61 : decode cX6_numberNow 61 = .ok (.ireturn, 1) := dk_172 (dk_at dksX6_numberNow_3 3 rfl rfl)
theorem dX6_numberNow_62 : decode cX6_numberNow 62 = .ok (.aload_n 0, 1) := dk_42 (dk_at dksX6_numberNow_3 4 rfl rfl)
theorem dX6_numberNow_63 : decode cX6_numberNow 63 = .ok (.iload_n 1, 1) := dk_27 (dk_at dksX6_numberNow_3 5 rfl rfl)
theorem dX6_numberNow_64 : decode cX6_numberNow 64 = .ok (.invokevirtual 140, 3) := dk_182 0 140 (dk_at dksX6_numberNow_3 6 rfl rfl)
theorem dX6_numberNow_67 : decode cX6_numberNow 67 = .ok (.ireturn, 1) := dk_172 (dk_at dksX6_numberNow_3 9 rfl rfl)
theorem dX6_numberNow_68 : decode cX6_numberNow 68 = .ok (.aload_n 0, 1) := dk_42 (dk_at dksX6_numberNow_3 10 rfl rfl)
theorem dX6_numberNow_69 : decode cX6_numberNow 69 = .ok (.iload_n 1, 1) := dk_27 (dk_at dksX6_numberNow_3 11 rfl rfl)
theorem dX6_numberNow_70 : decode cX6_numberNow 70 = .ok (.invokevirtual 143, 3) := dk_182 0 143 (dk_at dksX6_numberNow_3 12 rfl rfl)
theorem dX6_numberNow_73 : decode cX6_numberNow 73 = .ok (.ireturn, 1) := dk_172 (dk_at dksX6_numberNow_3 15 rfl rfl)
theorem dX6_numberNow_74 : decode cX6_numberNow 74 = .ok (.aload_n 0, 1) := dk_42 (dk_at dksX6_numberNow_3 16 rfl rfl)
theorem dX6_numberNow_75 : decode cX6_numberNow 75 = .ok (.iload_n 1, 1) := dk_27 (dk_at dksX6_numberNow_3 17 rfl rfl)
theorem dX6_numberNow_76 : decode cX6_numberNow 76 = .ok (.invokevirtual 146, 3) := dk_182 0 146 (dk_at dksX6_numberNow_3 18 rfl rfl)
theorem dX6_numberNow_79 : decode cX6_numberNow 79 = .ok (.ireturn, 1) := dk_172 (dk_at dksX6_numberNow_3 21 rfl rfl)
abbrev cX6_layWays : ByteArray := prog_9_method_31_code
def yX6_layWays : MethodName := ⟨RX6, "layWays", "(I)I"⟩
def dkwX6_layWays_3 : List UInt8 := [180, 0, 158, 172]
abbrev dktX6_layWays_3 : List UInt8 := dkwX6_layWays_3 ++ []
def dkwX6_layWays_2 : List UInt8 := [182, 0, 164, 42, 42, 42, 180, 0, 101, 182, 0, 155, 42, 180, 0, 101, 182, 0, 161, 61, 167, 255, 230, 42]
abbrev dktX6_layWays_2 : List UInt8 := dkwX6_layWays_2 ++ dktX6_layWays_3
def dkwX6_layWays_1 : List UInt8 := [181, 0, 158, 42, 182, 0, 128, 42, 4, 42, 180, 0, 101, 182, 0, 161, 61, 28, 158, 0, 28, 42, 27]
abbrev dktX6_layWays_1 : List UInt8 := dkwX6_layWays_1 ++ dktX6_layWays_2
def dkwX6_layWays_0 : List UInt8 := [3, 61, 28, 16, 33, 162, 0, 16, 42, 180, 0, 32, 28, 3, 79, 132, 2, 1, 167, 255, 240, 42, 3]
abbrev dktX6_layWays_0 : List UInt8 := dkwX6_layWays_0 ++ dktX6_layWays_1
theorem dksX6_layWays_0 : cX6_layWays.data.toList.drop 0 = dktX6_layWays_0 := by decide +kernel
theorem dksX6_layWays_1 : cX6_layWays.data.toList.drop 23 = dktX6_layWays_1 := dk_seg dksX6_layWays_0 23 rfl rfl
theorem dksX6_layWays_2 : cX6_layWays.data.toList.drop 46 = dktX6_layWays_2 := dk_seg dksX6_layWays_1 23 rfl rfl
theorem dksX6_layWays_3 : cX6_layWays.data.toList.drop 70 = dktX6_layWays_3 := dk_seg dksX6_layWays_2 24 rfl rfl
theorem dX6_layWays_0 : decode cX6_layWays 0 = .ok (.iconst 0, 1) := dk_3 (dk_at dksX6_layWays_0 0 rfl rfl)
theorem dX6_layWays_1 : decode cX6_layWays 1 = .ok (.istore_n 2, 1) := dk_61 (dk_at dksX6_layWays_0 1 rfl rfl)
theorem dX6_layWays_2 : decode cX6_layWays 2 = .ok (.iload_n 2, 1) := dk_28 (dk_at dksX6_layWays_0 2 rfl rfl)
theorem dX6_layWays_3 : decode cX6_layWays 3 = .ok (.bipush 33, 2) := dk_16 33 (dk_at dksX6_layWays_0 3 rfl rfl)
theorem dX6_layWays_5 : decode cX6_layWays 5 = .ok (.if_icmp .ge 16, 3) := dk_162 0 16 (dk_at dksX6_layWays_0 5 rfl rfl)
theorem dX6_layWays_8 : decode cX6_layWays 8 = .ok (.aload_n 0, 1) := dk_42 (dk_at dksX6_layWays_0 8 rfl rfl)
theorem dX6_layWays_9 : decode cX6_layWays 9 = .ok (.getfield 32, 3) := dk_180 0 32 (dk_at dksX6_layWays_0 9 rfl rfl)
theorem dX6_layWays_12 : decode cX6_layWays 12 = .ok (.iload_n 2, 1) := dk_28 (dk_at dksX6_layWays_0 12 rfl rfl)
theorem dX6_layWays_13 : decode cX6_layWays 13 = .ok (.iconst 0, 1) := dk_3 (dk_at dksX6_layWays_0 13 rfl rfl)
theorem dX6_layWays_14 : decode cX6_layWays 14 = .ok (.iastore, 1) := dk_79 (dk_at dksX6_layWays_0 14 rfl rfl)
theorem dX6_layWays_15 : decode cX6_layWays 15 = .ok (.iinc 2 1, 3) := dk_132 2 1 (dk_at dksX6_layWays_0 15 rfl rfl)
theorem dX6_layWays_18 : decode cX6_layWays 18 = .ok (.goto (-16), 3) := dk_167 255 240 (dk_at dksX6_layWays_0 18 rfl rfl)
theorem dX6_layWays_21 : decode cX6_layWays 21 = .ok (.aload_n 0, 1) := dk_42 (dk_at dksX6_layWays_0 21 rfl rfl)
theorem dX6_layWays_22 : decode cX6_layWays 22 = .ok (.iconst 0, 1) := dk_3 (dk_at dksX6_layWays_0 22 rfl rfl)
theorem dX6_layWays_23 : decode cX6_layWays 23 = .ok (.putfield 158, 3) := dk_181 0 158 (dk_at dksX6_layWays_1 0 rfl rfl)
theorem dX6_layWays_26 : decode cX6_layWays 26 = .ok (.aload_n 0, 1) := dk_42 (dk_at dksX6_layWays_1 3 rfl rfl)
theorem dX6_layWays_27 : decode cX6_layWays 27 = .ok (.invokevirtual 128, 3) := dk_182 0 128 (dk_at dksX6_layWays_1 4 rfl rfl)
theorem dX6_layWays_30 : decode cX6_layWays 30 = .ok (.aload_n 0, 1) := dk_42 (dk_at dksX6_layWays_1 7 rfl rfl)
theorem dX6_layWays_31 : decode cX6_layWays 31 = .ok (.iconst 1, 1) := dk_4 (dk_at dksX6_layWays_1 8 rfl rfl)
theorem dX6_layWays_32 : decode cX6_layWays 32 = .ok (.aload_n 0, 1) := dk_42 (dk_at dksX6_layWays_1 9 rfl rfl)
theorem dX6_layWays_33 : decode cX6_layWays 33 = .ok (.getfield 101, 3) := dk_180 0 101 (dk_at dksX6_layWays_1 10 rfl rfl)
theorem dX6_layWays_36 : decode cX6_layWays 36 = .ok (.invokevirtual 161, 3) := dk_182 0 161 (dk_at dksX6_layWays_1 13 rfl rfl)
theorem dX6_layWays_39 : decode cX6_layWays 39 = .ok (.istore_n 2, 1) := dk_61 (dk_at dksX6_layWays_1 16 rfl rfl)
theorem dX6_layWays_40 : decode cX6_layWays 40 = .ok (.iload_n 2, 1) := dk_28 (dk_at dksX6_layWays_1 17 rfl rfl)
theorem dX6_layWays_41 : decode cX6_layWays 41 = .ok (.ifCond .le 28, 3) := dk_158 0 28 (dk_at dksX6_layWays_1 18 rfl rfl)
theorem dX6_layWays_44 : decode cX6_layWays 44 = .ok (.aload_n 0, 1) := dk_42 (dk_at dksX6_layWays_1 21 rfl rfl)
theorem dX6_layWays_45 : decode cX6_layWays 45 = .ok (.iload_n 1, 1) := dk_27 (dk_at dksX6_layWays_1 22 rfl rfl)
theorem dX6_layWays_46 : decode cX6_layWays 46 = .ok (.invokevirtual 164, 3) := dk_182 0 164 (dk_at dksX6_layWays_2 0 rfl rfl)
theorem dX6_layWays_49 : decode cX6_layWays 49 = .ok (.aload_n 0, 1) := dk_42 (dk_at dksX6_layWays_2 3 rfl rfl)
theorem dX6_layWays_50 : decode cX6_layWays 50 = .ok (.aload_n 0, 1) := dk_42 (dk_at dksX6_layWays_2 4 rfl rfl)
theorem dX6_layWays_51 : decode cX6_layWays 51 = .ok (.aload_n 0, 1) := dk_42 (dk_at dksX6_layWays_2 5 rfl rfl)
theorem dX6_layWays_52 : decode cX6_layWays 52 = .ok (.getfield 101, 3) := dk_180 0 101 (dk_at dksX6_layWays_2 6 rfl rfl)
theorem dX6_layWays_55 : decode cX6_layWays 55 = .ok (.invokevirtual 155, 3) := dk_182 0 155 (dk_at dksX6_layWays_2 9 rfl rfl)
theorem dX6_layWays_58 : decode cX6_layWays 58 = .ok (.aload_n 0, 1) := dk_42 (dk_at dksX6_layWays_2 12 rfl rfl)
theorem dX6_layWays_59 : decode cX6_layWays 59 = .ok (.getfield 101, 3) := dk_180 0 101 (dk_at dksX6_layWays_2 13 rfl rfl)
theorem dX6_layWays_62 : decode cX6_layWays 62 = .ok (.invokevirtual 161, 3) := dk_182 0 161 (dk_at dksX6_layWays_2 16 rfl rfl)
theorem dX6_layWays_65 : decode cX6_layWays 65 = .ok (.istore_n 2, 1) := dk_61 (dk_at dksX6_layWays_2 19 rfl rfl)
theorem dX6_layWays_66 : decode cX6_layWays 66 = .ok (.goto (-26), 3) := dk_167 255 230 (dk_at dksX6_layWays_2 20 rfl rfl)
theorem dX6_layWays_69 : decode cX6_layWays 69 = .ok (.aload_n 0, 1) := dk_42 (dk_at dksX6_layWays_2 23 rfl rfl)
theorem dX6_layWays_70 : decode cX6_layWays 70 = .ok (.getfield 158, 3) := dk_180 0 158 (dk_at dksX6_layWays_3 0 rfl rfl)
theorem dX6_layWays_73 : decode cX6_layWays 73 = .ok (.ireturn, 1) := dk_172 (dk_at dksX6_layWays_3 3 rfl rfl)
abbrev cX6_layNow : ByteArray := prog_9_method_19_code
def yX6_layNow : MethodName := ⟨RX6, "layNow", "()V"⟩
def dkwX6_layNow_1 : List UInt8 := [180, 0, 13, 27, 46, 167, 0, 4, 2, 79, 132, 1, 1, 167, 255, 223, 177]
abbrev dktX6_layNow_1 : List UInt8 := dkwX6_layNow_1 ++ []
def dkwX6_layNow_0 : List UInt8 := [4, 60, 27, 16, 10, 163, 0, 33, 42, 180, 0, 29, 27, 27, 42, 180, 0, 101, 163, 0, 12, 42]
abbrev dktX6_layNow_0 : List UInt8 := dkwX6_layNow_0 ++ dktX6_layNow_1
theorem dksX6_layNow_0 : cX6_layNow.data.toList.drop 0 = dktX6_layNow_0 := by decide +kernel
theorem dksX6_layNow_1 : cX6_layNow.data.toList.drop 22 = dktX6_layNow_1 := dk_seg dksX6_layNow_0 22 rfl rfl
theorem dX6_layNow_0 : decode cX6_layNow 0 = .ok (.iconst 1, 1) := dk_4 (dk_at dksX6_layNow_0 0 rfl rfl)
theorem dX6_layNow_1 : decode cX6_layNow 1 = .ok (.istore_n 1, 1) := dk_60 (dk_at dksX6_layNow_0 1 rfl rfl)
theorem dX6_layNow_2 : decode cX6_layNow 2 = .ok (.iload_n 1, 1) := dk_27 (dk_at dksX6_layNow_0 2 rfl rfl)
theorem dX6_layNow_3 : decode cX6_layNow 3 = .ok (.bipush 10, 2) := dk_16 10 (dk_at dksX6_layNow_0 3 rfl rfl)
theorem dX6_layNow_5 : decode cX6_layNow 5 = .ok (.if_icmp .gt 33, 3) := dk_163 0 33 (dk_at dksX6_layNow_0 5 rfl rfl)
theorem dX6_layNow_8 : decode cX6_layNow 8 = .ok (.aload_n 0, 1) := dk_42 (dk_at dksX6_layNow_0 8 rfl rfl)
theorem dX6_layNow_9 : decode cX6_layNow 9 = .ok (.getfield 29, 3) := dk_180 0 29 (dk_at dksX6_layNow_0 9 rfl rfl)
theorem dX6_layNow_12 : decode cX6_layNow 12 = .ok (.iload_n 1, 1) := dk_27 (dk_at dksX6_layNow_0 12 rfl rfl)
theorem dX6_layNow_13 : decode cX6_layNow 13 = .ok (.iload_n 1, 1) := dk_27 (dk_at dksX6_layNow_0 13 rfl rfl)
theorem dX6_layNow_14 : decode cX6_layNow 14 = .ok (.aload_n 0, 1) := dk_42 (dk_at dksX6_layNow_0 14 rfl rfl)
theorem dX6_layNow_15 : decode cX6_layNow 15 = .ok (.getfield 101, 3) := dk_180 0 101 (dk_at dksX6_layNow_0 15 rfl rfl)
theorem dX6_layNow_18 : decode cX6_layNow 18 = .ok (.if_icmp .gt 12, 3) := dk_163 0 12 (dk_at dksX6_layNow_0 18 rfl rfl)
theorem dX6_layNow_21 : decode cX6_layNow 21 = .ok (.aload_n 0, 1) := dk_42 (dk_at dksX6_layNow_0 21 rfl rfl)
theorem dX6_layNow_22 : decode cX6_layNow 22 = .ok (.getfield 13, 3) := dk_180 0 13 (dk_at dksX6_layNow_1 0 rfl rfl)
theorem dX6_layNow_25 : decode cX6_layNow 25 = .ok (.iload_n 1, 1) := dk_27 (dk_at dksX6_layNow_1 3 rfl rfl)
theorem dX6_layNow_26 : decode cX6_layNow 26 = .ok (.iaload, 1) := dk_46 (dk_at dksX6_layNow_1 4 rfl rfl)
theorem dX6_layNow_27 : decode cX6_layNow 27 = .ok (.goto 4, 3) := dk_167 0 4 (dk_at dksX6_layNow_1 5 rfl rfl)
theorem dX6_layNow_30 : decode cX6_layNow 30 = .ok (.iconst (-1), 1) := dk_2 (dk_at dksX6_layNow_1 8 rfl rfl)
theorem dX6_layNow_31 : decode cX6_layNow 31 = .ok (.iastore, 1) := dk_79 (dk_at dksX6_layNow_1 9 rfl rfl)
theorem dX6_layNow_32 : decode cX6_layNow 32 = .ok (.iinc 1 1, 3) := dk_132 1 1 (dk_at dksX6_layNow_1 10 rfl rfl)
theorem dX6_layNow_35 : decode cX6_layNow 35 = .ok (.goto (-33), 3) := dk_167 255 223 (dk_at dksX6_layNow_1 13 rfl rfl)
theorem dX6_layNow_38 : decode cX6_layNow 38 = .ok (.return_, 1) := dk_177 (dk_at dksX6_layNow_1 16 rfl rfl)
abbrev cX6_goOn : ByteArray := prog_9_method_29_code
def yX6_goOn : MethodName := ⟨RX6, "goOn", "(II)I"⟩
def dkwX6_goOn_2 : List UInt8 := [96, 62, 167, 255, 210, 29, 172]
abbrev dktX6_goOn_2 : List UInt8 := dkwX6_goOn_2 ++ []
def dkwX6_goOn_1 : List UInt8 := [180, 0, 29, 29, 3, 79, 42, 29, 182, 0, 125, 158, 0, 11, 42, 29, 182, 0, 155, 167, 0, 6, 29, 4]
abbrev dktX6_goOn_1 : List UInt8 := dkwX6_goOn_1 ++ dktX6_goOn_2
def dkwX6_goOn_0 : List UInt8 := [27, 62, 29, 158, 0, 48, 29, 28, 163, 0, 43, 42, 180, 0, 29, 29, 46, 2, 160, 0, 10, 42]
abbrev dktX6_goOn_0 : List UInt8 := dkwX6_goOn_0 ++ dktX6_goOn_1
theorem dksX6_goOn_0 : cX6_goOn.data.toList.drop 0 = dktX6_goOn_0 := by decide +kernel
theorem dksX6_goOn_1 : cX6_goOn.data.toList.drop 22 = dktX6_goOn_1 := dk_seg dksX6_goOn_0 22 rfl rfl
theorem dksX6_goOn_2 : cX6_goOn.data.toList.drop 46 = dktX6_goOn_2 := dk_seg dksX6_goOn_1 24 rfl rfl
theorem dX6_goOn_0 : decode cX6_goOn 0 = .ok (.iload_n 1, 1) := dk_27 (dk_at dksX6_goOn_0 0 rfl rfl)
theorem dX6_goOn_1 : decode cX6_goOn 1 = .ok (.istore_n 3, 1) := dk_62 (dk_at dksX6_goOn_0 1 rfl rfl)
theorem dX6_goOn_2 : decode cX6_goOn 2 = .ok (.iload_n 3, 1) := dk_29 (dk_at dksX6_goOn_0 2 rfl rfl)
theorem dX6_goOn_3 : decode cX6_goOn 3 = .ok (.ifCond .le 48, 3) := dk_158 0 48 (dk_at dksX6_goOn_0 3 rfl rfl)
theorem dX6_goOn_6 : decode cX6_goOn 6 = .ok (.iload_n 3, 1) := dk_29 (dk_at dksX6_goOn_0 6 rfl rfl)
theorem dX6_goOn_7 : decode cX6_goOn 7 = .ok (.iload_n 2, 1) := dk_28 (dk_at dksX6_goOn_0 7 rfl rfl)
theorem dX6_goOn_8 : decode cX6_goOn 8 = .ok (.if_icmp .gt 43, 3) := dk_163 0 43 (dk_at dksX6_goOn_0 8 rfl rfl)
theorem dX6_goOn_11 : decode cX6_goOn 11 = .ok (.aload_n 0, 1) := dk_42 (dk_at dksX6_goOn_0 11 rfl rfl)
theorem dX6_goOn_12 : decode cX6_goOn 12 = .ok (.getfield 29, 3) := dk_180 0 29 (dk_at dksX6_goOn_0 12 rfl rfl)
theorem dX6_goOn_15 : decode cX6_goOn 15 = .ok (.iload_n 3, 1) := dk_29 (dk_at dksX6_goOn_0 15 rfl rfl)
theorem dX6_goOn_16 : decode cX6_goOn 16 = .ok (.iaload, 1) := dk_46 (dk_at dksX6_goOn_0 16 rfl rfl)
theorem dX6_goOn_17 : decode cX6_goOn 17 = .ok (.iconst (-1), 1) := dk_2 (dk_at dksX6_goOn_0 17 rfl rfl)
theorem dX6_goOn_18 : decode cX6_goOn 18 = .ok (.if_icmp .ne 10, 3) := dk_160 0 10 (dk_at dksX6_goOn_0 18 rfl rfl)
theorem dX6_goOn_21 : decode cX6_goOn 21 = .ok (.aload_n 0, 1) := dk_42 (dk_at dksX6_goOn_0 21 rfl rfl)
theorem dX6_goOn_22 : decode cX6_goOn 22 = .ok (.getfield 29, 3) := dk_180 0 29 (dk_at dksX6_goOn_1 0 rfl rfl)
theorem dX6_goOn_25 : decode cX6_goOn 25 = .ok (.iload_n 3, 1) := dk_29 (dk_at dksX6_goOn_1 3 rfl rfl)
theorem dX6_goOn_26 : decode cX6_goOn 26 = .ok (.iconst 0, 1) := dk_3 (dk_at dksX6_goOn_1 4 rfl rfl)
theorem dX6_goOn_27 : decode cX6_goOn 27 = .ok (.iastore, 1) := dk_79 (dk_at dksX6_goOn_1 5 rfl rfl)
theorem dX6_goOn_28 : decode cX6_goOn 28 = .ok (.aload_n 0, 1) := dk_42 (dk_at dksX6_goOn_1 6 rfl rfl)
theorem dX6_goOn_29 : decode cX6_goOn 29 = .ok (.iload_n 3, 1) := dk_29 (dk_at dksX6_goOn_1 7 rfl rfl)
theorem dX6_goOn_30 : decode cX6_goOn 30 = .ok (.invokevirtual 125, 3) := dk_182 0 125 (dk_at dksX6_goOn_1 8 rfl rfl)
theorem dX6_goOn_33 : decode cX6_goOn 33 = .ok (.ifCond .le 11, 3) := dk_158 0 11 (dk_at dksX6_goOn_1 11 rfl rfl)
theorem dX6_goOn_36 : decode cX6_goOn 36 = .ok (.aload_n 0, 1) := dk_42 (dk_at dksX6_goOn_1 14 rfl rfl)
theorem dX6_goOn_37 : decode cX6_goOn 37 = .ok (.iload_n 3, 1) := dk_29 (dk_at dksX6_goOn_1 15 rfl rfl)
theorem dX6_goOn_38 : decode cX6_goOn 38 = .ok (.invokevirtual 155, 3) := dk_182 0 155 (dk_at dksX6_goOn_1 16 rfl rfl)
theorem dX6_goOn_41 : decode cX6_goOn 41 = .ok (.goto 6, 3) := dk_167 0 6 (dk_at dksX6_goOn_1 19 rfl rfl)
theorem dX6_goOn_44 : decode cX6_goOn 44 = .ok (.iload_n 3, 1) := dk_29 (dk_at dksX6_goOn_1 22 rfl rfl)
theorem dX6_goOn_45 : decode cX6_goOn 45 = .ok (.iconst 1, 1) := dk_4 (dk_at dksX6_goOn_1 23 rfl rfl)
theorem dX6_goOn_46 : decode cX6_goOn 46 = .ok (.iadd, 1) := dk_96 (dk_at dksX6_goOn_2 0 rfl rfl)
theorem dX6_goOn_47 : decode cX6_goOn 47 = .ok (.istore_n 3, 1) := dk_62 (dk_at dksX6_goOn_2 1 rfl rfl)
theorem dX6_goOn_48 : decode cX6_goOn 48 = .ok (.goto (-46), 3) := dk_167 255 210 (dk_at dksX6_goOn_2 2 rfl rfl)
theorem dX6_goOn_51 : decode cX6_goOn 51 = .ok (.iload_n 3, 1) := dk_29 (dk_at dksX6_goOn_2 5 rfl rfl)
theorem dX6_goOn_52 : decode cX6_goOn 52 = .ok (.ireturn, 1) := dk_172 (dk_at dksX6_goOn_2 6 rfl rfl)
abbrev cX6_badWith : ByteArray := prog_9_method_21_code
def yX6_badWith : MethodName := ⟨RX6, "badWith", "(I)I"⟩
def dkwX6_badWith_1 : List UInt8 := [167, 0, 4, 3, 96, 61, 132, 3, 1, 167, 255, 227, 28, 172]
abbrev dktX6_badWith_1 : List UInt8 := dkwX6_badWith_1 ++ []
def dkwX6_badWith_0 : List UInt8 := [3, 61, 4, 62, 29, 27, 29, 100, 163, 0, 28, 28, 42, 29, 27, 29, 100, 182, 0, 121, 153, 0, 7, 4]
abbrev dktX6_badWith_0 : List UInt8 := dkwX6_badWith_0 ++ dktX6_badWith_1
theorem dksX6_badWith_0 : cX6_badWith.data.toList.drop 0 = dktX6_badWith_0 := by decide +kernel
theorem dksX6_badWith_1 : cX6_badWith.data.toList.drop 24 = dktX6_badWith_1 := dk_seg dksX6_badWith_0 24 rfl rfl
theorem dX6_badWith_0 : decode cX6_badWith 0 = .ok (.iconst 0, 1) := dk_3 (dk_at dksX6_badWith_0 0 rfl rfl)
theorem dX6_badWith_1 : decode cX6_badWith 1 = .ok (.istore_n 2, 1) := dk_61 (dk_at dksX6_badWith_0 1 rfl rfl)
theorem dX6_badWith_2 : decode cX6_badWith 2 = .ok (.iconst 1, 1) := dk_4 (dk_at dksX6_badWith_0 2 rfl rfl)
theorem dX6_badWith_3 : decode cX6_badWith 3 = .ok (.istore_n 3, 1) := dk_62 (dk_at dksX6_badWith_0 3 rfl rfl)
theorem dX6_badWith_4 : decode cX6_badWith 4 = .ok (.iload_n 3, 1) := dk_29 (dk_at dksX6_badWith_0 4 rfl rfl)
theorem dX6_badWith_5 : decode cX6_badWith 5 = .ok (.iload_n 1, 1) := dk_27 (dk_at dksX6_badWith_0 5 rfl rfl)
theorem dX6_badWith_6 : decode cX6_badWith 6 = .ok (.iload_n 3, 1) := dk_29 (dk_at dksX6_badWith_0 6 rfl rfl)
theorem dX6_badWith_7 : decode cX6_badWith 7 = .ok (.isub, 1) := dk_100 (dk_at dksX6_badWith_0 7 rfl rfl)
theorem dX6_badWith_8 : decode cX6_badWith 8 = .ok (.if_icmp .gt 28, 3) := dk_163 0 28 (dk_at dksX6_badWith_0 8 rfl rfl)
theorem dX6_badWith_11 : decode cX6_badWith 11 = .ok (.iload_n 2, 1) := dk_28 (dk_at dksX6_badWith_0 11 rfl rfl)
theorem dX6_badWith_12 : decode cX6_badWith 12 = .ok (.aload_n 0, 1) := dk_42 (dk_at dksX6_badWith_0 12 rfl rfl)
theorem dX6_badWith_13 : decode cX6_badWith 13 = .ok (.iload_n 3, 1) := dk_29 (dk_at dksX6_badWith_0 13 rfl rfl)
theorem dX6_badWith_14 : decode cX6_badWith 14 = .ok (.iload_n 1, 1) := dk_27 (dk_at dksX6_badWith_0 14 rfl rfl)
theorem dX6_badWith_15 : decode cX6_badWith 15 = .ok (.iload_n 3, 1) := dk_29 (dk_at dksX6_badWith_0 15 rfl rfl)
theorem dX6_badWith_16 : decode cX6_badWith 16 = .ok (.isub, 1) := dk_100 (dk_at dksX6_badWith_0 16 rfl rfl)
theorem dX6_badWith_17 : decode cX6_badWith 17 = .ok (.invokevirtual 121, 3) := dk_182 0 121 (dk_at dksX6_badWith_0 17 rfl rfl)
theorem dX6_badWith_20 : decode cX6_badWith 20 = .ok (.ifCond .eq 7, 3) := dk_153 0 7 (dk_at dksX6_badWith_0 20 rfl rfl)
theorem dX6_badWith_23 : decode cX6_badWith 23 = .ok (.iconst 1, 1) := dk_4 (dk_at dksX6_badWith_0 23 rfl rfl)
theorem dX6_badWith_24 : decode cX6_badWith 24 = .ok (.goto 4, 3) := dk_167 0 4 (dk_at dksX6_badWith_1 0 rfl rfl)
theorem dX6_badWith_27 : decode cX6_badWith 27 = .ok (.iconst 0, 1) := dk_3 (dk_at dksX6_badWith_1 3 rfl rfl)
theorem dX6_badWith_28 : decode cX6_badWith 28 = .ok (.iadd, 1) := dk_96 (dk_at dksX6_badWith_1 4 rfl rfl)
theorem dX6_badWith_29 : decode cX6_badWith 29 = .ok (.istore_n 2, 1) := dk_61 (dk_at dksX6_badWith_1 5 rfl rfl)
theorem dX6_badWith_30 : decode cX6_badWith 30 = .ok (.iinc 3 1, 3) := dk_132 3 1 (dk_at dksX6_badWith_1 6 rfl rfl)
theorem dX6_badWith_33 : decode cX6_badWith 33 = .ok (.goto (-29), 3) := dk_167 255 227 (dk_at dksX6_badWith_1 9 rfl rfl)
theorem dX6_badWith_36 : decode cX6_badWith 36 = .ok (.iload_n 2, 1) := dk_28 (dk_at dksX6_badWith_1 12 rfl rfl)
theorem dX6_badWith_37 : decode cX6_badWith 37 = .ok (.ireturn, 1) := dk_172 (dk_at dksX6_badWith_1 13 rfl rfl)
abbrev cX6_isBad : ByteArray := prog_9_method_20_code
def yX6_isBad : MethodName := ⟨RX6, "isBad", "(II)Z"⟩
def dkwX6_isBad_4 : List UInt8 := [184, 0, 117, 153, 0, 7, 4, 167, 0, 4, 3, 172]
abbrev dktX6_isBad_4 : List UInt8 := dkwX6_isBad_4 ++ []
def dkwX6_isBad_3 : List UInt8 := [28, 46, 184, 0, 113, 153, 0, 29, 42, 180, 0, 7, 29, 46, 27, 28, 159, 0, 7, 4, 167, 0, 4, 3]
abbrev dktX6_isBad_3 : List UInt8 := dkwX6_isBad_3 ++ dktX6_isBad_4
def dkwX6_isBad_2 : List UInt8 := [3, 54, 4, 21, 4, 153, 0, 53, 42, 180, 0, 7, 27, 46, 184, 0, 113, 153, 0, 41, 42, 180, 0, 7]
abbrev dktX6_isBad_2 : List UInt8 := dkwX6_isBad_2 ++ dktX6_isBad_3
def dkwX6_isBad_1 : List UInt8 := [28, 46, 160, 0, 22, 42, 180, 0, 29, 27, 46, 42, 180, 0, 29, 29, 46, 160, 0, 7, 4, 167, 0, 4]
abbrev dktX6_isBad_1 : List UInt8 := dkwX6_isBad_1 ++ dktX6_isBad_2
def dkwX6_isBad_0 : List UInt8 := [27, 28, 96, 62, 42, 180, 0, 29, 27, 46, 2, 159, 0, 37, 42, 180, 0, 29, 27, 46, 42, 180, 0, 29]
abbrev dktX6_isBad_0 : List UInt8 := dkwX6_isBad_0 ++ dktX6_isBad_1
theorem dksX6_isBad_0 : cX6_isBad.data.toList.drop 0 = dktX6_isBad_0 := by decide +kernel
theorem dksX6_isBad_1 : cX6_isBad.data.toList.drop 24 = dktX6_isBad_1 := dk_seg dksX6_isBad_0 24 rfl rfl
theorem dksX6_isBad_2 : cX6_isBad.data.toList.drop 48 = dktX6_isBad_2 := dk_seg dksX6_isBad_1 24 rfl rfl
theorem dksX6_isBad_3 : cX6_isBad.data.toList.drop 72 = dktX6_isBad_3 := dk_seg dksX6_isBad_2 24 rfl rfl
theorem dksX6_isBad_4 : cX6_isBad.data.toList.drop 96 = dktX6_isBad_4 := dk_seg dksX6_isBad_3 24 rfl rfl
theorem dX6_isBad_0 : decode cX6_isBad 0 = .ok (.iload_n 1, 1) := dk_27 (dk_at dksX6_isBad_0 0 rfl rfl)
theorem dX6_isBad_1 : decode cX6_isBad 1 = .ok (.iload_n 2, 1) := dk_28 (dk_at dksX6_isBad_0 1 rfl rfl)
theorem dX6_isBad_2 : decode cX6_isBad 2 = .ok (.iadd, 1) := dk_96 (dk_at dksX6_isBad_0 2 rfl rfl)
theorem dX6_isBad_3 : decode cX6_isBad 3 = .ok (.istore_n 3, 1) := dk_62 (dk_at dksX6_isBad_0 3 rfl rfl)
theorem dX6_isBad_4 : decode cX6_isBad 4 = .ok (.aload_n 0, 1) := dk_42 (dk_at dksX6_isBad_0 4 rfl rfl)
theorem dX6_isBad_5 : decode cX6_isBad 5 = .ok (.getfield 29, 3) := dk_180 0 29 (dk_at dksX6_isBad_0 5 rfl rfl)
theorem dX6_isBad_8 : decode cX6_isBad 8 = .ok (.iload_n 1, 1) := dk_27 (dk_at dksX6_isBad_0 8 rfl rfl)
theorem dX6_isBad_9 : decode cX6_isBad 9 = .ok (.iaload, 1) := dk_46 (dk_at dksX6_isBad_0 9 rfl rfl)
theorem dX6_isBad_10 : decode cX6_isBad 10 = .ok (.iconst (-1), 1) := dk_2 (dk_at dksX6_isBad_0 10 rfl rfl)
theorem dX6_isBad_11 : decode cX6_isBad 11 = .ok (.if_icmp .eq 37, 3) := dk_159 0 37 (dk_at dksX6_isBad_0 11 rfl rfl)
theorem dX6_isBad_14 : decode cX6_isBad 14 = .ok (.aload_n 0, 1) := dk_42 (dk_at dksX6_isBad_0 14 rfl rfl)
theorem dX6_isBad_15 : decode cX6_isBad 15 = .ok (.getfield 29, 3) := dk_180 0 29 (dk_at dksX6_isBad_0 15 rfl rfl)
theorem dX6_isBad_18 : decode cX6_isBad 18 = .ok (.iload_n 1, 1) := dk_27 (dk_at dksX6_isBad_0 18 rfl rfl)
theorem dX6_isBad_19 : decode cX6_isBad 19 = .ok (.iaload, 1) := dk_46 (dk_at dksX6_isBad_0 19 rfl rfl)
theorem dX6_isBad_20 : decode cX6_isBad 20 = .ok (.aload_n 0, 1) := dk_42 (dk_at dksX6_isBad_0 20 rfl rfl)
theorem dX6_isBad_21 : decode cX6_isBad 21 = .ok (.getfield 29, 3) := dk_180 0 29 (dk_at dksX6_isBad_0 21 rfl rfl)
theorem dX6_isBad_24 : decode cX6_isBad 24 = .ok (.iload_n 2, 1) := dk_28 (dk_at dksX6_isBad_1 0 rfl rfl)
theorem dX6_isBad_25 : decode cX6_isBad 25 = .ok (.iaload, 1) := dk_46 (dk_at dksX6_isBad_1 1 rfl rfl)
theorem dX6_isBad_26 : decode cX6_isBad 26 = .ok (.if_icmp .ne 22, 3) := dk_160 0 22 (dk_at dksX6_isBad_1 2 rfl rfl)
theorem dX6_isBad_29 : decode cX6_isBad 29 = .ok (.aload_n 0, 1) := dk_42 (dk_at dksX6_isBad_1 5 rfl rfl)
theorem dX6_isBad_30 : decode cX6_isBad 30 = .ok (.getfield 29, 3) := dk_180 0 29 (dk_at dksX6_isBad_1 6 rfl rfl)
theorem dX6_isBad_33 : decode cX6_isBad 33 = .ok (.iload_n 1, 1) := dk_27 (dk_at dksX6_isBad_1 9 rfl rfl)
theorem dX6_isBad_34 : decode cX6_isBad 34 = .ok (.iaload, 1) := dk_46 (dk_at dksX6_isBad_1 10 rfl rfl)
theorem dX6_isBad_35 : decode cX6_isBad 35 = .ok (.aload_n 0, 1) := dk_42 (dk_at dksX6_isBad_1 11 rfl rfl)
theorem dX6_isBad_36 : decode cX6_isBad 36 = .ok (.getfield 29, 3) := dk_180 0 29 (dk_at dksX6_isBad_1 12 rfl rfl)
theorem dX6_isBad_39 : decode cX6_isBad 39 = .ok (.iload_n 3, 1) := dk_29 (dk_at dksX6_isBad_1 15 rfl rfl)
theorem dX6_isBad_40 : decode cX6_isBad 40 = .ok (.iaload, 1) := dk_46 (dk_at dksX6_isBad_1 16 rfl rfl)
theorem dX6_isBad_41 : decode cX6_isBad 41 = .ok (.if_icmp .ne 7, 3) := dk_160 0 7 (dk_at dksX6_isBad_1 17 rfl rfl)
theorem dX6_isBad_44 : decode cX6_isBad 44 = .ok (.iconst 1, 1) := dk_4 (dk_at dksX6_isBad_1 20 rfl rfl)
theorem dX6_isBad_45 : decode cX6_isBad 45 = .ok (.goto 4, 3) := dk_167 0 4 (dk_at dksX6_isBad_1 21 rfl rfl)
theorem dX6_isBad_48 : decode cX6_isBad 48 = .ok (.iconst 0, 1) := dk_3 (dk_at dksX6_isBad_2 0 rfl rfl)
theorem dX6_isBad_49 : decode cX6_isBad 49 = .ok (.istore 4, 2) := dk_54 4 (dk_at dksX6_isBad_2 1 rfl rfl)
theorem dX6_isBad_51 : decode cX6_isBad 51 = .ok (.iload 4, 2) := dk_21 4 (dk_at dksX6_isBad_2 3 rfl rfl)
theorem dX6_isBad_53 : decode cX6_isBad 53 = .ok (.ifCond .eq 53, 3) := dk_153 0 53 (dk_at dksX6_isBad_2 5 rfl rfl)
theorem dX6_isBad_56 : decode cX6_isBad 56 = .ok (.aload_n 0, 1) := dk_42 (dk_at dksX6_isBad_2 8 rfl rfl)
theorem dX6_isBad_57 : decode cX6_isBad 57 = .ok (.getfield 7, 3) := dk_180 0 7 (dk_at dksX6_isBad_2 9 rfl rfl)
theorem dX6_isBad_60 : decode cX6_isBad 60 = .ok (.iload_n 1, 1) := dk_27 (dk_at dksX6_isBad_2 12 rfl rfl)
theorem dX6_isBad_61 : decode cX6_isBad 61 = .ok (.iaload, 1) := dk_46 (dk_at dksX6_isBad_2 13 rfl rfl)
theorem dX6_isBad_62 : decode cX6_isBad 62 = .ok (.invokestatic 113, 3) := dk_184 0 113 (dk_at dksX6_isBad_2 14 rfl rfl)
theorem dX6_isBad_65 : decode cX6_isBad 65 = .ok (.ifCond .eq 41, 3) := dk_153 0 41 (dk_at dksX6_isBad_2 17 rfl rfl)
theorem dX6_isBad_68 : decode cX6_isBad 68 = .ok (.aload_n 0, 1) := dk_42 (dk_at dksX6_isBad_2 20 rfl rfl)
theorem dX6_isBad_69 : decode cX6_isBad 69 = .ok (.getfield 7, 3) := dk_180 0 7 (dk_at dksX6_isBad_2 21 rfl rfl)
theorem dX6_isBad_72 : decode cX6_isBad 72 = .ok (.iload_n 2, 1) := dk_28 (dk_at dksX6_isBad_3 0 rfl rfl)
theorem dX6_isBad_73 : decode cX6_isBad 73 = .ok (.iaload, 1) := dk_46 (dk_at dksX6_isBad_3 1 rfl rfl)
theorem dX6_isBad_74 : decode cX6_isBad 74 = .ok (.invokestatic 113, 3) := dk_184 0 113 (dk_at dksX6_isBad_3 2 rfl rfl)
theorem dX6_isBad_77 : decode cX6_isBad 77 = .ok (.ifCond .eq 29, 3) := dk_153 0 29 (dk_at dksX6_isBad_3 5 rfl rfl)
theorem dX6_isBad_80 : decode cX6_isBad 80 = .ok (.aload_n 0, 1) := dk_42 (dk_at dksX6_isBad_3 8 rfl rfl)
theorem dX6_isBad_81 : decode cX6_isBad 81 = .ok (.getfield 7, 3) := dk_180 0 7 (dk_at dksX6_isBad_3 9 rfl rfl)
theorem dX6_isBad_84 : decode cX6_isBad 84 = .ok (.iload_n 3, 1) := dk_29 (dk_at dksX6_isBad_3 12 rfl rfl)
theorem dX6_isBad_85 : decode cX6_isBad 85 = .ok (.iaload, 1) := dk_46 (dk_at dksX6_isBad_3 13 rfl rfl)
theorem dX6_isBad_86 : decode cX6_isBad 86 = .ok (.iload_n 1, 1) := dk_27 (dk_at dksX6_isBad_3 14 rfl rfl)
theorem dX6_isBad_87 : decode cX6_isBad 87 = .ok (.iload_n 2, 1) := dk_28 (dk_at dksX6_isBad_3 15 rfl rfl)
theorem dX6_isBad_88 : decode cX6_isBad 88 = .ok (.if_icmp .eq 7, 3) := dk_159 0 7 (dk_at dksX6_isBad_3 16 rfl rfl)
theorem dX6_isBad_91 : decode cX6_isBad 91 = .ok (.iconst 1, 1) := dk_4 (dk_at dksX6_isBad_3 19 rfl rfl)
theorem dX6_isBad_92 : decode cX6_isBad 92 = .ok (.goto 4, 3) := dk_167 0 4 (dk_at dksX6_isBad_3 20 rfl rfl)
theorem dX6_isBad_95 : decode cX6_isBad 95 = .ok (.iconst 0, 1) := dk_3 (dk_at dksX6_isBad_3 23 rfl rfl)
theorem dX6_isBad_96 : decode cX6_isBad 96 = .ok (.invokestatic 117, 3) := dk_184 0 117 (dk_at dksX6_isBad_4 0 rfl rfl)
theorem dX6_isBad_99 : decode cX6_isBad 99 = .ok (.ifCond .eq 7, 3) := dk_153 0 7 (dk_at dksX6_isBad_4 3 rfl rfl)
theorem dX6_isBad_102 : decode cX6_isBad 102 = .ok (.iconst 1, 1) := dk_4 (dk_at dksX6_isBad_4 6 rfl rfl)
theorem dX6_isBad_103 : decode cX6_isBad 103 = .ok (.goto 4, 3) := dk_167 0 4 (dk_at dksX6_isBad_4 7 rfl rfl)
theorem dX6_isBad_106 : decode cX6_isBad 106 = .ok (.iconst 0, 1) := dk_3 (dk_at dksX6_isBad_4 10 rfl rfl)
theorem dX6_isBad_107 : decode cX6_isBad 107 = .ok (.ireturn, 1) := dk_172 (dk_at dksX6_isBad_4 11 rfl rfl)
abbrev cX6_isPart : ByteArray := prog_9_method_17_code
def yX6_isPart : MethodName := ⟨RX6, "isPart", "(I)Z"⟩
def dkwX6_isPart_0 : List UInt8 := [26, 6, 159, 0, 12, 26, 7, 159, 0, 7, 4, 167, 0, 4, 3, 172]
abbrev dktX6_isPart_0 : List UInt8 := dkwX6_isPart_0 ++ []
theorem dksX6_isPart_0 : cX6_isPart.data.toList.drop 0 = dktX6_isPart_0 := by decide +kernel
theorem dX6_isPart_0 : decode cX6_isPart 0 = .ok (.iload_n 0, 1) := dk_26 (dk_at dksX6_isPart_0 0 rfl rfl)
theorem dX6_isPart_1 : decode cX6_isPart 1 = .ok (.iconst 3, 1) := dk_6 (dk_at dksX6_isPart_0 1 rfl rfl)
theorem dX6_isPart_2 : decode cX6_isPart 2 = .ok (.if_icmp .eq 12, 3) := dk_159 0 12 (dk_at dksX6_isPart_0 2 rfl rfl)
theorem dX6_isPart_5 : decode cX6_isPart 5 = .ok (.iload_n 0, 1) := dk_26 (dk_at dksX6_isPart_0 5 rfl rfl)
theorem dX6_isPart_6 : decode cX6_isPart 6 = .ok (.iconst 4, 1) := dk_7 (dk_at dksX6_isPart_0 6 rfl rfl)
theorem dX6_isPart_7 : decode cX6_isPart 7 = .ok (.if_icmp .eq 7, 3) := dk_159 0 7 (dk_at dksX6_isPart_0 7 rfl rfl)
theorem dX6_isPart_10 : decode cX6_isPart 10 = .ok (.iconst 1, 1) := dk_4 (dk_at dksX6_isPart_0 10 rfl rfl)
theorem dX6_isPart_11 : decode cX6_isPart 11 = .ok (.goto 4, 3) := dk_167 0 4 (dk_at dksX6_isPart_0 11 rfl rfl)
theorem dX6_isPart_14 : decode cX6_isPart 14 = .ok (.iconst 0, 1) := dk_3 (dk_at dksX6_isPart_0 14 rfl rfl)
theorem dX6_isPart_15 : decode cX6_isPart 15 = .ok (.ireturn, 1) := dk_172 (dk_at dksX6_isPart_0 15 rfl rfl)
abbrev cX6_minds : ByteArray := prog_9_method_18_code
def yX6_minds : MethodName := ⟨RX6, "minds", "(IZ)Z"⟩
def dkwX6_minds_0 : List UInt8 := [26, 153, 0, 17, 26, 6, 159, 0, 12, 26, 4, 160, 0, 11, 27, 153, 0, 7, 4, 167, 0, 4, 3, 172]
abbrev dktX6_minds_0 : List UInt8 := dkwX6_minds_0 ++ []
theorem dksX6_minds_0 : cX6_minds.data.toList.drop 0 = dktX6_minds_0 := by decide +kernel
theorem dX6_minds_0 : decode cX6_minds 0 = .ok (.iload_n 0, 1) := dk_26 (dk_at dksX6_minds_0 0 rfl rfl)
theorem dX6_minds_1 : decode cX6_minds 1 = .ok (.ifCond .eq 17, 3) := dk_153 0 17 (dk_at dksX6_minds_0 1 rfl rfl)
theorem dX6_minds_4 : decode cX6_minds 4 = .ok (.iload_n 0, 1) := dk_26 (dk_at dksX6_minds_0 4 rfl rfl)
theorem dX6_minds_5 : decode cX6_minds 5 = .ok (.iconst 3, 1) := dk_6 (dk_at dksX6_minds_0 5 rfl rfl)
theorem dX6_minds_6 : decode cX6_minds 6 = .ok (.if_icmp .eq 12, 3) := dk_159 0 12 (dk_at dksX6_minds_0 6 rfl rfl)
theorem dX6_minds_9 : decode cX6_minds 9 = .ok (.iload_n 0, 1) := dk_26 (dk_at dksX6_minds_0 9 rfl rfl)
theorem dX6_minds_10 : decode cX6_minds 10 = .ok (.iconst 1, 1) := dk_4 (dk_at dksX6_minds_0 10 rfl rfl)
theorem dX6_minds_11 : decode cX6_minds 11 = .ok (.if_icmp .ne 11, 3) := dk_160 0 11 (dk_at dksX6_minds_0 11 rfl rfl)
theorem dX6_minds_14 : decode cX6_minds 14 = .ok (.iload_n 1, 1) := dk_27 (dk_at dksX6_minds_0 14 rfl rfl)
theorem dX6_minds_15 : decode cX6_minds 15 = .ok (.ifCond .eq 7, 3) := dk_153 0 7 (dk_at dksX6_minds_0 15 rfl rfl)
theorem dX6_minds_18 : decode cX6_minds 18 = .ok (.iconst 1, 1) := dk_4 (dk_at dksX6_minds_0 18 rfl rfl)
theorem dX6_minds_19 : decode cX6_minds 19 = .ok (.goto 4, 3) := dk_167 0 4 (dk_at dksX6_minds_0 19 rfl rfl)
theorem dX6_minds_22 : decode cX6_minds 22 = .ok (.iconst 0, 1) := dk_3 (dk_at dksX6_minds_0 22 rfl rfl)
theorem dX6_minds_23 : decode cX6_minds 23 = .ok (.ireturn, 1) := dk_172 (dk_at dksX6_minds_0 23 rfl rfl)
abbrev cX6_turnBack : ByteArray := prog_9_method_28_code
def yX6_turnBack : MethodName := ⟨RX6, "turnBack", "(I)I"⟩
def dkwX6_turnBack_2 : List UInt8 := [167, 255, 212, 28, 158, 0, 13, 42, 180, 0, 29, 28, 92, 46, 4, 96, 79, 28, 172]
abbrev dktX6_turnBack_2 : List UInt8 := dkwX6_turnBack_2 ++ []
def dkwX6_turnBack_1 : List UInt8 := [180, 0, 98, 4, 100, 160, 0, 21, 42, 180, 0, 29, 28, 42, 180, 0, 13, 28, 46, 79, 132, 2, 255]
abbrev dktX6_turnBack_1 : List UInt8 := dkwX6_turnBack_1 ++ dktX6_turnBack_2
def dkwX6_turnBack_0 : List UInt8 := [27, 61, 28, 158, 0, 46, 42, 180, 0, 13, 28, 46, 2, 160, 0, 18, 42, 180, 0, 29, 28, 46, 42]
abbrev dktX6_turnBack_0 : List UInt8 := dkwX6_turnBack_0 ++ dktX6_turnBack_1
theorem dksX6_turnBack_0 : cX6_turnBack.data.toList.drop 0 = dktX6_turnBack_0 := by decide +kernel
theorem dksX6_turnBack_1 : cX6_turnBack.data.toList.drop 23 = dktX6_turnBack_1 := dk_seg dksX6_turnBack_0 23 rfl rfl
theorem dksX6_turnBack_2 : cX6_turnBack.data.toList.drop 46 = dktX6_turnBack_2 := dk_seg dksX6_turnBack_1 23 rfl rfl
theorem dX6_turnBack_0 : decode cX6_turnBack 0 = .ok (.iload_n 1, 1) := dk_27 (dk_at dksX6_turnBack_0 0 rfl rfl)
theorem dX6_turnBack_1 : decode cX6_turnBack 1 = .ok (.istore_n 2, 1) := dk_61 (dk_at dksX6_turnBack_0 1 rfl rfl)
theorem dX6_turnBack_2 : decode cX6_turnBack 2 = .ok (.iload_n 2, 1) := dk_28 (dk_at dksX6_turnBack_0 2 rfl rfl)
theorem dX6_turnBack_3 : decode cX6_turnBack 3 = .ok (.ifCond .le 46, 3) := dk_158 0 46 (dk_at dksX6_turnBack_0 3 rfl rfl)
theorem dX6_turnBack_6 : decode cX6_turnBack 6 = .ok (.aload_n 0, 1) := dk_42 (dk_at dksX6_turnBack_0 6 rfl rfl)
theorem dX6_turnBack_7 : decode cX6_turnBack 7 = .ok (.getfield 13, 3) := dk_180 0 13 (dk_at dksX6_turnBack_0 7 rfl rfl)
theorem dX6_turnBack_10 : decode cX6_turnBack 10 = .ok (.iload_n 2, 1) := dk_28 (dk_at dksX6_turnBack_0 10 rfl rfl)
theorem dX6_turnBack_11 : decode cX6_turnBack 11 = .ok (.iaload, 1) := dk_46 (dk_at dksX6_turnBack_0 11 rfl rfl)
theorem dX6_turnBack_12 : decode cX6_turnBack 12 = .ok (.iconst (-1), 1) := dk_2 (dk_at dksX6_turnBack_0 12 rfl rfl)
theorem dX6_turnBack_13 : decode cX6_turnBack 13 = .ok (.if_icmp .ne 18, 3) := dk_160 0 18 (dk_at dksX6_turnBack_0 13 rfl rfl)
theorem dX6_turnBack_16 : decode cX6_turnBack 16 = .ok (.aload_n 0, 1) := dk_42 (dk_at dksX6_turnBack_0 16 rfl rfl)
theorem dX6_turnBack_17 : decode cX6_turnBack 17 = .ok (.getfield 29, 3) := dk_180 0 29 (dk_at dksX6_turnBack_0 17 rfl rfl)
theorem dX6_turnBack_20 : decode cX6_turnBack 20 = .ok (.iload_n 2, 1) := dk_28 (dk_at dksX6_turnBack_0 20 rfl rfl)
theorem dX6_turnBack_21 : decode cX6_turnBack 21 = .ok (.iaload, 1) := dk_46 (dk_at dksX6_turnBack_0 21 rfl rfl)
theorem dX6_turnBack_22 : decode cX6_turnBack 22 = .ok (.aload_n 0, 1) := dk_42 (dk_at dksX6_turnBack_0 22 rfl rfl)
theorem dX6_turnBack_23 : decode cX6_turnBack 23 = .ok (.getfield 98, 3) := dk_180 0 98 (dk_at dksX6_turnBack_1 0 rfl rfl)
theorem dX6_turnBack_26 : decode cX6_turnBack 26 = .ok (.iconst 1, 1) := dk_4 (dk_at dksX6_turnBack_1 3 rfl rfl)
theorem dX6_turnBack_27 : decode cX6_turnBack 27 = .ok (.isub, 1) := dk_100 (dk_at dksX6_turnBack_1 4 rfl rfl)
theorem dX6_turnBack_28 : decode cX6_turnBack 28 = .ok (.if_icmp .ne 21, 3) := dk_160 0 21 (dk_at dksX6_turnBack_1 5 rfl rfl)
theorem dX6_turnBack_31 : decode cX6_turnBack 31 = .ok (.aload_n 0, 1) := dk_42 (dk_at dksX6_turnBack_1 8 rfl rfl)
theorem dX6_turnBack_32 : decode cX6_turnBack 32 = .ok (.getfield 29, 3) := dk_180 0 29 (dk_at dksX6_turnBack_1 9 rfl rfl)
theorem dX6_turnBack_35 : decode cX6_turnBack 35 = .ok (.iload_n 2, 1) := dk_28 (dk_at dksX6_turnBack_1 12 rfl rfl)
theorem dX6_turnBack_36 : decode cX6_turnBack 36 = .ok (.aload_n 0, 1) := dk_42 (dk_at dksX6_turnBack_1 13 rfl rfl)
theorem dX6_turnBack_37 : decode cX6_turnBack 37 = .ok (.getfield 13, 3) := dk_180 0 13 (dk_at dksX6_turnBack_1 14 rfl rfl)
theorem dX6_turnBack_40 : decode cX6_turnBack 40 = .ok (.iload_n 2, 1) := dk_28 (dk_at dksX6_turnBack_1 17 rfl rfl)
theorem dX6_turnBack_41 : decode cX6_turnBack 41 = .ok (.iaload, 1) := dk_46 (dk_at dksX6_turnBack_1 18 rfl rfl)
theorem dX6_turnBack_42 : decode cX6_turnBack 42 = .ok (.iastore, 1) := dk_79 (dk_at dksX6_turnBack_1 19 rfl rfl)
theorem dX6_turnBack_43 : decode cX6_turnBack 43 = .ok (.iinc 2 (-1), 3) := dk_132 2 255 (dk_at dksX6_turnBack_1 20 rfl rfl)
theorem dX6_turnBack_46 : decode cX6_turnBack 46 = .ok (.goto (-44), 3) := dk_167 255 212 (dk_at dksX6_turnBack_2 0 rfl rfl)
theorem dX6_turnBack_49 : decode cX6_turnBack 49 = .ok (.iload_n 2, 1) := dk_28 (dk_at dksX6_turnBack_2 3 rfl rfl)
theorem dX6_turnBack_50 : decode cX6_turnBack 50 = .ok (.ifCond .le 13, 3) := dk_158 0 13 (dk_at dksX6_turnBack_2 4 rfl rfl)
theorem dX6_turnBack_53 : decode cX6_turnBack 53 = .ok (.aload_n 0, 1) := dk_42 (dk_at dksX6_turnBack_2 7 rfl rfl)
theorem dX6_turnBack_54 : decode cX6_turnBack 54 = .ok (.getfield 29, 3) := dk_180 0 29 (dk_at dksX6_turnBack_2 8 rfl rfl)
theorem dX6_turnBack_57 : decode cX6_turnBack 57 = .ok (.iload_n 2, 1) := dk_28 (dk_at dksX6_turnBack_2 11 rfl rfl)
theorem dX6_turnBack_58 : decode cX6_turnBack 58 = .ok (.dup2, 1) := dk_92 (dk_at dksX6_turnBack_2 12 rfl rfl)
theorem dX6_turnBack_59 : decode cX6_turnBack 59 = .ok (.iaload, 1) := dk_46 (dk_at dksX6_turnBack_2 13 rfl rfl)
theorem dX6_turnBack_60 : decode cX6_turnBack 60 = .ok (.iconst 1, 1) := dk_4 (dk_at dksX6_turnBack_2 14 rfl rfl)
theorem dX6_turnBack_61 : decode cX6_turnBack 61 = .ok (.iadd, 1) := dk_96 (dk_at dksX6_turnBack_2 15 rfl rfl)
theorem dX6_turnBack_62 : decode cX6_turnBack 62 = .ok (.iastore, 1) := dk_79 (dk_at dksX6_turnBack_2 16 rfl rfl)
theorem dX6_turnBack_63 : decode cX6_turnBack 63 = .ok (.iload_n 2, 1) := dk_28 (dk_at dksX6_turnBack_2 17 rfl rfl)
theorem dX6_turnBack_64 : decode cX6_turnBack 64 = .ok (.ireturn, 1) := dk_172 (dk_at dksX6_turnBack_2 18 rfl rfl)
abbrev cX6_takeWay : ByteArray := prog_9_method_30_code
def yX6_takeWay : MethodName := ⟨RX6, "takeWay", "(I)V"⟩
def dkwX6_takeWay_3 : List UInt8 := [181, 0, 158, 177]
abbrev dktX6_takeWay_3 : List UInt8 := dkwX6_takeWay_3 ++ []
def dkwX6_takeWay_2 : List UInt8 := [167, 0, 9, 42, 180, 0, 35, 28, 46, 79, 132, 2, 1, 167, 255, 197, 42, 89, 180, 0, 158, 4, 96]
abbrev dktX6_takeWay_2 : List UInt8 := dkwX6_takeWay_2 ++ dktX6_takeWay_3
def dkwX6_takeWay_1 : List UInt8 := [92, 46, 4, 96, 79, 42, 180, 0, 35, 28, 42, 180, 0, 158, 27, 160, 0, 12, 42, 180, 0, 29, 28, 46]
abbrev dktX6_takeWay_1 : List UInt8 := dkwX6_takeWay_1 ++ dktX6_takeWay_2
def dkwX6_takeWay_0 : List UInt8 := [4, 61, 28, 42, 180, 0, 101, 163, 0, 57, 42, 180, 0, 32, 6, 28, 104, 42, 180, 0, 29, 28, 46, 96]
abbrev dktX6_takeWay_0 : List UInt8 := dkwX6_takeWay_0 ++ dktX6_takeWay_1
theorem dksX6_takeWay_0 : cX6_takeWay.data.toList.drop 0 = dktX6_takeWay_0 := by decide +kernel
theorem dksX6_takeWay_1 : cX6_takeWay.data.toList.drop 24 = dktX6_takeWay_1 := dk_seg dksX6_takeWay_0 24 rfl rfl
theorem dksX6_takeWay_2 : cX6_takeWay.data.toList.drop 48 = dktX6_takeWay_2 := dk_seg dksX6_takeWay_1 24 rfl rfl
theorem dksX6_takeWay_3 : cX6_takeWay.data.toList.drop 71 = dktX6_takeWay_3 := dk_seg dksX6_takeWay_2 23 rfl rfl
theorem dX6_takeWay_0 : decode cX6_takeWay 0 = .ok (.iconst 1, 1) := dk_4 (dk_at dksX6_takeWay_0 0 rfl rfl)
theorem dX6_takeWay_1 : decode cX6_takeWay 1 = .ok (.istore_n 2, 1) := dk_61 (dk_at dksX6_takeWay_0 1 rfl rfl)
theorem dX6_takeWay_2 : decode cX6_takeWay 2 = .ok (.iload_n 2, 1) := dk_28 (dk_at dksX6_takeWay_0 2 rfl rfl)
theorem dX6_takeWay_3 : decode cX6_takeWay 3 = .ok (.aload_n 0, 1) := dk_42 (dk_at dksX6_takeWay_0 3 rfl rfl)
theorem dX6_takeWay_4 : decode cX6_takeWay 4 = .ok (.getfield 101, 3) := dk_180 0 101 (dk_at dksX6_takeWay_0 4 rfl rfl)
theorem dX6_takeWay_7 : decode cX6_takeWay 7 = .ok (.if_icmp .gt 57, 3) := dk_163 0 57 (dk_at dksX6_takeWay_0 7 rfl rfl)
theorem dX6_takeWay_10 : decode cX6_takeWay 10 = .ok (.aload_n 0, 1) := dk_42 (dk_at dksX6_takeWay_0 10 rfl rfl)
theorem dX6_takeWay_11 : decode cX6_takeWay 11 = .ok (.getfield 32, 3) := dk_180 0 32 (dk_at dksX6_takeWay_0 11 rfl rfl)
theorem dX6_takeWay_14 : decode cX6_takeWay 14 = .ok (.iconst 3, 1) := dk_6 (dk_at dksX6_takeWay_0 14 rfl rfl)
theorem dX6_takeWay_15 : decode cX6_takeWay 15 = .ok (.iload_n 2, 1) := dk_28 (dk_at dksX6_takeWay_0 15 rfl rfl)
theorem dX6_takeWay_16 : decode cX6_takeWay 16 = .ok (.imul, 1) := dk_104 (dk_at dksX6_takeWay_0 16 rfl rfl)
theorem dX6_takeWay_17 : decode cX6_takeWay 17 = .ok (.aload_n 0, 1) := dk_42 (dk_at dksX6_takeWay_0 17 rfl rfl)
theorem dX6_takeWay_18 : decode cX6_takeWay 18 = .ok (.getfield 29, 3) := dk_180 0 29 (dk_at dksX6_takeWay_0 18 rfl rfl)
theorem dX6_takeWay_21 : decode cX6_takeWay 21 = .ok (.iload_n 2, 1) := dk_28 (dk_at dksX6_takeWay_0 21 rfl rfl)
theorem dX6_takeWay_22 : decode cX6_takeWay 22 = .ok (.iaload, 1) := dk_46 (dk_at dksX6_takeWay_0 22 rfl rfl)
theorem dX6_takeWay_23 : decode cX6_takeWay 23 = .ok (.iadd, 1) := dk_96 (dk_at dksX6_takeWay_0 23 rfl rfl)
theorem dX6_takeWay_24 : decode cX6_takeWay 24 = .ok (.dup2, 1) := dk_92 (dk_at dksX6_takeWay_1 0 rfl rfl)
theorem dX6_takeWay_25 : decode cX6_takeWay 25 = .ok (.iaload, 1) := dk_46 (dk_at dksX6_takeWay_1 1 rfl rfl)
theorem dX6_takeWay_26 : decode cX6_takeWay 26 = .ok (.iconst 1, 1) := dk_4 (dk_at dksX6_takeWay_1 2 rfl rfl)
theorem dX6_takeWay_27 : decode cX6_takeWay 27 = .ok (.iadd, 1) := dk_96 (dk_at dksX6_takeWay_1 3 rfl rfl)
theorem dX6_takeWay_28 : decode cX6_takeWay 28 = .ok (.iastore, 1) := dk_79 (dk_at dksX6_takeWay_1 4 rfl rfl)
theorem dX6_takeWay_29 : decode cX6_takeWay 29 = .ok (.aload_n 0, 1) := dk_42 (dk_at dksX6_takeWay_1 5 rfl rfl)
theorem dX6_takeWay_30 : decode cX6_takeWay 30 = .ok (.getfield 35, 3) := dk_180 0 35 (dk_at dksX6_takeWay_1 6 rfl rfl)
theorem dX6_takeWay_33 : decode cX6_takeWay 33 = .ok (.iload_n 2, 1) := dk_28 (dk_at dksX6_takeWay_1 9 rfl rfl)
theorem dX6_takeWay_34 : decode cX6_takeWay 34 = .ok (.aload_n 0, 1) := dk_42 (dk_at dksX6_takeWay_1 10 rfl rfl)
theorem dX6_takeWay_35 : decode cX6_takeWay 35 = .ok (.getfield 158, 3) := dk_180 0 158 (dk_at dksX6_takeWay_1 11 rfl rfl)
theorem dX6_takeWay_38 : decode cX6_takeWay 38 = .ok (.iload_n 1, 1) := dk_27 (dk_at dksX6_takeWay_1 14 rfl rfl)
theorem dX6_takeWay_39 : decode cX6_takeWay 39 = .ok (.if_icmp .ne 12, 3) := dk_160 0 12 (dk_at dksX6_takeWay_1 15 rfl rfl)
theorem dX6_takeWay_42 : decode cX6_takeWay 42 = .ok (.aload_n 0, 1) := dk_42 (dk_at dksX6_takeWay_1 18 rfl rfl)
theorem dX6_takeWay_43 : decode cX6_takeWay 43 = .ok (.getfield 29, 3) := dk_180 0 29 (dk_at dksX6_takeWay_1 19 rfl rfl)
theorem dX6_takeWay_46 : decode cX6_takeWay 46 = .ok (.iload_n 2, 1) := dk_28 (dk_at dksX6_takeWay_1 22 rfl rfl)
theorem dX6_takeWay_47 : decode cX6_takeWay 47 = .ok (.iaload, 1) := dk_46 (dk_at dksX6_takeWay_1 23 rfl rfl)
theorem dX6_takeWay_48 : decode cX6_takeWay 48 = .ok (.goto 9, 3) := dk_167 0 9 (dk_at dksX6_takeWay_2 0 rfl rfl)
theorem dX6_takeWay_51 : decode cX6_takeWay 51 = .ok (.aload_n 0, 1) := dk_42 (dk_at dksX6_takeWay_2 3 rfl rfl)
theorem dX6_takeWay_52 : decode cX6_takeWay 52 = .ok (.getfield 35, 3) := dk_180 0 35 (dk_at dksX6_takeWay_2 4 rfl rfl)
theorem dX6_takeWay_55 : decode cX6_takeWay 55 = .ok (.iload_n 2, 1) := dk_28 (dk_at dksX6_takeWay_2 7 rfl rfl)
theorem dX6_takeWay_56 : decode cX6_takeWay 56 = .ok (.iaload, 1) := dk_46 (dk_at dksX6_takeWay_2 8 rfl rfl)
theorem dX6_takeWay_57 : decode cX6_takeWay 57 = .ok (.iastore, 1) := dk_79 (dk_at dksX6_takeWay_2 9 rfl rfl)
theorem dX6_takeWay_58 : decode cX6_takeWay 58 = .ok (.iinc 2 1, 3) := dk_132 2 1 (dk_at dksX6_takeWay_2 10 rfl rfl)
theorem dX6_takeWay_61 : decode cX6_takeWay 61 = .ok (.goto (-59), 3) := dk_167 255 197 (dk_at dksX6_takeWay_2 13 rfl rfl)
theorem dX6_takeWay_64 : decode cX6_takeWay 64 = .ok (.aload_n 0, 1) := dk_42 (dk_at dksX6_takeWay_2 16 rfl rfl)
theorem dX6_takeWay_65 : decode cX6_takeWay 65 = .ok (.dup, 1) := dk_89 (dk_at dksX6_takeWay_2 17 rfl rfl)
theorem dX6_takeWay_66 : decode cX6_takeWay 66 = .ok (.getfield 158, 3) := dk_180 0 158 (dk_at dksX6_takeWay_2 18 rfl rfl)
theorem dX6_takeWay_69 : decode cX6_takeWay 69 = .ok (.iconst 1, 1) := dk_4 (dk_at dksX6_takeWay_2 21 rfl rfl)
theorem dX6_takeWay_70 : decode cX6_takeWay 70 = .ok (.iadd, 1) := dk_96 (dk_at dksX6_takeWay_2 22 rfl rfl)
theorem dX6_takeWay_71 : decode cX6_takeWay 71 = .ok (.putfield 158, 3) := dk_181 0 158 (dk_at dksX6_takeWay_3 0 rfl rfl)
theorem dX6_takeWay_74 : decode cX6_takeWay 74 = .ok (.return_, 1) := dk_177 (dk_at dksX6_takeWay_3 3 rfl rfl)
abbrev cX6_sureOf : ByteArray := prog_9_method_32_code
def yX6_sureOf : MethodName := ⟨RX6, "sureOf", "(I)I"⟩
def dkwX6_sureOf_1 : List UInt8 := [28, 96, 46, 42, 180, 0, 158, 160, 0, 5, 28, 172, 132, 2, 1, 167, 255, 219, 2, 172]
abbrev dktX6_sureOf_1 : List UInt8 := dkwX6_sureOf_1 ++ []
def dkwX6_sureOf_0 : List UInt8 := [3, 61, 28, 42, 180, 0, 98, 162, 0, 35, 42, 180, 0, 158, 158, 0, 22, 42, 180, 0, 32, 6, 27, 104]
abbrev dktX6_sureOf_0 : List UInt8 := dkwX6_sureOf_0 ++ dktX6_sureOf_1
theorem dksX6_sureOf_0 : cX6_sureOf.data.toList.drop 0 = dktX6_sureOf_0 := by decide +kernel
theorem dksX6_sureOf_1 : cX6_sureOf.data.toList.drop 24 = dktX6_sureOf_1 := dk_seg dksX6_sureOf_0 24 rfl rfl
theorem dX6_sureOf_0 : decode cX6_sureOf 0 = .ok (.iconst 0, 1) := dk_3 (dk_at dksX6_sureOf_0 0 rfl rfl)
theorem dX6_sureOf_1 : decode cX6_sureOf 1 = .ok (.istore_n 2, 1) := dk_61 (dk_at dksX6_sureOf_0 1 rfl rfl)
theorem dX6_sureOf_2 : decode cX6_sureOf 2 = .ok (.iload_n 2, 1) := dk_28 (dk_at dksX6_sureOf_0 2 rfl rfl)
theorem dX6_sureOf_3 : decode cX6_sureOf 3 = .ok (.aload_n 0, 1) := dk_42 (dk_at dksX6_sureOf_0 3 rfl rfl)
theorem dX6_sureOf_4 : decode cX6_sureOf 4 = .ok (.getfield 98, 3) := dk_180 0 98 (dk_at dksX6_sureOf_0 4 rfl rfl)
theorem dX6_sureOf_7 : decode cX6_sureOf 7 = .ok (.if_icmp .ge 35, 3) := dk_162 0 35 (dk_at dksX6_sureOf_0 7 rfl rfl)
theorem dX6_sureOf_10 : decode cX6_sureOf 10 = .ok (.aload_n 0, 1) := dk_42 (dk_at dksX6_sureOf_0 10 rfl rfl)
theorem dX6_sureOf_11 : decode cX6_sureOf 11 = .ok (.getfield 158, 3) := dk_180 0 158 (dk_at dksX6_sureOf_0 11 rfl rfl)
theorem dX6_sureOf_14 : decode cX6_sureOf 14 = .ok (.ifCond .le 22, 3) := dk_158 0 22 (dk_at dksX6_sureOf_0 14 rfl rfl)
theorem dX6_sureOf_17 : decode cX6_sureOf 17 = .ok (.aload_n 0, 1) := dk_42 (dk_at dksX6_sureOf_0 17 rfl rfl)
theorem dX6_sureOf_18 : decode cX6_sureOf 18 = .ok (.getfield 32, 3) := dk_180 0 32 (dk_at dksX6_sureOf_0 18 rfl rfl)
theorem dX6_sureOf_21 : decode cX6_sureOf 21 = .ok (.iconst 3, 1) := dk_6 (dk_at dksX6_sureOf_0 21 rfl rfl)
theorem dX6_sureOf_22 : decode cX6_sureOf 22 = .ok (.iload_n 1, 1) := dk_27 (dk_at dksX6_sureOf_0 22 rfl rfl)
theorem dX6_sureOf_23 : decode cX6_sureOf 23 = .ok (.imul, 1) := dk_104 (dk_at dksX6_sureOf_0 23 rfl rfl)
theorem dX6_sureOf_24 : decode cX6_sureOf 24 = .ok (.iload_n 2, 1) := dk_28 (dk_at dksX6_sureOf_1 0 rfl rfl)
theorem dX6_sureOf_25 : decode cX6_sureOf 25 = .ok (.iadd, 1) := dk_96 (dk_at dksX6_sureOf_1 1 rfl rfl)
theorem dX6_sureOf_26 : decode cX6_sureOf 26 = .ok (.iaload, 1) := dk_46 (dk_at dksX6_sureOf_1 2 rfl rfl)
theorem dX6_sureOf_27 : decode cX6_sureOf 27 = .ok (.aload_n 0, 1) := dk_42 (dk_at dksX6_sureOf_1 3 rfl rfl)
theorem dX6_sureOf_28 : decode cX6_sureOf 28 = .ok (.getfield 158, 3) := dk_180 0 158 (dk_at dksX6_sureOf_1 4 rfl rfl)
theorem dX6_sureOf_31 : decode cX6_sureOf 31 = .ok (.if_icmp .ne 5, 3) := dk_160 0 5 (dk_at dksX6_sureOf_1 7 rfl rfl)
theorem dX6_sureOf_34 : decode cX6_sureOf 34 = .ok (.iload_n 2, 1) := dk_28 (dk_at dksX6_sureOf_1 10 rfl rfl)
theorem dX6_sureOf_35 : decode cX6_sureOf 35 = .ok (.ireturn, 1) := dk_172 (dk_at dksX6_sureOf_1 11 rfl rfl)
theorem dX6_sureOf_36 : decode cX6_sureOf 36 = .ok (.iinc 2 1, 3) := dk_132 2 1 (dk_at dksX6_sureOf_1 12 rfl rfl)
theorem dX6_sureOf_39 : decode cX6_sureOf 39 = .ok (.goto (-37), 3) := dk_167 255 219 (dk_at dksX6_sureOf_1 15 rfl rfl)
theorem dX6_sureOf_42 : decode cX6_sureOf 42 = .ok (.iconst (-1), 1) := dk_2 (dk_at dksX6_sureOf_1 18 rfl rfl)
theorem dX6_sureOf_43 : decode cX6_sureOf 43 = .ok (.ireturn, 1) := dk_172 (dk_at dksX6_sureOf_1 19 rfl rfl)
abbrev cX6_sortsOf : ByteArray := prog_9_method_53_code
def yX6_sortsOf : MethodName := ⟨RX6, "sortsOf", "(I)I"⟩
def dkwX6_sortsOf_4 : List UInt8 := [3, 128, 61, 132, 3, 1, 167, 255, 159, 28, 172]
abbrev dktX6_sortsOf_4 : List UInt8 := dkwX6_sortsOf_4 ++ []
def dkwX6_sortsOf_3 : List UInt8 := [167, 0, 4, 3, 54, 4, 132, 5, 1, 167, 255, 191, 28, 21, 4, 153, 0, 9, 4, 29, 120, 167, 0, 4]
abbrev dktX6_sortsOf_3 : List UInt8 := dkwX6_sortsOf_3 ++ dktX6_sortsOf_4
def dkwX6_sortsOf_2 : List UInt8 := [184, 0, 203, 42, 180, 0, 22, 21, 5, 46, 4, 160, 0, 7, 4, 167, 0, 4, 3, 160, 0, 7, 4]
abbrev dktX6_sortsOf_2 : List UInt8 := dkwX6_sortsOf_2 ++ dktX6_sortsOf_3
def dkwX6_sortsOf_1 : List UInt8 := [21, 4, 153, 0, 48, 42, 180, 0, 16, 21, 5, 46, 27, 160, 0, 33, 29, 42, 180, 0, 19, 21, 5, 46]
abbrev dktX6_sortsOf_1 : List UInt8 := dkwX6_sortsOf_1 ++ dktX6_sortsOf_2
def dkwX6_sortsOf_0 : List UInt8 := [3, 61, 3, 62, 29, 7, 163, 0, 98, 4, 54, 4, 3, 54, 5, 21, 5, 42, 180, 0, 110, 162, 0, 62]
abbrev dktX6_sortsOf_0 : List UInt8 := dkwX6_sortsOf_0 ++ dktX6_sortsOf_1
theorem dksX6_sortsOf_0 : cX6_sortsOf.data.toList.drop 0 = dktX6_sortsOf_0 := by decide +kernel
theorem dksX6_sortsOf_1 : cX6_sortsOf.data.toList.drop 24 = dktX6_sortsOf_1 := dk_seg dksX6_sortsOf_0 24 rfl rfl
theorem dksX6_sortsOf_2 : cX6_sortsOf.data.toList.drop 48 = dktX6_sortsOf_2 := dk_seg dksX6_sortsOf_1 24 rfl rfl
theorem dksX6_sortsOf_3 : cX6_sortsOf.data.toList.drop 71 = dktX6_sortsOf_3 := dk_seg dksX6_sortsOf_2 23 rfl rfl
theorem dksX6_sortsOf_4 : cX6_sortsOf.data.toList.drop 95 = dktX6_sortsOf_4 := dk_seg dksX6_sortsOf_3 24 rfl rfl
theorem dX6_sortsOf_0 : decode cX6_sortsOf 0 = .ok (.iconst 0, 1) := dk_3 (dk_at dksX6_sortsOf_0 0 rfl rfl)
theorem dX6_sortsOf_1 : decode cX6_sortsOf 1 = .ok (.istore_n 2, 1) := dk_61 (dk_at dksX6_sortsOf_0 1 rfl rfl)
theorem dX6_sortsOf_2 : decode cX6_sortsOf 2 = .ok (.iconst 0, 1) := dk_3 (dk_at dksX6_sortsOf_0 2 rfl rfl)
theorem dX6_sortsOf_3 : decode cX6_sortsOf 3 = .ok (.istore_n 3, 1) := dk_62 (dk_at dksX6_sortsOf_0 3 rfl rfl)
theorem dX6_sortsOf_4 : decode cX6_sortsOf 4 = .ok (.iload_n 3, 1) := dk_29 (dk_at dksX6_sortsOf_0 4 rfl rfl)
theorem dX6_sortsOf_5 : decode cX6_sortsOf 5 = .ok (.iconst 4, 1) := dk_7 (dk_at dksX6_sortsOf_0 5 rfl rfl)
theorem dX6_sortsOf_6 : decode cX6_sortsOf 6 = .ok (.if_icmp .gt 98, 3) := dk_163 0 98 (dk_at dksX6_sortsOf_0 6 rfl rfl)
theorem dX6_sortsOf_9 : decode cX6_sortsOf 9 = .ok (.iconst 1, 1) := dk_4 (dk_at dksX6_sortsOf_0 9 rfl rfl)
theorem dX6_sortsOf_10 : decode cX6_sortsOf 10 = .ok (.istore 4, 2) := dk_54 4 (dk_at dksX6_sortsOf_0 10 rfl rfl)
theorem dX6_sortsOf_12 : decode cX6_sortsOf 12 = .ok (.iconst 0, 1) := dk_3 (dk_at dksX6_sortsOf_0 12 rfl rfl)
theorem dX6_sortsOf_13 : decode cX6_sortsOf 13 = .ok (.istore 5, 2) := dk_54 5 (dk_at dksX6_sortsOf_0 13 rfl rfl)
theorem dX6_sortsOf_15 : decode cX6_sortsOf 15 = .ok (.iload 5, 2) := dk_21 5 (dk_at dksX6_sortsOf_0 15 rfl rfl)
theorem dX6_sortsOf_17 : decode cX6_sortsOf 17 = .ok (.aload_n 0, 1) := dk_42 (dk_at dksX6_sortsOf_0 17 rfl rfl)
theorem dX6_sortsOf_18 : decode cX6_sortsOf 18 = .ok (.getfield 110, 3) := dk_180 0 110 (dk_at dksX6_sortsOf_0 18 rfl rfl)
theorem dX6_sortsOf_21 : decode cX6_sortsOf 21 = .ok (.if_icmp .ge 62, 3) := dk_162 0 62 (dk_at dksX6_sortsOf_0 21 rfl rfl)
theorem dX6_sortsOf_24 : decode cX6_sortsOf 24 = .ok (.iload 4, 2) := dk_21 4 (dk_at dksX6_sortsOf_1 0 rfl rfl)
theorem dX6_sortsOf_26 : decode cX6_sortsOf 26 = .ok (.ifCond .eq 48, 3) := dk_153 0 48 (dk_at dksX6_sortsOf_1 2 rfl rfl)
theorem dX6_sortsOf_29 : decode cX6_sortsOf 29 = .ok (.aload_n 0, 1) := dk_42 (dk_at dksX6_sortsOf_1 5 rfl rfl)
theorem dX6_sortsOf_30 : decode cX6_sortsOf 30 = .ok (.getfield 16, 3) := dk_180 0 16 (dk_at dksX6_sortsOf_1 6 rfl rfl)
theorem dX6_sortsOf_33 : decode cX6_sortsOf 33 = .ok (.iload 5, 2) := dk_21 5 (dk_at dksX6_sortsOf_1 9 rfl rfl)
theorem dX6_sortsOf_35 : decode cX6_sortsOf 35 = .ok (.iaload, 1) := dk_46 (dk_at dksX6_sortsOf_1 11 rfl rfl)
theorem dX6_sortsOf_36 : decode cX6_sortsOf 36 = .ok (.iload_n 1, 1) := dk_27 (dk_at dksX6_sortsOf_1 12 rfl rfl)
theorem dX6_sortsOf_37 : decode cX6_sortsOf 37 = .ok (.if_icmp .ne 33, 3) := dk_160 0 33 (dk_at dksX6_sortsOf_1 13 rfl rfl)
theorem dX6_sortsOf_40 : decode cX6_sortsOf 40 = .ok (.iload_n 3, 1) := dk_29 (dk_at dksX6_sortsOf_1 16 rfl rfl)
theorem dX6_sortsOf_41 : decode cX6_sortsOf 41 = .ok (.aload_n 0, 1) := dk_42 (dk_at dksX6_sortsOf_1 17 rfl rfl)
theorem dX6_sortsOf_42 : decode cX6_sortsOf 42 = .ok (.getfield 19, 3) := dk_180 0 19 (dk_at dksX6_sortsOf_1 18 rfl rfl)
theorem dX6_sortsOf_45 : decode cX6_sortsOf 45 = .ok (.iload 5, 2) := dk_21 5 (dk_at dksX6_sortsOf_1 21 rfl rfl)
theorem dX6_sortsOf_47 : decode cX6_sortsOf 47 = .ok (.iaload, 1) := dk_46 (dk_at dksX6_sortsOf_1 23 rfl rfl)
theorem dX6_sortsOf_48 : decode cX6_sortsOf 48 = .ok (.invokestatic 203, 3) := dk_184 0 203 (dk_at dksX6_sortsOf_2 0 rfl rfl)
theorem dX6_sortsOf_51 : decode cX6_sortsOf 51 = .ok (.aload_n 0, 1) := dk_42 (dk_at dksX6_sortsOf_2 3 rfl rfl)
theorem dX6_sortsOf_52 : decode cX6_sortsOf 52 = .ok (.getfield 22, 3) := dk_180 0 22 (dk_at dksX6_sortsOf_2 4 rfl rfl)
theorem dX6_sortsOf_55 : decode cX6_sortsOf 55 = .ok (.iload 5, 2) := dk_21 5 (dk_at dksX6_sortsOf_2 7 rfl rfl)
theorem dX6_sortsOf_57 : decode cX6_sortsOf 57 = .ok (.iaload, 1) := dk_46 (dk_at dksX6_sortsOf_2 9 rfl rfl)
theorem dX6_sortsOf_58 : decode cX6_sortsOf 58 = .ok (.iconst 1, 1) := dk_4 (dk_at dksX6_sortsOf_2 10 rfl rfl)
theorem dX6_sortsOf_59 : decode cX6_sortsOf 59 = .ok (.if_icmp .ne 7, 3) := dk_160 0 7 (dk_at dksX6_sortsOf_2 11 rfl rfl)
theorem dX6_sortsOf_62 : decode cX6_sortsOf 62 = .ok (.iconst 1, 1) := dk_4 (dk_at dksX6_sortsOf_2 14 rfl rfl)
theorem dX6_sortsOf_63 : decode cX6_sortsOf 63 = .ok (.goto 4, 3) := dk_167 0 4 (dk_at dksX6_sortsOf_2 15 rfl rfl)
theorem dX6_sortsOf_66 : decode cX6_sortsOf 66 = .ok (.iconst 0, 1) := dk_3 (dk_at dksX6_sortsOf_2 18 rfl rfl)
theorem dX6_sortsOf_67 : decode cX6_sortsOf 67 = .ok (.if_icmp .ne 7, 3) := dk_160 0 7 (dk_at dksX6_sortsOf_2 19 rfl rfl)
theorem dX6_sortsOf_70 : decode cX6_sortsOf 70 = .ok (.iconst 1, 1) := dk_4 (dk_at dksX6_sortsOf_2 22 rfl rfl)
theorem dX6_sortsOf_71 : decode cX6_sortsOf 71 = .ok (.goto 4, 3) := dk_167 0 4 (dk_at dksX6_sortsOf_3 0 rfl rfl)
theorem dX6_sortsOf_74 : decode cX6_sortsOf 74 = .ok (.iconst 0, 1) := dk_3 (dk_at dksX6_sortsOf_3 3 rfl rfl)
theorem dX6_sortsOf_75 : decode cX6_sortsOf 75 = .ok (.istore 4, 2) := dk_54 4 (dk_at dksX6_sortsOf_3 4 rfl rfl)
theorem dX6_sortsOf_77 : decode cX6_sortsOf 77 = .ok (.iinc 5 1, 3) := dk_132 5 1 (dk_at dksX6_sortsOf_3 6 rfl rfl)
theorem dX6_sortsOf_80 : decode cX6_sortsOf 80 = .ok (.goto (-65), 3) := dk_167 255 191 (dk_at dksX6_sortsOf_3 9 rfl rfl)
theorem dX6_sortsOf_83 : decode cX6_sortsOf 83 = .ok (.iload_n 2, 1) := dk_28 (dk_at dksX6_sortsOf_3 12 rfl rfl)
theorem dX6_sortsOf_84 : decode cX6_sortsOf 84 = .ok (.iload 4, 2) := dk_21 4 (dk_at dksX6_sortsOf_3 13 rfl rfl)
theorem dX6_sortsOf_86 : decode cX6_sortsOf 86 = .ok (.ifCond .eq 9, 3) := dk_153 0 9 (dk_at dksX6_sortsOf_3 15 rfl rfl)
theorem dX6_sortsOf_89 : decode cX6_sortsOf 89 = .ok (.iconst 1, 1) := dk_4 (dk_at dksX6_sortsOf_3 18 rfl rfl)
theorem dX6_sortsOf_90 : decode cX6_sortsOf 90 = .ok (.iload_n 3, 1) := dk_29 (dk_at dksX6_sortsOf_3 19 rfl rfl)
theorem dX6_sortsOf_91 : decode cX6_sortsOf 91 = .ok (.ishl, 1) := dk_120 (dk_at dksX6_sortsOf_3 20 rfl rfl)
theorem dX6_sortsOf_92 : decode cX6_sortsOf 92 = .ok (.goto 4, 3) := dk_167 0 4 (dk_at dksX6_sortsOf_3 21 rfl rfl)
theorem dX6_sortsOf_95 : decode cX6_sortsOf 95 = .ok (.iconst 0, 1) := dk_3 (dk_at dksX6_sortsOf_4 0 rfl rfl)
theorem dX6_sortsOf_96 : decode cX6_sortsOf 96 = .ok (.ior, 1) := dk_128 (dk_at dksX6_sortsOf_4 1 rfl rfl)
theorem dX6_sortsOf_97 : decode cX6_sortsOf 97 = .ok (.istore_n 2, 1) := dk_61 (dk_at dksX6_sortsOf_4 2 rfl rfl)
theorem dX6_sortsOf_98 : decode cX6_sortsOf 98 = .ok (.iinc 3 1, 3) := dk_132 3 1 (dk_at dksX6_sortsOf_4 3 rfl rfl)
theorem dX6_sortsOf_101 : decode cX6_sortsOf 101 = .ok (.goto (-97), 3) := dk_167 255 159 (dk_at dksX6_sortsOf_4 6 rfl rfl)
theorem dX6_sortsOf_104 : decode cX6_sortsOf 104 = .ok (.iload_n 2, 1) := dk_28 (dk_at dksX6_sortsOf_4 9 rfl rfl)
theorem dX6_sortsOf_105 : decode cX6_sortsOf 105 = .ok (.ireturn, 1) := dk_172 (dk_at dksX6_sortsOf_4 10 rfl rfl)
abbrev cX6_could : ByteArray := prog_9_method_50_code
def yX6_could : MethodName := ⟨RX6, "could", "(II)Z"⟩
def dkwX6_could_1 : List UInt8 := [184, 0, 117, 172]
abbrev dktX6_could_1 : List UInt8 := dkwX6_could_1 ++ []
def dkwX6_could_0 : List UInt8 := [27, 5, 160, 0, 10, 26, 184, 0, 113, 167, 0, 16, 26, 27, 154, 0, 7, 4, 167, 0, 4, 3]
abbrev dktX6_could_0 : List UInt8 := dkwX6_could_0 ++ dktX6_could_1
theorem dksX6_could_0 : cX6_could.data.toList.drop 0 = dktX6_could_0 := by decide +kernel
theorem dksX6_could_1 : cX6_could.data.toList.drop 22 = dktX6_could_1 := dk_seg dksX6_could_0 22 rfl rfl
theorem dX6_could_0 : decode cX6_could 0 = .ok (.iload_n 1, 1) := dk_27 (dk_at dksX6_could_0 0 rfl rfl)
theorem dX6_could_1 : decode cX6_could 1 = .ok (.iconst 2, 1) := dk_5 (dk_at dksX6_could_0 1 rfl rfl)
theorem dX6_could_2 : decode cX6_could 2 = .ok (.if_icmp .ne 10, 3) := dk_160 0 10 (dk_at dksX6_could_0 2 rfl rfl)
theorem dX6_could_5 : decode cX6_could 5 = .ok (.iload_n 0, 1) := dk_26 (dk_at dksX6_could_0 5 rfl rfl)
theorem dX6_could_6 : decode cX6_could 6 = .ok (.invokestatic 113, 3) := dk_184 0 113 (dk_at dksX6_could_0 6 rfl rfl)
theorem dX6_could_9 : decode cX6_could 9 = .ok (.goto 16, 3) := dk_167 0 16 (dk_at dksX6_could_0 9 rfl rfl)
theorem dX6_could_12 : decode cX6_could 12 = .ok (.iload_n 0, 1) := dk_26 (dk_at dksX6_could_0 12 rfl rfl)
theorem dX6_could_13 : decode cX6_could 13 = .ok (.iload_n 1, 1) := dk_27 (dk_at dksX6_could_0 13 rfl rfl)
theorem dX6_could_14 : decode cX6_could 14 = .ok (.ifCond .ne 7, 3) := dk_154 0 7 (dk_at dksX6_could_0 14 rfl rfl)
theorem dX6_could_17 : decode cX6_could 17 = .ok (.iconst 1, 1) := dk_4 (dk_at dksX6_could_0 17 rfl rfl)
theorem dX6_could_18 : decode cX6_could 18 = .ok (.goto 4, 3) := dk_167 0 4 (dk_at dksX6_could_0 18 rfl rfl)
theorem dX6_could_21 : decode cX6_could 21 = .ok (.iconst 0, 1) := dk_3 (dk_at dksX6_could_0 21 rfl rfl)
theorem dX6_could_22 : decode cX6_could 22 = .ok (.invokestatic 117, 3) := dk_184 0 117 (dk_at dksX6_could_1 0 rfl rfl)
theorem dX6_could_25 : decode cX6_could 25 = .ok (.ireturn, 1) := dk_172 (dk_at dksX6_could_1 3 rfl rfl)
abbrev cX6_askOf : ByteArray := prog_9_method_54_code
def yX6_askOf : MethodName := ⟨RX6, "askOf", "(I)I"⟩
def dkwX6_askOf_6 : List UInt8 := [21, 4, 162, 0, 8, 21, 8, 167, 0, 5, 21, 4, 54, 4, 132, 5, 1, 167, 255, 118, 29, 172]
abbrev dktX6_askOf_6 : List UInt8 := dkwX6_askOf_6 ++ []
def dkwX6_askOf_5 : List UInt8 := [167, 0, 5, 21, 7, 54, 8, 21, 8, 21, 4, 162, 0, 8, 21, 5, 167, 0, 4, 29, 62, 21, 8]
abbrev dktX6_askOf_5 : List UInt8 := dkwX6_askOf_5 ++ dktX6_askOf_6
def dkwX6_askOf_4 : List UInt8 := [167, 0, 4, 3, 96, 54, 7, 132, 8, 1, 167, 255, 189, 21, 6, 21, 7, 164, 0, 8, 21, 6]
abbrev dktX6_askOf_4 : List UInt8 := dkwX6_askOf_4 ++ dktX6_askOf_5
def dkwX6_askOf_3 : List UInt8 := [21, 7, 28, 21, 8, 184, 0, 206, 153, 0, 17, 21, 8, 21, 5, 184, 0, 203, 154, 0, 7, 4]
abbrev dktX6_askOf_3 : List UInt8 := dkwX6_askOf_3 ++ dktX6_askOf_4
def dkwX6_askOf_2 : List UInt8 := [184, 0, 206, 153, 0, 17, 21, 8, 21, 5, 184, 0, 203, 153, 0, 7, 4, 167, 0, 4, 3, 96, 54, 6]
abbrev dktX6_askOf_2 : List UInt8 := dkwX6_askOf_2 ++ dktX6_askOf_3
def dkwX6_askOf_1 : List UInt8 := [153, 0, 134, 3, 54, 6, 3, 54, 7, 3, 54, 8, 21, 8, 7, 163, 0, 67, 21, 6, 28, 21, 8]
abbrev dktX6_askOf_1 : List UInt8 := dkwX6_askOf_1 ++ dktX6_askOf_2
def dkwX6_askOf_0 : List UInt8 := [42, 27, 182, 0, 140, 61, 2, 62, 18, 183, 54, 4, 3, 54, 5, 21, 5, 6, 162, 0, 138, 28]
abbrev dktX6_askOf_0 : List UInt8 := dkwX6_askOf_0 ++ dktX6_askOf_1
theorem dksX6_askOf_0 : cX6_askOf.data.toList.drop 0 = dktX6_askOf_0 := by decide +kernel
theorem dksX6_askOf_1 : cX6_askOf.data.toList.drop 22 = dktX6_askOf_1 := dk_seg dksX6_askOf_0 22 rfl rfl
theorem dksX6_askOf_2 : cX6_askOf.data.toList.drop 45 = dktX6_askOf_2 := dk_seg dksX6_askOf_1 23 rfl rfl
theorem dksX6_askOf_3 : cX6_askOf.data.toList.drop 69 = dktX6_askOf_3 := dk_seg dksX6_askOf_2 24 rfl rfl
theorem dksX6_askOf_4 : cX6_askOf.data.toList.drop 91 = dktX6_askOf_4 := dk_seg dksX6_askOf_3 22 rfl rfl
theorem dksX6_askOf_5 : cX6_askOf.data.toList.drop 113 = dktX6_askOf_5 := dk_seg dksX6_askOf_4 22 rfl rfl
theorem dksX6_askOf_6 : cX6_askOf.data.toList.drop 136 = dktX6_askOf_6 := dk_seg dksX6_askOf_5 23 rfl rfl
theorem dX6_askOf_0 : decode cX6_askOf 0 = .ok (.aload_n 0, 1) := dk_42 (dk_at dksX6_askOf_0 0 rfl rfl)
theorem dX6_askOf_1 : decode cX6_askOf 1 = .ok (.iload_n 1, 1) := dk_27 (dk_at dksX6_askOf_0 1 rfl rfl)
theorem dX6_askOf_2 : decode cX6_askOf 2 = .ok (.invokevirtual 140, 3) := dk_182 0 140 (dk_at dksX6_askOf_0 2 rfl rfl)
theorem dX6_askOf_5 : decode cX6_askOf 5 = .ok (.istore_n 2, 1) := dk_61 (dk_at dksX6_askOf_0 5 rfl rfl)
theorem dX6_askOf_6 : decode cX6_askOf 6 = .ok (.iconst (-1), 1) := dk_2 (dk_at dksX6_askOf_0 6 rfl rfl)
theorem dX6_askOf_7 : decode cX6_askOf 7 = .ok (.istore_n 3, 1) := dk_62 (dk_at dksX6_askOf_0 7 rfl rfl)
theorem dX6_askOf_8 : decode cX6_askOf 8 = .ok (.ldc 183, 2) := dk_18 183 (dk_at dksX6_askOf_0 8 rfl rfl)
theorem dX6_askOf_10 : decode cX6_askOf 10 = .ok (.istore 4, 2) := dk_54 4 (dk_at dksX6_askOf_0 10 rfl rfl)
theorem dX6_askOf_12 : decode cX6_askOf 12 = .ok (.iconst 0, 1) := dk_3 (dk_at dksX6_askOf_0 12 rfl rfl)
theorem dX6_askOf_13 : decode cX6_askOf 13 = .ok (.istore 5, 2) := dk_54 5 (dk_at dksX6_askOf_0 13 rfl rfl)
theorem dX6_askOf_15 : decode cX6_askOf 15 = .ok (.iload 5, 2) := dk_21 5 (dk_at dksX6_askOf_0 15 rfl rfl)
theorem dX6_askOf_17 : decode cX6_askOf 17 = .ok (.iconst 3, 1) := dk_6 (dk_at dksX6_askOf_0 17 rfl rfl)
theorem dX6_askOf_18 : decode cX6_askOf 18 = .ok (.if_icmp .ge 138, 3) := dk_162 0 138 (dk_at dksX6_askOf_0 18 rfl rfl)
theorem dX6_askOf_21 : decode cX6_askOf 21 = .ok (.iload_n 2, 1) := dk_28 (dk_at dksX6_askOf_0 21 rfl rfl)
theorem dX6_askOf_22 : decode cX6_askOf 22 = .ok (.ifCond .eq 134, 3) := dk_153 0 134 (dk_at dksX6_askOf_1 0 rfl rfl)
theorem dX6_askOf_25 : decode cX6_askOf 25 = .ok (.iconst 0, 1) := dk_3 (dk_at dksX6_askOf_1 3 rfl rfl)
theorem dX6_askOf_26 : decode cX6_askOf 26 = .ok (.istore 6, 2) := dk_54 6 (dk_at dksX6_askOf_1 4 rfl rfl)
theorem dX6_askOf_28 : decode cX6_askOf 28 = .ok (.iconst 0, 1) := dk_3 (dk_at dksX6_askOf_1 6 rfl rfl)
theorem dX6_askOf_29 : decode cX6_askOf 29 = .ok (.istore 7, 2) := dk_54 7 (dk_at dksX6_askOf_1 7 rfl rfl)
theorem dX6_askOf_31 : decode cX6_askOf 31 = .ok (.iconst 0, 1) := dk_3 (dk_at dksX6_askOf_1 9 rfl rfl)
theorem dX6_askOf_32 : decode cX6_askOf 32 = .ok (.istore 8, 2) := dk_54 8 (dk_at dksX6_askOf_1 10 rfl rfl)
theorem dX6_askOf_34 : decode cX6_askOf 34 = .ok (.iload 8, 2) := dk_21 8 (dk_at dksX6_askOf_1 12 rfl rfl)
theorem dX6_askOf_36 : decode cX6_askOf 36 = .ok (.iconst 4, 1) := dk_7 (dk_at dksX6_askOf_1 14 rfl rfl)
theorem dX6_askOf_37 : decode cX6_askOf 37 = .ok (.if_icmp .gt 67, 3) := dk_163 0 67 (dk_at dksX6_askOf_1 15 rfl rfl)
theorem dX6_askOf_40 : decode cX6_askOf 40 = .ok (.iload 6, 2) := dk_21 6 (dk_at dksX6_askOf_1 18 rfl rfl)
theorem dX6_askOf_42 : decode cX6_askOf 42 = .ok (.iload_n 2, 1) := dk_28 (dk_at dksX6_askOf_1 20 rfl rfl)
theorem dX6_askOf_43 : decode cX6_askOf 43 = .ok (.iload 8, 2) := dk_21 8 (dk_at dksX6_askOf_1 21 rfl rfl)
theorem dX6_askOf_45 : decode cX6_askOf 45 = .ok (.invokestatic 206, 3) := dk_184 0 206 (dk_at dksX6_askOf_2 0 rfl rfl)
theorem dX6_askOf_48 : decode cX6_askOf 48 = .ok (.ifCond .eq 17, 3) := dk_153 0 17 (dk_at dksX6_askOf_2 3 rfl rfl)
theorem dX6_askOf_51 : decode cX6_askOf 51 = .ok (.iload 8, 2) := dk_21 8 (dk_at dksX6_askOf_2 6 rfl rfl)
theorem dX6_askOf_53 : decode cX6_askOf 53 = .ok (.iload 5, 2) := dk_21 5 (dk_at dksX6_askOf_2 8 rfl rfl)
theorem dX6_askOf_55 : decode cX6_askOf 55 = .ok (.invokestatic 203, 3) := dk_184 0 203 (dk_at dksX6_askOf_2 10 rfl rfl)
theorem dX6_askOf_58 : decode cX6_askOf 58 = .ok (.ifCond .eq 7, 3) := dk_153 0 7 (dk_at dksX6_askOf_2 13 rfl rfl)
theorem dX6_askOf_61 : decode cX6_askOf 61 = .ok (.iconst 1, 1) := dk_4 (dk_at dksX6_askOf_2 16 rfl rfl)
theorem dX6_askOf_62 : decode cX6_askOf 62 = .ok (.goto 4, 3) := dk_167 0 4 (dk_at dksX6_askOf_2 17 rfl rfl)
theorem dX6_askOf_65 : decode cX6_askOf 65 = .ok (.iconst 0, 1) := dk_3 (dk_at dksX6_askOf_2 20 rfl rfl)
theorem dX6_askOf_66 : decode cX6_askOf 66 = .ok (.iadd, 1) := dk_96 (dk_at dksX6_askOf_2 21 rfl rfl)
theorem dX6_askOf_67 : decode cX6_askOf 67 = .ok (.istore 6, 2) := dk_54 6 (dk_at dksX6_askOf_2 22 rfl rfl)
theorem dX6_askOf_69 : decode cX6_askOf 69 = .ok (.iload 7, 2) := dk_21 7 (dk_at dksX6_askOf_3 0 rfl rfl)
theorem dX6_askOf_71 : decode cX6_askOf 71 = .ok (.iload_n 2, 1) := dk_28 (dk_at dksX6_askOf_3 2 rfl rfl)
theorem dX6_askOf_72 : decode cX6_askOf 72 = .ok (.iload 8, 2) := dk_21 8 (dk_at dksX6_askOf_3 3 rfl rfl)
theorem dX6_askOf_74 : decode cX6_askOf 74 = .ok (.invokestatic 206, 3) := dk_184 0 206 (dk_at dksX6_askOf_3 5 rfl rfl)
theorem dX6_askOf_77 : decode cX6_askOf 77 = .ok (.ifCond .eq 17, 3) := dk_153 0 17 (dk_at dksX6_askOf_3 8 rfl rfl)
theorem dX6_askOf_80 : decode cX6_askOf 80 = .ok (.iload 8, 2) := dk_21 8 (dk_at dksX6_askOf_3 11 rfl rfl)
theorem dX6_askOf_82 : decode cX6_askOf 82 = .ok (.iload 5, 2) := dk_21 5 (dk_at dksX6_askOf_3 13 rfl rfl)
theorem dX6_askOf_84 : decode cX6_askOf 84 = .ok (.invokestatic 203, 3) := dk_184 0 203 (dk_at dksX6_askOf_3 15 rfl rfl)
theorem dX6_askOf_87 : decode cX6_askOf 87 = .ok (.ifCond .ne 7, 3) := dk_154 0 7 (dk_at dksX6_askOf_3 18 rfl rfl)
theorem dX6_askOf_90 : decode cX6_askOf 90 = .ok (.iconst 1, 1) := dk_4 (dk_at dksX6_askOf_3 21 rfl rfl)
theorem dX6_askOf_91 : decode cX6_askOf 91 = .ok (.goto 4, 3) := dk_167 0 4 (dk_at dksX6_askOf_4 0 rfl rfl)
theorem dX6_askOf_94 : decode cX6_askOf 94 = .ok (.iconst 0, 1) := dk_3 (dk_at dksX6_askOf_4 3 rfl rfl)
theorem dX6_askOf_95 : decode cX6_askOf 95 = .ok (.iadd, 1) := dk_96 (dk_at dksX6_askOf_4 4 rfl rfl)
theorem dX6_askOf_96 : decode cX6_askOf 96 = .ok (.istore 7, 2) := dk_54 7 (dk_at dksX6_askOf_4 5 rfl rfl)
theorem dX6_askOf_98 : decode cX6_askOf 98 = .ok (.iinc 8 1, 3) := dk_132 8 1 (dk_at dksX6_askOf_4 7 rfl rfl)
theorem dX6_askOf_101 : decode cX6_askOf 101 = .ok (.goto (-67), 3) := dk_167 255 189 (dk_at dksX6_askOf_4 10 rfl rfl)
theorem dX6_askOf_104 : decode cX6_askOf 104 = .ok (.iload 6, 2) := dk_21 6 (dk_at dksX6_askOf_4 13 rfl rfl)
theorem dX6_askOf_106 : decode cX6_askOf 106 = .ok (.iload 7, 2) := dk_21 7 (dk_at dksX6_askOf_4 15 rfl rfl)
theorem dX6_askOf_108 : decode cX6_askOf 108 = .ok (.if_icmp .le 8, 3) := dk_164 0 8 (dk_at dksX6_askOf_4 17 rfl rfl)
theorem dX6_askOf_111 : decode cX6_askOf 111 = .ok (.iload 6, 2) := dk_21 6 (dk_at dksX6_askOf_4 20 rfl rfl)
theorem dX6_askOf_113 : decode cX6_askOf 113 = .ok (.goto 5, 3) := dk_167 0 5 (dk_at dksX6_askOf_5 0 rfl rfl)
theorem dX6_askOf_116 : decode cX6_askOf 116 = .ok (.iload 7, 2) := dk_21 7 (dk_at dksX6_askOf_5 3 rfl rfl)
theorem dX6_askOf_118 : decode cX6_askOf 118 = .ok (.istore 8, 2) := dk_54 8 (dk_at dksX6_askOf_5 5 rfl rfl)
theorem dX6_askOf_120 : decode cX6_askOf 120 = .ok (.iload 8, 2) := dk_21 8 (dk_at dksX6_askOf_5 7 rfl rfl)
theorem dX6_askOf_122 : decode cX6_askOf 122 = .ok (.iload 4, 2) := dk_21 4 (dk_at dksX6_askOf_5 9 rfl rfl)
theorem dX6_askOf_124 : decode cX6_askOf 124 = .ok (.if_icmp .ge 8, 3) := dk_162 0 8 (dk_at dksX6_askOf_5 11 rfl rfl)
theorem dX6_askOf_127 : decode cX6_askOf 127 = .ok (.iload 5, 2) := dk_21 5 (dk_at dksX6_askOf_5 14 rfl rfl)
theorem dX6_askOf_129 : decode cX6_askOf 129 = .ok (.goto 4, 3) := dk_167 0 4 (dk_at dksX6_askOf_5 16 rfl rfl)
theorem dX6_askOf_132 : decode cX6_askOf 132 = .ok (.iload_n 3, 1) := dk_29 (dk_at dksX6_askOf_5 19 rfl rfl)
theorem dX6_askOf_133 : decode cX6_askOf 133 = .ok (.istore_n 3, 1) := dk_62 (dk_at dksX6_askOf_5 20 rfl rfl)
theorem dX6_askOf_134 : decode cX6_askOf 134 = .ok (.iload 8, 2) := dk_21 8 (dk_at dksX6_askOf_5 21 rfl rfl)
theorem dX6_askOf_136 : decode cX6_askOf 136 = .ok (.iload 4, 2) := dk_21 4 (dk_at dksX6_askOf_6 0 rfl rfl)
theorem dX6_askOf_138 : decode cX6_askOf 138 = .ok (.if_icmp .ge 8, 3) := dk_162 0 8 (dk_at dksX6_askOf_6 2 rfl rfl)
theorem dX6_askOf_141 : decode cX6_askOf 141 = .ok (.iload 8, 2) := dk_21 8 (dk_at dksX6_askOf_6 5 rfl rfl)
theorem dX6_askOf_143 : decode cX6_askOf 143 = .ok (.goto 5, 3) := dk_167 0 5 (dk_at dksX6_askOf_6 7 rfl rfl)
theorem dX6_askOf_146 : decode cX6_askOf 146 = .ok (.iload 4, 2) := dk_21 4 (dk_at dksX6_askOf_6 10 rfl rfl)
theorem dX6_askOf_148 : decode cX6_askOf 148 = .ok (.istore 4, 2) := dk_54 4 (dk_at dksX6_askOf_6 12 rfl rfl)
theorem dX6_askOf_150 : decode cX6_askOf 150 = .ok (.iinc 5 1, 3) := dk_132 5 1 (dk_at dksX6_askOf_6 14 rfl rfl)
theorem dX6_askOf_153 : decode cX6_askOf 153 = .ok (.goto (-138), 3) := dk_167 255 118 (dk_at dksX6_askOf_6 17 rfl rfl)
theorem dX6_askOf_156 : decode cX6_askOf 156 = .ok (.iload_n 3, 1) := dk_29 (dk_at dksX6_askOf_6 20 rfl rfl)
theorem dX6_askOf_157 : decode cX6_askOf 157 = .ok (.ireturn, 1) := dk_172 (dk_at dksX6_askOf_6 21 rfl rfl)
abbrev cX6_isIn : ByteArray := prog_9_method_4_code
def yX6_isIn : MethodName := ⟨RX6, "isIn", "(II)Z"⟩
def dkwX6_isIn_0 : List UInt8 := [26, 27, 122, 4, 126, 4, 160, 0, 7, 4, 167, 0, 4, 3, 172]
abbrev dktX6_isIn_0 : List UInt8 := dkwX6_isIn_0 ++ []
theorem dksX6_isIn_0 : cX6_isIn.data.toList.drop 0 = dktX6_isIn_0 := by decide +kernel
theorem dX6_isIn_0 : decode cX6_isIn 0 = .ok (.iload_n 0, 1) := dk_26 (dk_at dksX6_isIn_0 0 rfl rfl)
theorem dX6_isIn_1 : decode cX6_isIn 1 = .ok (.iload_n 1, 1) := dk_27 (dk_at dksX6_isIn_0 1 rfl rfl)
theorem dX6_isIn_2 : decode cX6_isIn 2 = .ok (.ishr, 1) := dk_122 (dk_at dksX6_isIn_0 2 rfl rfl)
theorem dX6_isIn_3 : decode cX6_isIn 3 = .ok (.iconst 1, 1) := dk_4 (dk_at dksX6_isIn_0 3 rfl rfl)
theorem dX6_isIn_4 : decode cX6_isIn 4 = .ok (.iand, 1) := dk_126 (dk_at dksX6_isIn_0 4 rfl rfl)
theorem dX6_isIn_5 : decode cX6_isIn 5 = .ok (.iconst 1, 1) := dk_4 (dk_at dksX6_isIn_0 5 rfl rfl)
theorem dX6_isIn_6 : decode cX6_isIn 6 = .ok (.if_icmp .ne 7, 3) := dk_160 0 7 (dk_at dksX6_isIn_0 6 rfl rfl)
theorem dX6_isIn_9 : decode cX6_isIn 9 = .ok (.iconst 1, 1) := dk_4 (dk_at dksX6_isIn_0 9 rfl rfl)
theorem dX6_isIn_10 : decode cX6_isIn 10 = .ok (.goto 4, 3) := dk_167 0 4 (dk_at dksX6_isIn_0 10 rfl rfl)
theorem dX6_isIn_13 : decode cX6_isIn 13 = .ok (.iconst 0, 1) := dk_3 (dk_at dksX6_isIn_0 13 rfl rfl)
theorem dX6_isIn_14 : decode cX6_isIn 14 = .ok (.ireturn, 1) := dk_172 (dk_at dksX6_isIn_0 14 rfl rfl)
abbrev cX6_badOf : ByteArray := prog_9_method_24_code
def yX6_badOf : MethodName := ⟨RX6, "badOf", "(I)I"⟩
def dkwX6_badOf_3 : List UInt8 := [172]
abbrev dktX6_badOf_3 : List UInt8 := dkwX6_badOf_3 ++ []
def dkwX6_badOf_2 : List UInt8 := [167, 0, 4, 27, 182, 0, 121, 153, 0, 7, 4, 167, 0, 4, 3, 96, 61, 132, 3, 1, 167, 255, 202, 28]
abbrev dktX6_badOf_2 : List UInt8 := dkwX6_badOf_2 ++ dktX6_badOf_3
def dkwX6_badOf_1 : List UInt8 := [27, 29, 27, 100, 162, 0, 7, 27, 167, 0, 6, 29, 27, 100, 27, 29, 27, 100, 162, 0, 9, 29, 27, 100]
abbrev dktX6_badOf_1 : List UInt8 := dkwX6_badOf_1 ++ dktX6_badOf_2
def dkwX6_badOf_0 : List UInt8 := [42, 182, 0, 128, 42, 27, 182, 0, 125, 61, 27, 4, 96, 62, 29, 42, 180, 0, 101, 163, 0, 52, 28, 42]
abbrev dktX6_badOf_0 : List UInt8 := dkwX6_badOf_0 ++ dktX6_badOf_1
theorem dksX6_badOf_0 : cX6_badOf.data.toList.drop 0 = dktX6_badOf_0 := by decide +kernel
theorem dksX6_badOf_1 : cX6_badOf.data.toList.drop 24 = dktX6_badOf_1 := dk_seg dksX6_badOf_0 24 rfl rfl
theorem dksX6_badOf_2 : cX6_badOf.data.toList.drop 48 = dktX6_badOf_2 := dk_seg dksX6_badOf_1 24 rfl rfl
theorem dksX6_badOf_3 : cX6_badOf.data.toList.drop 72 = dktX6_badOf_3 := dk_seg dksX6_badOf_2 24 rfl rfl
theorem dX6_badOf_0 : decode cX6_badOf 0 = .ok (.aload_n 0, 1) := dk_42 (dk_at dksX6_badOf_0 0 rfl rfl)
theorem dX6_badOf_1 : decode cX6_badOf 1 = .ok (.invokevirtual 128, 3) := dk_182 0 128 (dk_at dksX6_badOf_0 1 rfl rfl)
theorem dX6_badOf_4 : decode cX6_badOf 4 = .ok (.aload_n 0, 1) := dk_42 (dk_at dksX6_badOf_0 4 rfl rfl)
theorem dX6_badOf_5 : decode cX6_badOf 5 = .ok (.iload_n 1, 1) := dk_27 (dk_at dksX6_badOf_0 5 rfl rfl)
theorem dX6_badOf_6 : decode cX6_badOf 6 = .ok (.invokevirtual 125, 3) := dk_182 0 125 (dk_at dksX6_badOf_0 6 rfl rfl)
theorem dX6_badOf_9 : decode cX6_badOf 9 = .ok (.istore_n 2, 1) := dk_61 (dk_at dksX6_badOf_0 9 rfl rfl)
theorem dX6_badOf_10 : decode cX6_badOf 10 = .ok (.iload_n 1, 1) := dk_27 (dk_at dksX6_badOf_0 10 rfl rfl)
theorem dX6_badOf_11 : decode cX6_badOf 11 = .ok (.iconst 1, 1) := dk_4 (dk_at dksX6_badOf_0 11 rfl rfl)
theorem dX6_badOf_12 : decode cX6_badOf 12 = .ok (.iadd, 1) := dk_96 (dk_at dksX6_badOf_0 12 rfl rfl)
theorem dX6_badOf_13 : decode cX6_badOf 13 = .ok (.istore_n 3, 1) := dk_62 (dk_at dksX6_badOf_0 13 rfl rfl)
theorem dX6_badOf_14 : decode cX6_badOf 14 = .ok (.iload_n 3, 1) := dk_29 (dk_at dksX6_badOf_0 14 rfl rfl)
theorem dX6_badOf_15 : decode cX6_badOf 15 = .ok (.aload_n 0, 1) := dk_42 (dk_at dksX6_badOf_0 15 rfl rfl)
theorem dX6_badOf_16 : decode cX6_badOf 16 = .ok (.getfield 101, 3) := dk_180 0 101 (dk_at dksX6_badOf_0 16 rfl rfl)
theorem dX6_badOf_19 : decode cX6_badOf 19 = .ok (.if_icmp .gt 52, 3) := dk_163 0 52 (dk_at dksX6_badOf_0 19 rfl rfl)
theorem dX6_badOf_22 : decode cX6_badOf 22 = .ok (.iload_n 2, 1) := dk_28 (dk_at dksX6_badOf_0 22 rfl rfl)
theorem dX6_badOf_23 : decode cX6_badOf 23 = .ok (.aload_n 0, 1) := dk_42 (dk_at dksX6_badOf_0 23 rfl rfl)
theorem dX6_badOf_24 : decode cX6_badOf 24 = .ok (.iload_n 1, 1) := dk_27 (dk_at dksX6_badOf_1 0 rfl rfl)
theorem dX6_badOf_25 : decode cX6_badOf 25 = .ok (.iload_n 3, 1) := dk_29 (dk_at dksX6_badOf_1 1 rfl rfl)
theorem dX6_badOf_26 : decode cX6_badOf 26 = .ok (.iload_n 1, 1) := dk_27 (dk_at dksX6_badOf_1 2 rfl rfl)
theorem dX6_badOf_27 : decode cX6_badOf 27 = .ok (.isub, 1) := dk_100 (dk_at dksX6_badOf_1 3 rfl rfl)
theorem dX6_badOf_28 : decode cX6_badOf 28 = .ok (.if_icmp .ge 7, 3) := dk_162 0 7 (dk_at dksX6_badOf_1 4 rfl rfl)
theorem dX6_badOf_31 : decode cX6_badOf 31 = .ok (.iload_n 1, 1) := dk_27 (dk_at dksX6_badOf_1 7 rfl rfl)
theorem dX6_badOf_32 : decode cX6_badOf 32 = .ok (.goto 6, 3) := dk_167 0 6 (dk_at dksX6_badOf_1 8 rfl rfl)
theorem dX6_badOf_35 : decode cX6_badOf 35 = .ok (.iload_n 3, 1) := dk_29 (dk_at dksX6_badOf_1 11 rfl rfl)
theorem dX6_badOf_36 : decode cX6_badOf 36 = .ok (.iload_n 1, 1) := dk_27 (dk_at dksX6_badOf_1 12 rfl rfl)
theorem dX6_badOf_37 : decode cX6_badOf 37 = .ok (.isub, 1) := dk_100 (dk_at dksX6_badOf_1 13 rfl rfl)
theorem dX6_badOf_38 : decode cX6_badOf 38 = .ok (.iload_n 1, 1) := dk_27 (dk_at dksX6_badOf_1 14 rfl rfl)
theorem dX6_badOf_39 : decode cX6_badOf 39 = .ok (.iload_n 3, 1) := dk_29 (dk_at dksX6_badOf_1 15 rfl rfl)
theorem dX6_badOf_40 : decode cX6_badOf 40 = .ok (.iload_n 1, 1) := dk_27 (dk_at dksX6_badOf_1 16 rfl rfl)
theorem dX6_badOf_41 : decode cX6_badOf 41 = .ok (.isub, 1) := dk_100 (dk_at dksX6_badOf_1 17 rfl rfl)
theorem dX6_badOf_42 : decode cX6_badOf 42 = .ok (.if_icmp .ge 9, 3) := dk_162 0 9 (dk_at dksX6_badOf_1 18 rfl rfl)
theorem dX6_badOf_45 : decode cX6_badOf 45 = .ok (.iload_n 3, 1) := dk_29 (dk_at dksX6_badOf_1 21 rfl rfl)
theorem dX6_badOf_46 : decode cX6_badOf 46 = .ok (.iload_n 1, 1) := dk_27 (dk_at dksX6_badOf_1 22 rfl rfl)
theorem dX6_badOf_47 : decode cX6_badOf 47 = .ok (.isub, 1) := dk_100 (dk_at dksX6_badOf_1 23 rfl rfl)
theorem dX6_badOf_48 : decode cX6_badOf 48 = .ok (.goto 4, 3) := dk_167 0 4 (dk_at dksX6_badOf_2 0 rfl rfl)
theorem dX6_badOf_51 : decode cX6_badOf 51 = .ok (.iload_n 1, 1) := dk_27 (dk_at dksX6_badOf_2 3 rfl rfl)
theorem dX6_badOf_52 : decode cX6_badOf 52 = .ok (.invokevirtual 121, 3) := dk_182 0 121 (dk_at dksX6_badOf_2 4 rfl rfl)
theorem dX6_badOf_55 : decode cX6_badOf 55 = .ok (.ifCond .eq 7, 3) := dk_153 0 7 (dk_at dksX6_badOf_2 7 rfl rfl)
theorem dX6_badOf_58 : decode cX6_badOf 58 = .ok (.iconst 1, 1) := dk_4 (dk_at dksX6_badOf_2 10 rfl rfl)
theorem dX6_badOf_59 : decode cX6_badOf 59 = .ok (.goto 4, 3) := dk_167 0 4 (dk_at dksX6_badOf_2 11 rfl rfl)
theorem dX6_badOf_62 : decode cX6_badOf 62 = .ok (.iconst 0, 1) := dk_3 (dk_at dksX6_badOf_2 14 rfl rfl)
theorem dX6_badOf_63 : decode cX6_badOf 63 = .ok (.iadd, 1) := dk_96 (dk_at dksX6_badOf_2 15 rfl rfl)
theorem dX6_badOf_64 : decode cX6_badOf 64 = .ok (.istore_n 2, 1) := dk_61 (dk_at dksX6_badOf_2 16 rfl rfl)
theorem dX6_badOf_65 : decode cX6_badOf 65 = .ok (.iinc 3 1, 3) := dk_132 3 1 (dk_at dksX6_badOf_2 17 rfl rfl)
theorem dX6_badOf_68 : decode cX6_badOf 68 = .ok (.goto (-54), 3) := dk_167 255 202 (dk_at dksX6_badOf_2 20 rfl rfl)
theorem dX6_badOf_71 : decode cX6_badOf 71 = .ok (.iload_n 2, 1) := dk_28 (dk_at dksX6_badOf_2 23 rfl rfl)
theorem dX6_badOf_72 : decode cX6_badOf 72 = .ok (.ireturn, 1) := dk_172 (dk_at dksX6_badOf_3 0 rfl rfl)
abbrev cX6_as : ByteArray := prog_9_method_27_code
def yX6_as : MethodName := ⟨RX6, "as", "(II)I"⟩
def dkwX6_as_2 : List UInt8 := [160, 0, 7, 27, 167, 0, 4, 2, 172]
abbrev dktX6_as_2 : List UInt8 := dkwX6_as_2 ++ []
def dkwX6_as_1 : List UInt8 := [180, 0, 7, 27, 46, 62, 28, 153, 0, 18, 29, 28, 159, 0, 13, 28, 6, 160, 0, 12, 29, 7]
abbrev dktX6_as_1 : List UInt8 := dkwX6_as_1 ++ dktX6_as_2
def dkwX6_as_0 : List UInt8 := [42, 27, 182, 0, 149, 154, 0, 6, 16, 155, 172, 28, 3, 7, 184, 0, 65, 154, 0, 6, 16, 154, 172, 42]
abbrev dktX6_as_0 : List UInt8 := dkwX6_as_0 ++ dktX6_as_1
theorem dksX6_as_0 : cX6_as.data.toList.drop 0 = dktX6_as_0 := by decide +kernel
theorem dksX6_as_1 : cX6_as.data.toList.drop 24 = dktX6_as_1 := dk_seg dksX6_as_0 24 rfl rfl
theorem dksX6_as_2 : cX6_as.data.toList.drop 46 = dktX6_as_2 := dk_seg dksX6_as_1 22 rfl rfl
theorem dX6_as_0 : decode cX6_as 0 = .ok (.aload_n 0, 1) := dk_42 (dk_at dksX6_as_0 0 rfl rfl)
theorem dX6_as_1 : decode cX6_as 1 = .ok (.iload_n 1, 1) := dk_27 (dk_at dksX6_as_0 1 rfl rfl)
theorem dX6_as_2 : decode cX6_as 2 = .ok (.invokevirtual 149, 3) := dk_182 0 149 (dk_at dksX6_as_0 2 rfl rfl)
theorem dX6_as_5 : decode cX6_as 5 = .ok (.ifCond .ne 6, 3) := dk_154 0 6 (dk_at dksX6_as_0 5 rfl rfl)
theorem dX6_as_8 : decode cX6_as 8 = .ok (.bipush (-101), 2) := dk_16 155 (dk_at dksX6_as_0 8 rfl rfl)
theorem dX6_as_10 : decode cX6_as 10 = .ok (.ireturn, 1) := dk_172 (dk_at dksX6_as_0 10 rfl rfl)
theorem dX6_as_11 : decode cX6_as 11 = .ok (.iload_n 2, 1) := dk_28 (dk_at dksX6_as_0 11 rfl rfl)
theorem dX6_as_12 : decode cX6_as 12 = .ok (.iconst 0, 1) := dk_3 (dk_at dksX6_as_0 12 rfl rfl)
theorem dX6_as_13 : decode cX6_as 13 = .ok (.iconst 4, 1) := dk_7 (dk_at dksX6_as_0 13 rfl rfl)
theorem dX6_as_14 : decode cX6_as 14 = .ok (.invokestatic 65, 3) := dk_184 0 65 (dk_at dksX6_as_0 14 rfl rfl)
theorem dX6_as_17 : decode cX6_as 17 = .ok (.ifCond .ne 6, 3) := dk_154 0 6 (dk_at dksX6_as_0 17 rfl rfl)
theorem dX6_as_20 : decode cX6_as 20 = .ok (.bipush (-102), 2) := dk_16 154 (dk_at dksX6_as_0 20 rfl rfl)
theorem dX6_as_22 : decode cX6_as 22 = .ok (.ireturn, 1) := dk_172 (dk_at dksX6_as_0 22 rfl rfl)
theorem dX6_as_23 : decode cX6_as 23 = .ok (.aload_n 0, 1) := dk_42 (dk_at dksX6_as_0 23 rfl rfl)
theorem dX6_as_24 : decode cX6_as 24 = .ok (.getfield 7, 3) := dk_180 0 7 (dk_at dksX6_as_1 0 rfl rfl)
theorem dX6_as_27 : decode cX6_as 27 = .ok (.iload_n 1, 1) := dk_27 (dk_at dksX6_as_1 3 rfl rfl)
theorem dX6_as_28 : decode cX6_as 28 = .ok (.iaload, 1) := dk_46 (dk_at dksX6_as_1 4 rfl rfl)
theorem dX6_as_29 : decode cX6_as 29 = .ok (.istore_n 3, 1) := dk_62 (dk_at dksX6_as_1 5 rfl rfl)
theorem dX6_as_30 : decode cX6_as 30 = .ok (.iload_n 2, 1) := dk_28 (dk_at dksX6_as_1 6 rfl rfl)
theorem dX6_as_31 : decode cX6_as 31 = .ok (.ifCond .eq 18, 3) := dk_153 0 18 (dk_at dksX6_as_1 7 rfl rfl)
theorem dX6_as_34 : decode cX6_as 34 = .ok (.iload_n 3, 1) := dk_29 (dk_at dksX6_as_1 10 rfl rfl)
theorem dX6_as_35 : decode cX6_as 35 = .ok (.iload_n 2, 1) := dk_28 (dk_at dksX6_as_1 11 rfl rfl)
theorem dX6_as_36 : decode cX6_as 36 = .ok (.if_icmp .eq 13, 3) := dk_159 0 13 (dk_at dksX6_as_1 12 rfl rfl)
theorem dX6_as_39 : decode cX6_as 39 = .ok (.iload_n 2, 1) := dk_28 (dk_at dksX6_as_1 15 rfl rfl)
theorem dX6_as_40 : decode cX6_as 40 = .ok (.iconst 3, 1) := dk_6 (dk_at dksX6_as_1 16 rfl rfl)
theorem dX6_as_41 : decode cX6_as 41 = .ok (.if_icmp .ne 12, 3) := dk_160 0 12 (dk_at dksX6_as_1 17 rfl rfl)
theorem dX6_as_44 : decode cX6_as 44 = .ok (.iload_n 3, 1) := dk_29 (dk_at dksX6_as_1 20 rfl rfl)
theorem dX6_as_45 : decode cX6_as 45 = .ok (.iconst 4, 1) := dk_7 (dk_at dksX6_as_1 21 rfl rfl)
theorem dX6_as_46 : decode cX6_as 46 = .ok (.if_icmp .ne 7, 3) := dk_160 0 7 (dk_at dksX6_as_2 0 rfl rfl)
theorem dX6_as_49 : decode cX6_as 49 = .ok (.iload_n 1, 1) := dk_27 (dk_at dksX6_as_2 3 rfl rfl)
theorem dX6_as_50 : decode cX6_as 50 = .ok (.goto 4, 3) := dk_167 0 4 (dk_at dksX6_as_2 4 rfl rfl)
theorem dX6_as_53 : decode cX6_as 53 = .ok (.iconst (-1), 1) := dk_2 (dk_at dksX6_as_2 7 rfl rfl)
theorem dX6_as_54 : decode cX6_as 54 = .ok (.ireturn, 1) := dk_172 (dk_at dksX6_as_2 8 rfl rfl)
abbrev cX6_ways : ByteArray := prog_9_method_37_code
def yX6_ways : MethodName := ⟨RX6, "ways", "(I)I"⟩
def dkwX6_ways_1 : List UInt8 := [42, 27, 182, 0, 174, 172]
abbrev dktX6_ways_1 : List UInt8 := dkwX6_ways_1 ++ []
def dkwX6_ways_0 : List UInt8 := [27, 3, 5, 184, 0, 65, 154, 0, 6, 16, 154, 172, 42, 180, 0, 101, 154, 0, 8, 16, 153, 167, 0, 8]
abbrev dktX6_ways_0 : List UInt8 := dkwX6_ways_0 ++ dktX6_ways_1
theorem dksX6_ways_0 : cX6_ways.data.toList.drop 0 = dktX6_ways_0 := by decide +kernel
theorem dksX6_ways_1 : cX6_ways.data.toList.drop 24 = dktX6_ways_1 := dk_seg dksX6_ways_0 24 rfl rfl
theorem dX6_ways_0 : decode cX6_ways 0 = .ok (.iload_n 1, 1) := dk_27 (dk_at dksX6_ways_0 0 rfl rfl)
theorem dX6_ways_1 : decode cX6_ways 1 = .ok (.iconst 0, 1) := dk_3 (dk_at dksX6_ways_0 1 rfl rfl)
theorem dX6_ways_2 : decode cX6_ways 2 = .ok (.iconst 2, 1) := dk_5 (dk_at dksX6_ways_0 2 rfl rfl)
theorem dX6_ways_3 : decode cX6_ways 3 = .ok (.invokestatic 65, 3) := dk_184 0 65 (dk_at dksX6_ways_0 3 rfl rfl)
theorem dX6_ways_6 : decode cX6_ways 6 = .ok (.ifCond .ne 6, 3) := dk_154 0 6 (dk_at dksX6_ways_0 6 rfl rfl)
theorem dX6_ways_9 : decode cX6_ways 9 = .ok (.bipush (-102), 2) := dk_16 154 (dk_at dksX6_ways_0 9 rfl rfl)
theorem dX6_ways_11 : decode cX6_ways 11 = .ok (.ireturn, 1) := dk_172 (dk_at dksX6_ways_0 11 rfl rfl)
theorem dX6_ways_12 : decode cX6_ways 12 = .ok (.aload_n 0, 1) := dk_42 (dk_at dksX6_ways_0 12 rfl rfl)
theorem dX6_ways_13 : decode cX6_ways 13 = .ok (.getfield 101, 3) := dk_180 0 101 (dk_at dksX6_ways_0 13 rfl rfl)
theorem dX6_ways_16 : decode cX6_ways 16 = .ok (.ifCond .ne 8, 3) := dk_154 0 8 (dk_at dksX6_ways_0 16 rfl rfl)
theorem dX6_ways_19 : decode cX6_ways 19 = .ok (.bipush (-103), 2) := dk_16 153 (dk_at dksX6_ways_0 19 rfl rfl)
theorem dX6_ways_21 : decode cX6_ways 21 = .ok (.goto 8, 3) := dk_167 0 8 (dk_at dksX6_ways_0 21 rfl rfl)
theorem dX6_ways_24 : decode cX6_ways 24 = .ok (.aload_n 0, 1) := dk_42 (dk_at dksX6_ways_1 0 rfl rfl)
theorem dX6_ways_25 : decode cX6_ways 25 = .ok (.iload_n 1, 1) := dk_27 (dk_at dksX6_ways_1 1 rfl rfl)
theorem dX6_ways_26 : decode cX6_ways 26 = .ok (.invokevirtual 174, 3) := dk_182 0 174 (dk_at dksX6_ways_1 2 rfl rfl)
theorem dX6_ways_29 : decode cX6_ways 29 = .ok (.ireturn, 1) := dk_172 (dk_at dksX6_ways_1 5 rfl rfl)
abbrev cX6_waysNow : ByteArray := prog_9_method_36_code
def yX6_waysNow : MethodName := ⟨RX6, "waysNow", "(I)I"⟩
def dkwX6_waysNow_1 : List UInt8 := [42, 182, 0, 171, 172]
abbrev dktX6_waysNow_1 : List UInt8 := dkwX6_waysNow_1 ++ []
def dkwX6_waysNow_0 : List UInt8 := [27, 154, 0, 11, 42, 2, 182, 0, 134, 167, 0, 19, 27, 4, 160, 0, 10, 42, 182, 0, 168, 167, 0, 7]
abbrev dktX6_waysNow_0 : List UInt8 := dkwX6_waysNow_0 ++ dktX6_waysNow_1
theorem dksX6_waysNow_0 : cX6_waysNow.data.toList.drop 0 = dktX6_waysNow_0 := by decide +kernel
theorem dksX6_waysNow_1 : cX6_waysNow.data.toList.drop 24 = dktX6_waysNow_1 := dk_seg dksX6_waysNow_0 24 rfl rfl
theorem dX6_waysNow_0 : decode cX6_waysNow 0 = .ok (.iload_n 1, 1) := dk_27 (dk_at dksX6_waysNow_0 0 rfl rfl)
theorem dX6_waysNow_1 : decode cX6_waysNow 1 = .ok (.ifCond .ne 11, 3) := dk_154 0 11 (dk_at dksX6_waysNow_0 1 rfl rfl)
theorem dX6_waysNow_4 : decode cX6_waysNow 4 = .ok (.aload_n 0, 1) := dk_42 (dk_at dksX6_waysNow_0 4 rfl rfl)
theorem dX6_waysNow_5 : decode cX6_waysNow 5 = .ok (.iconst (-1), 1) := dk_2 (dk_at dksX6_waysNow_0 5 rfl rfl)
theorem dX6_waysNow_6 : decode cX6_waysNow 6 = .ok (.invokevirtual 134, 3) := dk_182 0 134 (dk_at dksX6_waysNow_0 6 rfl rfl)
theorem dX6_waysNow_9 : decode cX6_waysNow 9 = .ok (.goto 19, 3) := dk_167 0 19 (dk_at dksX6_waysNow_0 9 rfl rfl)
theorem dX6_waysNow_12 : decode cX6_waysNow 12 = .ok (.iload_n 1, 1) := dk_27 (dk_at dksX6_waysNow_0 12 rfl rfl)
theorem dX6_waysNow_13 : decode cX6_waysNow 13 = .ok (.iconst 1, 1) := dk_4 (dk_at dksX6_waysNow_0 13 rfl rfl)
theorem dX6_waysNow_14 : decode cX6_waysNow 14 = .ok (.if_icmp .ne 10, 3) := dk_160 0 10 (dk_at dksX6_waysNow_0 14 rfl rfl)
theorem dX6_waysNow_17 : decode cX6_waysNow 17 = .ok (.aload_n 0, 1) := dk_42 (dk_at dksX6_waysNow_0 17 rfl rfl)
theorem dX6_waysNow_18 : decode cX6_waysNow 18 = .ok (.invokevirtual 168, 3) := dk_182 0 168 (dk_at dksX6_waysNow_0 18 rfl rfl)
theorem dX6_waysNow_21 : decode cX6_waysNow 21 = .ok (.goto 7, 3) := dk_167 0 7 (dk_at dksX6_waysNow_0 21 rfl rfl)
theorem dX6_waysNow_24 : decode cX6_waysNow 24 = .ok (.aload_n 0, 1) := dk_42 (dk_at dksX6_waysNow_1 0 rfl rfl)
theorem dX6_waysNow_25 : decode cX6_waysNow 25 = .ok (.invokevirtual 171, 3) := dk_182 0 171 (dk_at dksX6_waysNow_1 1 rfl rfl)
theorem dX6_waysNow_28 : decode cX6_waysNow 28 = .ok (.ireturn, 1) := dk_172 (dk_at dksX6_waysNow_1 4 rfl rfl)
abbrev cX6_nextNow : ByteArray := prog_9_method_34_code
def yX6_nextNow : MethodName := ⟨RX6, "nextNow", "()I"⟩
def dkwX6_nextNow_4 : List UInt8 := [96, 46, 167, 0, 4, 28, 61, 132, 4, 1, 167, 255, 174, 132, 3, 1, 167, 255, 157, 27, 172]
abbrev dktX6_nextNow_4 : List UInt8 := dkwX6_nextNow_4 ++ []
def dkwX6_nextNow_3 : List UInt8 := [29, 104, 21, 4, 96, 167, 0, 4, 27, 60, 21, 5, 153, 0, 17, 42, 180, 0, 32, 6, 29, 104, 21, 4]
abbrev dktX6_nextNow_3 : List UInt8 := dkwX6_nextNow_3 ++ dktX6_nextNow_4
def dkwX6_nextNow_2 : List UInt8 := [29, 104, 21, 4, 96, 46, 28, 164, 0, 7, 4, 167, 0, 4, 3, 54, 5, 21, 5, 153, 0, 13, 16, 10]
abbrev dktX6_nextNow_2 : List UInt8 := dkwX6_nextNow_2 ++ dktX6_nextNow_3
def dkwX6_nextNow_1 : List UInt8 := [21, 4, 42, 180, 0, 98, 162, 0, 79, 42, 180, 0, 13, 29, 46, 2, 160, 0, 22, 42, 180, 0, 32, 6]
abbrev dktX6_nextNow_1 : List UInt8 := dkwX6_nextNow_1 ++ dktX6_nextNow_2
def dkwX6_nextNow_0 : List UInt8 := [42, 2, 182, 0, 134, 87, 2, 60, 3, 61, 4, 62, 29, 42, 180, 0, 101, 163, 0, 97, 3, 54, 4]
abbrev dktX6_nextNow_0 : List UInt8 := dkwX6_nextNow_0 ++ dktX6_nextNow_1
theorem dksX6_nextNow_0 : cX6_nextNow.data.toList.drop 0 = dktX6_nextNow_0 := by decide +kernel
theorem dksX6_nextNow_1 : cX6_nextNow.data.toList.drop 23 = dktX6_nextNow_1 := dk_seg dksX6_nextNow_0 23 rfl rfl
theorem dksX6_nextNow_2 : cX6_nextNow.data.toList.drop 47 = dktX6_nextNow_2 := dk_seg dksX6_nextNow_1 24 rfl rfl
theorem dksX6_nextNow_3 : cX6_nextNow.data.toList.drop 71 = dktX6_nextNow_3 := dk_seg dksX6_nextNow_2 24 rfl rfl
theorem dksX6_nextNow_4 : cX6_nextNow.data.toList.drop 95 = dktX6_nextNow_4 := dk_seg dksX6_nextNow_3 24 rfl rfl
theorem dX6_nextNow_0 : decode cX6_nextNow 0 = .ok (.aload_n 0, 1) := dk_42 (dk_at dksX6_nextNow_0 0 rfl rfl)
theorem dX6_nextNow_1 : decode cX6_nextNow 1 = .ok (.iconst (-1), 1) := dk_2 (dk_at dksX6_nextNow_0 1 rfl rfl)
theorem dX6_nextNow_2 : decode cX6_nextNow 2 = .ok (.invokevirtual 134, 3) := dk_182 0 134 (dk_at dksX6_nextNow_0 2 rfl rfl)
theorem dX6_nextNow_5 : decode cX6_nextNow 5 = .ok (.pop, 1) := dk_87 (dk_at dksX6_nextNow_0 5 rfl rfl)
theorem dX6_nextNow_6 : decode cX6_nextNow 6 = .ok (.iconst (-1), 1) := dk_2 (dk_at dksX6_nextNow_0 6 rfl rfl)
theorem dX6_nextNow_7 : decode cX6_nextNow 7 = .ok (.istore_n 1, 1) := dk_60 (dk_at dksX6_nextNow_0 7 rfl rfl)
theorem dX6_nextNow_8 : decode cX6_nextNow 8 = .ok (.iconst 0, 1) := dk_3 (dk_at dksX6_nextNow_0 8 rfl rfl)
theorem dX6_nextNow_9 : decode cX6_nextNow 9 = .ok (.istore_n 2, 1) := dk_61 (dk_at dksX6_nextNow_0 9 rfl rfl)
theorem dX6_nextNow_10 : decode cX6_nextNow 10 = .ok (.iconst 1, 1) := dk_4 (dk_at dksX6_nextNow_0 10 rfl rfl)
theorem dX6_nextNow_11 : decode cX6_nextNow 11 = .ok (.istore_n 3, 1) := dk_62 (dk_at dksX6_nextNow_0 11 rfl rfl)
theorem dX6_nextNow_12 : decode cX6_nextNow 12 = .ok (.iload_n 3, 1) := dk_29 (dk_at dksX6_nextNow_0 12 rfl rfl)
theorem dX6_nextNow_13 : decode cX6_nextNow 13 = .ok (.aload_n 0, 1) := dk_42 (dk_at dksX6_nextNow_0 13 rfl rfl)
theorem dX6_nextNow_14 : decode cX6_nextNow 14 = .ok (.getfield 101, 3) := dk_180 0 101 (dk_at dksX6_nextNow_0 14 rfl rfl)
theorem dX6_nextNow_17 : decode cX6_nextNow 17 = .ok (.if_icmp .gt 97, 3) := dk_163 0 97 (dk_at dksX6_nextNow_0 17 rfl rfl)
theorem dX6_nextNow_20 : decode cX6_nextNow 20 = .ok (.iconst 0, 1) := dk_3 (dk_at dksX6_nextNow_0 20 rfl rfl)
theorem dX6_nextNow_21 : decode cX6_nextNow 21 = .ok (.istore 4, 2) := dk_54 4 (dk_at dksX6_nextNow_0 21 rfl rfl)
theorem dX6_nextNow_23 : decode cX6_nextNow 23 = .ok (.iload 4, 2) := dk_21 4 (dk_at dksX6_nextNow_1 0 rfl rfl)
theorem dX6_nextNow_25 : decode cX6_nextNow 25 = .ok (.aload_n 0, 1) := dk_42 (dk_at dksX6_nextNow_1 2 rfl rfl)
theorem dX6_nextNow_26 : decode cX6_nextNow 26 = .ok (.getfield 98, 3) := dk_180 0 98 (dk_at dksX6_nextNow_1 3 rfl rfl)
theorem dX6_nextNow_29 : decode cX6_nextNow 29 = .ok (.if_icmp .ge 79, 3) := dk_162 0 79 (dk_at dksX6_nextNow_1 6 rfl rfl)
theorem dX6_nextNow_32 : decode cX6_nextNow 32 = .ok (.aload_n 0, 1) := dk_42 (dk_at dksX6_nextNow_1 9 rfl rfl)
theorem dX6_nextNow_33 : decode cX6_nextNow 33 = .ok (.getfield 13, 3) := dk_180 0 13 (dk_at dksX6_nextNow_1 10 rfl rfl)
theorem dX6_nextNow_36 : decode cX6_nextNow 36 = .ok (.iload_n 3, 1) := dk_29 (dk_at dksX6_nextNow_1 13 rfl rfl)
theorem dX6_nextNow_37 : decode cX6_nextNow 37 = .ok (.iaload, 1) := dk_46 (dk_at dksX6_nextNow_1 14 rfl rfl)
theorem dX6_nextNow_38 : decode cX6_nextNow 38 = .ok (.iconst (-1), 1) := dk_2 (dk_at dksX6_nextNow_1 15 rfl rfl)
theorem dX6_nextNow_39 : decode cX6_nextNow 39 = .ok (.if_icmp .ne 22, 3) := dk_160 0 22 (dk_at dksX6_nextNow_1 16 rfl rfl)
theorem dX6_nextNow_42 : decode cX6_nextNow 42 = .ok (.aload_n 0, 1) := dk_42 (dk_at dksX6_nextNow_1 19 rfl rfl)
theorem dX6_nextNow_43 : decode cX6_nextNow 43 = .ok (.getfield 32, 3) := dk_180 0 32 (dk_at dksX6_nextNow_1 20 rfl rfl)
theorem dX6_nextNow_46 : decode cX6_nextNow 46 = .ok (.iconst 3, 1) := dk_6 (dk_at dksX6_nextNow_1 23 rfl rfl)
theorem dX6_nextNow_47 : decode cX6_nextNow 47 = .ok (.iload_n 3, 1) := dk_29 (dk_at dksX6_nextNow_2 0 rfl rfl)
theorem dX6_nextNow_48 : decode cX6_nextNow 48 = .ok (.imul, 1) := dk_104 (dk_at dksX6_nextNow_2 1 rfl rfl)
theorem dX6_nextNow_49 : decode cX6_nextNow 49 = .ok (.iload 4, 2) := dk_21 4 (dk_at dksX6_nextNow_2 2 rfl rfl)
theorem dX6_nextNow_51 : decode cX6_nextNow 51 = .ok (.iadd, 1) := dk_96 (dk_at dksX6_nextNow_2 4 rfl rfl)
theorem dX6_nextNow_52 : decode cX6_nextNow 52 = .ok (.iaload, 1) := dk_46 (dk_at dksX6_nextNow_2 5 rfl rfl)
theorem dX6_nextNow_53 : decode cX6_nextNow 53 = .ok (.iload_n 2, 1) := dk_28 (dk_at dksX6_nextNow_2 6 rfl rfl)
theorem dX6_nextNow_54 : decode cX6_nextNow 54 = .ok (.if_icmp .le 7, 3) := dk_164 0 7 (dk_at dksX6_nextNow_2 7 rfl rfl)
theorem dX6_nextNow_57 : decode cX6_nextNow 57 = .ok (.iconst 1, 1) := dk_4 (dk_at dksX6_nextNow_2 10 rfl rfl)
theorem dX6_nextNow_58 : decode cX6_nextNow 58 = .ok (.goto 4, 3) := dk_167 0 4 (dk_at dksX6_nextNow_2 11 rfl rfl)
theorem dX6_nextNow_61 : decode cX6_nextNow 61 = .ok (.iconst 0, 1) := dk_3 (dk_at dksX6_nextNow_2 14 rfl rfl)
theorem dX6_nextNow_62 : decode cX6_nextNow 62 = .ok (.istore 5, 2) := dk_54 5 (dk_at dksX6_nextNow_2 15 rfl rfl)
theorem dX6_nextNow_64 : decode cX6_nextNow 64 = .ok (.iload 5, 2) := dk_21 5 (dk_at dksX6_nextNow_2 17 rfl rfl)
theorem dX6_nextNow_66 : decode cX6_nextNow 66 = .ok (.ifCond .eq 13, 3) := dk_153 0 13 (dk_at dksX6_nextNow_2 19 rfl rfl)
theorem dX6_nextNow_69 : decode cX6_nextNow 69 = .ok (.bipush 10, 2) := dk_16 10 (dk_at dksX6_nextNow_2 22 rfl rfl)
theorem dX6_nextNow_71 : decode cX6_nextNow 71 = .ok (.iload_n 3, 1) := dk_29 (dk_at dksX6_nextNow_3 0 rfl rfl)
theorem dX6_nextNow_72 : decode cX6_nextNow 72 = .ok (.imul, 1) := dk_104 (dk_at dksX6_nextNow_3 1 rfl rfl)
theorem dX6_nextNow_73 : decode cX6_nextNow 73 = .ok (.iload 4, 2) := dk_21 4 (dk_at dksX6_nextNow_3 2 rfl rfl)
theorem dX6_nextNow_75 : decode cX6_nextNow 75 = .ok (.iadd, 1) := dk_96 (dk_at dksX6_nextNow_3 4 rfl rfl)
theorem dX6_nextNow_76 : decode cX6_nextNow 76 = .ok (.goto 4, 3) := dk_167 0 4 (dk_at dksX6_nextNow_3 5 rfl rfl)
theorem dX6_nextNow_79 : decode cX6_nextNow 79 = .ok (.iload_n 1, 1) := dk_27 (dk_at dksX6_nextNow_3 8 rfl rfl)
theorem dX6_nextNow_80 : decode cX6_nextNow 80 = .ok (.istore_n 1, 1) := dk_60 (dk_at dksX6_nextNow_3 9 rfl rfl)
theorem dX6_nextNow_81 : decode cX6_nextNow 81 = .ok (.iload 5, 2) := dk_21 5 (dk_at dksX6_nextNow_3 10 rfl rfl)
theorem dX6_nextNow_83 : decode cX6_nextNow 83 = .ok (.ifCond .eq 17, 3) := dk_153 0 17 (dk_at dksX6_nextNow_3 12 rfl rfl)
theorem dX6_nextNow_86 : decode cX6_nextNow 86 = .ok (.aload_n 0, 1) := dk_42 (dk_at dksX6_nextNow_3 15 rfl rfl)
theorem dX6_nextNow_87 : decode cX6_nextNow 87 = .ok (.getfield 32, 3) := dk_180 0 32 (dk_at dksX6_nextNow_3 16 rfl rfl)
theorem dX6_nextNow_90 : decode cX6_nextNow 90 = .ok (.iconst 3, 1) := dk_6 (dk_at dksX6_nextNow_3 19 rfl rfl)
theorem dX6_nextNow_91 : decode cX6_nextNow 91 = .ok (.iload_n 3, 1) := dk_29 (dk_at dksX6_nextNow_3 20 rfl rfl)
theorem dX6_nextNow_92 : decode cX6_nextNow 92 = .ok (.imul, 1) := dk_104 (dk_at dksX6_nextNow_3 21 rfl rfl)
theorem dX6_nextNow_93 : decode cX6_nextNow 93 = .ok (.iload 4, 2) := dk_21 4 (dk_at dksX6_nextNow_3 22 rfl rfl)
theorem dX6_nextNow_95 : decode cX6_nextNow 95 = .ok (.iadd, 1) := dk_96 (dk_at dksX6_nextNow_4 0 rfl rfl)
theorem dX6_nextNow_96 : decode cX6_nextNow 96 = .ok (.iaload, 1) := dk_46 (dk_at dksX6_nextNow_4 1 rfl rfl)
theorem dX6_nextNow_97 : decode cX6_nextNow 97 = .ok (.goto 4, 3) := dk_167 0 4 (dk_at dksX6_nextNow_4 2 rfl rfl)
theorem dX6_nextNow_100 : decode cX6_nextNow 100 = .ok (.iload_n 2, 1) := dk_28 (dk_at dksX6_nextNow_4 5 rfl rfl)
theorem dX6_nextNow_101 : decode cX6_nextNow 101 = .ok (.istore_n 2, 1) := dk_61 (dk_at dksX6_nextNow_4 6 rfl rfl)
theorem dX6_nextNow_102 : decode cX6_nextNow 102 = .ok (.iinc 4 1, 3) := dk_132 4 1 (dk_at dksX6_nextNow_4 7 rfl rfl)
theorem dX6_nextNow_105 : decode cX6_nextNow 105 = .ok (.goto (-82), 3) := dk_167 255 174 (dk_at dksX6_nextNow_4 10 rfl rfl)
theorem dX6_nextNow_108 : decode cX6_nextNow 108 = .ok (.iinc 3 1, 3) := dk_132 3 1 (dk_at dksX6_nextNow_4 13 rfl rfl)
theorem dX6_nextNow_111 : decode cX6_nextNow 111 = .ok (.goto (-99), 3) := dk_167 255 157 (dk_at dksX6_nextNow_4 16 rfl rfl)
theorem dX6_nextNow_114 : decode cX6_nextNow 114 = .ok (.iload_n 1, 1) := dk_27 (dk_at dksX6_nextNow_4 19 rfl rfl)
theorem dX6_nextNow_115 : decode cX6_nextNow 115 = .ok (.ireturn, 1) := dk_172 (dk_at dksX6_nextNow_4 20 rfl rfl)
abbrev cX6_upNow : ByteArray := prog_9_method_35_code
def yX6_upNow : MethodName := ⟨RX6, "upNow", "()I"⟩
def dkwX6_upNow_1 : List UInt8 := [158, 0, 7, 28, 167, 0, 4, 27, 60, 132, 2, 1, 167, 255, 226, 27, 172]
abbrev dktX6_upNow_1 : List UInt8 := dkwX6_upNow_1 ++ []
def dkwX6_upNow_0 : List UInt8 := [3, 60, 4, 61, 28, 42, 180, 0, 101, 163, 0, 28, 42, 182, 0, 128, 42, 4, 28, 182, 0, 161]
abbrev dktX6_upNow_0 : List UInt8 := dkwX6_upNow_0 ++ dktX6_upNow_1
theorem dksX6_upNow_0 : cX6_upNow.data.toList.drop 0 = dktX6_upNow_0 := by decide +kernel
theorem dksX6_upNow_1 : cX6_upNow.data.toList.drop 22 = dktX6_upNow_1 := dk_seg dksX6_upNow_0 22 rfl rfl
theorem dX6_upNow_0 : decode cX6_upNow 0 = .ok (.iconst 0, 1) := dk_3 (dk_at dksX6_upNow_0 0 rfl rfl)
theorem dX6_upNow_1 : decode cX6_upNow 1 = .ok (.istore_n 1, 1) := dk_60 (dk_at dksX6_upNow_0 1 rfl rfl)
theorem dX6_upNow_2 : decode cX6_upNow 2 = .ok (.iconst 1, 1) := dk_4 (dk_at dksX6_upNow_0 2 rfl rfl)
theorem dX6_upNow_3 : decode cX6_upNow 3 = .ok (.istore_n 2, 1) := dk_61 (dk_at dksX6_upNow_0 3 rfl rfl)
theorem dX6_upNow_4 : decode cX6_upNow 4 = .ok (.iload_n 2, 1) := dk_28 (dk_at dksX6_upNow_0 4 rfl rfl)
theorem dX6_upNow_5 : decode cX6_upNow 5 = .ok (.aload_n 0, 1) := dk_42 (dk_at dksX6_upNow_0 5 rfl rfl)
theorem dX6_upNow_6 : decode cX6_upNow 6 = .ok (.getfield 101, 3) := dk_180 0 101 (dk_at dksX6_upNow_0 6 rfl rfl)
theorem dX6_upNow_9 : decode cX6_upNow 9 = .ok (.if_icmp .gt 28, 3) := dk_163 0 28 (dk_at dksX6_upNow_0 9 rfl rfl)
theorem dX6_upNow_12 : decode cX6_upNow 12 = .ok (.aload_n 0, 1) := dk_42 (dk_at dksX6_upNow_0 12 rfl rfl)
theorem dX6_upNow_13 : decode cX6_upNow 13 = .ok (.invokevirtual 128, 3) := dk_182 0 128 (dk_at dksX6_upNow_0 13 rfl rfl)
theorem dX6_upNow_16 : decode cX6_upNow 16 = .ok (.aload_n 0, 1) := dk_42 (dk_at dksX6_upNow_0 16 rfl rfl)
theorem dX6_upNow_17 : decode cX6_upNow 17 = .ok (.iconst 1, 1) := dk_4 (dk_at dksX6_upNow_0 17 rfl rfl)
theorem dX6_upNow_18 : decode cX6_upNow 18 = .ok (.iload_n 2, 1) := dk_28 (dk_at dksX6_upNow_0 18 rfl rfl)
theorem dX6_upNow_19 : decode cX6_upNow 19 = .ok (.invokevirtual 161, 3) := dk_182 0 161 (dk_at dksX6_upNow_0 19 rfl rfl)
theorem dX6_upNow_22 : decode cX6_upNow 22 = .ok (.ifCond .le 7, 3) := dk_158 0 7 (dk_at dksX6_upNow_1 0 rfl rfl)
theorem dX6_upNow_25 : decode cX6_upNow 25 = .ok (.iload_n 2, 1) := dk_28 (dk_at dksX6_upNow_1 3 rfl rfl)
theorem dX6_upNow_26 : decode cX6_upNow 26 = .ok (.goto 4, 3) := dk_167 0 4 (dk_at dksX6_upNow_1 4 rfl rfl)
theorem dX6_upNow_29 : decode cX6_upNow 29 = .ok (.iload_n 1, 1) := dk_27 (dk_at dksX6_upNow_1 7 rfl rfl)
theorem dX6_upNow_30 : decode cX6_upNow 30 = .ok (.istore_n 1, 1) := dk_60 (dk_at dksX6_upNow_1 8 rfl rfl)
theorem dX6_upNow_31 : decode cX6_upNow 31 = .ok (.iinc 2 1, 3) := dk_132 2 1 (dk_at dksX6_upNow_1 9 rfl rfl)
theorem dX6_upNow_34 : decode cX6_upNow 34 = .ok (.goto (-30), 3) := dk_167 255 226 (dk_at dksX6_upNow_1 12 rfl rfl)
theorem dX6_upNow_37 : decode cX6_upNow 37 = .ok (.iload_n 1, 1) := dk_27 (dk_at dksX6_upNow_1 15 rfl rfl)
theorem dX6_upNow_38 : decode cX6_upNow 38 = .ok (.ireturn, 1) := dk_172 (dk_at dksX6_upNow_1 16 rfl rfl)
abbrev cX6_way : ByteArray := prog_9_method_38_code
def yX6_way : MethodName := ⟨RX6, "way", "(II)I"⟩
def dkwX6_way_1 : List UInt8 := [42, 180, 0, 35, 28, 46, 172]
abbrev dktX6_way_1 : List UInt8 := dkwX6_way_1 ++ []
def dkwX6_way_0 : List UInt8 := [42, 28, 182, 0, 149, 153, 0, 16, 27, 155, 0, 12, 42, 27, 182, 0, 134, 27, 163, 0, 6, 16, 155, 172]
abbrev dktX6_way_0 : List UInt8 := dkwX6_way_0 ++ dktX6_way_1
theorem dksX6_way_0 : cX6_way.data.toList.drop 0 = dktX6_way_0 := by decide +kernel
theorem dksX6_way_1 : cX6_way.data.toList.drop 24 = dktX6_way_1 := dk_seg dksX6_way_0 24 rfl rfl
theorem dX6_way_0 : decode cX6_way 0 = .ok (.aload_n 0, 1) := dk_42 (dk_at dksX6_way_0 0 rfl rfl)
theorem dX6_way_1 : decode cX6_way 1 = .ok (.iload_n 2, 1) := dk_28 (dk_at dksX6_way_0 1 rfl rfl)
theorem dX6_way_2 : decode cX6_way 2 = .ok (.invokevirtual 149, 3) := dk_182 0 149 (dk_at dksX6_way_0 2 rfl rfl)
theorem dX6_way_5 : decode cX6_way 5 = .ok (.ifCond .eq 16, 3) := dk_153 0 16 (dk_at dksX6_way_0 5 rfl rfl)
theorem dX6_way_8 : decode cX6_way 8 = .ok (.iload_n 1, 1) := dk_27 (dk_at dksX6_way_0 8 rfl rfl)
theorem dX6_way_9 : decode cX6_way 9 = .ok (.ifCond .lt 12, 3) := dk_155 0 12 (dk_at dksX6_way_0 9 rfl rfl)
theorem dX6_way_12 : decode cX6_way 12 = .ok (.aload_n 0, 1) := dk_42 (dk_at dksX6_way_0 12 rfl rfl)
theorem dX6_way_13 : decode cX6_way 13 = .ok (.iload_n 1, 1) := dk_27 (dk_at dksX6_way_0 13 rfl rfl)
theorem dX6_way_14 : decode cX6_way 14 = .ok (.invokevirtual 134, 3) := dk_182 0 134 (dk_at dksX6_way_0 14 rfl rfl)
theorem dX6_way_17 : decode cX6_way 17 = .ok (.iload_n 1, 1) := dk_27 (dk_at dksX6_way_0 17 rfl rfl)
theorem dX6_way_18 : decode cX6_way 18 = .ok (.if_icmp .gt 6, 3) := dk_163 0 6 (dk_at dksX6_way_0 18 rfl rfl)
theorem dX6_way_21 : decode cX6_way 21 = .ok (.bipush (-101), 2) := dk_16 155 (dk_at dksX6_way_0 21 rfl rfl)
theorem dX6_way_23 : decode cX6_way 23 = .ok (.ireturn, 1) := dk_172 (dk_at dksX6_way_0 23 rfl rfl)
theorem dX6_way_24 : decode cX6_way 24 = .ok (.aload_n 0, 1) := dk_42 (dk_at dksX6_way_1 0 rfl rfl)
theorem dX6_way_25 : decode cX6_way 25 = .ok (.getfield 35, 3) := dk_180 0 35 (dk_at dksX6_way_1 1 rfl rfl)
theorem dX6_way_28 : decode cX6_way 28 = .ok (.iload_n 2, 1) := dk_28 (dk_at dksX6_way_1 4 rfl rfl)
theorem dX6_way_29 : decode cX6_way 29 = .ok (.iaload, 1) := dk_46 (dk_at dksX6_way_1 5 rfl rfl)
theorem dX6_way_30 : decode cX6_way 30 = .ok (.ireturn, 1) := dk_172 (dk_at dksX6_way_1 6 rfl rfl)
abbrev cX6_paint : ByteArray := prog_9_method_39_code
def yX6_paint : MethodName := ⟨RX6, "paint", "(II)I"⟩
def dkwX6_paint_2 : List UInt8 := [4, 96, 181, 0, 104, 42, 182, 0, 180, 172]
abbrev dktX6_paint_2 : List UInt8 := dkwX6_paint_2 ++ []
def dkwX6_paint_1 : List UInt8 := [180, 0, 104, 17, 3, 231, 160, 0, 6, 16, 152, 172, 42, 180, 0, 13, 27, 28, 79, 42, 89, 180, 0, 104]
abbrev dktX6_paint_1 : List UInt8 := dkwX6_paint_1 ++ dktX6_paint_2
def dkwX6_paint_0 : List UInt8 := [42, 27, 182, 0, 149, 154, 0, 6, 16, 155, 172, 42, 28, 182, 0, 177, 154, 0, 6, 16, 154, 172, 42]
abbrev dktX6_paint_0 : List UInt8 := dkwX6_paint_0 ++ dktX6_paint_1
theorem dksX6_paint_0 : cX6_paint.data.toList.drop 0 = dktX6_paint_0 := by decide +kernel
theorem dksX6_paint_1 : cX6_paint.data.toList.drop 23 = dktX6_paint_1 := dk_seg dksX6_paint_0 23 rfl rfl
theorem dksX6_paint_2 : cX6_paint.data.toList.drop 47 = dktX6_paint_2 := dk_seg dksX6_paint_1 24 rfl rfl
theorem dX6_paint_0 : decode cX6_paint 0 = .ok (.aload_n 0, 1) := dk_42 (dk_at dksX6_paint_0 0 rfl rfl)
theorem dX6_paint_1 : decode cX6_paint 1 = .ok (.iload_n 1, 1) := dk_27 (dk_at dksX6_paint_0 1 rfl rfl)
theorem dX6_paint_2 : decode cX6_paint 2 = .ok (.invokevirtual 149, 3) := dk_182 0 149 (dk_at dksX6_paint_0 2 rfl rfl)
theorem dX6_paint_5 : decode cX6_paint 5 = .ok (.ifCond .ne 6, 3) := dk_154 0 6 (dk_at dksX6_paint_0 5 rfl rfl)
theorem dX6_paint_8 : decode cX6_paint 8 = .ok (.bipush (-101), 2) := dk_16 155 (dk_at dksX6_paint_0 8 rfl rfl)
theorem dX6_paint_10 : decode cX6_paint 10 = .ok (.ireturn, 1) := dk_172 (dk_at dksX6_paint_0 10 rfl rfl)
theorem dX6_paint_11 : decode cX6_paint 11 = .ok (.aload_n 0, 1) := dk_42 (dk_at dksX6_paint_0 11 rfl rfl)
theorem dX6_paint_12 : decode cX6_paint 12 = .ok (.iload_n 2, 1) := dk_28 (dk_at dksX6_paint_0 12 rfl rfl)
theorem dX6_paint_13 : decode cX6_paint 13 = .ok (.invokevirtual 177, 3) := dk_182 0 177 (dk_at dksX6_paint_0 13 rfl rfl)
theorem dX6_paint_16 : decode cX6_paint 16 = .ok (.ifCond .ne 6, 3) := dk_154 0 6 (dk_at dksX6_paint_0 16 rfl rfl)
theorem dX6_paint_19 : decode cX6_paint 19 = .ok (.bipush (-102), 2) := dk_16 154 (dk_at dksX6_paint_0 19 rfl rfl)
theorem dX6_paint_21 : decode cX6_paint 21 = .ok (.ireturn, 1) := dk_172 (dk_at dksX6_paint_0 21 rfl rfl)
theorem dX6_paint_22 : decode cX6_paint 22 = .ok (.aload_n 0, 1) := dk_42 (dk_at dksX6_paint_0 22 rfl rfl)
theorem dX6_paint_23 : decode cX6_paint 23 = .ok (.getfield 104, 3) := dk_180 0 104 (dk_at dksX6_paint_1 0 rfl rfl)
theorem dX6_paint_26 : decode cX6_paint 26 = .ok (.sipush 999, 3) := dk_17 3 231 (dk_at dksX6_paint_1 3 rfl rfl)
theorem dX6_paint_29 : decode cX6_paint 29 = .ok (.if_icmp .ne 6, 3) := dk_160 0 6 (dk_at dksX6_paint_1 6 rfl rfl)
theorem dX6_paint_32 : decode cX6_paint 32 = .ok (.bipush (-104), 2) := dk_16 152 (dk_at dksX6_paint_1 9 rfl rfl)
theorem dX6_paint_34 : decode cX6_paint 34 = .ok (.ireturn, 1) := dk_172 (dk_at dksX6_paint_1 11 rfl rfl)
theorem dX6_paint_35 : decode cX6_paint 35 = .ok (.aload_n 0, 1) := dk_42 (dk_at dksX6_paint_1 12 rfl rfl)
theorem dX6_paint_36 : decode cX6_paint 36 = .ok (.getfield 13, 3) := dk_180 0 13 (dk_at dksX6_paint_1 13 rfl rfl)
theorem dX6_paint_39 : decode cX6_paint 39 = .ok (.iload_n 1, 1) := dk_27 (dk_at dksX6_paint_1 16 rfl rfl)
theorem dX6_paint_40 : decode cX6_paint 40 = .ok (.iload_n 2, 1) := dk_28 (dk_at dksX6_paint_1 17 rfl rfl)
theorem dX6_paint_41 : decode cX6_paint 41 = .ok (.iastore, 1) := dk_79 (dk_at dksX6_paint_1 18 rfl rfl)
theorem dX6_paint_42 : decode cX6_paint 42 = .ok (.aload_n 0, 1) := dk_42 (dk_at dksX6_paint_1 19 rfl rfl)
theorem dX6_paint_43 : decode cX6_paint 43 = .ok (.dup, 1) := dk_89 (dk_at dksX6_paint_1 20 rfl rfl)
theorem dX6_paint_44 : decode cX6_paint 44 = .ok (.getfield 104, 3) := dk_180 0 104 (dk_at dksX6_paint_1 21 rfl rfl)
theorem dX6_paint_47 : decode cX6_paint 47 = .ok (.iconst 1, 1) := dk_4 (dk_at dksX6_paint_2 0 rfl rfl)
theorem dX6_paint_48 : decode cX6_paint 48 = .ok (.iadd, 1) := dk_96 (dk_at dksX6_paint_2 1 rfl rfl)
theorem dX6_paint_49 : decode cX6_paint 49 = .ok (.putfield 104, 3) := dk_181 0 104 (dk_at dksX6_paint_2 2 rfl rfl)
theorem dX6_paint_52 : decode cX6_paint 52 = .ok (.aload_n 0, 1) := dk_42 (dk_at dksX6_paint_2 5 rfl rfl)
theorem dX6_paint_53 : decode cX6_paint 53 = .ok (.invokevirtual 180, 3) := dk_182 0 180 (dk_at dksX6_paint_2 6 rfl rfl)
theorem dX6_paint_56 : decode cX6_paint 56 = .ok (.ireturn, 1) := dk_172 (dk_at dksX6_paint_2 9 rfl rfl)
abbrev cX6_isColour : ByteArray := prog_9_method_16_code
def yX6_isColour : MethodName := ⟨RX6, "isColour", "(I)Z"⟩
def dkwX6_isColour_0 : List UInt8 := [27, 3, 42, 180, 0, 98, 4, 100, 184, 0, 65, 172]
abbrev dktX6_isColour_0 : List UInt8 := dkwX6_isColour_0 ++ []
theorem dksX6_isColour_0 : cX6_isColour.data.toList.drop 0 = dktX6_isColour_0 := by decide +kernel
theorem dX6_isColour_0 : decode cX6_isColour 0 = .ok (.iload_n 1, 1) := dk_27 (dk_at dksX6_isColour_0 0 rfl rfl)
theorem dX6_isColour_1 : decode cX6_isColour 1 = .ok (.iconst 0, 1) := dk_3 (dk_at dksX6_isColour_0 1 rfl rfl)
theorem dX6_isColour_2 : decode cX6_isColour 2 = .ok (.aload_n 0, 1) := dk_42 (dk_at dksX6_isColour_0 2 rfl rfl)
theorem dX6_isColour_3 : decode cX6_isColour 3 = .ok (.getfield 98, 3) := dk_180 0 98 (dk_at dksX6_isColour_0 3 rfl rfl)
theorem dX6_isColour_6 : decode cX6_isColour 6 = .ok (.iconst 1, 1) := dk_4 (dk_at dksX6_isColour_0 6 rfl rfl)
theorem dX6_isColour_7 : decode cX6_isColour 7 = .ok (.isub, 1) := dk_100 (dk_at dksX6_isColour_0 7 rfl rfl)
theorem dX6_isColour_8 : decode cX6_isColour 8 = .ok (.invokestatic 65, 3) := dk_184 0 65 (dk_at dksX6_isColour_0 8 rfl rfl)
theorem dX6_isColour_11 : decode cX6_isColour 11 = .ok (.ireturn, 1) := dk_172 (dk_at dksX6_isColour_0 11 rfl rfl)
abbrev cX6_badNow : ByteArray := prog_9_method_23_code
def yX6_badNow : MethodName := ⟨RX6, "badNow", "()I"⟩
def dkwX6_badNow_0 : List UInt8 := [42, 182, 0, 128, 42, 42, 180, 0, 101, 182, 0, 131, 172]
abbrev dktX6_badNow_0 : List UInt8 := dkwX6_badNow_0 ++ []
theorem dksX6_badNow_0 : cX6_badNow.data.toList.drop 0 = dktX6_badNow_0 := by decide +kernel
theorem dX6_badNow_0 : decode cX6_badNow 0 = .ok (.aload_n 0, 1) := dk_42 (dk_at dksX6_badNow_0 0 rfl rfl)
theorem dX6_badNow_1 : decode cX6_badNow 1 = .ok (.invokevirtual 128, 3) := dk_182 0 128 (dk_at dksX6_badNow_0 1 rfl rfl)
theorem dX6_badNow_4 : decode cX6_badNow 4 = .ok (.aload_n 0, 1) := dk_42 (dk_at dksX6_badNow_0 4 rfl rfl)
theorem dX6_badNow_5 : decode cX6_badNow 5 = .ok (.aload_n 0, 1) := dk_42 (dk_at dksX6_badNow_0 5 rfl rfl)
theorem dX6_badNow_6 : decode cX6_badNow 6 = .ok (.getfield 101, 3) := dk_180 0 101 (dk_at dksX6_badNow_0 6 rfl rfl)
theorem dX6_badNow_9 : decode cX6_badNow 9 = .ok (.invokevirtual 131, 3) := dk_182 0 131 (dk_at dksX6_badNow_0 9 rfl rfl)
theorem dX6_badNow_12 : decode cX6_badNow 12 = .ok (.ireturn, 1) := dk_172 (dk_at dksX6_badNow_0 12 rfl rfl)
abbrev cX6_badUpTo : ByteArray := prog_9_method_22_code
def yX6_badUpTo : MethodName := ⟨RX6, "badUpTo", "(I)I"⟩
def dkwX6_badUpTo_1 : List UInt8 := [172]
abbrev dktX6_badUpTo_1 : List UInt8 := dkwX6_badUpTo_1 ++ []
def dkwX6_badUpTo_0 : List UInt8 := [3, 61, 5, 62, 29, 27, 163, 0, 17, 28, 42, 29, 182, 0, 125, 96, 61, 132, 3, 1, 167, 255, 240, 28]
abbrev dktX6_badUpTo_0 : List UInt8 := dkwX6_badUpTo_0 ++ dktX6_badUpTo_1
theorem dksX6_badUpTo_0 : cX6_badUpTo.data.toList.drop 0 = dktX6_badUpTo_0 := by decide +kernel
theorem dksX6_badUpTo_1 : cX6_badUpTo.data.toList.drop 24 = dktX6_badUpTo_1 := dk_seg dksX6_badUpTo_0 24 rfl rfl
theorem dX6_badUpTo_0 : decode cX6_badUpTo 0 = .ok (.iconst 0, 1) := dk_3 (dk_at dksX6_badUpTo_0 0 rfl rfl)
theorem dX6_badUpTo_1 : decode cX6_badUpTo 1 = .ok (.istore_n 2, 1) := dk_61 (dk_at dksX6_badUpTo_0 1 rfl rfl)
theorem dX6_badUpTo_2 : decode cX6_badUpTo 2 = .ok (.iconst 2, 1) := dk_5 (dk_at dksX6_badUpTo_0 2 rfl rfl)
theorem dX6_badUpTo_3 : decode cX6_badUpTo 3 = .ok (.istore_n 3, 1) := dk_62 (dk_at dksX6_badUpTo_0 3 rfl rfl)
theorem dX6_badUpTo_4 : decode cX6_badUpTo 4 = .ok (.iload_n 3, 1) := dk_29 (dk_at dksX6_badUpTo_0 4 rfl rfl)
theorem dX6_badUpTo_5 : decode cX6_badUpTo 5 = .ok (.iload_n 1, 1) := dk_27 (dk_at dksX6_badUpTo_0 5 rfl rfl)
theorem dX6_badUpTo_6 : decode cX6_badUpTo 6 = .ok (.if_icmp .gt 17, 3) := dk_163 0 17 (dk_at dksX6_badUpTo_0 6 rfl rfl)
theorem dX6_badUpTo_9 : decode cX6_badUpTo 9 = .ok (.iload_n 2, 1) := dk_28 (dk_at dksX6_badUpTo_0 9 rfl rfl)
theorem dX6_badUpTo_10 : decode cX6_badUpTo 10 = .ok (.aload_n 0, 1) := dk_42 (dk_at dksX6_badUpTo_0 10 rfl rfl)
theorem dX6_badUpTo_11 : decode cX6_badUpTo 11 = .ok (.iload_n 3, 1) := dk_29 (dk_at dksX6_badUpTo_0 11 rfl rfl)
theorem dX6_badUpTo_12 : decode cX6_badUpTo 12 = .ok (.invokevirtual 125, 3) := dk_182 0 125 (dk_at dksX6_badUpTo_0 12 rfl rfl)
theorem dX6_badUpTo_15 : decode cX6_badUpTo 15 = .ok (.iadd, 1) := dk_96 (dk_at dksX6_badUpTo_0 15 rfl rfl)
theorem dX6_badUpTo_16 : decode cX6_badUpTo 16 = .ok (.istore_n 2, 1) := dk_61 (dk_at dksX6_badUpTo_0 16 rfl rfl)
theorem dX6_badUpTo_17 : decode cX6_badUpTo 17 = .ok (.iinc 3 1, 3) := dk_132 3 1 (dk_at dksX6_badUpTo_0 17 rfl rfl)
theorem dX6_badUpTo_20 : decode cX6_badUpTo 20 = .ok (.goto (-16), 3) := dk_167 255 240 (dk_at dksX6_badUpTo_0 20 rfl rfl)
theorem dX6_badUpTo_23 : decode cX6_badUpTo 23 = .ok (.iload_n 2, 1) := dk_28 (dk_at dksX6_badUpTo_0 23 rfl rfl)
theorem dX6_badUpTo_24 : decode cX6_badUpTo 24 = .ok (.ireturn, 1) := dk_172 (dk_at dksX6_badUpTo_1 0 rfl rfl)
abbrev cX6_wipe : ByteArray := prog_9_method_40_code
def yX6_wipe : MethodName := ⟨RX6, "wipe", "(I)I"⟩
def dkwX6_wipe_2 : List UInt8 := [27, 2, 79, 42, 89, 180, 0, 104, 4, 96, 181, 0, 104, 28, 172]
abbrev dktX6_wipe_2 : List UInt8 := dkwX6_wipe_2 ++ []
def dkwX6_wipe_1 : List UInt8 := [42, 180, 0, 104, 17, 3, 231, 160, 0, 6, 16, 152, 172, 42, 180, 0, 13, 27, 46, 61, 42, 180, 0, 13]
abbrev dktX6_wipe_1 : List UInt8 := dkwX6_wipe_1 ++ dktX6_wipe_2
def dkwX6_wipe_0 : List UInt8 := [42, 27, 182, 0, 149, 154, 0, 6, 16, 155, 172, 42, 180, 0, 13, 27, 46, 2, 160, 0, 6, 16, 153, 172]
abbrev dktX6_wipe_0 : List UInt8 := dkwX6_wipe_0 ++ dktX6_wipe_1
theorem dksX6_wipe_0 : cX6_wipe.data.toList.drop 0 = dktX6_wipe_0 := by decide +kernel
theorem dksX6_wipe_1 : cX6_wipe.data.toList.drop 24 = dktX6_wipe_1 := dk_seg dksX6_wipe_0 24 rfl rfl
theorem dksX6_wipe_2 : cX6_wipe.data.toList.drop 48 = dktX6_wipe_2 := dk_seg dksX6_wipe_1 24 rfl rfl
theorem dX6_wipe_0 : decode cX6_wipe 0 = .ok (.aload_n 0, 1) := dk_42 (dk_at dksX6_wipe_0 0 rfl rfl)
theorem dX6_wipe_1 : decode cX6_wipe 1 = .ok (.iload_n 1, 1) := dk_27 (dk_at dksX6_wipe_0 1 rfl rfl)
theorem dX6_wipe_2 : decode cX6_wipe 2 = .ok (.invokevirtual 149, 3) := dk_182 0 149 (dk_at dksX6_wipe_0 2 rfl rfl)
theorem dX6_wipe_5 : decode cX6_wipe 5 = .ok (.ifCond .ne 6, 3) := dk_154 0 6 (dk_at dksX6_wipe_0 5 rfl rfl)
theorem dX6_wipe_8 : decode cX6_wipe 8 = .ok (.bipush (-101), 2) := dk_16 155 (dk_at dksX6_wipe_0 8 rfl rfl)
theorem dX6_wipe_10 : decode cX6_wipe 10 = .ok (.ireturn, 1) := dk_172 (dk_at dksX6_wipe_0 10 rfl rfl)
theorem dX6_wipe_11 : decode cX6_wipe 11 = .ok (.aload_n 0, 1) := dk_42 (dk_at dksX6_wipe_0 11 rfl rfl)
theorem dX6_wipe_12 : decode cX6_wipe 12 = .ok (.getfield 13, 3) := dk_180 0 13 (dk_at dksX6_wipe_0 12 rfl rfl)
theorem dX6_wipe_15 : decode cX6_wipe 15 = .ok (.iload_n 1, 1) := dk_27 (dk_at dksX6_wipe_0 15 rfl rfl)
theorem dX6_wipe_16 : decode cX6_wipe 16 = .ok (.iaload, 1) := dk_46 (dk_at dksX6_wipe_0 16 rfl rfl)
theorem dX6_wipe_17 : decode cX6_wipe 17 = .ok (.iconst (-1), 1) := dk_2 (dk_at dksX6_wipe_0 17 rfl rfl)
theorem dX6_wipe_18 : decode cX6_wipe 18 = .ok (.if_icmp .ne 6, 3) := dk_160 0 6 (dk_at dksX6_wipe_0 18 rfl rfl)
theorem dX6_wipe_21 : decode cX6_wipe 21 = .ok (.bipush (-103), 2) := dk_16 153 (dk_at dksX6_wipe_0 21 rfl rfl)
theorem dX6_wipe_23 : decode cX6_wipe 23 = .ok (.ireturn, 1) := dk_172 (dk_at dksX6_wipe_0 23 rfl rfl)
theorem dX6_wipe_24 : decode cX6_wipe 24 = .ok (.aload_n 0, 1) := dk_42 (dk_at dksX6_wipe_1 0 rfl rfl)
theorem dX6_wipe_25 : decode cX6_wipe 25 = .ok (.getfield 104, 3) := dk_180 0 104 (dk_at dksX6_wipe_1 1 rfl rfl)
theorem dX6_wipe_28 : decode cX6_wipe 28 = .ok (.sipush 999, 3) := dk_17 3 231 (dk_at dksX6_wipe_1 4 rfl rfl)
theorem dX6_wipe_31 : decode cX6_wipe 31 = .ok (.if_icmp .ne 6, 3) := dk_160 0 6 (dk_at dksX6_wipe_1 7 rfl rfl)
theorem dX6_wipe_34 : decode cX6_wipe 34 = .ok (.bipush (-104), 2) := dk_16 152 (dk_at dksX6_wipe_1 10 rfl rfl)
theorem dX6_wipe_36 : decode cX6_wipe 36 = .ok (.ireturn, 1) := dk_172 (dk_at dksX6_wipe_1 12 rfl rfl)
theorem dX6_wipe_37 : decode cX6_wipe 37 = .ok (.aload_n 0, 1) := dk_42 (dk_at dksX6_wipe_1 13 rfl rfl)
theorem dX6_wipe_38 : decode cX6_wipe 38 = .ok (.getfield 13, 3) := dk_180 0 13 (dk_at dksX6_wipe_1 14 rfl rfl)
theorem dX6_wipe_41 : decode cX6_wipe 41 = .ok (.iload_n 1, 1) := dk_27 (dk_at dksX6_wipe_1 17 rfl rfl)
theorem dX6_wipe_42 : decode cX6_wipe 42 = .ok (.iaload, 1) := dk_46 (dk_at dksX6_wipe_1 18 rfl rfl)
theorem dX6_wipe_43 : decode cX6_wipe 43 = .ok (.istore_n 2, 1) := dk_61 (dk_at dksX6_wipe_1 19 rfl rfl)
theorem dX6_wipe_44 : decode cX6_wipe 44 = .ok (.aload_n 0, 1) := dk_42 (dk_at dksX6_wipe_1 20 rfl rfl)
theorem dX6_wipe_45 : decode cX6_wipe 45 = .ok (.getfield 13, 3) := dk_180 0 13 (dk_at dksX6_wipe_1 21 rfl rfl)
theorem dX6_wipe_48 : decode cX6_wipe 48 = .ok (.iload_n 1, 1) := dk_27 (dk_at dksX6_wipe_2 0 rfl rfl)
theorem dX6_wipe_49 : decode cX6_wipe 49 = .ok (.iconst (-1), 1) := dk_2 (dk_at dksX6_wipe_2 1 rfl rfl)
theorem dX6_wipe_50 : decode cX6_wipe 50 = .ok (.iastore, 1) := dk_79 (dk_at dksX6_wipe_2 2 rfl rfl)
theorem dX6_wipe_51 : decode cX6_wipe 51 = .ok (.aload_n 0, 1) := dk_42 (dk_at dksX6_wipe_2 3 rfl rfl)
theorem dX6_wipe_52 : decode cX6_wipe 52 = .ok (.dup, 1) := dk_89 (dk_at dksX6_wipe_2 4 rfl rfl)
theorem dX6_wipe_53 : decode cX6_wipe 53 = .ok (.getfield 104, 3) := dk_180 0 104 (dk_at dksX6_wipe_2 5 rfl rfl)
theorem dX6_wipe_56 : decode cX6_wipe 56 = .ok (.iconst 1, 1) := dk_4 (dk_at dksX6_wipe_2 8 rfl rfl)
theorem dX6_wipe_57 : decode cX6_wipe 57 = .ok (.iadd, 1) := dk_96 (dk_at dksX6_wipe_2 9 rfl rfl)
theorem dX6_wipe_58 : decode cX6_wipe 58 = .ok (.putfield 104, 3) := dk_181 0 104 (dk_at dksX6_wipe_2 10 rfl rfl)
theorem dX6_wipe_61 : decode cX6_wipe 61 = .ok (.iload_n 2, 1) := dk_28 (dk_at dksX6_wipe_2 13 rfl rfl)
theorem dX6_wipe_62 : decode cX6_wipe 62 = .ok (.ireturn, 1) := dk_172 (dk_at dksX6_wipe_2 14 rfl rfl)
abbrev cX6_be : ByteArray := prog_9_method_41_code
def yX6_be : MethodName := ⟨RX6, "be", "(II)I"⟩
def dkwX6_be_1 : List UInt8 := [180, 0, 7, 27, 46, 62, 42, 180, 0, 7, 27, 28, 79, 29, 172]
abbrev dktX6_be_1 : List UInt8 := dkwX6_be_1 ++ []
def dkwX6_be_0 : List UInt8 := [42, 27, 182, 0, 149, 154, 0, 6, 16, 155, 172, 28, 3, 7, 184, 0, 65, 154, 0, 6, 16, 154, 172, 42]
abbrev dktX6_be_0 : List UInt8 := dkwX6_be_0 ++ dktX6_be_1
theorem dksX6_be_0 : cX6_be.data.toList.drop 0 = dktX6_be_0 := by decide +kernel
theorem dksX6_be_1 : cX6_be.data.toList.drop 24 = dktX6_be_1 := dk_seg dksX6_be_0 24 rfl rfl
theorem dX6_be_0 : decode cX6_be 0 = .ok (.aload_n 0, 1) := dk_42 (dk_at dksX6_be_0 0 rfl rfl)
theorem dX6_be_1 : decode cX6_be 1 = .ok (.iload_n 1, 1) := dk_27 (dk_at dksX6_be_0 1 rfl rfl)
theorem dX6_be_2 : decode cX6_be 2 = .ok (.invokevirtual 149, 3) := dk_182 0 149 (dk_at dksX6_be_0 2 rfl rfl)
theorem dX6_be_5 : decode cX6_be 5 = .ok (.ifCond .ne 6, 3) := dk_154 0 6 (dk_at dksX6_be_0 5 rfl rfl)
theorem dX6_be_8 : decode cX6_be 8 = .ok (.bipush (-101), 2) := dk_16 155 (dk_at dksX6_be_0 8 rfl rfl)
theorem dX6_be_10 : decode cX6_be 10 = .ok (.ireturn, 1) := dk_172 (dk_at dksX6_be_0 10 rfl rfl)
theorem dX6_be_11 : decode cX6_be 11 = .ok (.iload_n 2, 1) := dk_28 (dk_at dksX6_be_0 11 rfl rfl)
theorem dX6_be_12 : decode cX6_be 12 = .ok (.iconst 0, 1) := dk_3 (dk_at dksX6_be_0 12 rfl rfl)
theorem dX6_be_13 : decode cX6_be 13 = .ok (.iconst 4, 1) := dk_7 (dk_at dksX6_be_0 13 rfl rfl)
theorem dX6_be_14 : decode cX6_be 14 = .ok (.invokestatic 65, 3) := dk_184 0 65 (dk_at dksX6_be_0 14 rfl rfl)
theorem dX6_be_17 : decode cX6_be 17 = .ok (.ifCond .ne 6, 3) := dk_154 0 6 (dk_at dksX6_be_0 17 rfl rfl)
theorem dX6_be_20 : decode cX6_be 20 = .ok (.bipush (-102), 2) := dk_16 154 (dk_at dksX6_be_0 20 rfl rfl)
theorem dX6_be_22 : decode cX6_be 22 = .ok (.ireturn, 1) := dk_172 (dk_at dksX6_be_0 22 rfl rfl)
theorem dX6_be_23 : decode cX6_be 23 = .ok (.aload_n 0, 1) := dk_42 (dk_at dksX6_be_0 23 rfl rfl)
theorem dX6_be_24 : decode cX6_be 24 = .ok (.getfield 7, 3) := dk_180 0 7 (dk_at dksX6_be_1 0 rfl rfl)
theorem dX6_be_27 : decode cX6_be 27 = .ok (.iload_n 1, 1) := dk_27 (dk_at dksX6_be_1 3 rfl rfl)
theorem dX6_be_28 : decode cX6_be 28 = .ok (.iaload, 1) := dk_46 (dk_at dksX6_be_1 4 rfl rfl)
theorem dX6_be_29 : decode cX6_be 29 = .ok (.istore_n 3, 1) := dk_62 (dk_at dksX6_be_1 5 rfl rfl)
theorem dX6_be_30 : decode cX6_be 30 = .ok (.aload_n 0, 1) := dk_42 (dk_at dksX6_be_1 6 rfl rfl)
theorem dX6_be_31 : decode cX6_be 31 = .ok (.getfield 7, 3) := dk_180 0 7 (dk_at dksX6_be_1 7 rfl rfl)
theorem dX6_be_34 : decode cX6_be 34 = .ok (.iload_n 1, 1) := dk_27 (dk_at dksX6_be_1 10 rfl rfl)
theorem dX6_be_35 : decode cX6_be 35 = .ok (.iload_n 2, 1) := dk_28 (dk_at dksX6_be_1 11 rfl rfl)
theorem dX6_be_36 : decode cX6_be 36 = .ok (.iastore, 1) := dk_79 (dk_at dksX6_be_1 12 rfl rfl)
theorem dX6_be_37 : decode cX6_be 37 = .ok (.iload_n 3, 1) := dk_29 (dk_at dksX6_be_1 13 rfl rfl)
theorem dX6_be_38 : decode cX6_be 38 = .ok (.ireturn, 1) := dk_172 (dk_at dksX6_be_1 14 rfl rfl)
abbrev cX6_mend : ByteArray := prog_9_method_43_code
def yX6_mend : MethodName := ⟨RX6, "mend", "()I"⟩
def dkwX6_mend_0 : List UInt8 := [42, 180, 0, 101, 154, 0, 8, 16, 153, 167, 0, 7, 42, 182, 0, 184, 172]
abbrev dktX6_mend_0 : List UInt8 := dkwX6_mend_0 ++ []
theorem dksX6_mend_0 : cX6_mend.data.toList.drop 0 = dktX6_mend_0 := by decide +kernel
theorem dX6_mend_0 : decode cX6_mend 0 = .ok (.aload_n 0, 1) := dk_42 (dk_at dksX6_mend_0 0 rfl rfl)
theorem dX6_mend_1 : decode cX6_mend 1 = .ok (.getfield 101, 3) := dk_180 0 101 (dk_at dksX6_mend_0 1 rfl rfl)
theorem dX6_mend_4 : decode cX6_mend 4 = .ok (.ifCond .ne 8, 3) := dk_154 0 8 (dk_at dksX6_mend_0 4 rfl rfl)
theorem dX6_mend_7 : decode cX6_mend 7 = .ok (.bipush (-103), 2) := dk_16 153 (dk_at dksX6_mend_0 7 rfl rfl)
theorem dX6_mend_9 : decode cX6_mend 9 = .ok (.goto 7, 3) := dk_167 0 7 (dk_at dksX6_mend_0 9 rfl rfl)
theorem dX6_mend_12 : decode cX6_mend 12 = .ok (.aload_n 0, 1) := dk_42 (dk_at dksX6_mend_0 12 rfl rfl)
theorem dX6_mend_13 : decode cX6_mend 13 = .ok (.invokevirtual 184, 3) := dk_182 0 184 (dk_at dksX6_mend_0 13 rfl rfl)
theorem dX6_mend_16 : decode cX6_mend 16 = .ok (.ireturn, 1) := dk_172 (dk_at dksX6_mend_0 16 rfl rfl)
abbrev cX6_mendNow : ByteArray := prog_9_method_42_code
def yX6_mendNow : MethodName := ⟨RX6, "mendNow", "()I"⟩
def dkwX6_mendNow_7 : List UInt8 := [79, 132, 3, 1, 167, 255, 233, 27, 18, 183, 160, 0, 7, 2, 167, 0, 4, 27, 172]
abbrev dktX6_mendNow_7 : List UInt8 := dkwX6_mendNow_7 ++ []
def dkwX6_mendNow_6 : List UInt8 := [167, 255, 168, 4, 62, 29, 42, 180, 0, 101, 163, 0, 21, 42, 180, 0, 13, 29, 42, 180, 0, 38, 29, 46]
abbrev dktX6_mendNow_6 : List UInt8 := dkwX6_mendNow_6 ++ dktX6_mendNow_7
def dkwX6_mendNow_5 : List UInt8 := [167, 0, 4, 27, 60, 42, 42, 42, 180, 0, 101, 182, 0, 155, 42, 180, 0, 101, 182, 0, 161, 61]
abbrev dktX6_mendNow_5 : List UInt8 := dkwX6_mendNow_5 ++ dktX6_mendNow_6
def dkwX6_mendNow_4 : List UInt8 := [159, 0, 7, 4, 167, 0, 4, 3, 96, 62, 132, 4, 1, 167, 255, 208, 29, 27, 162, 0, 7, 29]
abbrev dktX6_mendNow_4 : List UInt8 := dkwX6_mendNow_4 ++ dktX6_mendNow_5
def dkwX6_mendNow_3 : List UInt8 := [180, 0, 38, 21, 4, 46, 2, 159, 0, 24, 42, 180, 0, 38, 21, 4, 46, 42, 180, 0, 29, 21, 4, 46]
abbrev dktX6_mendNow_3 : List UInt8 := dkwX6_mendNow_3 ++ dktX6_mendNow_4
def dkwX6_mendNow_2 : List UInt8 := [182, 0, 161, 61, 28, 158, 0, 90, 3, 62, 4, 54, 4, 21, 4, 42, 180, 0, 101, 163, 0, 45, 29, 42]
abbrev dktX6_mendNow_2 : List UInt8 := dkwX6_mendNow_2 ++ dktX6_mendNow_3
def dkwX6_mendNow_1 : List UInt8 := [79, 42, 180, 0, 13, 28, 2, 79, 132, 2, 1, 167, 255, 226, 42, 182, 0, 128, 42, 4, 42, 180, 0, 101]
abbrev dktX6_mendNow_1 : List UInt8 := dkwX6_mendNow_1 ++ dktX6_mendNow_2
def dkwX6_mendNow_0 : List UInt8 := [18, 183, 60, 4, 61, 28, 42, 180, 0, 101, 163, 0, 28, 42, 180, 0, 38, 28, 42, 180, 0, 13, 28, 46]
abbrev dktX6_mendNow_0 : List UInt8 := dkwX6_mendNow_0 ++ dktX6_mendNow_1
theorem dksX6_mendNow_0 : cX6_mendNow.data.toList.drop 0 = dktX6_mendNow_0 := by decide +kernel
theorem dksX6_mendNow_1 : cX6_mendNow.data.toList.drop 24 = dktX6_mendNow_1 := dk_seg dksX6_mendNow_0 24 rfl rfl
theorem dksX6_mendNow_2 : cX6_mendNow.data.toList.drop 48 = dktX6_mendNow_2 := dk_seg dksX6_mendNow_1 24 rfl rfl
theorem dksX6_mendNow_3 : cX6_mendNow.data.toList.drop 72 = dktX6_mendNow_3 := dk_seg dksX6_mendNow_2 24 rfl rfl
theorem dksX6_mendNow_4 : cX6_mendNow.data.toList.drop 96 = dktX6_mendNow_4 := dk_seg dksX6_mendNow_3 24 rfl rfl
theorem dksX6_mendNow_5 : cX6_mendNow.data.toList.drop 118 = dktX6_mendNow_5 := dk_seg dksX6_mendNow_4 22 rfl rfl
theorem dksX6_mendNow_6 : cX6_mendNow.data.toList.drop 140 = dktX6_mendNow_6 := dk_seg dksX6_mendNow_5 22 rfl rfl
theorem dksX6_mendNow_7 : cX6_mendNow.data.toList.drop 164 = dktX6_mendNow_7 := dk_seg dksX6_mendNow_6 24 rfl rfl
theorem dX6_mendNow_0 : decode cX6_mendNow 0 = .ok (.ldc 183, 2) := dk_18 183 (dk_at dksX6_mendNow_0 0 rfl rfl)
theorem dX6_mendNow_2 : decode cX6_mendNow 2 = .ok (.istore_n 1, 1) := dk_60 (dk_at dksX6_mendNow_0 2 rfl rfl)
theorem dX6_mendNow_3 : decode cX6_mendNow 3 = .ok (.iconst 1, 1) := dk_4 (dk_at dksX6_mendNow_0 3 rfl rfl)
theorem dX6_mendNow_4 : decode cX6_mendNow 4 = .ok (.istore_n 2, 1) := dk_61 (dk_at dksX6_mendNow_0 4 rfl rfl)
theorem dX6_mendNow_5 : decode cX6_mendNow 5 = .ok (.iload_n 2, 1) := dk_28 (dk_at dksX6_mendNow_0 5 rfl rfl)
theorem dX6_mendNow_6 : decode cX6_mendNow 6 = .ok (.aload_n 0, 1) := dk_42 (dk_at dksX6_mendNow_0 6 rfl rfl)
theorem dX6_mendNow_7 : decode cX6_mendNow 7 = .ok (.getfield 101, 3) := dk_180 0 101 (dk_at dksX6_mendNow_0 7 rfl rfl)
theorem dX6_mendNow_10 : decode cX6_mendNow 10 = .ok (.if_icmp .gt 28, 3) := dk_163 0 28 (dk_at dksX6_mendNow_0 10 rfl rfl)
theorem dX6_mendNow_13 : decode cX6_mendNow 13 = .ok (.aload_n 0, 1) := dk_42 (dk_at dksX6_mendNow_0 13 rfl rfl)
theorem dX6_mendNow_14 : decode cX6_mendNow 14 = .ok (.getfield 38, 3) := dk_180 0 38 (dk_at dksX6_mendNow_0 14 rfl rfl)
theorem dX6_mendNow_17 : decode cX6_mendNow 17 = .ok (.iload_n 2, 1) := dk_28 (dk_at dksX6_mendNow_0 17 rfl rfl)
theorem dX6_mendNow_18 : decode cX6_mendNow 18 = .ok (.aload_n 0, 1) := dk_42 (dk_at dksX6_mendNow_0 18 rfl rfl)
theorem dX6_mendNow_19 : decode cX6_mendNow 19 = .ok (.getfield 13, 3) := dk_180 0 13 (dk_at dksX6_mendNow_0 19 rfl rfl)
theorem dX6_mendNow_22 : decode cX6_mendNow 22 = .ok (.iload_n 2, 1) := dk_28 (dk_at dksX6_mendNow_0 22 rfl rfl)
theorem dX6_mendNow_23 : decode cX6_mendNow 23 = .ok (.iaload, 1) := dk_46 (dk_at dksX6_mendNow_0 23 rfl rfl)
theorem dX6_mendNow_24 : decode cX6_mendNow 24 = .ok (.iastore, 1) := dk_79 (dk_at dksX6_mendNow_1 0 rfl rfl)
theorem dX6_mendNow_25 : decode cX6_mendNow 25 = .ok (.aload_n 0, 1) := dk_42 (dk_at dksX6_mendNow_1 1 rfl rfl)
theorem dX6_mendNow_26 : decode cX6_mendNow 26 = .ok (.getfield 13, 3) := dk_180 0 13 (dk_at dksX6_mendNow_1 2 rfl rfl)
theorem dX6_mendNow_29 : decode cX6_mendNow 29 = .ok (.iload_n 2, 1) := dk_28 (dk_at dksX6_mendNow_1 5 rfl rfl)
theorem dX6_mendNow_30 : decode cX6_mendNow 30 = .ok (.iconst (-1), 1) := dk_2 (dk_at dksX6_mendNow_1 6 rfl rfl)
theorem dX6_mendNow_31 : decode cX6_mendNow 31 = .ok (.iastore, 1) := dk_79 (dk_at dksX6_mendNow_1 7 rfl rfl)
theorem dX6_mendNow_32 : decode cX6_mendNow 32 = .ok (.iinc 2 1, 3) := dk_132 2 1 (dk_at dksX6_mendNow_1 8 rfl rfl)
theorem dX6_mendNow_35 : decode cX6_mendNow 35 = .ok (.goto (-30), 3) := dk_167 255 226 (dk_at dksX6_mendNow_1 11 rfl rfl)
theorem dX6_mendNow_38 : decode cX6_mendNow 38 = .ok (.aload_n 0, 1) := dk_42 (dk_at dksX6_mendNow_1 14 rfl rfl)
theorem dX6_mendNow_39 : decode cX6_mendNow 39 = .ok (.invokevirtual 128, 3) := dk_182 0 128 (dk_at dksX6_mendNow_1 15 rfl rfl)
theorem dX6_mendNow_42 : decode cX6_mendNow 42 = .ok (.aload_n 0, 1) := dk_42 (dk_at dksX6_mendNow_1 18 rfl rfl)
theorem dX6_mendNow_43 : decode cX6_mendNow 43 = .ok (.iconst 1, 1) := dk_4 (dk_at dksX6_mendNow_1 19 rfl rfl)
theorem dX6_mendNow_44 : decode cX6_mendNow 44 = .ok (.aload_n 0, 1) := dk_42 (dk_at dksX6_mendNow_1 20 rfl rfl)
theorem dX6_mendNow_45 : decode cX6_mendNow 45 = .ok (.getfield 101, 3) := dk_180 0 101 (dk_at dksX6_mendNow_1 21 rfl rfl)
theorem dX6_mendNow_48 : decode cX6_mendNow 48 = .ok (.invokevirtual 161, 3) := dk_182 0 161 (dk_at dksX6_mendNow_2 0 rfl rfl)
theorem dX6_mendNow_51 : decode cX6_mendNow 51 = .ok (.istore_n 2, 1) := dk_61 (dk_at dksX6_mendNow_2 3 rfl rfl)
theorem dX6_mendNow_52 : decode cX6_mendNow 52 = .ok (.iload_n 2, 1) := dk_28 (dk_at dksX6_mendNow_2 4 rfl rfl)
theorem dX6_mendNow_53 : decode cX6_mendNow 53 = .ok (.ifCond .le 90, 3) := dk_158 0 90 (dk_at dksX6_mendNow_2 5 rfl rfl)
theorem dX6_mendNow_56 : decode cX6_mendNow 56 = .ok (.iconst 0, 1) := dk_3 (dk_at dksX6_mendNow_2 8 rfl rfl)
theorem dX6_mendNow_57 : decode cX6_mendNow 57 = .ok (.istore_n 3, 1) := dk_62 (dk_at dksX6_mendNow_2 9 rfl rfl)
theorem dX6_mendNow_58 : decode cX6_mendNow 58 = .ok (.iconst 1, 1) := dk_4 (dk_at dksX6_mendNow_2 10 rfl rfl)
theorem dX6_mendNow_59 : decode cX6_mendNow 59 = .ok (.istore 4, 2) := dk_54 4 (dk_at dksX6_mendNow_2 11 rfl rfl)
theorem dX6_mendNow_61 : decode cX6_mendNow 61 = .ok (.iload 4, 2) := dk_21 4 (dk_at dksX6_mendNow_2 13 rfl rfl)
theorem dX6_mendNow_63 : decode cX6_mendNow 63 = .ok (.aload_n 0, 1) := dk_42 (dk_at dksX6_mendNow_2 15 rfl rfl)
theorem dX6_mendNow_64 : decode cX6_mendNow 64 = .ok (.getfield 101, 3) := dk_180 0 101 (dk_at dksX6_mendNow_2 16 rfl rfl)
theorem dX6_mendNow_67 : decode cX6_mendNow 67 = .ok (.if_icmp .gt 45, 3) := dk_163 0 45 (dk_at dksX6_mendNow_2 19 rfl rfl)
theorem dX6_mendNow_70 : decode cX6_mendNow 70 = .ok (.iload_n 3, 1) := dk_29 (dk_at dksX6_mendNow_2 22 rfl rfl)
theorem dX6_mendNow_71 : decode cX6_mendNow 71 = .ok (.aload_n 0, 1) := dk_42 (dk_at dksX6_mendNow_2 23 rfl rfl)
theorem dX6_mendNow_72 : decode cX6_mendNow 72 = .ok (.getfield 38, 3) := dk_180 0 38 (dk_at dksX6_mendNow_3 0 rfl rfl)
theorem dX6_mendNow_75 : decode cX6_mendNow 75 = .ok (.iload 4, 2) := dk_21 4 (dk_at dksX6_mendNow_3 3 rfl rfl)
theorem dX6_mendNow_77 : decode cX6_mendNow 77 = .ok (.iaload, 1) := dk_46 (dk_at dksX6_mendNow_3 5 rfl rfl)
theorem dX6_mendNow_78 : decode cX6_mendNow 78 = .ok (.iconst (-1), 1) := dk_2 (dk_at dksX6_mendNow_3 6 rfl rfl)
theorem dX6_mendNow_79 : decode cX6_mendNow 79 = .ok (.if_icmp .eq 24, 3) := dk_159 0 24 (dk_at dksX6_mendNow_3 7 rfl rfl)
theorem dX6_mendNow_82 : decode cX6_mendNow 82 = .ok (.aload_n 0, 1) := dk_42 (dk_at dksX6_mendNow_3 10 rfl rfl)
theorem dX6_mendNow_83 : decode cX6_mendNow 83 = .ok (.getfield 38, 3) := dk_180 0 38 (dk_at dksX6_mendNow_3 11 rfl rfl)
theorem dX6_mendNow_86 : decode cX6_mendNow 86 = .ok (.iload 4, 2) := dk_21 4 (dk_at dksX6_mendNow_3 14 rfl rfl)
theorem dX6_mendNow_88 : decode cX6_mendNow 88 = .ok (.iaload, 1) := dk_46 (dk_at dksX6_mendNow_3 16 rfl rfl)
theorem dX6_mendNow_89 : decode cX6_mendNow 89 = .ok (.aload_n 0, 1) := dk_42 (dk_at dksX6_mendNow_3 17 rfl rfl)
theorem dX6_mendNow_90 : decode cX6_mendNow 90 = .ok (.getfield 29, 3) := dk_180 0 29 (dk_at dksX6_mendNow_3 18 rfl rfl)
theorem dX6_mendNow_93 : decode cX6_mendNow 93 = .ok (.iload 4, 2) := dk_21 4 (dk_at dksX6_mendNow_3 21 rfl rfl)
theorem dX6_mendNow_95 : decode cX6_mendNow 95 = .ok (.iaload, 1) := dk_46 (dk_at dksX6_mendNow_3 23 rfl rfl)
theorem dX6_mendNow_96 : decode cX6_mendNow 96 = .ok (.if_icmp .eq 7, 3) := dk_159 0 7 (dk_at dksX6_mendNow_4 0 rfl rfl)
theorem dX6_mendNow_99 : decode cX6_mendNow 99 = .ok (.iconst 1, 1) := dk_4 (dk_at dksX6_mendNow_4 3 rfl rfl)
theorem dX6_mendNow_100 : decode cX6_mendNow 100 = .ok (.goto 4, 3) := dk_167 0 4 (dk_at dksX6_mendNow_4 4 rfl rfl)
theorem dX6_mendNow_103 : decode cX6_mendNow 103 = .ok (.iconst 0, 1) := dk_3 (dk_at dksX6_mendNow_4 7 rfl rfl)
theorem dX6_mendNow_104 : decode cX6_mendNow 104 = .ok (.iadd, 1) := dk_96 (dk_at dksX6_mendNow_4 8 rfl rfl)
theorem dX6_mendNow_105 : decode cX6_mendNow 105 = .ok (.istore_n 3, 1) := dk_62 (dk_at dksX6_mendNow_4 9 rfl rfl)
theorem dX6_mendNow_106 : decode cX6_mendNow 106 = .ok (.iinc 4 1, 3) := dk_132 4 1 (dk_at dksX6_mendNow_4 10 rfl rfl)
theorem dX6_mendNow_109 : decode cX6_mendNow 109 = .ok (.goto (-48), 3) := dk_167 255 208 (dk_at dksX6_mendNow_4 13 rfl rfl)
theorem dX6_mendNow_112 : decode cX6_mendNow 112 = .ok (.iload_n 3, 1) := dk_29 (dk_at dksX6_mendNow_4 16 rfl rfl)
theorem dX6_mendNow_113 : decode cX6_mendNow 113 = .ok (.iload_n 1, 1) := dk_27 (dk_at dksX6_mendNow_4 17 rfl rfl)
theorem dX6_mendNow_114 : decode cX6_mendNow 114 = .ok (.if_icmp .ge 7, 3) := dk_162 0 7 (dk_at dksX6_mendNow_4 18 rfl rfl)
theorem dX6_mendNow_117 : decode cX6_mendNow 117 = .ok (.iload_n 3, 1) := dk_29 (dk_at dksX6_mendNow_4 21 rfl rfl)
theorem dX6_mendNow_118 : decode cX6_mendNow 118 = .ok (.goto 4, 3) := dk_167 0 4 (dk_at dksX6_mendNow_5 0 rfl rfl)
theorem dX6_mendNow_121 : decode cX6_mendNow 121 = .ok (.iload_n 1, 1) := dk_27 (dk_at dksX6_mendNow_5 3 rfl rfl)
theorem dX6_mendNow_122 : decode cX6_mendNow 122 = .ok (.istore_n 1, 1) := dk_60 (dk_at dksX6_mendNow_5 4 rfl rfl)
theorem dX6_mendNow_123 : decode cX6_mendNow 123 = .ok (.aload_n 0, 1) := dk_42 (dk_at dksX6_mendNow_5 5 rfl rfl)
theorem dX6_mendNow_124 : decode cX6_mendNow 124 = .ok (.aload_n 0, 1) := dk_42 (dk_at dksX6_mendNow_5 6 rfl rfl)
theorem dX6_mendNow_125 : decode cX6_mendNow 125 = .ok (.aload_n 0, 1) := dk_42 (dk_at dksX6_mendNow_5 7 rfl rfl)
theorem dX6_mendNow_126 : decode cX6_mendNow 126 = .ok (.getfield 101, 3) := dk_180 0 101 (dk_at dksX6_mendNow_5 8 rfl rfl)
theorem dX6_mendNow_129 : decode cX6_mendNow 129 = .ok (.invokevirtual 155, 3) := dk_182 0 155 (dk_at dksX6_mendNow_5 11 rfl rfl)
theorem dX6_mendNow_132 : decode cX6_mendNow 132 = .ok (.aload_n 0, 1) := dk_42 (dk_at dksX6_mendNow_5 14 rfl rfl)
theorem dX6_mendNow_133 : decode cX6_mendNow 133 = .ok (.getfield 101, 3) := dk_180 0 101 (dk_at dksX6_mendNow_5 15 rfl rfl)
theorem dX6_mendNow_136 : decode cX6_mendNow 136 = .ok (.invokevirtual 161, 3) := dk_182 0 161 (dk_at dksX6_mendNow_5 18 rfl rfl)
theorem dX6_mendNow_139 : decode cX6_mendNow 139 = .ok (.istore_n 2, 1) := dk_61 (dk_at dksX6_mendNow_5 21 rfl rfl)
theorem dX6_mendNow_140 : decode cX6_mendNow 140 = .ok (.goto (-88), 3) := dk_167 255 168 (dk_at dksX6_mendNow_6 0 rfl rfl)
theorem dX6_mendNow_143 : decode cX6_mendNow 143 = .ok (.iconst 1, 1) := dk_4 (dk_at dksX6_mendNow_6 3 rfl rfl)
theorem dX6_mendNow_144 : decode cX6_mendNow 144 = .ok (.istore_n 3, 1) := dk_62 (dk_at dksX6_mendNow_6 4 rfl rfl)
theorem dX6_mendNow_145 : decode cX6_mendNow 145 = .ok (.iload_n 3, 1) := dk_29 (dk_at dksX6_mendNow_6 5 rfl rfl)
theorem dX6_mendNow_146 : decode cX6_mendNow 146 = .ok (.aload_n 0, 1) := dk_42 (dk_at dksX6_mendNow_6 6 rfl rfl)
theorem dX6_mendNow_147 : decode cX6_mendNow 147 = .ok (.getfield 101, 3) := dk_180 0 101 (dk_at dksX6_mendNow_6 7 rfl rfl)
theorem dX6_mendNow_150 : decode cX6_mendNow 150 = .ok (.if_icmp .gt 21, 3) := dk_163 0 21 (dk_at dksX6_mendNow_6 10 rfl rfl)
theorem dX6_mendNow_153 : decode cX6_mendNow 153 = .ok (.aload_n 0, 1) := dk_42 (dk_at dksX6_mendNow_6 13 rfl rfl)
theorem dX6_mendNow_154 : decode cX6_mendNow 154 = .ok (.getfield 13, 3) := dk_180 0 13 (dk_at dksX6_mendNow_6 14 rfl rfl)
theorem dX6_mendNow_157 : decode cX6_mendNow 157 = .ok (.iload_n 3, 1) := dk_29 (dk_at dksX6_mendNow_6 17 rfl rfl)
theorem dX6_mendNow_158 : decode cX6_mendNow 158 = .ok (.aload_n 0, 1) := dk_42 (dk_at dksX6_mendNow_6 18 rfl rfl)
theorem dX6_mendNow_159 : decode cX6_mendNow 159 = .ok (.getfield 38, 3) := dk_180 0 38 (dk_at dksX6_mendNow_6 19 rfl rfl)
theorem dX6_mendNow_162 : decode cX6_mendNow 162 = .ok (.iload_n 3, 1) := dk_29 (dk_at dksX6_mendNow_6 22 rfl rfl)
theorem dX6_mendNow_163 : decode cX6_mendNow 163 = .ok (.iaload, 1) := dk_46 (dk_at dksX6_mendNow_6 23 rfl rfl)
theorem dX6_mendNow_164 : decode cX6_mendNow 164 = .ok (.iastore, 1) := dk_79 (dk_at dksX6_mendNow_7 0 rfl rfl)
theorem dX6_mendNow_165 : decode cX6_mendNow 165 = .ok (.iinc 3 1, 3) := dk_132 3 1 (dk_at dksX6_mendNow_7 1 rfl rfl)
theorem dX6_mendNow_168 : decode cX6_mendNow 168 = .ok (.goto (-23), 3) := dk_167 255 233 (dk_at dksX6_mendNow_7 4 rfl rfl)
theorem dX6_mendNow_171 : decode cX6_mendNow 171 = .ok (.iload_n 1, 1) := dk_27 (dk_at dksX6_mendNow_7 7 rfl rfl)
theorem dX6_mendNow_172 : decode cX6_mendNow 172 = .ok (.ldc 183, 2) := dk_18 183 (dk_at dksX6_mendNow_7 8 rfl rfl)
theorem dX6_mendNow_174 : decode cX6_mendNow 174 = .ok (.if_icmp .ne 7, 3) := dk_160 0 7 (dk_at dksX6_mendNow_7 10 rfl rfl)
theorem dX6_mendNow_177 : decode cX6_mendNow 177 = .ok (.iconst (-1), 1) := dk_2 (dk_at dksX6_mendNow_7 13 rfl rfl)
theorem dX6_mendNow_178 : decode cX6_mendNow 178 = .ok (.goto 4, 3) := dk_167 0 4 (dk_at dksX6_mendNow_7 14 rfl rfl)
theorem dX6_mendNow_181 : decode cX6_mendNow 181 = .ok (.iload_n 1, 1) := dk_27 (dk_at dksX6_mendNow_7 17 rfl rfl)
theorem dX6_mendNow_182 : decode cX6_mendNow 182 = .ok (.ireturn, 1) := dk_172 (dk_at dksX6_mendNow_7 18 rfl rfl)
abbrev cX6_wins : ByteArray := prog_9_method_47_code
def yX6_wins : MethodName := ⟨RX6, "wins", "(I)I"⟩
def dkwX6_wins_1 : List UInt8 := [42, 27, 182, 0, 193, 172]
abbrev dktX6_wins_1 : List UInt8 := dkwX6_wins_1 ++ []
def dkwX6_wins_0 : List UInt8 := [27, 3, 4, 184, 0, 65, 154, 0, 6, 16, 154, 172, 42, 180, 0, 101, 154, 0, 8, 16, 153, 167, 0, 8]
abbrev dktX6_wins_0 : List UInt8 := dkwX6_wins_0 ++ dktX6_wins_1
theorem dksX6_wins_0 : cX6_wins.data.toList.drop 0 = dktX6_wins_0 := by decide +kernel
theorem dksX6_wins_1 : cX6_wins.data.toList.drop 24 = dktX6_wins_1 := dk_seg dksX6_wins_0 24 rfl rfl
theorem dX6_wins_0 : decode cX6_wins 0 = .ok (.iload_n 1, 1) := dk_27 (dk_at dksX6_wins_0 0 rfl rfl)
theorem dX6_wins_1 : decode cX6_wins 1 = .ok (.iconst 0, 1) := dk_3 (dk_at dksX6_wins_0 1 rfl rfl)
theorem dX6_wins_2 : decode cX6_wins 2 = .ok (.iconst 1, 1) := dk_4 (dk_at dksX6_wins_0 2 rfl rfl)
theorem dX6_wins_3 : decode cX6_wins 3 = .ok (.invokestatic 65, 3) := dk_184 0 65 (dk_at dksX6_wins_0 3 rfl rfl)
theorem dX6_wins_6 : decode cX6_wins 6 = .ok (.ifCond .ne 6, 3) := dk_154 0 6 (dk_at dksX6_wins_0 6 rfl rfl)
theorem dX6_wins_9 : decode cX6_wins 9 = .ok (.bipush (-102), 2) := dk_16 154 (dk_at dksX6_wins_0 9 rfl rfl)
theorem dX6_wins_11 : decode cX6_wins 11 = .ok (.ireturn, 1) := dk_172 (dk_at dksX6_wins_0 11 rfl rfl)
theorem dX6_wins_12 : decode cX6_wins 12 = .ok (.aload_n 0, 1) := dk_42 (dk_at dksX6_wins_0 12 rfl rfl)
theorem dX6_wins_13 : decode cX6_wins 13 = .ok (.getfield 101, 3) := dk_180 0 101 (dk_at dksX6_wins_0 13 rfl rfl)
theorem dX6_wins_16 : decode cX6_wins 16 = .ok (.ifCond .ne 8, 3) := dk_154 0 8 (dk_at dksX6_wins_0 16 rfl rfl)
theorem dX6_wins_19 : decode cX6_wins 19 = .ok (.bipush (-103), 2) := dk_16 153 (dk_at dksX6_wins_0 19 rfl rfl)
theorem dX6_wins_21 : decode cX6_wins 21 = .ok (.goto 8, 3) := dk_167 0 8 (dk_at dksX6_wins_0 21 rfl rfl)
theorem dX6_wins_24 : decode cX6_wins 24 = .ok (.aload_n 0, 1) := dk_42 (dk_at dksX6_wins_1 0 rfl rfl)
theorem dX6_wins_25 : decode cX6_wins 25 = .ok (.iload_n 1, 1) := dk_27 (dk_at dksX6_wins_1 1 rfl rfl)
theorem dX6_wins_26 : decode cX6_wins 26 = .ok (.invokevirtual 193, 3) := dk_182 0 193 (dk_at dksX6_wins_1 2 rfl rfl)
theorem dX6_wins_29 : decode cX6_wins 29 = .ok (.ireturn, 1) := dk_172 (dk_at dksX6_wins_1 5 rfl rfl)
abbrev cX6_winsNow : ByteArray := prog_9_method_46_code
def yX6_winsNow : MethodName := ⟨RX6, "winsNow", "(I)I"⟩
def dkwX6_winsNow_1 : List UInt8 := [172]
abbrev dktX6_winsNow_1 : List UInt8 := dkwX6_winsNow_1 ++ []
def dkwX6_winsNow_0 : List UInt8 := [42, 182, 0, 190, 61, 27, 4, 160, 0, 7, 28, 167, 0, 13, 28, 2, 160, 0, 7, 3, 167, 0, 4, 4]
abbrev dktX6_winsNow_0 : List UInt8 := dkwX6_winsNow_0 ++ dktX6_winsNow_1
theorem dksX6_winsNow_0 : cX6_winsNow.data.toList.drop 0 = dktX6_winsNow_0 := by decide +kernel
theorem dksX6_winsNow_1 : cX6_winsNow.data.toList.drop 24 = dktX6_winsNow_1 := dk_seg dksX6_winsNow_0 24 rfl rfl
theorem dX6_winsNow_0 : decode cX6_winsNow 0 = .ok (.aload_n 0, 1) := dk_42 (dk_at dksX6_winsNow_0 0 rfl rfl)
theorem dX6_winsNow_1 : decode cX6_winsNow 1 = .ok (.invokevirtual 190, 3) := dk_182 0 190 (dk_at dksX6_winsNow_0 1 rfl rfl)
theorem dX6_winsNow_4 : decode cX6_winsNow 4 = .ok (.istore_n 2, 1) := dk_61 (dk_at dksX6_winsNow_0 4 rfl rfl)
theorem dX6_winsNow_5 : decode cX6_winsNow 5 = .ok (.iload_n 1, 1) := dk_27 (dk_at dksX6_winsNow_0 5 rfl rfl)
theorem dX6_winsNow_6 : decode cX6_winsNow 6 = .ok (.iconst 1, 1) := dk_4 (dk_at dksX6_winsNow_0 6 rfl rfl)
theorem dX6_winsNow_7 : decode cX6_winsNow 7 = .ok (.if_icmp .ne 7, 3) := dk_160 0 7 (dk_at dksX6_winsNow_0 7 rfl rfl)
theorem dX6_winsNow_10 : decode cX6_winsNow 10 = .ok (.iload_n 2, 1) := dk_28 (dk_at dksX6_winsNow_0 10 rfl rfl)
theorem dX6_winsNow_11 : decode cX6_winsNow 11 = .ok (.goto 13, 3) := dk_167 0 13 (dk_at dksX6_winsNow_0 11 rfl rfl)
theorem dX6_winsNow_14 : decode cX6_winsNow 14 = .ok (.iload_n 2, 1) := dk_28 (dk_at dksX6_winsNow_0 14 rfl rfl)
theorem dX6_winsNow_15 : decode cX6_winsNow 15 = .ok (.iconst (-1), 1) := dk_2 (dk_at dksX6_winsNow_0 15 rfl rfl)
theorem dX6_winsNow_16 : decode cX6_winsNow 16 = .ok (.if_icmp .ne 7, 3) := dk_160 0 7 (dk_at dksX6_winsNow_0 16 rfl rfl)
theorem dX6_winsNow_19 : decode cX6_winsNow 19 = .ok (.iconst 0, 1) := dk_3 (dk_at dksX6_winsNow_0 19 rfl rfl)
theorem dX6_winsNow_20 : decode cX6_winsNow 20 = .ok (.goto 4, 3) := dk_167 0 4 (dk_at dksX6_winsNow_0 20 rfl rfl)
theorem dX6_winsNow_23 : decode cX6_winsNow 23 = .ok (.iconst 1, 1) := dk_4 (dk_at dksX6_winsNow_0 23 rfl rfl)
theorem dX6_winsNow_24 : decode cX6_winsNow 24 = .ok (.ireturn, 1) := dk_172 (dk_at dksX6_winsNow_1 0 rfl rfl)
abbrev cX6_winNow : ByteArray := prog_9_method_45_code
def yX6_winNow : MethodName := ⟨RX6, "winNow", "()I"⟩
def dkwX6_winNow_8 : List UInt8 := [79, 167, 255, 106, 42, 180, 0, 47, 3, 46, 172]
abbrev dktX6_winNow_8 : List UInt8 := dkwX6_winNow_8 ++ []
def dkwX6_winNow_7 : List UInt8 := [180, 0, 47, 28, 4, 96, 46, 2, 160, 0, 17, 42, 180, 0, 47, 28, 42, 180, 0, 44, 28, 46, 4, 100]
abbrev dktX6_winNow_7 : List UInt8 := dkwX6_winNow_7 ++ dktX6_winNow_8
def dkwX6_winNow_6 : List UInt8 := [27, 162, 0, 15, 42, 180, 0, 29, 42, 180, 0, 41, 28, 46, 2, 79, 132, 2, 255, 28, 155, 0, 29, 42]
abbrev dktX6_winNow_6 : List UInt8 := dkwX6_winNow_6 ++ dktX6_winNow_7
def dkwX6_winNow_5 : List UInt8 := [154, 0, 73, 132, 2, 1, 42, 180, 0, 44, 28, 3, 79, 42, 180, 0, 47, 28, 2, 79, 167, 0, 53, 28]
abbrev dktX6_winNow_5 : List UInt8 := dkwX6_winNow_5 ++ dktX6_winNow_6
def dkwX6_winNow_4 : List UInt8 := [180, 0, 44, 28, 46, 79, 42, 180, 0, 44, 28, 92, 46, 4, 96, 79, 42, 42, 180, 0, 101, 182, 0, 131]
abbrev dktX6_winNow_4 : List UInt8 := dkwX6_winNow_4 ++ dktX6_winNow_5
def dkwX6_winNow_3 : List UInt8 := [159, 0, 7, 4, 167, 0, 4, 3, 62, 29, 154, 0, 61, 42, 180, 0, 29, 42, 180, 0, 41, 28, 46, 42]
abbrev dktX6_winNow_3 : List UInt8 := dkwX6_winNow_3 ++ dktX6_winNow_4
def dkwX6_winNow_2 : List UInt8 := [159, 0, 26, 42, 180, 0, 44, 28, 46, 42, 180, 0, 98, 159, 0, 13, 42, 180, 0, 47, 28, 46, 2]
abbrev dktX6_winNow_2 : List UInt8 := dkwX6_winNow_2 ++ dktX6_winNow_3
def dkwX6_winNow_1 : List UInt8 := [2, 172, 3, 61, 42, 180, 0, 44, 3, 3, 79, 42, 180, 0, 47, 3, 2, 79, 28, 155, 0, 152, 28, 27]
abbrev dktX6_winNow_1 : List UInt8 := dkwX6_winNow_1 ++ dktX6_winNow_2
def dkwX6_winNow_0 : List UInt8 := [42, 182, 0, 128, 42, 182, 0, 187, 60, 27, 153, 0, 14, 42, 42, 180, 0, 101, 182, 0, 131, 158, 0, 5]
abbrev dktX6_winNow_0 : List UInt8 := dkwX6_winNow_0 ++ dktX6_winNow_1
theorem dksX6_winNow_0 : cX6_winNow.data.toList.drop 0 = dktX6_winNow_0 := by decide +kernel
theorem dksX6_winNow_1 : cX6_winNow.data.toList.drop 24 = dktX6_winNow_1 := dk_seg dksX6_winNow_0 24 rfl rfl
theorem dksX6_winNow_2 : cX6_winNow.data.toList.drop 48 = dktX6_winNow_2 := dk_seg dksX6_winNow_1 24 rfl rfl
theorem dksX6_winNow_3 : cX6_winNow.data.toList.drop 71 = dktX6_winNow_3 := dk_seg dksX6_winNow_2 23 rfl rfl
theorem dksX6_winNow_4 : cX6_winNow.data.toList.drop 95 = dktX6_winNow_4 := dk_seg dksX6_winNow_3 24 rfl rfl
theorem dksX6_winNow_5 : cX6_winNow.data.toList.drop 119 = dktX6_winNow_5 := dk_seg dksX6_winNow_4 24 rfl rfl
theorem dksX6_winNow_6 : cX6_winNow.data.toList.drop 143 = dktX6_winNow_6 := dk_seg dksX6_winNow_5 24 rfl rfl
theorem dksX6_winNow_7 : cX6_winNow.data.toList.drop 167 = dktX6_winNow_7 := dk_seg dksX6_winNow_6 24 rfl rfl
theorem dksX6_winNow_8 : cX6_winNow.data.toList.drop 191 = dktX6_winNow_8 := dk_seg dksX6_winNow_7 24 rfl rfl
theorem dX6_winNow_0 : decode cX6_winNow 0 = .ok (.aload_n 0, 1) := dk_42 (dk_at dksX6_winNow_0 0 rfl rfl)
theorem dX6_winNow_1 : decode cX6_winNow 1 = .ok (.invokevirtual 128, 3) := dk_182 0 128 (dk_at dksX6_winNow_0 1 rfl rfl)
theorem dX6_winNow_4 : decode cX6_winNow 4 = .ok (.aload_n 0, 1) := dk_42 (dk_at dksX6_winNow_0 4 rfl rfl)
theorem dX6_winNow_5 : decode cX6_winNow 5 = .ok (.invokevirtual 187, 3) := dk_182 0 187 (dk_at dksX6_winNow_0 5 rfl rfl)
theorem dX6_winNow_8 : decode cX6_winNow 8 = .ok (.istore_n 1, 1) := dk_60 (dk_at dksX6_winNow_0 8 rfl rfl)
theorem dX6_winNow_9 : decode cX6_winNow 9 = .ok (.iload_n 1, 1) := dk_27 (dk_at dksX6_winNow_0 9 rfl rfl)
theorem dX6_winNow_10 : decode cX6_winNow 10 = .ok (.ifCond .eq 14, 3) := dk_153 0 14 (dk_at dksX6_winNow_0 10 rfl rfl)
theorem dX6_winNow_13 : decode cX6_winNow 13 = .ok (.aload_n 0, 1) := dk_42 (dk_at dksX6_winNow_0 13 rfl rfl)
theorem dX6_winNow_14 : decode cX6_winNow 14 = .ok (.aload_n 0, 1) := dk_42 (dk_at dksX6_winNow_0 14 rfl rfl)
theorem dX6_winNow_15 : decode cX6_winNow 15 = .ok (.getfield 101, 3) := dk_180 0 101 (dk_at dksX6_winNow_0 15 rfl rfl)
theorem dX6_winNow_18 : decode cX6_winNow 18 = .ok (.invokevirtual 131, 3) := dk_182 0 131 (dk_at dksX6_winNow_0 18 rfl rfl)
theorem dX6_winNow_21 : decode cX6_winNow 21 = .ok (.ifCond .le 5, 3) := dk_158 0 5 (dk_at dksX6_winNow_0 21 rfl rfl)
theorem dX6_winNow_24 : decode cX6_winNow 24 = .ok (.iconst (-1), 1) := dk_2 (dk_at dksX6_winNow_1 0 rfl rfl)
theorem dX6_winNow_25 : decode cX6_winNow 25 = .ok (.ireturn, 1) := dk_172 (dk_at dksX6_winNow_1 1 rfl rfl)
theorem dX6_winNow_26 : decode cX6_winNow 26 = .ok (.iconst 0, 1) := dk_3 (dk_at dksX6_winNow_1 2 rfl rfl)
theorem dX6_winNow_27 : decode cX6_winNow 27 = .ok (.istore_n 2, 1) := dk_61 (dk_at dksX6_winNow_1 3 rfl rfl)
theorem dX6_winNow_28 : decode cX6_winNow 28 = .ok (.aload_n 0, 1) := dk_42 (dk_at dksX6_winNow_1 4 rfl rfl)
theorem dX6_winNow_29 : decode cX6_winNow 29 = .ok (.getfield 44, 3) := dk_180 0 44 (dk_at dksX6_winNow_1 5 rfl rfl)
theorem dX6_winNow_32 : decode cX6_winNow 32 = .ok (.iconst 0, 1) := dk_3 (dk_at dksX6_winNow_1 8 rfl rfl)
theorem dX6_winNow_33 : decode cX6_winNow 33 = .ok (.iconst 0, 1) := dk_3 (dk_at dksX6_winNow_1 9 rfl rfl)
theorem dX6_winNow_34 : decode cX6_winNow 34 = .ok (.iastore, 1) := dk_79 (dk_at dksX6_winNow_1 10 rfl rfl)
theorem dX6_winNow_35 : decode cX6_winNow 35 = .ok (.aload_n 0, 1) := dk_42 (dk_at dksX6_winNow_1 11 rfl rfl)
theorem dX6_winNow_36 : decode cX6_winNow 36 = .ok (.getfield 47, 3) := dk_180 0 47 (dk_at dksX6_winNow_1 12 rfl rfl)
theorem dX6_winNow_39 : decode cX6_winNow 39 = .ok (.iconst 0, 1) := dk_3 (dk_at dksX6_winNow_1 15 rfl rfl)
theorem dX6_winNow_40 : decode cX6_winNow 40 = .ok (.iconst (-1), 1) := dk_2 (dk_at dksX6_winNow_1 16 rfl rfl)
theorem dX6_winNow_41 : decode cX6_winNow 41 = .ok (.iastore, 1) := dk_79 (dk_at dksX6_winNow_1 17 rfl rfl)
theorem dX6_winNow_42 : decode cX6_winNow 42 = .ok (.iload_n 2, 1) := dk_28 (dk_at dksX6_winNow_1 18 rfl rfl)
theorem dX6_winNow_43 : decode cX6_winNow 43 = .ok (.ifCond .lt 152, 3) := dk_155 0 152 (dk_at dksX6_winNow_1 19 rfl rfl)
theorem dX6_winNow_46 : decode cX6_winNow 46 = .ok (.iload_n 2, 1) := dk_28 (dk_at dksX6_winNow_1 22 rfl rfl)
theorem dX6_winNow_47 : decode cX6_winNow 47 = .ok (.iload_n 1, 1) := dk_27 (dk_at dksX6_winNow_1 23 rfl rfl)
theorem dX6_winNow_48 : decode cX6_winNow 48 = .ok (.if_icmp .eq 26, 3) := dk_159 0 26 (dk_at dksX6_winNow_2 0 rfl rfl)
theorem dX6_winNow_51 : decode cX6_winNow 51 = .ok (.aload_n 0, 1) := dk_42 (dk_at dksX6_winNow_2 3 rfl rfl)
theorem dX6_winNow_52 : decode cX6_winNow 52 = .ok (.getfield 44, 3) := dk_180 0 44 (dk_at dksX6_winNow_2 4 rfl rfl)
theorem dX6_winNow_55 : decode cX6_winNow 55 = .ok (.iload_n 2, 1) := dk_28 (dk_at dksX6_winNow_2 7 rfl rfl)
theorem dX6_winNow_56 : decode cX6_winNow 56 = .ok (.iaload, 1) := dk_46 (dk_at dksX6_winNow_2 8 rfl rfl)
theorem dX6_winNow_57 : decode cX6_winNow 57 = .ok (.aload_n 0, 1) := dk_42 (dk_at dksX6_winNow_2 9 rfl rfl)
theorem dX6_winNow_58 : decode cX6_winNow 58 = .ok (.getfield 98, 3) := dk_180 0 98 (dk_at dksX6_winNow_2 10 rfl rfl)
theorem dX6_winNow_61 : decode cX6_winNow 61 = .ok (.if_icmp .eq 13, 3) := dk_159 0 13 (dk_at dksX6_winNow_2 13 rfl rfl)
theorem dX6_winNow_64 : decode cX6_winNow 64 = .ok (.aload_n 0, 1) := dk_42 (dk_at dksX6_winNow_2 16 rfl rfl)
theorem dX6_winNow_65 : decode cX6_winNow 65 = .ok (.getfield 47, 3) := dk_180 0 47 (dk_at dksX6_winNow_2 17 rfl rfl)
theorem dX6_winNow_68 : decode cX6_winNow 68 = .ok (.iload_n 2, 1) := dk_28 (dk_at dksX6_winNow_2 20 rfl rfl)
theorem dX6_winNow_69 : decode cX6_winNow 69 = .ok (.iaload, 1) := dk_46 (dk_at dksX6_winNow_2 21 rfl rfl)
theorem dX6_winNow_70 : decode cX6_winNow 70 = .ok (.iconst (-1), 1) := dk_2 (dk_at dksX6_winNow_2 22 rfl rfl)
theorem dX6_winNow_71 : decode cX6_winNow 71 = .ok (.if_icmp .eq 7, 3) := dk_159 0 7 (dk_at dksX6_winNow_3 0 rfl rfl)
theorem dX6_winNow_74 : decode cX6_winNow 74 = .ok (.iconst 1, 1) := dk_4 (dk_at dksX6_winNow_3 3 rfl rfl)
theorem dX6_winNow_75 : decode cX6_winNow 75 = .ok (.goto 4, 3) := dk_167 0 4 (dk_at dksX6_winNow_3 4 rfl rfl)
theorem dX6_winNow_78 : decode cX6_winNow 78 = .ok (.iconst 0, 1) := dk_3 (dk_at dksX6_winNow_3 7 rfl rfl)
theorem dX6_winNow_79 : decode cX6_winNow 79 = .ok (.istore_n 3, 1) := dk_62 (dk_at dksX6_winNow_3 8 rfl rfl)
theorem dX6_winNow_80 : decode cX6_winNow 80 = .ok (.iload_n 3, 1) := dk_29 (dk_at dksX6_winNow_3 9 rfl rfl)
theorem dX6_winNow_81 : decode cX6_winNow 81 = .ok (.ifCond .ne 61, 3) := dk_154 0 61 (dk_at dksX6_winNow_3 10 rfl rfl)
theorem dX6_winNow_84 : decode cX6_winNow 84 = .ok (.aload_n 0, 1) := dk_42 (dk_at dksX6_winNow_3 13 rfl rfl)
theorem dX6_winNow_85 : decode cX6_winNow 85 = .ok (.getfield 29, 3) := dk_180 0 29 (dk_at dksX6_winNow_3 14 rfl rfl)
theorem dX6_winNow_88 : decode cX6_winNow 88 = .ok (.aload_n 0, 1) := dk_42 (dk_at dksX6_winNow_3 17 rfl rfl)
theorem dX6_winNow_89 : decode cX6_winNow 89 = .ok (.getfield 41, 3) := dk_180 0 41 (dk_at dksX6_winNow_3 18 rfl rfl)
theorem dX6_winNow_92 : decode cX6_winNow 92 = .ok (.iload_n 2, 1) := dk_28 (dk_at dksX6_winNow_3 21 rfl rfl)
theorem dX6_winNow_93 : decode cX6_winNow 93 = .ok (.iaload, 1) := dk_46 (dk_at dksX6_winNow_3 22 rfl rfl)
theorem dX6_winNow_94 : decode cX6_winNow 94 = .ok (.aload_n 0, 1) := dk_42 (dk_at dksX6_winNow_3 23 rfl rfl)
theorem dX6_winNow_95 : decode cX6_winNow 95 = .ok (.getfield 44, 3) := dk_180 0 44 (dk_at dksX6_winNow_4 0 rfl rfl)
theorem dX6_winNow_98 : decode cX6_winNow 98 = .ok (.iload_n 2, 1) := dk_28 (dk_at dksX6_winNow_4 3 rfl rfl)
theorem dX6_winNow_99 : decode cX6_winNow 99 = .ok (.iaload, 1) := dk_46 (dk_at dksX6_winNow_4 4 rfl rfl)
theorem dX6_winNow_100 : decode cX6_winNow 100 = .ok (.iastore, 1) := dk_79 (dk_at dksX6_winNow_4 5 rfl rfl)
theorem dX6_winNow_101 : decode cX6_winNow 101 = .ok (.aload_n 0, 1) := dk_42 (dk_at dksX6_winNow_4 6 rfl rfl)
theorem dX6_winNow_102 : decode cX6_winNow 102 = .ok (.getfield 44, 3) := dk_180 0 44 (dk_at dksX6_winNow_4 7 rfl rfl)
theorem dX6_winNow_105 : decode cX6_winNow 105 = .ok (.iload_n 2, 1) := dk_28 (dk_at dksX6_winNow_4 10 rfl rfl)
theorem dX6_winNow_106 : decode cX6_winNow 106 = .ok (.dup2, 1) := dk_92 (dk_at dksX6_winNow_4 11 rfl rfl)
theorem dX6_winNow_107 : decode cX6_winNow 107 = .ok (.iaload, 1) := dk_46 (dk_at dksX6_winNow_4 12 rfl rfl)
theorem dX6_winNow_108 : decode cX6_winNow 108 = .ok (.iconst 1, 1) := dk_4 (dk_at dksX6_winNow_4 13 rfl rfl)
theorem dX6_winNow_109 : decode cX6_winNow 109 = .ok (.iadd, 1) := dk_96 (dk_at dksX6_winNow_4 14 rfl rfl)
theorem dX6_winNow_110 : decode cX6_winNow 110 = .ok (.iastore, 1) := dk_79 (dk_at dksX6_winNow_4 15 rfl rfl)
theorem dX6_winNow_111 : decode cX6_winNow 111 = .ok (.aload_n 0, 1) := dk_42 (dk_at dksX6_winNow_4 16 rfl rfl)
theorem dX6_winNow_112 : decode cX6_winNow 112 = .ok (.aload_n 0, 1) := dk_42 (dk_at dksX6_winNow_4 17 rfl rfl)
theorem dX6_winNow_113 : decode cX6_winNow 113 = .ok (.getfield 101, 3) := dk_180 0 101 (dk_at dksX6_winNow_4 18 rfl rfl)
theorem dX6_winNow_116 : decode cX6_winNow 116 = .ok (.invokevirtual 131, 3) := dk_182 0 131 (dk_at dksX6_winNow_4 21 rfl rfl)
theorem dX6_winNow_119 : decode cX6_winNow 119 = .ok (.ifCond .ne 73, 3) := dk_154 0 73 (dk_at dksX6_winNow_5 0 rfl rfl)
theorem dX6_winNow_122 : decode cX6_winNow 122 = .ok (.iinc 2 1, 3) := dk_132 2 1 (dk_at dksX6_winNow_5 3 rfl rfl)
theorem dX6_winNow_125 : decode cX6_winNow 125 = .ok (.aload_n 0, 1) := dk_42 (dk_at dksX6_winNow_5 6 rfl rfl)
theorem dX6_winNow_126 : decode cX6_winNow 126 = .ok (.getfield 44, 3) := dk_180 0 44 (dk_at dksX6_winNow_5 7 rfl rfl)
theorem dX6_winNow_129 : decode cX6_winNow 129 = .ok (.iload_n 2, 1) := dk_28 (dk_at dksX6_winNow_5 10 rfl rfl)
theorem dX6_winNow_130 : decode cX6_winNow 130 = .ok (.iconst 0, 1) := dk_3 (dk_at dksX6_winNow_5 11 rfl rfl)
theorem dX6_winNow_131 : decode cX6_winNow 131 = .ok (.iastore, 1) := dk_79 (dk_at dksX6_winNow_5 12 rfl rfl)
theorem dX6_winNow_132 : decode cX6_winNow 132 = .ok (.aload_n 0, 1) := dk_42 (dk_at dksX6_winNow_5 13 rfl rfl)
theorem dX6_winNow_133 : decode cX6_winNow 133 = .ok (.getfield 47, 3) := dk_180 0 47 (dk_at dksX6_winNow_5 14 rfl rfl)
theorem dX6_winNow_136 : decode cX6_winNow 136 = .ok (.iload_n 2, 1) := dk_28 (dk_at dksX6_winNow_5 17 rfl rfl)
theorem dX6_winNow_137 : decode cX6_winNow 137 = .ok (.iconst (-1), 1) := dk_2 (dk_at dksX6_winNow_5 18 rfl rfl)
theorem dX6_winNow_138 : decode cX6_winNow 138 = .ok (.iastore, 1) := dk_79 (dk_at dksX6_winNow_5 19 rfl rfl)
theorem dX6_winNow_139 : decode cX6_winNow 139 = .ok (.goto 53, 3) := dk_167 0 53 (dk_at dksX6_winNow_5 20 rfl rfl)
theorem dX6_winNow_142 : decode cX6_winNow 142 = .ok (.iload_n 2, 1) := dk_28 (dk_at dksX6_winNow_5 23 rfl rfl)
theorem dX6_winNow_143 : decode cX6_winNow 143 = .ok (.iload_n 1, 1) := dk_27 (dk_at dksX6_winNow_6 0 rfl rfl)
theorem dX6_winNow_144 : decode cX6_winNow 144 = .ok (.if_icmp .ge 15, 3) := dk_162 0 15 (dk_at dksX6_winNow_6 1 rfl rfl)
theorem dX6_winNow_147 : decode cX6_winNow 147 = .ok (.aload_n 0, 1) := dk_42 (dk_at dksX6_winNow_6 4 rfl rfl)
theorem dX6_winNow_148 : decode cX6_winNow 148 = .ok (.getfield 29, 3) := dk_180 0 29 (dk_at dksX6_winNow_6 5 rfl rfl)
theorem dX6_winNow_151 : decode cX6_winNow 151 = .ok (.aload_n 0, 1) := dk_42 (dk_at dksX6_winNow_6 8 rfl rfl)
theorem dX6_winNow_152 : decode cX6_winNow 152 = .ok (.getfield 41, 3) := dk_180 0 41 (dk_at dksX6_winNow_6 9 rfl rfl)
theorem dX6_winNow_155 : decode cX6_winNow 155 = .ok (.iload_n 2, 1) := dk_28 (dk_at dksX6_winNow_6 12 rfl rfl)
theorem dX6_winNow_156 : decode cX6_winNow 156 = .ok (.iaload, 1) := dk_46 (dk_at dksX6_winNow_6 13 rfl rfl)
theorem dX6_winNow_157 : decode cX6_winNow 157 = .ok (.iconst (-1), 1) := dk_2 (dk_at dksX6_winNow_6 14 rfl rfl)
theorem dX6_winNow_158 : decode cX6_winNow 158 = .ok (.iastore, 1) := dk_79 (dk_at dksX6_winNow_6 15 rfl rfl)
theorem dX6_winNow_159 : decode cX6_winNow 159 = .ok (.iinc 2 (-1), 3) := dk_132 2 255 (dk_at dksX6_winNow_6 16 rfl rfl)
theorem dX6_winNow_162 : decode cX6_winNow 162 = .ok (.iload_n 2, 1) := dk_28 (dk_at dksX6_winNow_6 19 rfl rfl)
theorem dX6_winNow_163 : decode cX6_winNow 163 = .ok (.ifCond .lt 29, 3) := dk_155 0 29 (dk_at dksX6_winNow_6 20 rfl rfl)
theorem dX6_winNow_166 : decode cX6_winNow 166 = .ok (.aload_n 0, 1) := dk_42 (dk_at dksX6_winNow_6 23 rfl rfl)
theorem dX6_winNow_167 : decode cX6_winNow 167 = .ok (.getfield 47, 3) := dk_180 0 47 (dk_at dksX6_winNow_7 0 rfl rfl)
theorem dX6_winNow_170 : decode cX6_winNow 170 = .ok (.iload_n 2, 1) := dk_28 (dk_at dksX6_winNow_7 3 rfl rfl)
theorem dX6_winNow_171 : decode cX6_winNow 171 = .ok (.iconst 1, 1) := dk_4 (dk_at dksX6_winNow_7 4 rfl rfl)
theorem dX6_winNow_172 : decode cX6_winNow 172 = .ok (.iadd, 1) := dk_96 (dk_at dksX6_winNow_7 5 rfl rfl)
theorem dX6_winNow_173 : decode cX6_winNow 173 = .ok (.iaload, 1) := dk_46 (dk_at dksX6_winNow_7 6 rfl rfl)
theorem dX6_winNow_174 : decode cX6_winNow 174 = .ok (.iconst (-1), 1) := dk_2 (dk_at dksX6_winNow_7 7 rfl rfl)
theorem dX6_winNow_175 : decode cX6_winNow 175 = .ok (.if_icmp .ne 17, 3) := dk_160 0 17 (dk_at dksX6_winNow_7 8 rfl rfl)
theorem dX6_winNow_178 : decode cX6_winNow 178 = .ok (.aload_n 0, 1) := dk_42 (dk_at dksX6_winNow_7 11 rfl rfl)
theorem dX6_winNow_179 : decode cX6_winNow 179 = .ok (.getfield 47, 3) := dk_180 0 47 (dk_at dksX6_winNow_7 12 rfl rfl)
theorem dX6_winNow_182 : decode cX6_winNow 182 = .ok (.iload_n 2, 1) := dk_28 (dk_at dksX6_winNow_7 15 rfl rfl)
theorem dX6_winNow_183 : decode cX6_winNow 183 = .ok (.aload_n 0, 1) := dk_42 (dk_at dksX6_winNow_7 16 rfl rfl)
theorem dX6_winNow_184 : decode cX6_winNow 184 = .ok (.getfield 44, 3) := dk_180 0 44 (dk_at dksX6_winNow_7 17 rfl rfl)
theorem dX6_winNow_187 : decode cX6_winNow 187 = .ok (.iload_n 2, 1) := dk_28 (dk_at dksX6_winNow_7 20 rfl rfl)
theorem dX6_winNow_188 : decode cX6_winNow 188 = .ok (.iaload, 1) := dk_46 (dk_at dksX6_winNow_7 21 rfl rfl)
theorem dX6_winNow_189 : decode cX6_winNow 189 = .ok (.iconst 1, 1) := dk_4 (dk_at dksX6_winNow_7 22 rfl rfl)
theorem dX6_winNow_190 : decode cX6_winNow 190 = .ok (.isub, 1) := dk_100 (dk_at dksX6_winNow_7 23 rfl rfl)
theorem dX6_winNow_191 : decode cX6_winNow 191 = .ok (.iastore, 1) := dk_79 (dk_at dksX6_winNow_8 0 rfl rfl)
theorem dX6_winNow_192 : decode cX6_winNow 192 = .ok (.goto (-150), 3) := dk_167 255 106 (dk_at dksX6_winNow_8 1 rfl rfl)
theorem dX6_winNow_195 : decode cX6_winNow 195 = .ok (.aload_n 0, 1) := dk_42 (dk_at dksX6_winNow_8 4 rfl rfl)
theorem dX6_winNow_196 : decode cX6_winNow 196 = .ok (.getfield 47, 3) := dk_180 0 47 (dk_at dksX6_winNow_8 5 rfl rfl)
theorem dX6_winNow_199 : decode cX6_winNow 199 = .ok (.iconst 0, 1) := dk_3 (dk_at dksX6_winNow_8 8 rfl rfl)
theorem dX6_winNow_200 : decode cX6_winNow 200 = .ok (.iaload, 1) := dk_46 (dk_at dksX6_winNow_8 9 rfl rfl)
theorem dX6_winNow_201 : decode cX6_winNow 201 = .ok (.ireturn, 1) := dk_172 (dk_at dksX6_winNow_8 10 rfl rfl)
abbrev cX6_layTurns : ByteArray := prog_9_method_44_code
def yX6_layTurns : MethodName := ⟨RX6, "layTurns", "()I"⟩
def dkwX6_layTurns_1 : List UInt8 := [180, 0, 41, 27, 28, 79, 132, 1, 1, 132, 2, 1, 167, 255, 225, 27, 172]
abbrev dktX6_layTurns_1 : List UInt8 := dkwX6_layTurns_1 ++ []
def dkwX6_layTurns_0 : List UInt8 := [3, 60, 4, 61, 28, 42, 180, 0, 101, 163, 0, 29, 42, 180, 0, 13, 28, 46, 2, 160, 0, 13, 42]
abbrev dktX6_layTurns_0 : List UInt8 := dkwX6_layTurns_0 ++ dktX6_layTurns_1
theorem dksX6_layTurns_0 : cX6_layTurns.data.toList.drop 0 = dktX6_layTurns_0 := by decide +kernel
theorem dksX6_layTurns_1 : cX6_layTurns.data.toList.drop 23 = dktX6_layTurns_1 := dk_seg dksX6_layTurns_0 23 rfl rfl
theorem dX6_layTurns_0 : decode cX6_layTurns 0 = .ok (.iconst 0, 1) := dk_3 (dk_at dksX6_layTurns_0 0 rfl rfl)
theorem dX6_layTurns_1 : decode cX6_layTurns 1 = .ok (.istore_n 1, 1) := dk_60 (dk_at dksX6_layTurns_0 1 rfl rfl)
theorem dX6_layTurns_2 : decode cX6_layTurns 2 = .ok (.iconst 1, 1) := dk_4 (dk_at dksX6_layTurns_0 2 rfl rfl)
theorem dX6_layTurns_3 : decode cX6_layTurns 3 = .ok (.istore_n 2, 1) := dk_61 (dk_at dksX6_layTurns_0 3 rfl rfl)
theorem dX6_layTurns_4 : decode cX6_layTurns 4 = .ok (.iload_n 2, 1) := dk_28 (dk_at dksX6_layTurns_0 4 rfl rfl)
theorem dX6_layTurns_5 : decode cX6_layTurns 5 = .ok (.aload_n 0, 1) := dk_42 (dk_at dksX6_layTurns_0 5 rfl rfl)
theorem dX6_layTurns_6 : decode cX6_layTurns 6 = .ok (.getfield 101, 3) := dk_180 0 101 (dk_at dksX6_layTurns_0 6 rfl rfl)
theorem dX6_layTurns_9 : decode cX6_layTurns 9 = .ok (.if_icmp .gt 29, 3) := dk_163 0 29 (dk_at dksX6_layTurns_0 9 rfl rfl)
theorem dX6_layTurns_12 : decode cX6_layTurns 12 = .ok (.aload_n 0, 1) := dk_42 (dk_at dksX6_layTurns_0 12 rfl rfl)
theorem dX6_layTurns_13 : decode cX6_layTurns 13 = .ok (.getfield 13, 3) := dk_180 0 13 (dk_at dksX6_layTurns_0 13 rfl rfl)
theorem dX6_layTurns_16 : decode cX6_layTurns 16 = .ok (.iload_n 2, 1) := dk_28 (dk_at dksX6_layTurns_0 16 rfl rfl)
theorem dX6_layTurns_17 : decode cX6_layTurns 17 = .ok (.iaload, 1) := dk_46 (dk_at dksX6_layTurns_0 17 rfl rfl)
theorem dX6_layTurns_18 : decode cX6_layTurns 18 = .ok (.iconst (-1), 1) := dk_2 (dk_at dksX6_layTurns_0 18 rfl rfl)
theorem dX6_layTurns_19 : decode cX6_layTurns 19 = .ok (.if_icmp .ne 13, 3) := dk_160 0 13 (dk_at dksX6_layTurns_0 19 rfl rfl)
theorem dX6_layTurns_22 : decode cX6_layTurns 22 = .ok (.aload_n 0, 1) := dk_42 (dk_at dksX6_layTurns_0 22 rfl rfl)
theorem dX6_layTurns_23 : decode cX6_layTurns 23 = .ok (.getfield 41, 3) := dk_180 0 41 (dk_at dksX6_layTurns_1 0 rfl rfl)
theorem dX6_layTurns_26 : decode cX6_layTurns 26 = .ok (.iload_n 1, 1) := dk_27 (dk_at dksX6_layTurns_1 3 rfl rfl)
theorem dX6_layTurns_27 : decode cX6_layTurns 27 = .ok (.iload_n 2, 1) := dk_28 (dk_at dksX6_layTurns_1 4 rfl rfl)
theorem dX6_layTurns_28 : decode cX6_layTurns 28 = .ok (.iastore, 1) := dk_79 (dk_at dksX6_layTurns_1 5 rfl rfl)
theorem dX6_layTurns_29 : decode cX6_layTurns 29 = .ok (.iinc 1 1, 3) := dk_132 1 1 (dk_at dksX6_layTurns_1 6 rfl rfl)
theorem dX6_layTurns_32 : decode cX6_layTurns 32 = .ok (.iinc 2 1, 3) := dk_132 2 1 (dk_at dksX6_layTurns_1 9 rfl rfl)
theorem dX6_layTurns_35 : decode cX6_layTurns 35 = .ok (.goto (-31), 3) := dk_167 255 225 (dk_at dksX6_layTurns_1 12 rfl rfl)
theorem dX6_layTurns_38 : decode cX6_layTurns 38 = .ok (.iload_n 1, 1) := dk_27 (dk_at dksX6_layTurns_1 15 rfl rfl)
theorem dX6_layTurns_39 : decode cX6_layTurns 39 = .ok (.ireturn, 1) := dk_172 (dk_at dksX6_layTurns_1 16 rfl rfl)
abbrev cX6_odds : ByteArray := prog_9_method_49_code
def yX6_odds : MethodName := ⟨RX6, "odds", "(III)I"⟩
def dkwX6_odds_1 : List UInt8 := [184, 0, 65, 153, 0, 13, 42, 27, 28, 29, 182, 0, 199, 167, 0, 5, 16, 154, 172]
abbrev dktX6_odds_1 : List UInt8 := dkwX6_odds_1 ++ []
def dkwX6_odds_0 : List UInt8 := [42, 27, 182, 0, 149, 154, 0, 6, 16, 155, 172, 42, 28, 182, 0, 177, 153, 0, 22, 29, 3, 4]
abbrev dktX6_odds_0 : List UInt8 := dkwX6_odds_0 ++ dktX6_odds_1
theorem dksX6_odds_0 : cX6_odds.data.toList.drop 0 = dktX6_odds_0 := by decide +kernel
theorem dksX6_odds_1 : cX6_odds.data.toList.drop 22 = dktX6_odds_1 := dk_seg dksX6_odds_0 22 rfl rfl
theorem dX6_odds_0 : decode cX6_odds 0 = .ok (.aload_n 0, 1) := dk_42 (dk_at dksX6_odds_0 0 rfl rfl)
theorem dX6_odds_1 : decode cX6_odds 1 = .ok (.iload_n 1, 1) := dk_27 (dk_at dksX6_odds_0 1 rfl rfl)
theorem dX6_odds_2 : decode cX6_odds 2 = .ok (.invokevirtual 149, 3) := dk_182 0 149 (dk_at dksX6_odds_0 2 rfl rfl)
theorem dX6_odds_5 : decode cX6_odds 5 = .ok (.ifCond .ne 6, 3) := dk_154 0 6 (dk_at dksX6_odds_0 5 rfl rfl)
theorem dX6_odds_8 : decode cX6_odds 8 = .ok (.bipush (-101), 2) := dk_16 155 (dk_at dksX6_odds_0 8 rfl rfl)
theorem dX6_odds_10 : decode cX6_odds 10 = .ok (.ireturn, 1) := dk_172 (dk_at dksX6_odds_0 10 rfl rfl)
theorem dX6_odds_11 : decode cX6_odds 11 = .ok (.aload_n 0, 1) := dk_42 (dk_at dksX6_odds_0 11 rfl rfl)
theorem dX6_odds_12 : decode cX6_odds 12 = .ok (.iload_n 2, 1) := dk_28 (dk_at dksX6_odds_0 12 rfl rfl)
theorem dX6_odds_13 : decode cX6_odds 13 = .ok (.invokevirtual 177, 3) := dk_182 0 177 (dk_at dksX6_odds_0 13 rfl rfl)
theorem dX6_odds_16 : decode cX6_odds 16 = .ok (.ifCond .eq 22, 3) := dk_153 0 22 (dk_at dksX6_odds_0 16 rfl rfl)
theorem dX6_odds_19 : decode cX6_odds 19 = .ok (.iload_n 3, 1) := dk_29 (dk_at dksX6_odds_0 19 rfl rfl)
theorem dX6_odds_20 : decode cX6_odds 20 = .ok (.iconst 0, 1) := dk_3 (dk_at dksX6_odds_0 20 rfl rfl)
theorem dX6_odds_21 : decode cX6_odds 21 = .ok (.iconst 1, 1) := dk_4 (dk_at dksX6_odds_0 21 rfl rfl)
theorem dX6_odds_22 : decode cX6_odds 22 = .ok (.invokestatic 65, 3) := dk_184 0 65 (dk_at dksX6_odds_1 0 rfl rfl)
theorem dX6_odds_25 : decode cX6_odds 25 = .ok (.ifCond .eq 13, 3) := dk_153 0 13 (dk_at dksX6_odds_1 3 rfl rfl)
theorem dX6_odds_28 : decode cX6_odds 28 = .ok (.aload_n 0, 1) := dk_42 (dk_at dksX6_odds_1 6 rfl rfl)
theorem dX6_odds_29 : decode cX6_odds 29 = .ok (.iload_n 1, 1) := dk_27 (dk_at dksX6_odds_1 7 rfl rfl)
theorem dX6_odds_30 : decode cX6_odds 30 = .ok (.iload_n 2, 1) := dk_28 (dk_at dksX6_odds_1 8 rfl rfl)
theorem dX6_odds_31 : decode cX6_odds 31 = .ok (.iload_n 3, 1) := dk_29 (dk_at dksX6_odds_1 9 rfl rfl)
theorem dX6_odds_32 : decode cX6_odds 32 = .ok (.invokevirtual 199, 3) := dk_182 0 199 (dk_at dksX6_odds_1 10 rfl rfl)
theorem dX6_odds_35 : decode cX6_odds 35 = .ok (.goto 5, 3) := dk_167 0 5 (dk_at dksX6_odds_1 13 rfl rfl)
theorem dX6_odds_38 : decode cX6_odds 38 = .ok (.bipush (-102), 2) := dk_16 154 (dk_at dksX6_odds_1 16 rfl rfl)
theorem dX6_odds_40 : decode cX6_odds 40 = .ok (.ireturn, 1) := dk_172 (dk_at dksX6_odds_1 18 rfl rfl)
abbrev cX6_oddsNow : ByteArray := prog_9_method_48_code
def yX6_oddsNow : MethodName := ⟨RX6, "oddsNow", "(III)I"⟩
def dkwX6_oddsNow_2 : List UInt8 := [21, 4, 21, 6, 108, 172]
abbrev dktX6_oddsNow_2 : List UInt8 := dkwX6_oddsNow_2 ++ []
def dkwX6_oddsNow_1 : List UInt8 := [29, 172, 21, 5, 21, 4, 184, 0, 196, 54, 6, 29, 154, 0, 11, 21, 5, 21, 6, 108, 167, 0, 8]
abbrev dktX6_oddsNow_1 : List UInt8 := dkwX6_oddsNow_1 ++ dktX6_oddsNow_2
def dkwX6_oddsNow_0 : List UInt8 := [42, 2, 182, 0, 134, 54, 4, 42, 180, 0, 32, 6, 27, 104, 28, 96, 46, 54, 5, 21, 5, 154, 0, 5]
abbrev dktX6_oddsNow_0 : List UInt8 := dkwX6_oddsNow_0 ++ dktX6_oddsNow_1
theorem dksX6_oddsNow_0 : cX6_oddsNow.data.toList.drop 0 = dktX6_oddsNow_0 := by decide +kernel
theorem dksX6_oddsNow_1 : cX6_oddsNow.data.toList.drop 24 = dktX6_oddsNow_1 := dk_seg dksX6_oddsNow_0 24 rfl rfl
theorem dksX6_oddsNow_2 : cX6_oddsNow.data.toList.drop 47 = dktX6_oddsNow_2 := dk_seg dksX6_oddsNow_1 23 rfl rfl
theorem dX6_oddsNow_0 : decode cX6_oddsNow 0 = .ok (.aload_n 0, 1) := dk_42 (dk_at dksX6_oddsNow_0 0 rfl rfl)
theorem dX6_oddsNow_1 : decode cX6_oddsNow 1 = .ok (.iconst (-1), 1) := dk_2 (dk_at dksX6_oddsNow_0 1 rfl rfl)
theorem dX6_oddsNow_2 : decode cX6_oddsNow 2 = .ok (.invokevirtual 134, 3) := dk_182 0 134 (dk_at dksX6_oddsNow_0 2 rfl rfl)
theorem dX6_oddsNow_5 : decode cX6_oddsNow 5 = .ok (.istore 4, 2) := dk_54 4 (dk_at dksX6_oddsNow_0 5 rfl rfl)
theorem dX6_oddsNow_7 : decode cX6_oddsNow 7 = .ok (.aload_n 0, 1) := dk_42 (dk_at dksX6_oddsNow_0 7 rfl rfl)
theorem dX6_oddsNow_8 : decode cX6_oddsNow 8 = .ok (.getfield 32, 3) := dk_180 0 32 (dk_at dksX6_oddsNow_0 8 rfl rfl)
theorem dX6_oddsNow_11 : decode cX6_oddsNow 11 = .ok (.iconst 3, 1) := dk_6 (dk_at dksX6_oddsNow_0 11 rfl rfl)
theorem dX6_oddsNow_12 : decode cX6_oddsNow 12 = .ok (.iload_n 1, 1) := dk_27 (dk_at dksX6_oddsNow_0 12 rfl rfl)
theorem dX6_oddsNow_13 : decode cX6_oddsNow 13 = .ok (.imul, 1) := dk_104 (dk_at dksX6_oddsNow_0 13 rfl rfl)
theorem dX6_oddsNow_14 : decode cX6_oddsNow 14 = .ok (.iload_n 2, 1) := dk_28 (dk_at dksX6_oddsNow_0 14 rfl rfl)
theorem dX6_oddsNow_15 : decode cX6_oddsNow 15 = .ok (.iadd, 1) := dk_96 (dk_at dksX6_oddsNow_0 15 rfl rfl)
theorem dX6_oddsNow_16 : decode cX6_oddsNow 16 = .ok (.iaload, 1) := dk_46 (dk_at dksX6_oddsNow_0 16 rfl rfl)
theorem dX6_oddsNow_17 : decode cX6_oddsNow 17 = .ok (.istore 5, 2) := dk_54 5 (dk_at dksX6_oddsNow_0 17 rfl rfl)
theorem dX6_oddsNow_19 : decode cX6_oddsNow 19 = .ok (.iload 5, 2) := dk_21 5 (dk_at dksX6_oddsNow_0 19 rfl rfl)
theorem dX6_oddsNow_21 : decode cX6_oddsNow 21 = .ok (.ifCond .ne 5, 3) := dk_154 0 5 (dk_at dksX6_oddsNow_0 21 rfl rfl)
theorem dX6_oddsNow_24 : decode cX6_oddsNow 24 = .ok (.iload_n 3, 1) := dk_29 (dk_at dksX6_oddsNow_1 0 rfl rfl)
theorem dX6_oddsNow_25 : decode cX6_oddsNow 25 = .ok (.ireturn, 1) := dk_172 (dk_at dksX6_oddsNow_1 1 rfl rfl)
theorem dX6_oddsNow_26 : decode cX6_oddsNow 26 = .ok (.iload 5, 2) := dk_21 5 (dk_at dksX6_oddsNow_1 2 rfl rfl)
theorem dX6_oddsNow_28 : decode cX6_oddsNow 28 = .ok (.iload 4, 2) := dk_21 4 (dk_at dksX6_oddsNow_1 4 rfl rfl)
theorem dX6_oddsNow_30 : decode cX6_oddsNow 30 = .ok (.invokestatic 196, 3) := dk_184 0 196 (dk_at dksX6_oddsNow_1 6 rfl rfl)
theorem dX6_oddsNow_33 : decode cX6_oddsNow 33 = .ok (.istore 6, 2) := dk_54 6 (dk_at dksX6_oddsNow_1 9 rfl rfl)
theorem dX6_oddsNow_35 : decode cX6_oddsNow 35 = .ok (.iload_n 3, 1) := dk_29 (dk_at dksX6_oddsNow_1 11 rfl rfl)
theorem dX6_oddsNow_36 : decode cX6_oddsNow 36 = .ok (.ifCond .ne 11, 3) := dk_154 0 11 (dk_at dksX6_oddsNow_1 12 rfl rfl)
theorem dX6_oddsNow_39 : decode cX6_oddsNow 39 = .ok (.iload 5, 2) := dk_21 5 (dk_at dksX6_oddsNow_1 15 rfl rfl)
theorem dX6_oddsNow_41 : decode cX6_oddsNow 41 = .ok (.iload 6, 2) := dk_21 6 (dk_at dksX6_oddsNow_1 17 rfl rfl)
theorem dX6_oddsNow_43 : decode cX6_oddsNow 43 = .ok (.idiv, 1) := dk_108 (dk_at dksX6_oddsNow_1 19 rfl rfl)
theorem dX6_oddsNow_44 : decode cX6_oddsNow 44 = .ok (.goto 8, 3) := dk_167 0 8 (dk_at dksX6_oddsNow_1 20 rfl rfl)
theorem dX6_oddsNow_47 : decode cX6_oddsNow 47 = .ok (.iload 4, 2) := dk_21 4 (dk_at dksX6_oddsNow_2 0 rfl rfl)
theorem dX6_oddsNow_49 : decode cX6_oddsNow 49 = .ok (.iload 6, 2) := dk_21 6 (dk_at dksX6_oddsNow_2 2 rfl rfl)
theorem dX6_oddsNow_51 : decode cX6_oddsNow 51 = .ok (.idiv, 1) := dk_108 (dk_at dksX6_oddsNow_2 4 rfl rfl)
theorem dX6_oddsNow_52 : decode cX6_oddsNow 52 = .ok (.ireturn, 1) := dk_172 (dk_at dksX6_oddsNow_2 5 rfl rfl)
abbrev cX6_divisor : ByteArray := prog_9_method_5_code
def yX6_divisor : MethodName := ⟨RX6, "divisor", "(II)I"⟩
def dkwX6_divisor_0 : List UInt8 := [26, 61, 27, 62, 29, 153, 0, 16, 28, 29, 112, 54, 4, 29, 61, 21, 4, 62, 167, 255, 242, 28, 172]
abbrev dktX6_divisor_0 : List UInt8 := dkwX6_divisor_0 ++ []
theorem dksX6_divisor_0 : cX6_divisor.data.toList.drop 0 = dktX6_divisor_0 := by decide +kernel
theorem dX6_divisor_0 : decode cX6_divisor 0 = .ok (.iload_n 0, 1) := dk_26 (dk_at dksX6_divisor_0 0 rfl rfl)
theorem dX6_divisor_1 : decode cX6_divisor 1 = .ok (.istore_n 2, 1) := dk_61 (dk_at dksX6_divisor_0 1 rfl rfl)
theorem dX6_divisor_2 : decode cX6_divisor 2 = .ok (.iload_n 1, 1) := dk_27 (dk_at dksX6_divisor_0 2 rfl rfl)
theorem dX6_divisor_3 : decode cX6_divisor 3 = .ok (.istore_n 3, 1) := dk_62 (dk_at dksX6_divisor_0 3 rfl rfl)
theorem dX6_divisor_4 : decode cX6_divisor 4 = .ok (.iload_n 3, 1) := dk_29 (dk_at dksX6_divisor_0 4 rfl rfl)
theorem dX6_divisor_5 : decode cX6_divisor 5 = .ok (.ifCond .eq 16, 3) := dk_153 0 16 (dk_at dksX6_divisor_0 5 rfl rfl)
theorem dX6_divisor_8 : decode cX6_divisor 8 = .ok (.iload_n 2, 1) := dk_28 (dk_at dksX6_divisor_0 8 rfl rfl)
theorem dX6_divisor_9 : decode cX6_divisor 9 = .ok (.iload_n 3, 1) := dk_29 (dk_at dksX6_divisor_0 9 rfl rfl)
theorem dX6_divisor_10 : decode cX6_divisor 10 = .ok (.irem, 1) := dk_112 (dk_at dksX6_divisor_0 10 rfl rfl)
theorem dX6_divisor_11 : decode cX6_divisor 11 = .ok (.istore 4, 2) := dk_54 4 (dk_at dksX6_divisor_0 11 rfl rfl)
theorem dX6_divisor_13 : decode cX6_divisor 13 = .ok (.iload_n 3, 1) := dk_29 (dk_at dksX6_divisor_0 13 rfl rfl)
theorem dX6_divisor_14 : decode cX6_divisor 14 = .ok (.istore_n 2, 1) := dk_61 (dk_at dksX6_divisor_0 14 rfl rfl)
theorem dX6_divisor_15 : decode cX6_divisor 15 = .ok (.iload 4, 2) := dk_21 4 (dk_at dksX6_divisor_0 15 rfl rfl)
theorem dX6_divisor_17 : decode cX6_divisor 17 = .ok (.istore_n 3, 1) := dk_62 (dk_at dksX6_divisor_0 17 rfl rfl)
theorem dX6_divisor_18 : decode cX6_divisor 18 = .ok (.goto (-14), 3) := dk_167 255 242 (dk_at dksX6_divisor_0 18 rfl rfl)
theorem dX6_divisor_21 : decode cX6_divisor 21 = .ok (.iload_n 2, 1) := dk_28 (dk_at dksX6_divisor_0 21 rfl rfl)
theorem dX6_divisor_22 : decode cX6_divisor 22 = .ok (.ireturn, 1) := dk_172 (dk_at dksX6_divisor_0 22 rfl rfl)
abbrev cX6_see : ByteArray := prog_9_method_51_code
def yX6_see : MethodName := ⟨RX6, "see", "(IIZ)I"⟩
def dkwX6_see_3 : List UInt8 := [167, 0, 4, 3, 79, 42, 89, 180, 0, 110, 4, 96, 181, 0, 110, 42, 180, 0, 110, 172]
abbrev dktX6_see_3 : List UInt8 := dkwX6_see_3 ++ []
def dkwX6_see_2 : List UInt8 := [180, 0, 19, 42, 180, 0, 110, 28, 79, 42, 180, 0, 22, 42, 180, 0, 110, 29, 153, 0, 7, 4]
abbrev dktX6_see_2 : List UInt8 := dkwX6_see_2 ++ dktX6_see_3
def dkwX6_see_1 : List UInt8 := [180, 0, 110, 16, 6, 160, 0, 6, 16, 152, 172, 42, 180, 0, 16, 42, 180, 0, 110, 27, 79, 42]
abbrev dktX6_see_1 : List UInt8 := dkwX6_see_1 ++ dktX6_see_2
def dkwX6_see_0 : List UInt8 := [42, 27, 182, 0, 149, 154, 0, 6, 16, 155, 172, 28, 3, 5, 184, 0, 65, 154, 0, 6, 16, 154, 172, 42]
abbrev dktX6_see_0 : List UInt8 := dkwX6_see_0 ++ dktX6_see_1
theorem dksX6_see_0 : cX6_see.data.toList.drop 0 = dktX6_see_0 := by decide +kernel
theorem dksX6_see_1 : cX6_see.data.toList.drop 24 = dktX6_see_1 := dk_seg dksX6_see_0 24 rfl rfl
theorem dksX6_see_2 : cX6_see.data.toList.drop 46 = dktX6_see_2 := dk_seg dksX6_see_1 22 rfl rfl
theorem dksX6_see_3 : cX6_see.data.toList.drop 68 = dktX6_see_3 := dk_seg dksX6_see_2 22 rfl rfl
theorem dX6_see_0 : decode cX6_see 0 = .ok (.aload_n 0, 1) := dk_42 (dk_at dksX6_see_0 0 rfl rfl)
theorem dX6_see_1 : decode cX6_see 1 = .ok (.iload_n 1, 1) := dk_27 (dk_at dksX6_see_0 1 rfl rfl)
theorem dX6_see_2 : decode cX6_see 2 = .ok (.invokevirtual 149, 3) := dk_182 0 149 (dk_at dksX6_see_0 2 rfl rfl)
theorem dX6_see_5 : decode cX6_see 5 = .ok (.ifCond .ne 6, 3) := dk_154 0 6 (dk_at dksX6_see_0 5 rfl rfl)
theorem dX6_see_8 : decode cX6_see 8 = .ok (.bipush (-101), 2) := dk_16 155 (dk_at dksX6_see_0 8 rfl rfl)
theorem dX6_see_10 : decode cX6_see 10 = .ok (.ireturn, 1) := dk_172 (dk_at dksX6_see_0 10 rfl rfl)
theorem dX6_see_11 : decode cX6_see 11 = .ok (.iload_n 2, 1) := dk_28 (dk_at dksX6_see_0 11 rfl rfl)
theorem dX6_see_12 : decode cX6_see 12 = .ok (.iconst 0, 1) := dk_3 (dk_at dksX6_see_0 12 rfl rfl)
theorem dX6_see_13 : decode cX6_see 13 = .ok (.iconst 2, 1) := dk_5 (dk_at dksX6_see_0 13 rfl rfl)
theorem dX6_see_14 : decode cX6_see 14 = .ok (.invokestatic 65, 3) := dk_184 0 65 (dk_at dksX6_see_0 14 rfl rfl)
theorem dX6_see_17 : decode cX6_see 17 = .ok (.ifCond .ne 6, 3) := dk_154 0 6 (dk_at dksX6_see_0 17 rfl rfl)
theorem dX6_see_20 : decode cX6_see 20 = .ok (.bipush (-102), 2) := dk_16 154 (dk_at dksX6_see_0 20 rfl rfl)
theorem dX6_see_22 : decode cX6_see 22 = .ok (.ireturn, 1) := dk_172 (dk_at dksX6_see_0 22 rfl rfl)
theorem dX6_see_23 : decode cX6_see 23 = .ok (.aload_n 0, 1) := dk_42 (dk_at dksX6_see_0 23 rfl rfl)
theorem dX6_see_24 : decode cX6_see 24 = .ok (.getfield 110, 3) := dk_180 0 110 (dk_at dksX6_see_1 0 rfl rfl)
theorem dX6_see_27 : decode cX6_see 27 = .ok (.bipush 6, 2) := dk_16 6 (dk_at dksX6_see_1 3 rfl rfl)
theorem dX6_see_29 : decode cX6_see 29 = .ok (.if_icmp .ne 6, 3) := dk_160 0 6 (dk_at dksX6_see_1 5 rfl rfl)
theorem dX6_see_32 : decode cX6_see 32 = .ok (.bipush (-104), 2) := dk_16 152 (dk_at dksX6_see_1 8 rfl rfl)
theorem dX6_see_34 : decode cX6_see 34 = .ok (.ireturn, 1) := dk_172 (dk_at dksX6_see_1 10 rfl rfl)
theorem dX6_see_35 : decode cX6_see 35 = .ok (.aload_n 0, 1) := dk_42 (dk_at dksX6_see_1 11 rfl rfl)
theorem dX6_see_36 : decode cX6_see 36 = .ok (.getfield 16, 3) := dk_180 0 16 (dk_at dksX6_see_1 12 rfl rfl)
theorem dX6_see_39 : decode cX6_see 39 = .ok (.aload_n 0, 1) := dk_42 (dk_at dksX6_see_1 15 rfl rfl)
theorem dX6_see_40 : decode cX6_see 40 = .ok (.getfield 110, 3) := dk_180 0 110 (dk_at dksX6_see_1 16 rfl rfl)
theorem dX6_see_43 : decode cX6_see 43 = .ok (.iload_n 1, 1) := dk_27 (dk_at dksX6_see_1 19 rfl rfl)
theorem dX6_see_44 : decode cX6_see 44 = .ok (.iastore, 1) := dk_79 (dk_at dksX6_see_1 20 rfl rfl)
theorem dX6_see_45 : decode cX6_see 45 = .ok (.aload_n 0, 1) := dk_42 (dk_at dksX6_see_1 21 rfl rfl)
theorem dX6_see_46 : decode cX6_see 46 = .ok (.getfield 19, 3) := dk_180 0 19 (dk_at dksX6_see_2 0 rfl rfl)
theorem dX6_see_49 : decode cX6_see 49 = .ok (.aload_n 0, 1) := dk_42 (dk_at dksX6_see_2 3 rfl rfl)
theorem dX6_see_50 : decode cX6_see 50 = .ok (.getfield 110, 3) := dk_180 0 110 (dk_at dksX6_see_2 4 rfl rfl)
theorem dX6_see_53 : decode cX6_see 53 = .ok (.iload_n 2, 1) := dk_28 (dk_at dksX6_see_2 7 rfl rfl)
theorem dX6_see_54 : decode cX6_see 54 = .ok (.iastore, 1) := dk_79 (dk_at dksX6_see_2 8 rfl rfl)
theorem dX6_see_55 : decode cX6_see 55 = .ok (.aload_n 0, 1) := dk_42 (dk_at dksX6_see_2 9 rfl rfl)
theorem dX6_see_56 : decode cX6_see 56 = .ok (.getfield 22, 3) := dk_180 0 22 (dk_at dksX6_see_2 10 rfl rfl)
theorem dX6_see_59 : decode cX6_see 59 = .ok (.aload_n 0, 1) := dk_42 (dk_at dksX6_see_2 13 rfl rfl)
theorem dX6_see_60 : decode cX6_see 60 = .ok (.getfield 110, 3) := dk_180 0 110 (dk_at dksX6_see_2 14 rfl rfl)
theorem dX6_see_63 : decode cX6_see 63 = .ok (.iload_n 3, 1) := dk_29 (dk_at dksX6_see_2 17 rfl rfl)
theorem dX6_see_64 : decode cX6_see 64 = .ok (.ifCond .eq 7, 3) := dk_153 0 7 (dk_at dksX6_see_2 18 rfl rfl)
theorem dX6_see_67 : decode cX6_see 67 = .ok (.iconst 1, 1) := dk_4 (dk_at dksX6_see_2 21 rfl rfl)
theorem dX6_see_68 : decode cX6_see 68 = .ok (.goto 4, 3) := dk_167 0 4 (dk_at dksX6_see_3 0 rfl rfl)
theorem dX6_see_71 : decode cX6_see 71 = .ok (.iconst 0, 1) := dk_3 (dk_at dksX6_see_3 3 rfl rfl)
theorem dX6_see_72 : decode cX6_see 72 = .ok (.iastore, 1) := dk_79 (dk_at dksX6_see_3 4 rfl rfl)
theorem dX6_see_73 : decode cX6_see 73 = .ok (.aload_n 0, 1) := dk_42 (dk_at dksX6_see_3 5 rfl rfl)
theorem dX6_see_74 : decode cX6_see 74 = .ok (.dup, 1) := dk_89 (dk_at dksX6_see_3 6 rfl rfl)
theorem dX6_see_75 : decode cX6_see 75 = .ok (.getfield 110, 3) := dk_180 0 110 (dk_at dksX6_see_3 7 rfl rfl)
theorem dX6_see_78 : decode cX6_see 78 = .ok (.iconst 1, 1) := dk_4 (dk_at dksX6_see_3 10 rfl rfl)
theorem dX6_see_79 : decode cX6_see 79 = .ok (.iadd, 1) := dk_96 (dk_at dksX6_see_3 11 rfl rfl)
theorem dX6_see_80 : decode cX6_see 80 = .ok (.putfield 110, 3) := dk_181 0 110 (dk_at dksX6_see_3 12 rfl rfl)
theorem dX6_see_83 : decode cX6_see 83 = .ok (.aload_n 0, 1) := dk_42 (dk_at dksX6_see_3 15 rfl rfl)
theorem dX6_see_84 : decode cX6_see 84 = .ok (.getfield 110, 3) := dk_180 0 110 (dk_at dksX6_see_3 16 rfl rfl)
theorem dX6_see_87 : decode cX6_see 87 = .ok (.ireturn, 1) := dk_172 (dk_at dksX6_see_3 19 rfl rfl)
abbrev cX6_forget : ByteArray := prog_9_method_52_code
def yX6_forget : MethodName := ⟨RX6, "forget", "()I"⟩
def dkwX6_forget_0 : List UInt8 := [42, 180, 0, 110, 60, 42, 3, 181, 0, 110, 27, 172]
abbrev dktX6_forget_0 : List UInt8 := dkwX6_forget_0 ++ []
theorem dksX6_forget_0 : cX6_forget.data.toList.drop 0 = dktX6_forget_0 := by decide +kernel
theorem dX6_forget_0 : decode cX6_forget 0 = .ok (.aload_n 0, 1) := dk_42 (dk_at dksX6_forget_0 0 rfl rfl)
theorem dX6_forget_1 : decode cX6_forget 1 = .ok (.getfield 110, 3) := dk_180 0 110 (dk_at dksX6_forget_0 1 rfl rfl)
theorem dX6_forget_4 : decode cX6_forget 4 = .ok (.istore_n 1, 1) := dk_60 (dk_at dksX6_forget_0 4 rfl rfl)
theorem dX6_forget_5 : decode cX6_forget 5 = .ok (.aload_n 0, 1) := dk_42 (dk_at dksX6_forget_0 5 rfl rfl)
theorem dX6_forget_6 : decode cX6_forget 6 = .ok (.iconst 0, 1) := dk_3 (dk_at dksX6_forget_0 6 rfl rfl)
theorem dX6_forget_7 : decode cX6_forget 7 = .ok (.putfield 110, 3) := dk_181 0 110 (dk_at dksX6_forget_0 7 rfl rfl)
theorem dX6_forget_10 : decode cX6_forget 10 = .ok (.iload_n 1, 1) := dk_27 (dk_at dksX6_forget_0 10 rfl rfl)
theorem dX6_forget_11 : decode cX6_forget 11 = .ok (.ireturn, 1) := dk_172 (dk_at dksX6_forget_0 11 rfl rfl)
abbrev cX6_paintings : ByteArray := prog_9_method_57_code
def yX6_paintings : MethodName := ⟨RX6, "paintings", "(III)I"⟩
def dkwX6_paintings_1 : List UInt8 := [16, 154, 172, 42, 180, 0, 101, 154, 0, 8, 16, 153, 167, 0, 10, 42, 27, 28, 29, 182, 0, 224, 172]
abbrev dktX6_paintings_1 : List UInt8 := dkwX6_paintings_1 ++ []
def dkwX6_paintings_0 : List UInt8 := [27, 4, 16, 40, 184, 0, 65, 153, 0, 16, 28, 155, 0, 12, 29, 3, 5, 184, 0, 65, 154, 0, 6]
abbrev dktX6_paintings_0 : List UInt8 := dkwX6_paintings_0 ++ dktX6_paintings_1
theorem dksX6_paintings_0 : cX6_paintings.data.toList.drop 0 = dktX6_paintings_0 := by decide +kernel
theorem dksX6_paintings_1 : cX6_paintings.data.toList.drop 23 = dktX6_paintings_1 := dk_seg dksX6_paintings_0 23 rfl rfl
theorem dX6_paintings_0 : decode cX6_paintings 0 = .ok (.iload_n 1, 1) := dk_27 (dk_at dksX6_paintings_0 0 rfl rfl)
theorem dX6_paintings_1 : decode cX6_paintings 1 = .ok (.iconst 1, 1) := dk_4 (dk_at dksX6_paintings_0 1 rfl rfl)
theorem dX6_paintings_2 : decode cX6_paintings 2 = .ok (.bipush 40, 2) := dk_16 40 (dk_at dksX6_paintings_0 2 rfl rfl)
theorem dX6_paintings_4 : decode cX6_paintings 4 = .ok (.invokestatic 65, 3) := dk_184 0 65 (dk_at dksX6_paintings_0 4 rfl rfl)
theorem dX6_paintings_7 : decode cX6_paintings 7 = .ok (.ifCond .eq 16, 3) := dk_153 0 16 (dk_at dksX6_paintings_0 7 rfl rfl)
theorem dX6_paintings_10 : decode cX6_paintings 10 = .ok (.iload_n 2, 1) := dk_28 (dk_at dksX6_paintings_0 10 rfl rfl)
theorem dX6_paintings_11 : decode cX6_paintings 11 = .ok (.ifCond .lt 12, 3) := dk_155 0 12 (dk_at dksX6_paintings_0 11 rfl rfl)
theorem dX6_paintings_14 : decode cX6_paintings 14 = .ok (.iload_n 3, 1) := dk_29 (dk_at dksX6_paintings_0 14 rfl rfl)
theorem dX6_paintings_15 : decode cX6_paintings 15 = .ok (.iconst 0, 1) := dk_3 (dk_at dksX6_paintings_0 15 rfl rfl)
theorem dX6_paintings_16 : decode cX6_paintings 16 = .ok (.iconst 2, 1) := dk_5 (dk_at dksX6_paintings_0 16 rfl rfl)
theorem dX6_paintings_17 : decode cX6_paintings 17 = .ok (.invokestatic 65, 3) := dk_184 0 65 (dk_at dksX6_paintings_0 17 rfl rfl)
theorem dX6_paintings_20 : decode cX6_paintings 20 = .ok (.ifCond .ne 6, 3) := dk_154 0 6 (dk_at dksX6_paintings_0 20 rfl rfl)
theorem dX6_paintings_23 : decode cX6_paintings 23 = .ok (.bipush (-102), 2) := dk_16 154 (dk_at dksX6_paintings_1 0 rfl rfl)
theorem dX6_paintings_25 : decode cX6_paintings 25 = .ok (.ireturn, 1) := dk_172 (dk_at dksX6_paintings_1 2 rfl rfl)
theorem dX6_paintings_26 : decode cX6_paintings 26 = .ok (.aload_n 0, 1) := dk_42 (dk_at dksX6_paintings_1 3 rfl rfl)
theorem dX6_paintings_27 : decode cX6_paintings 27 = .ok (.getfield 101, 3) := dk_180 0 101 (dk_at dksX6_paintings_1 4 rfl rfl)
theorem dX6_paintings_30 : decode cX6_paintings 30 = .ok (.ifCond .ne 8, 3) := dk_154 0 8 (dk_at dksX6_paintings_1 7 rfl rfl)
theorem dX6_paintings_33 : decode cX6_paintings 33 = .ok (.bipush (-103), 2) := dk_16 153 (dk_at dksX6_paintings_1 10 rfl rfl)
theorem dX6_paintings_35 : decode cX6_paintings 35 = .ok (.goto 10, 3) := dk_167 0 10 (dk_at dksX6_paintings_1 12 rfl rfl)
theorem dX6_paintings_38 : decode cX6_paintings 38 = .ok (.aload_n 0, 1) := dk_42 (dk_at dksX6_paintings_1 15 rfl rfl)
theorem dX6_paintings_39 : decode cX6_paintings 39 = .ok (.iload_n 1, 1) := dk_27 (dk_at dksX6_paintings_1 16 rfl rfl)
theorem dX6_paintings_40 : decode cX6_paintings 40 = .ok (.iload_n 2, 1) := dk_28 (dk_at dksX6_paintings_1 17 rfl rfl)
theorem dX6_paintings_41 : decode cX6_paintings 41 = .ok (.iload_n 3, 1) := dk_29 (dk_at dksX6_paintings_1 18 rfl rfl)
theorem dX6_paintings_42 : decode cX6_paintings 42 = .ok (.invokevirtual 224, 3) := dk_182 0 224 (dk_at dksX6_paintings_1 19 rfl rfl)
theorem dX6_paintings_45 : decode cX6_paintings 45 = .ok (.ireturn, 1) := dk_172 (dk_at dksX6_paintings_1 22 rfl rfl)
abbrev cX6_paintingsNow : ByteArray := prog_9_method_56_code
def yX6_paintingsNow : MethodName := ⟨RX6, "paintingsNow", "(III)I"⟩
def dkwX6_paintingsNow_6 : List UInt8 := [167, 0, 8, 42, 180, 0, 211, 136, 172]
abbrev dktX6_paintingsNow_6 : List UInt8 := dkwX6_paintingsNow_6 ++ []
def dkwX6_paintingsNow_5 : List UInt8 := [132, 6, 1, 167, 255, 157, 29, 154, 0, 8, 21, 4, 167, 0, 18, 29, 4, 160, 0, 8, 21, 5]
abbrev dktX6_paintingsNow_5 : List UInt8 := dkwX6_paintingsNow_5 ++ dktX6_paintingsNow_6
def dkwX6_paintingsNow_4 : List UInt8 := [21, 4, 21, 7, 154, 0, 7, 4, 167, 0, 4, 3, 96, 54, 4, 21, 5, 21, 7, 96, 54, 5]
abbrev dktX6_paintingsNow_4 : List UInt8 := dkwX6_paintingsNow_4 ++ dktX6_paintingsNow_5
def dkwX6_paintingsNow_3 : List UInt8 := [180, 0, 29, 21, 7, 46, 79, 132, 7, 1, 167, 255, 208, 42, 42, 180, 0, 101, 182, 0, 131, 54, 7]
abbrev dktX6_paintingsNow_3 : List UInt8 := dkwX6_paintingsNow_3 ++ dktX6_paintingsNow_4
def dkwX6_paintingsNow_2 : List UInt8 := [180, 0, 29, 21, 7, 46, 2, 160, 0, 14, 42, 42, 180, 0, 98, 182, 0, 221, 167, 0, 10, 42]
abbrev dktX6_paintingsNow_2 : List UInt8 := dkwX6_paintingsNow_2 ++ dktX6_paintingsNow_3
def dkwX6_paintingsNow_1 : List UInt8 := [182, 0, 128, 4, 54, 7, 21, 7, 42, 180, 0, 101, 163, 0, 45, 42, 180, 0, 29, 21, 7, 42]
abbrev dktX6_paintingsNow_1 : List UInt8 := dkwX6_paintingsNow_1 ++ dktX6_paintingsNow_2
def dkwX6_paintingsNow_0 : List UInt8 := [42, 28, 133, 181, 0, 211, 3, 54, 4, 3, 54, 5, 3, 54, 6, 21, 6, 27, 162, 0, 99, 42]
abbrev dktX6_paintingsNow_0 : List UInt8 := dkwX6_paintingsNow_0 ++ dktX6_paintingsNow_1
theorem dksX6_paintingsNow_0 : cX6_paintingsNow.data.toList.drop 0 = dktX6_paintingsNow_0 := by decide +kernel
theorem dksX6_paintingsNow_1 : cX6_paintingsNow.data.toList.drop 22 = dktX6_paintingsNow_1 := dk_seg dksX6_paintingsNow_0 22 rfl rfl
theorem dksX6_paintingsNow_2 : cX6_paintingsNow.data.toList.drop 44 = dktX6_paintingsNow_2 := dk_seg dksX6_paintingsNow_1 22 rfl rfl
theorem dksX6_paintingsNow_3 : cX6_paintingsNow.data.toList.drop 66 = dktX6_paintingsNow_3 := dk_seg dksX6_paintingsNow_2 22 rfl rfl
theorem dksX6_paintingsNow_4 : cX6_paintingsNow.data.toList.drop 89 = dktX6_paintingsNow_4 := dk_seg dksX6_paintingsNow_3 23 rfl rfl
theorem dksX6_paintingsNow_5 : cX6_paintingsNow.data.toList.drop 111 = dktX6_paintingsNow_5 := dk_seg dksX6_paintingsNow_4 22 rfl rfl
theorem dksX6_paintingsNow_6 : cX6_paintingsNow.data.toList.drop 133 = dktX6_paintingsNow_6 := dk_seg dksX6_paintingsNow_5 22 rfl rfl
theorem dX6_paintingsNow_0 : decode cX6_paintingsNow 0 = .ok (.aload_n 0, 1) := dk_42 (dk_at dksX6_paintingsNow_0 0 rfl rfl)
theorem dX6_paintingsNow_1 : decode cX6_paintingsNow 1 = .ok (.iload_n 2, 1) := dk_28 (dk_at dksX6_paintingsNow_0 1 rfl rfl)
theorem dX6_paintingsNow_2 : decode cX6_paintingsNow 2 = .ok (.i2l, 1) := dk_133 (dk_at dksX6_paintingsNow_0 2 rfl rfl)
theorem dX6_paintingsNow_3 : decode cX6_paintingsNow 3 = .ok (.putfield 211, 3) := dk_181 0 211 (dk_at dksX6_paintingsNow_0 3 rfl rfl)
theorem dX6_paintingsNow_6 : decode cX6_paintingsNow 6 = .ok (.iconst 0, 1) := dk_3 (dk_at dksX6_paintingsNow_0 6 rfl rfl)
theorem dX6_paintingsNow_7 : decode cX6_paintingsNow 7 = .ok (.istore 4, 2) := dk_54 4 (dk_at dksX6_paintingsNow_0 7 rfl rfl)
theorem dX6_paintingsNow_9 : decode cX6_paintingsNow 9 = .ok (.iconst 0, 1) := dk_3 (dk_at dksX6_paintingsNow_0 9 rfl rfl)
theorem dX6_paintingsNow_10 : decode cX6_paintingsNow 10 = .ok (.istore 5, 2) := dk_54 5 (dk_at dksX6_paintingsNow_0 10 rfl rfl)
theorem dX6_paintingsNow_12 : decode cX6_paintingsNow 12 = .ok (.iconst 0, 1) := dk_3 (dk_at dksX6_paintingsNow_0 12 rfl rfl)
theorem dX6_paintingsNow_13 : decode cX6_paintingsNow 13 = .ok (.istore 6, 2) := dk_54 6 (dk_at dksX6_paintingsNow_0 13 rfl rfl)
theorem dX6_paintingsNow_15 : decode cX6_paintingsNow 15 = .ok (.iload 6, 2) := dk_21 6 (dk_at dksX6_paintingsNow_0 15 rfl rfl)
theorem dX6_paintingsNow_17 : decode cX6_paintingsNow 17 = .ok (.iload_n 1, 1) := dk_27 (dk_at dksX6_paintingsNow_0 17 rfl rfl)
theorem dX6_paintingsNow_18 : decode cX6_paintingsNow 18 = .ok (.if_icmp .ge 99, 3) := dk_162 0 99 (dk_at dksX6_paintingsNow_0 18 rfl rfl)
theorem dX6_paintingsNow_21 : decode cX6_paintingsNow 21 = .ok (.aload_n 0, 1) := dk_42 (dk_at dksX6_paintingsNow_0 21 rfl rfl)
theorem dX6_paintingsNow_22 : decode cX6_paintingsNow 22 = .ok (.invokevirtual 128, 3) := dk_182 0 128 (dk_at dksX6_paintingsNow_1 0 rfl rfl)
theorem dX6_paintingsNow_25 : decode cX6_paintingsNow 25 = .ok (.iconst 1, 1) := dk_4 (dk_at dksX6_paintingsNow_1 3 rfl rfl)
theorem dX6_paintingsNow_26 : decode cX6_paintingsNow 26 = .ok (.istore 7, 2) := dk_54 7 (dk_at dksX6_paintingsNow_1 4 rfl rfl)
theorem dX6_paintingsNow_28 : decode cX6_paintingsNow 28 = .ok (.iload 7, 2) := dk_21 7 (dk_at dksX6_paintingsNow_1 6 rfl rfl)
theorem dX6_paintingsNow_30 : decode cX6_paintingsNow 30 = .ok (.aload_n 0, 1) := dk_42 (dk_at dksX6_paintingsNow_1 8 rfl rfl)
theorem dX6_paintingsNow_31 : decode cX6_paintingsNow 31 = .ok (.getfield 101, 3) := dk_180 0 101 (dk_at dksX6_paintingsNow_1 9 rfl rfl)
theorem dX6_paintingsNow_34 : decode cX6_paintingsNow 34 = .ok (.if_icmp .gt 45, 3) := dk_163 0 45 (dk_at dksX6_paintingsNow_1 12 rfl rfl)
theorem dX6_paintingsNow_37 : decode cX6_paintingsNow 37 = .ok (.aload_n 0, 1) := dk_42 (dk_at dksX6_paintingsNow_1 15 rfl rfl)
theorem dX6_paintingsNow_38 : decode cX6_paintingsNow 38 = .ok (.getfield 29, 3) := dk_180 0 29 (dk_at dksX6_paintingsNow_1 16 rfl rfl)
theorem dX6_paintingsNow_41 : decode cX6_paintingsNow 41 = .ok (.iload 7, 2) := dk_21 7 (dk_at dksX6_paintingsNow_1 19 rfl rfl)
theorem dX6_paintingsNow_43 : decode cX6_paintingsNow 43 = .ok (.aload_n 0, 1) := dk_42 (dk_at dksX6_paintingsNow_1 21 rfl rfl)
theorem dX6_paintingsNow_44 : decode cX6_paintingsNow 44 = .ok (.getfield 29, 3) := dk_180 0 29 (dk_at dksX6_paintingsNow_2 0 rfl rfl)
theorem dX6_paintingsNow_47 : decode cX6_paintingsNow 47 = .ok (.iload 7, 2) := dk_21 7 (dk_at dksX6_paintingsNow_2 3 rfl rfl)
theorem dX6_paintingsNow_49 : decode cX6_paintingsNow 49 = .ok (.iaload, 1) := dk_46 (dk_at dksX6_paintingsNow_2 5 rfl rfl)
theorem dX6_paintingsNow_50 : decode cX6_paintingsNow 50 = .ok (.iconst (-1), 1) := dk_2 (dk_at dksX6_paintingsNow_2 6 rfl rfl)
theorem dX6_paintingsNow_51 : decode cX6_paintingsNow 51 = .ok (.if_icmp .ne 14, 3) := dk_160 0 14 (dk_at dksX6_paintingsNow_2 7 rfl rfl)
theorem dX6_paintingsNow_54 : decode cX6_paintingsNow 54 = .ok (.aload_n 0, 1) := dk_42 (dk_at dksX6_paintingsNow_2 10 rfl rfl)
theorem dX6_paintingsNow_55 : decode cX6_paintingsNow 55 = .ok (.aload_n 0, 1) := dk_42 (dk_at dksX6_paintingsNow_2 11 rfl rfl)
theorem dX6_paintingsNow_56 : decode cX6_paintingsNow 56 = .ok (.getfield 98, 3) := dk_180 0 98 (dk_at dksX6_paintingsNow_2 12 rfl rfl)
theorem dX6_paintingsNow_59 : decode cX6_paintingsNow 59 = .ok (.invokevirtual 221, 3) := dk_182 0 221 (dk_at dksX6_paintingsNow_2 15 rfl rfl)
theorem dX6_paintingsNow_62 : decode cX6_paintingsNow 62 = .ok (.goto 10, 3) := dk_167 0 10 (dk_at dksX6_paintingsNow_2 18 rfl rfl)
theorem dX6_paintingsNow_65 : decode cX6_paintingsNow 65 = .ok (.aload_n 0, 1) := dk_42 (dk_at dksX6_paintingsNow_2 21 rfl rfl)
theorem dX6_paintingsNow_66 : decode cX6_paintingsNow 66 = .ok (.getfield 29, 3) := dk_180 0 29 (dk_at dksX6_paintingsNow_3 0 rfl rfl)
theorem dX6_paintingsNow_69 : decode cX6_paintingsNow 69 = .ok (.iload 7, 2) := dk_21 7 (dk_at dksX6_paintingsNow_3 3 rfl rfl)
theorem dX6_paintingsNow_71 : decode cX6_paintingsNow 71 = .ok (.iaload, 1) := dk_46 (dk_at dksX6_paintingsNow_3 5 rfl rfl)
theorem dX6_paintingsNow_72 : decode cX6_paintingsNow 72 = .ok (.iastore, 1) := dk_79 (dk_at dksX6_paintingsNow_3 6 rfl rfl)
theorem dX6_paintingsNow_73 : decode cX6_paintingsNow 73 = .ok (.iinc 7 1, 3) := dk_132 7 1 (dk_at dksX6_paintingsNow_3 7 rfl rfl)
theorem dX6_paintingsNow_76 : decode cX6_paintingsNow 76 = .ok (.goto (-48), 3) := dk_167 255 208 (dk_at dksX6_paintingsNow_3 10 rfl rfl)
theorem dX6_paintingsNow_79 : decode cX6_paintingsNow 79 = .ok (.aload_n 0, 1) := dk_42 (dk_at dksX6_paintingsNow_3 13 rfl rfl)
theorem dX6_paintingsNow_80 : decode cX6_paintingsNow 80 = .ok (.aload_n 0, 1) := dk_42 (dk_at dksX6_paintingsNow_3 14 rfl rfl)
theorem dX6_paintingsNow_81 : decode cX6_paintingsNow 81 = .ok (.getfield 101, 3) := dk_180 0 101 (dk_at dksX6_paintingsNow_3 15 rfl rfl)
theorem dX6_paintingsNow_84 : decode cX6_paintingsNow 84 = .ok (.invokevirtual 131, 3) := dk_182 0 131 (dk_at dksX6_paintingsNow_3 18 rfl rfl)
theorem dX6_paintingsNow_87 : decode cX6_paintingsNow 87 = .ok (.istore 7, 2) := dk_54 7 (dk_at dksX6_paintingsNow_3 21 rfl rfl)
theorem dX6_paintingsNow_89 : decode cX6_paintingsNow 89 = .ok (.iload 4, 2) := dk_21 4 (dk_at dksX6_paintingsNow_4 0 rfl rfl)
theorem dX6_paintingsNow_91 : decode cX6_paintingsNow 91 = .ok (.iload 7, 2) := dk_21 7 (dk_at dksX6_paintingsNow_4 2 rfl rfl)
theorem dX6_paintingsNow_93 : decode cX6_paintingsNow 93 = .ok (.ifCond .ne 7, 3) := dk_154 0 7 (dk_at dksX6_paintingsNow_4 4 rfl rfl)
theorem dX6_paintingsNow_96 : decode cX6_paintingsNow 96 = .ok (.iconst 1, 1) := dk_4 (dk_at dksX6_paintingsNow_4 7 rfl rfl)
theorem dX6_paintingsNow_97 : decode cX6_paintingsNow 97 = .ok (.goto 4, 3) := dk_167 0 4 (dk_at dksX6_paintingsNow_4 8 rfl rfl)
theorem dX6_paintingsNow_100 : decode cX6_paintingsNow 100 = .ok (.iconst 0, 1) := dk_3 (dk_at dksX6_paintingsNow_4 11 rfl rfl)
theorem dX6_paintingsNow_101 : decode cX6_paintingsNow 101 = .ok (.iadd, 1) := dk_96 (dk_at dksX6_paintingsNow_4 12 rfl rfl)
theorem dX6_paintingsNow_102 : decode cX6_paintingsNow 102 = .ok (.istore 4, 2) := dk_54 4 (dk_at dksX6_paintingsNow_4 13 rfl rfl)
theorem dX6_paintingsNow_104 : decode cX6_paintingsNow 104 = .ok (.iload 5, 2) := dk_21 5 (dk_at dksX6_paintingsNow_4 15 rfl rfl)
theorem dX6_paintingsNow_106 : decode cX6_paintingsNow 106 = .ok (.iload 7, 2) := dk_21 7 (dk_at dksX6_paintingsNow_4 17 rfl rfl)
theorem dX6_paintingsNow_108 : decode cX6_paintingsNow 108 = .ok (.iadd, 1) := dk_96 (dk_at dksX6_paintingsNow_4 19 rfl rfl)
theorem dX6_paintingsNow_109 : decode cX6_paintingsNow 109 = .ok (.istore 5, 2) := dk_54 5 (dk_at dksX6_paintingsNow_4 20 rfl rfl)
theorem dX6_paintingsNow_111 : decode cX6_paintingsNow 111 = .ok (.iinc 6 1, 3) := dk_132 6 1 (dk_at dksX6_paintingsNow_5 0 rfl rfl)
theorem dX6_paintingsNow_114 : decode cX6_paintingsNow 114 = .ok (.goto (-99), 3) := dk_167 255 157 (dk_at dksX6_paintingsNow_5 3 rfl rfl)
theorem dX6_paintingsNow_117 : decode cX6_paintingsNow 117 = .ok (.iload_n 3, 1) := dk_29 (dk_at dksX6_paintingsNow_5 6 rfl rfl)
theorem dX6_paintingsNow_118 : decode cX6_paintingsNow 118 = .ok (.ifCond .ne 8, 3) := dk_154 0 8 (dk_at dksX6_paintingsNow_5 7 rfl rfl)
theorem dX6_paintingsNow_121 : decode cX6_paintingsNow 121 = .ok (.iload 4, 2) := dk_21 4 (dk_at dksX6_paintingsNow_5 10 rfl rfl)
theorem dX6_paintingsNow_123 : decode cX6_paintingsNow 123 = .ok (.goto 18, 3) := dk_167 0 18 (dk_at dksX6_paintingsNow_5 12 rfl rfl)
theorem dX6_paintingsNow_126 : decode cX6_paintingsNow 126 = .ok (.iload_n 3, 1) := dk_29 (dk_at dksX6_paintingsNow_5 15 rfl rfl)
theorem dX6_paintingsNow_127 : decode cX6_paintingsNow 127 = .ok (.iconst 1, 1) := dk_4 (dk_at dksX6_paintingsNow_5 16 rfl rfl)
theorem dX6_paintingsNow_128 : decode cX6_paintingsNow 128 = .ok (.if_icmp .ne 8, 3) := dk_160 0 8 (dk_at dksX6_paintingsNow_5 17 rfl rfl)
theorem dX6_paintingsNow_131 : decode cX6_paintingsNow 131 = .ok (.iload 5, 2) := dk_21 5 (dk_at dksX6_paintingsNow_5 20 rfl rfl)
theorem dX6_paintingsNow_133 : decode cX6_paintingsNow 133 = .ok (.goto 8, 3) := dk_167 0 8 (dk_at dksX6_paintingsNow_6 0 rfl rfl)
theorem dX6_paintingsNow_136 : decode cX6_paintingsNow 136 = .ok (.aload_n 0, 1) := dk_42 (dk_at dksX6_paintingsNow_6 3 rfl rfl)
theorem dX6_paintingsNow_137 : decode cX6_paintingsNow 137 = .ok (.getfield 211, 3) := dk_180 0 211 (dk_at dksX6_paintingsNow_6 4 rfl rfl)
theorem dX6_paintingsNow_140 : decode cX6_paintingsNow 140 = .ok (.l2i, 1) := dk_136 (dk_at dksX6_paintingsNow_6 7 rfl rfl)
theorem dX6_paintingsNow_141 : decode cX6_paintingsNow 141 = .ok (.ireturn, 1) := dk_172 (dk_at dksX6_paintingsNow_6 8 rfl rfl)
abbrev cX6_draw : ByteArray := prog_9_method_55_code
def yX6_draw : MethodName := ⟨RX6, "draw", "(I)I"⟩
def dkwX6_draw_1 : List UInt8 := [20, 0, 219, 109, 27, 133, 113, 136, 172]
abbrev dktX6_draw_1 : List UInt8 := dkwX6_draw_1 ++ []
def dkwX6_draw_0 : List UInt8 := [42, 20, 0, 209, 42, 180, 0, 211, 105, 20, 0, 215, 97, 20, 0, 217, 127, 181, 0, 211, 42, 180, 0, 211]
abbrev dktX6_draw_0 : List UInt8 := dkwX6_draw_0 ++ dktX6_draw_1
theorem dksX6_draw_0 : cX6_draw.data.toList.drop 0 = dktX6_draw_0 := by decide +kernel
theorem dksX6_draw_1 : cX6_draw.data.toList.drop 24 = dktX6_draw_1 := dk_seg dksX6_draw_0 24 rfl rfl
theorem dX6_draw_0 : decode cX6_draw 0 = .ok (.aload_n 0, 1) := dk_42 (dk_at dksX6_draw_0 0 rfl rfl)
theorem dX6_draw_1 : decode cX6_draw 1 = .ok (.ldc2_w 209, 3) := dk_20 0 209 (dk_at dksX6_draw_0 1 rfl rfl)
theorem dX6_draw_4 : decode cX6_draw 4 = .ok (.aload_n 0, 1) := dk_42 (dk_at dksX6_draw_0 4 rfl rfl)
theorem dX6_draw_5 : decode cX6_draw 5 = .ok (.getfield 211, 3) := dk_180 0 211 (dk_at dksX6_draw_0 5 rfl rfl)
theorem dX6_draw_8 : decode cX6_draw 8 = .ok (.lmul, 1) := dk_105 (dk_at dksX6_draw_0 8 rfl rfl)
theorem dX6_draw_9 : decode cX6_draw 9 = .ok (.ldc2_w 215, 3) := dk_20 0 215 (dk_at dksX6_draw_0 9 rfl rfl)
theorem dX6_draw_12 : decode cX6_draw 12 = .ok (.ladd, 1) := dk_97 (dk_at dksX6_draw_0 12 rfl rfl)
theorem dX6_draw_13 : decode cX6_draw 13 = .ok (.ldc2_w 217, 3) := dk_20 0 217 (dk_at dksX6_draw_0 13 rfl rfl)
theorem dX6_draw_16 : decode cX6_draw 16 = .ok (.land, 1) := dk_127 (dk_at dksX6_draw_0 16 rfl rfl)
theorem dX6_draw_17 : decode cX6_draw 17 = .ok (.putfield 211, 3) := dk_181 0 211 (dk_at dksX6_draw_0 17 rfl rfl)
theorem dX6_draw_20 : decode cX6_draw 20 = .ok (.aload_n 0, 1) := dk_42 (dk_at dksX6_draw_0 20 rfl rfl)
theorem dX6_draw_21 : decode cX6_draw 21 = .ok (.getfield 211, 3) := dk_180 0 211 (dk_at dksX6_draw_0 21 rfl rfl)
theorem dX6_draw_24 : decode cX6_draw 24 = .ok (.ldc2_w 219, 3) := dk_20 0 219 (dk_at dksX6_draw_1 0 rfl rfl)
theorem dX6_draw_27 : decode cX6_draw 27 = .ok (.ldiv, 1) := dk_109 (dk_at dksX6_draw_1 3 rfl rfl)
theorem dX6_draw_28 : decode cX6_draw 28 = .ok (.iload_n 1, 1) := dk_27 (dk_at dksX6_draw_1 4 rfl rfl)
theorem dX6_draw_29 : decode cX6_draw 29 = .ok (.i2l, 1) := dk_133 (dk_at dksX6_draw_1 5 rfl rfl)
theorem dX6_draw_30 : decode cX6_draw 30 = .ok (.lrem, 1) := dk_113 (dk_at dksX6_draw_1 6 rfl rfl)
theorem dX6_draw_31 : decode cX6_draw 31 = .ok (.l2i, 1) := dk_136 (dk_at dksX6_draw_1 7 rfl rfl)
theorem dX6_draw_32 : decode cX6_draw 32 = .ok (.ireturn, 1) := dk_172 (dk_at dksX6_draw_1 8 rfl rfl)
abbrev cX6_image : ByteArray := prog_9_method_58_code
def yX6_image : MethodName := ⟨RX6, "image", "()I"⟩
def dkwX6_image_5 : List UInt8 := [180, 0, 22, 27, 46, 79, 132, 1, 1, 167, 255, 211, 42, 180, 0, 104, 172]
abbrev dktX6_image_5 : List UInt8 := dkwX6_image_5 ++ []
def dkwX6_image_4 : List UInt8 := [180, 0, 16, 27, 46, 79, 42, 180, 0, 59, 27, 42, 180, 0, 19, 27, 46, 79, 42, 180, 0, 62, 27, 42]
abbrev dktX6_image_4 : List UInt8 := dkwX6_image_4 ++ dktX6_image_5
def dkwX6_image_3 : List UInt8 := [27, 46, 79, 132, 1, 1, 167, 255, 221, 3, 60, 27, 16, 6, 162, 0, 45, 42, 180, 0, 56, 27, 42]
abbrev dktX6_image_3 : List UInt8 := dkwX6_image_3 ++ dktX6_image_4
def dkwX6_image_2 : List UInt8 := [163, 0, 33, 42, 180, 0, 50, 27, 42, 180, 0, 7, 27, 46, 79, 42, 180, 0, 53, 27, 42, 180, 0, 13]
abbrev dktX6_image_2 : List UInt8 := dkwX6_image_2 ++ dktX6_image_3
def dkwX6_image_1 : List UInt8 := [42, 180, 0, 104, 181, 0, 233, 42, 42, 180, 0, 110, 181, 0, 236, 4, 60, 27, 42, 180, 0, 101]
abbrev dktX6_image_1 : List UInt8 := dkwX6_image_1 ++ dktX6_image_2
def dkwX6_image_0 : List UInt8 := [42, 180, 0, 101, 154, 0, 6, 16, 153, 172, 42, 4, 181, 0, 227, 42, 42, 180, 0, 107, 181, 0, 230, 42]
abbrev dktX6_image_0 : List UInt8 := dkwX6_image_0 ++ dktX6_image_1
theorem dksX6_image_0 : cX6_image.data.toList.drop 0 = dktX6_image_0 := by decide +kernel
theorem dksX6_image_1 : cX6_image.data.toList.drop 24 = dktX6_image_1 := dk_seg dksX6_image_0 24 rfl rfl
theorem dksX6_image_2 : cX6_image.data.toList.drop 46 = dktX6_image_2 := dk_seg dksX6_image_1 22 rfl rfl
theorem dksX6_image_3 : cX6_image.data.toList.drop 70 = dktX6_image_3 := dk_seg dksX6_image_2 24 rfl rfl
theorem dksX6_image_4 : cX6_image.data.toList.drop 93 = dktX6_image_4 := dk_seg dksX6_image_3 23 rfl rfl
theorem dksX6_image_5 : cX6_image.data.toList.drop 117 = dktX6_image_5 := dk_seg dksX6_image_4 24 rfl rfl
theorem dX6_image_0 : decode cX6_image 0 = .ok (.aload_n 0, 1) := dk_42 (dk_at dksX6_image_0 0 rfl rfl)
theorem dX6_image_1 : decode cX6_image 1 = .ok (.getfield 101, 3) := dk_180 0 101 (dk_at dksX6_image_0 1 rfl rfl)
theorem dX6_image_4 : decode cX6_image 4 = .ok (.ifCond .ne 6, 3) := dk_154 0 6 (dk_at dksX6_image_0 4 rfl rfl)
theorem dX6_image_7 : decode cX6_image 7 = .ok (.bipush (-103), 2) := dk_16 153 (dk_at dksX6_image_0 7 rfl rfl)
theorem dX6_image_9 : decode cX6_image 9 = .ok (.ireturn, 1) := dk_172 (dk_at dksX6_image_0 9 rfl rfl)
theorem dX6_image_10 : decode cX6_image 10 = .ok (.aload_n 0, 1) := dk_42 (dk_at dksX6_image_0 10 rfl rfl)
theorem dX6_image_11 : decode cX6_image 11 = .ok (.iconst 1, 1) := dk_4 (dk_at dksX6_image_0 11 rfl rfl)
theorem dX6_image_12 : decode cX6_image 12 = .ok (.putfield 227, 3) := dk_181 0 227 (dk_at dksX6_image_0 12 rfl rfl)
theorem dX6_image_15 : decode cX6_image 15 = .ok (.aload_n 0, 1) := dk_42 (dk_at dksX6_image_0 15 rfl rfl)
theorem dX6_image_16 : decode cX6_image 16 = .ok (.aload_n 0, 1) := dk_42 (dk_at dksX6_image_0 16 rfl rfl)
theorem dX6_image_17 : decode cX6_image 17 = .ok (.getfield 107, 3) := dk_180 0 107 (dk_at dksX6_image_0 17 rfl rfl)
theorem dX6_image_20 : decode cX6_image 20 = .ok (.putfield 230, 3) := dk_181 0 230 (dk_at dksX6_image_0 20 rfl rfl)
theorem dX6_image_23 : decode cX6_image 23 = .ok (.aload_n 0, 1) := dk_42 (dk_at dksX6_image_0 23 rfl rfl)
theorem dX6_image_24 : decode cX6_image 24 = .ok (.aload_n 0, 1) := dk_42 (dk_at dksX6_image_1 0 rfl rfl)
theorem dX6_image_25 : decode cX6_image 25 = .ok (.getfield 104, 3) := dk_180 0 104 (dk_at dksX6_image_1 1 rfl rfl)
theorem dX6_image_28 : decode cX6_image 28 = .ok (.putfield 233, 3) := dk_181 0 233 (dk_at dksX6_image_1 4 rfl rfl)
theorem dX6_image_31 : decode cX6_image 31 = .ok (.aload_n 0, 1) := dk_42 (dk_at dksX6_image_1 7 rfl rfl)
theorem dX6_image_32 : decode cX6_image 32 = .ok (.aload_n 0, 1) := dk_42 (dk_at dksX6_image_1 8 rfl rfl)
theorem dX6_image_33 : decode cX6_image 33 = .ok (.getfield 110, 3) := dk_180 0 110 (dk_at dksX6_image_1 9 rfl rfl)
theorem dX6_image_36 : decode cX6_image 36 = .ok (.putfield 236, 3) := dk_181 0 236 (dk_at dksX6_image_1 12 rfl rfl)
theorem dX6_image_39 : decode cX6_image 39 = .ok (.iconst 1, 1) := dk_4 (dk_at dksX6_image_1 15 rfl rfl)
theorem dX6_image_40 : decode cX6_image 40 = .ok (.istore_n 1, 1) := dk_60 (dk_at dksX6_image_1 16 rfl rfl)
theorem dX6_image_41 : decode cX6_image 41 = .ok (.iload_n 1, 1) := dk_27 (dk_at dksX6_image_1 17 rfl rfl)
theorem dX6_image_42 : decode cX6_image 42 = .ok (.aload_n 0, 1) := dk_42 (dk_at dksX6_image_1 18 rfl rfl)
theorem dX6_image_43 : decode cX6_image 43 = .ok (.getfield 101, 3) := dk_180 0 101 (dk_at dksX6_image_1 19 rfl rfl)
theorem dX6_image_46 : decode cX6_image 46 = .ok (.if_icmp .gt 33, 3) := dk_163 0 33 (dk_at dksX6_image_2 0 rfl rfl)
theorem dX6_image_49 : decode cX6_image 49 = .ok (.aload_n 0, 1) := dk_42 (dk_at dksX6_image_2 3 rfl rfl)
theorem dX6_image_50 : decode cX6_image 50 = .ok (.getfield 50, 3) := dk_180 0 50 (dk_at dksX6_image_2 4 rfl rfl)
theorem dX6_image_53 : decode cX6_image 53 = .ok (.iload_n 1, 1) := dk_27 (dk_at dksX6_image_2 7 rfl rfl)
theorem dX6_image_54 : decode cX6_image 54 = .ok (.aload_n 0, 1) := dk_42 (dk_at dksX6_image_2 8 rfl rfl)
theorem dX6_image_55 : decode cX6_image 55 = .ok (.getfield 7, 3) := dk_180 0 7 (dk_at dksX6_image_2 9 rfl rfl)
theorem dX6_image_58 : decode cX6_image 58 = .ok (.iload_n 1, 1) := dk_27 (dk_at dksX6_image_2 12 rfl rfl)
theorem dX6_image_59 : decode cX6_image 59 = .ok (.iaload, 1) := dk_46 (dk_at dksX6_image_2 13 rfl rfl)
theorem dX6_image_60 : decode cX6_image 60 = .ok (.iastore, 1) := dk_79 (dk_at dksX6_image_2 14 rfl rfl)
theorem dX6_image_61 : decode cX6_image 61 = .ok (.aload_n 0, 1) := dk_42 (dk_at dksX6_image_2 15 rfl rfl)
theorem dX6_image_62 : decode cX6_image 62 = .ok (.getfield 53, 3) := dk_180 0 53 (dk_at dksX6_image_2 16 rfl rfl)
theorem dX6_image_65 : decode cX6_image 65 = .ok (.iload_n 1, 1) := dk_27 (dk_at dksX6_image_2 19 rfl rfl)
theorem dX6_image_66 : decode cX6_image 66 = .ok (.aload_n 0, 1) := dk_42 (dk_at dksX6_image_2 20 rfl rfl)
theorem dX6_image_67 : decode cX6_image 67 = .ok (.getfield 13, 3) := dk_180 0 13 (dk_at dksX6_image_2 21 rfl rfl)
theorem dX6_image_70 : decode cX6_image 70 = .ok (.iload_n 1, 1) := dk_27 (dk_at dksX6_image_3 0 rfl rfl)
theorem dX6_image_71 : decode cX6_image 71 = .ok (.iaload, 1) := dk_46 (dk_at dksX6_image_3 1 rfl rfl)
theorem dX6_image_72 : decode cX6_image 72 = .ok (.iastore, 1) := dk_79 (dk_at dksX6_image_3 2 rfl rfl)
theorem dX6_image_73 : decode cX6_image 73 = .ok (.iinc 1 1, 3) := dk_132 1 1 (dk_at dksX6_image_3 3 rfl rfl)
theorem dX6_image_76 : decode cX6_image 76 = .ok (.goto (-35), 3) := dk_167 255 221 (dk_at dksX6_image_3 6 rfl rfl)
theorem dX6_image_79 : decode cX6_image 79 = .ok (.iconst 0, 1) := dk_3 (dk_at dksX6_image_3 9 rfl rfl)
theorem dX6_image_80 : decode cX6_image 80 = .ok (.istore_n 1, 1) := dk_60 (dk_at dksX6_image_3 10 rfl rfl)
theorem dX6_image_81 : decode cX6_image 81 = .ok (.iload_n 1, 1) := dk_27 (dk_at dksX6_image_3 11 rfl rfl)
theorem dX6_image_82 : decode cX6_image 82 = .ok (.bipush 6, 2) := dk_16 6 (dk_at dksX6_image_3 12 rfl rfl)
theorem dX6_image_84 : decode cX6_image 84 = .ok (.if_icmp .ge 45, 3) := dk_162 0 45 (dk_at dksX6_image_3 14 rfl rfl)
theorem dX6_image_87 : decode cX6_image 87 = .ok (.aload_n 0, 1) := dk_42 (dk_at dksX6_image_3 17 rfl rfl)
theorem dX6_image_88 : decode cX6_image 88 = .ok (.getfield 56, 3) := dk_180 0 56 (dk_at dksX6_image_3 18 rfl rfl)
theorem dX6_image_91 : decode cX6_image 91 = .ok (.iload_n 1, 1) := dk_27 (dk_at dksX6_image_3 21 rfl rfl)
theorem dX6_image_92 : decode cX6_image 92 = .ok (.aload_n 0, 1) := dk_42 (dk_at dksX6_image_3 22 rfl rfl)
theorem dX6_image_93 : decode cX6_image 93 = .ok (.getfield 16, 3) := dk_180 0 16 (dk_at dksX6_image_4 0 rfl rfl)
theorem dX6_image_96 : decode cX6_image 96 = .ok (.iload_n 1, 1) := dk_27 (dk_at dksX6_image_4 3 rfl rfl)
theorem dX6_image_97 : decode cX6_image 97 = .ok (.iaload, 1) := dk_46 (dk_at dksX6_image_4 4 rfl rfl)
theorem dX6_image_98 : decode cX6_image 98 = .ok (.iastore, 1) := dk_79 (dk_at dksX6_image_4 5 rfl rfl)
theorem dX6_image_99 : decode cX6_image 99 = .ok (.aload_n 0, 1) := dk_42 (dk_at dksX6_image_4 6 rfl rfl)
theorem dX6_image_100 : decode cX6_image 100 = .ok (.getfield 59, 3) := dk_180 0 59 (dk_at dksX6_image_4 7 rfl rfl)
theorem dX6_image_103 : decode cX6_image 103 = .ok (.iload_n 1, 1) := dk_27 (dk_at dksX6_image_4 10 rfl rfl)
theorem dX6_image_104 : decode cX6_image 104 = .ok (.aload_n 0, 1) := dk_42 (dk_at dksX6_image_4 11 rfl rfl)
theorem dX6_image_105 : decode cX6_image 105 = .ok (.getfield 19, 3) := dk_180 0 19 (dk_at dksX6_image_4 12 rfl rfl)
theorem dX6_image_108 : decode cX6_image 108 = .ok (.iload_n 1, 1) := dk_27 (dk_at dksX6_image_4 15 rfl rfl)
theorem dX6_image_109 : decode cX6_image 109 = .ok (.iaload, 1) := dk_46 (dk_at dksX6_image_4 16 rfl rfl)
theorem dX6_image_110 : decode cX6_image 110 = .ok (.iastore, 1) := dk_79 (dk_at dksX6_image_4 17 rfl rfl)
theorem dX6_image_111 : decode cX6_image 111 = .ok (.aload_n 0, 1) := dk_42 (dk_at dksX6_image_4 18 rfl rfl)
theorem dX6_image_112 : decode cX6_image 112 = .ok (.getfield 62, 3) := dk_180 0 62 (dk_at dksX6_image_4 19 rfl rfl)
theorem dX6_image_115 : decode cX6_image 115 = .ok (.iload_n 1, 1) := dk_27 (dk_at dksX6_image_4 22 rfl rfl)
theorem dX6_image_116 : decode cX6_image 116 = .ok (.aload_n 0, 1) := dk_42 (dk_at dksX6_image_4 23 rfl rfl)
theorem dX6_image_117 : decode cX6_image 117 = .ok (.getfield 22, 3) := dk_180 0 22 (dk_at dksX6_image_5 0 rfl rfl)
theorem dX6_image_120 : decode cX6_image 120 = .ok (.iload_n 1, 1) := dk_27 (dk_at dksX6_image_5 3 rfl rfl)
theorem dX6_image_121 : decode cX6_image 121 = .ok (.iaload, 1) := dk_46 (dk_at dksX6_image_5 4 rfl rfl)
theorem dX6_image_122 : decode cX6_image 122 = .ok (.iastore, 1) := dk_79 (dk_at dksX6_image_5 5 rfl rfl)
theorem dX6_image_123 : decode cX6_image 123 = .ok (.iinc 1 1, 3) := dk_132 1 1 (dk_at dksX6_image_5 6 rfl rfl)
theorem dX6_image_126 : decode cX6_image 126 = .ok (.goto (-45), 3) := dk_167 255 211 (dk_at dksX6_image_5 9 rfl rfl)
theorem dX6_image_129 : decode cX6_image 129 = .ok (.aload_n 0, 1) := dk_42 (dk_at dksX6_image_5 12 rfl rfl)
theorem dX6_image_130 : decode cX6_image 130 = .ok (.getfield 104, 3) := dk_180 0 104 (dk_at dksX6_image_5 13 rfl rfl)
theorem dX6_image_133 : decode cX6_image 133 = .ok (.ireturn, 1) := dk_172 (dk_at dksX6_image_5 16 rfl rfl)
abbrev cX6_restore : ByteArray := prog_9_method_59_code
def yX6_restore : MethodName := ⟨RX6, "restore", "()I"⟩
def dkwX6_restore_5 : List UInt8 := [46, 79, 132, 1, 1, 167, 255, 211, 42, 180, 0, 104, 172]
abbrev dktX6_restore_5 : List UInt8 := dkwX6_restore_5 ++ []
def dkwX6_restore_4 : List UInt8 := [46, 79, 42, 180, 0, 19, 27, 42, 180, 0, 59, 27, 46, 79, 42, 180, 0, 22, 27, 42, 180, 0, 62, 27]
abbrev dktX6_restore_4 : List UInt8 := dkwX6_restore_4 ++ dktX6_restore_5
def dkwX6_restore_3 : List UInt8 := [132, 1, 1, 167, 255, 221, 3, 60, 27, 16, 6, 162, 0, 45, 42, 180, 0, 16, 27, 42, 180, 0, 56, 27]
abbrev dktX6_restore_3 : List UInt8 := dkwX6_restore_3 ++ dktX6_restore_4
def dkwX6_restore_2 : List UInt8 := [42, 180, 0, 7, 27, 42, 180, 0, 50, 27, 46, 79, 42, 180, 0, 13, 27, 42, 180, 0, 53, 27, 46, 79]
abbrev dktX6_restore_2 : List UInt8 := dkwX6_restore_2 ++ dktX6_restore_3
def dkwX6_restore_1 : List UInt8 := [180, 0, 233, 181, 0, 104, 42, 42, 180, 0, 236, 181, 0, 110, 4, 60, 27, 42, 180, 0, 101, 163, 0, 33]
abbrev dktX6_restore_1 : List UInt8 := dkwX6_restore_1 ++ dktX6_restore_2
def dkwX6_restore_0 : List UInt8 := [42, 180, 0, 227, 153, 0, 14, 42, 180, 0, 230, 42, 180, 0, 107, 159, 0, 6, 16, 153, 172, 42, 42]
abbrev dktX6_restore_0 : List UInt8 := dkwX6_restore_0 ++ dktX6_restore_1
theorem dksX6_restore_0 : cX6_restore.data.toList.drop 0 = dktX6_restore_0 := by decide +kernel
theorem dksX6_restore_1 : cX6_restore.data.toList.drop 23 = dktX6_restore_1 := dk_seg dksX6_restore_0 23 rfl rfl
theorem dksX6_restore_2 : cX6_restore.data.toList.drop 47 = dktX6_restore_2 := dk_seg dksX6_restore_1 24 rfl rfl
theorem dksX6_restore_3 : cX6_restore.data.toList.drop 71 = dktX6_restore_3 := dk_seg dksX6_restore_2 24 rfl rfl
theorem dksX6_restore_4 : cX6_restore.data.toList.drop 95 = dktX6_restore_4 := dk_seg dksX6_restore_3 24 rfl rfl
theorem dksX6_restore_5 : cX6_restore.data.toList.drop 119 = dktX6_restore_5 := dk_seg dksX6_restore_4 24 rfl rfl
theorem dX6_restore_0 : decode cX6_restore 0 = .ok (.aload_n 0, 1) := dk_42 (dk_at dksX6_restore_0 0 rfl rfl)
theorem dX6_restore_1 : decode cX6_restore 1 = .ok (.getfield 227, 3) := dk_180 0 227 (dk_at dksX6_restore_0 1 rfl rfl)
theorem dX6_restore_4 : decode cX6_restore 4 = .ok (.ifCond .eq 14, 3) := dk_153 0 14 (dk_at dksX6_restore_0 4 rfl rfl)
theorem dX6_restore_7 : decode cX6_restore 7 = .ok (.aload_n 0, 1) := dk_42 (dk_at dksX6_restore_0 7 rfl rfl)
theorem dX6_restore_8 : decode cX6_restore 8 = .ok (.getfield 230, 3) := dk_180 0 230 (dk_at dksX6_restore_0 8 rfl rfl)
theorem dX6_restore_11 : decode cX6_restore 11 = .ok (.aload_n 0, 1) := dk_42 (dk_at dksX6_restore_0 11 rfl rfl)
theorem dX6_restore_12 : decode cX6_restore 12 = .ok (.getfield 107, 3) := dk_180 0 107 (dk_at dksX6_restore_0 12 rfl rfl)
theorem dX6_restore_15 : decode cX6_restore 15 = .ok (.if_icmp .eq 6, 3) := dk_159 0 6 (dk_at dksX6_restore_0 15 rfl rfl)
theorem dX6_restore_18 : decode cX6_restore 18 = .ok (.bipush (-103), 2) := dk_16 153 (dk_at dksX6_restore_0 18 rfl rfl)
theorem dX6_restore_20 : decode cX6_restore 20 = .ok (.ireturn, 1) := dk_172 (dk_at dksX6_restore_0 20 rfl rfl)
theorem dX6_restore_21 : decode cX6_restore 21 = .ok (.aload_n 0, 1) := dk_42 (dk_at dksX6_restore_0 21 rfl rfl)
theorem dX6_restore_22 : decode cX6_restore 22 = .ok (.aload_n 0, 1) := dk_42 (dk_at dksX6_restore_0 22 rfl rfl)
theorem dX6_restore_23 : decode cX6_restore 23 = .ok (.getfield 233, 3) := dk_180 0 233 (dk_at dksX6_restore_1 0 rfl rfl)
theorem dX6_restore_26 : decode cX6_restore 26 = .ok (.putfield 104, 3) := dk_181 0 104 (dk_at dksX6_restore_1 3 rfl rfl)
theorem dX6_restore_29 : decode cX6_restore 29 = .ok (.aload_n 0, 1) := dk_42 (dk_at dksX6_restore_1 6 rfl rfl)
theorem dX6_restore_30 : decode cX6_restore 30 = .ok (.aload_n 0, 1) := dk_42 (dk_at dksX6_restore_1 7 rfl rfl)
theorem dX6_restore_31 : decode cX6_restore 31 = .ok (.getfield 236, 3) := dk_180 0 236 (dk_at dksX6_restore_1 8 rfl rfl)
theorem dX6_restore_34 : decode cX6_restore 34 = .ok (.putfield 110, 3) := dk_181 0 110 (dk_at dksX6_restore_1 11 rfl rfl)
theorem dX6_restore_37 : decode cX6_restore 37 = .ok (.iconst 1, 1) := dk_4 (dk_at dksX6_restore_1 14 rfl rfl)
theorem dX6_restore_38 : decode cX6_restore 38 = .ok (.istore_n 1, 1) := dk_60 (dk_at dksX6_restore_1 15 rfl rfl)
theorem dX6_restore_39 : decode cX6_restore 39 = .ok (.iload_n 1, 1) := dk_27 (dk_at dksX6_restore_1 16 rfl rfl)
theorem dX6_restore_40 : decode cX6_restore 40 = .ok (.aload_n 0, 1) := dk_42 (dk_at dksX6_restore_1 17 rfl rfl)
theorem dX6_restore_41 : decode cX6_restore 41 = .ok (.getfield 101, 3) := dk_180 0 101 (dk_at dksX6_restore_1 18 rfl rfl)
theorem dX6_restore_44 : decode cX6_restore 44 = .ok (.if_icmp .gt 33, 3) := dk_163 0 33 (dk_at dksX6_restore_1 21 rfl rfl)
theorem dX6_restore_47 : decode cX6_restore 47 = .ok (.aload_n 0, 1) := dk_42 (dk_at dksX6_restore_2 0 rfl rfl)
theorem dX6_restore_48 : decode cX6_restore 48 = .ok (.getfield 7, 3) := dk_180 0 7 (dk_at dksX6_restore_2 1 rfl rfl)
theorem dX6_restore_51 : decode cX6_restore 51 = .ok (.iload_n 1, 1) := dk_27 (dk_at dksX6_restore_2 4 rfl rfl)
theorem dX6_restore_52 : decode cX6_restore 52 = .ok (.aload_n 0, 1) := dk_42 (dk_at dksX6_restore_2 5 rfl rfl)
theorem dX6_restore_53 : decode cX6_restore 53 = .ok (.getfield 50, 3) := dk_180 0 50 (dk_at dksX6_restore_2 6 rfl rfl)
theorem dX6_restore_56 : decode cX6_restore 56 = .ok (.iload_n 1, 1) := dk_27 (dk_at dksX6_restore_2 9 rfl rfl)
theorem dX6_restore_57 : decode cX6_restore 57 = .ok (.iaload, 1) := dk_46 (dk_at dksX6_restore_2 10 rfl rfl)
theorem dX6_restore_58 : decode cX6_restore 58 = .ok (.iastore, 1) := dk_79 (dk_at dksX6_restore_2 11 rfl rfl)
theorem dX6_restore_59 : decode cX6_restore 59 = .ok (.aload_n 0, 1) := dk_42 (dk_at dksX6_restore_2 12 rfl rfl)
theorem dX6_restore_60 : decode cX6_restore 60 = .ok (.getfield 13, 3) := dk_180 0 13 (dk_at dksX6_restore_2 13 rfl rfl)
theorem dX6_restore_63 : decode cX6_restore 63 = .ok (.iload_n 1, 1) := dk_27 (dk_at dksX6_restore_2 16 rfl rfl)
theorem dX6_restore_64 : decode cX6_restore 64 = .ok (.aload_n 0, 1) := dk_42 (dk_at dksX6_restore_2 17 rfl rfl)
theorem dX6_restore_65 : decode cX6_restore 65 = .ok (.getfield 53, 3) := dk_180 0 53 (dk_at dksX6_restore_2 18 rfl rfl)
theorem dX6_restore_68 : decode cX6_restore 68 = .ok (.iload_n 1, 1) := dk_27 (dk_at dksX6_restore_2 21 rfl rfl)
theorem dX6_restore_69 : decode cX6_restore 69 = .ok (.iaload, 1) := dk_46 (dk_at dksX6_restore_2 22 rfl rfl)
theorem dX6_restore_70 : decode cX6_restore 70 = .ok (.iastore, 1) := dk_79 (dk_at dksX6_restore_2 23 rfl rfl)
theorem dX6_restore_71 : decode cX6_restore 71 = .ok (.iinc 1 1, 3) := dk_132 1 1 (dk_at dksX6_restore_3 0 rfl rfl)
theorem dX6_restore_74 : decode cX6_restore 74 = .ok (.goto (-35), 3) := dk_167 255 221 (dk_at dksX6_restore_3 3 rfl rfl)
theorem dX6_restore_77 : decode cX6_restore 77 = .ok (.iconst 0, 1) := dk_3 (dk_at dksX6_restore_3 6 rfl rfl)
theorem dX6_restore_78 : decode cX6_restore 78 = .ok (.istore_n 1, 1) := dk_60 (dk_at dksX6_restore_3 7 rfl rfl)
theorem dX6_restore_79 : decode cX6_restore 79 = .ok (.iload_n 1, 1) := dk_27 (dk_at dksX6_restore_3 8 rfl rfl)
theorem dX6_restore_80 : decode cX6_restore 80 = .ok (.bipush 6, 2) := dk_16 6 (dk_at dksX6_restore_3 9 rfl rfl)
theorem dX6_restore_82 : decode cX6_restore 82 = .ok (.if_icmp .ge 45, 3) := dk_162 0 45 (dk_at dksX6_restore_3 11 rfl rfl)
theorem dX6_restore_85 : decode cX6_restore 85 = .ok (.aload_n 0, 1) := dk_42 (dk_at dksX6_restore_3 14 rfl rfl)
theorem dX6_restore_86 : decode cX6_restore 86 = .ok (.getfield 16, 3) := dk_180 0 16 (dk_at dksX6_restore_3 15 rfl rfl)
theorem dX6_restore_89 : decode cX6_restore 89 = .ok (.iload_n 1, 1) := dk_27 (dk_at dksX6_restore_3 18 rfl rfl)
theorem dX6_restore_90 : decode cX6_restore 90 = .ok (.aload_n 0, 1) := dk_42 (dk_at dksX6_restore_3 19 rfl rfl)
theorem dX6_restore_91 : decode cX6_restore 91 = .ok (.getfield 56, 3) := dk_180 0 56 (dk_at dksX6_restore_3 20 rfl rfl)
theorem dX6_restore_94 : decode cX6_restore 94 = .ok (.iload_n 1, 1) := dk_27 (dk_at dksX6_restore_3 23 rfl rfl)
theorem dX6_restore_95 : decode cX6_restore 95 = .ok (.iaload, 1) := dk_46 (dk_at dksX6_restore_4 0 rfl rfl)
theorem dX6_restore_96 : decode cX6_restore 96 = .ok (.iastore, 1) := dk_79 (dk_at dksX6_restore_4 1 rfl rfl)
theorem dX6_restore_97 : decode cX6_restore 97 = .ok (.aload_n 0, 1) := dk_42 (dk_at dksX6_restore_4 2 rfl rfl)
theorem dX6_restore_98 : decode cX6_restore 98 = .ok (.getfield 19, 3) := dk_180 0 19 (dk_at dksX6_restore_4 3 rfl rfl)
theorem dX6_restore_101 : decode cX6_restore 101 = .ok (.iload_n 1, 1) := dk_27 (dk_at dksX6_restore_4 6 rfl rfl)
theorem dX6_restore_102 : decode cX6_restore 102 = .ok (.aload_n 0, 1) := dk_42 (dk_at dksX6_restore_4 7 rfl rfl)
theorem dX6_restore_103 : decode cX6_restore 103 = .ok (.getfield 59, 3) := dk_180 0 59 (dk_at dksX6_restore_4 8 rfl rfl)
theorem dX6_restore_106 : decode cX6_restore 106 = .ok (.iload_n 1, 1) := dk_27 (dk_at dksX6_restore_4 11 rfl rfl)
theorem dX6_restore_107 : decode cX6_restore 107 = .ok (.iaload, 1) := dk_46 (dk_at dksX6_restore_4 12 rfl rfl)
theorem dX6_restore_108 : decode cX6_restore 108 = .ok (.iastore, 1) := dk_79 (dk_at dksX6_restore_4 13 rfl rfl)
theorem dX6_restore_109 : decode cX6_restore 109 = .ok (.aload_n 0, 1) := dk_42 (dk_at dksX6_restore_4 14 rfl rfl)
theorem dX6_restore_110 : decode cX6_restore 110 = .ok (.getfield 22, 3) := dk_180 0 22 (dk_at dksX6_restore_4 15 rfl rfl)
theorem dX6_restore_113 : decode cX6_restore 113 = .ok (.iload_n 1, 1) := dk_27 (dk_at dksX6_restore_4 18 rfl rfl)
theorem dX6_restore_114 : decode cX6_restore 114 = .ok (.aload_n 0, 1) := dk_42 (dk_at dksX6_restore_4 19 rfl rfl)
theorem dX6_restore_115 : decode cX6_restore 115 = .ok (.getfield 62, 3) := dk_180 0 62 (dk_at dksX6_restore_4 20 rfl rfl)
theorem dX6_restore_118 : decode cX6_restore 118 = .ok (.iload_n 1, 1) := dk_27 (dk_at dksX6_restore_4 23 rfl rfl)
theorem dX6_restore_119 : decode cX6_restore 119 = .ok (.iaload, 1) := dk_46 (dk_at dksX6_restore_5 0 rfl rfl)
theorem dX6_restore_120 : decode cX6_restore 120 = .ok (.iastore, 1) := dk_79 (dk_at dksX6_restore_5 1 rfl rfl)
theorem dX6_restore_121 : decode cX6_restore 121 = .ok (.iinc 1 1, 3) := dk_132 1 1 (dk_at dksX6_restore_5 2 rfl rfl)
theorem dX6_restore_124 : decode cX6_restore 124 = .ok (.goto (-45), 3) := dk_167 255 211 (dk_at dksX6_restore_5 5 rfl rfl)
theorem dX6_restore_127 : decode cX6_restore 127 = .ok (.aload_n 0, 1) := dk_42 (dk_at dksX6_restore_5 8 rfl rfl)
theorem dX6_restore_128 : decode cX6_restore 128 = .ok (.getfield 104, 3) := dk_180 0 104 (dk_at dksX6_restore_5 9 rfl rfl)
theorem dX6_restore_131 : decode cX6_restore 131 = .ok (.ireturn, 1) := dk_172 (dk_at dksX6_restore_5 12 rfl rfl)
abbrev cX6_count : ByteArray := prog_9_method_62_code
def yX6_count : MethodName := ⟨RX6, "count", "(I)I"⟩
def dkwX6_count_0 : List UInt8 := [42, 27, 182, 0, 245, 172]
abbrev dktX6_count_0 : List UInt8 := dkwX6_count_0 ++ []
theorem dksX6_count_0 : cX6_count.data.toList.drop 0 = dktX6_count_0 := by decide +kernel
theorem dX6_count_0 : decode cX6_count 0 = .ok (.aload_n 0, 1) := dk_42 (dk_at dksX6_count_0 0 rfl rfl)
theorem dX6_count_1 : decode cX6_count 1 = .ok (.iload_n 1, 1) := dk_27 (dk_at dksX6_count_0 1 rfl rfl)
theorem dX6_count_2 : decode cX6_count 2 = .ok (.invokevirtual 245, 3) := dk_182 0 245 (dk_at dksX6_count_0 2 rfl rfl)
theorem dX6_count_5 : decode cX6_count 5 = .ok (.ireturn, 1) := dk_172 (dk_at dksX6_count_0 5 rfl rfl)
abbrev cX6_howMany : ByteArray := prog_9_method_61_code
def yX6_howMany : MethodName := ⟨RX6, "howMany", "(I)I"⟩
def dkwX6_howMany_3 : List UInt8 := [172, 42, 180, 0, 104, 172, 42, 180, 0, 110, 172, 42, 180, 0, 69, 172, 42, 180, 0, 107, 172, 16, 154, 172]
abbrev dktX6_howMany_3 : List UInt8 := dkwX6_howMany_3 ++ []
def dkwX6_howMany_2 : List UInt8 := [42, 180, 0, 101, 172, 42, 180, 0, 98, 172, 42, 182, 0, 239, 172, 42, 182, 0, 180, 172, 42, 182, 0, 242]
abbrev dktX6_howMany_2 : List UInt8 := dkwX6_howMany_2 ++ dktX6_howMany_3
def dkwX6_howMany_1 : List UInt8 := [170, 0, 0, 0, 0, 0, 96, 0, 0, 0, 0, 0, 0, 0, 8, 0, 0, 0, 51, 0, 0, 0, 56, 0, 0, 0, 61, 0, 0, 0, 66, 0, 0, 0, 71, 0, 0, 0, 76, 0, 0, 0, 81, 0, 0, 0, 86, 0, 0, 0, 91]
abbrev dktX6_howMany_1 : List UInt8 := dkwX6_howMany_1 ++ dktX6_howMany_2
def dkwX6_howMany_0 : List UInt8 := [27]
abbrev dktX6_howMany_0 : List UInt8 := dkwX6_howMany_0 ++ dktX6_howMany_1
theorem dksX6_howMany_0 : cX6_howMany.data.toList.drop 0 = dktX6_howMany_0 := by decide +kernel
theorem dksX6_howMany_1 : cX6_howMany.data.toList.drop 1 = dktX6_howMany_1 := dk_seg dksX6_howMany_0 1 rfl rfl
theorem dksX6_howMany_2 : cX6_howMany.data.toList.drop 52 = dktX6_howMany_2 := dk_seg dksX6_howMany_1 51 rfl rfl
theorem dksX6_howMany_3 : cX6_howMany.data.toList.drop 76 = dktX6_howMany_3 := dk_seg dksX6_howMany_2 24 rfl rfl
theorem dX6_howMany_0 : decode cX6_howMany 0 = .ok (.iload_n 1, 1) := dk_27 (dk_at dksX6_howMany_0 0 rfl rfl)
theorem dX6_howMany_1 : decode cX6_howMany 1 = .ok (.tableswitch 96 0 8 #[51, 56, 61, 66, 71, 76, 81, 86, 91], 51) := by decide +kernel
theorem dX6_howMany_52 : decode cX6_howMany 52 = .ok (.aload_n 0, 1) := dk_42 (dk_at dksX6_howMany_2 0 rfl rfl)
theorem dX6_howMany_53 : decode cX6_howMany 53 = .ok (.getfield 101, 3) := dk_180 0 101 (dk_at dksX6_howMany_2 1 rfl rfl)
theorem dX6_howMany_56 : decode cX6_howMany 56 = .ok (.ireturn, 1) := dk_172 (dk_at dksX6_howMany_2 4 rfl rfl)
theorem dX6_howMany_57 : decode cX6_howMany 57 = .ok (.aload_n 0, 1) := dk_42 (dk_at dksX6_howMany_2 5 rfl rfl)
theorem dX6_howMany_58 : decode cX6_howMany 58 = .ok (.getfield 98, 3) := dk_180 0 98 (dk_at dksX6_howMany_2 6 rfl rfl)
theorem dX6_howMany_61 : decode cX6_howMany 61 = .ok (.ireturn, 1) := dk_172 (dk_at dksX6_howMany_2 9 rfl rfl)
theorem dX6_howMany_62 : decode cX6_howMany 62 = .ok (.aload_n 0, 1) := dk_42 (dk_at dksX6_howMany_2 10 rfl rfl)
theorem dX6_howMany_63 : decode cX6_howMany 63 = .ok (.invokevirtual 239, 3) := dk_182 0 239 (dk_at dksX6_howMany_2 11 rfl rfl)
theorem dX6_howMany_66 : decode cX6_howMany 66 = .ok (.ireturn, 1) := dk_172 (dk_at dksX6_howMany_2 14 rfl rfl)
theorem dX6_howMany_67 : decode cX6_howMany 67 = .ok (.aload_n 0, 1) := dk_42 (dk_at dksX6_howMany_2 15 rfl rfl)
theorem dX6_howMany_68 : decode cX6_howMany 68 = .ok (.invokevirtual 180, 3) := dk_182 0 180 (dk_at dksX6_howMany_2 16 rfl rfl)
theorem dX6_howMany_71 : decode cX6_howMany 71 = .ok (.ireturn, 1) := dk_172 (dk_at dksX6_howMany_2 19 rfl rfl)
theorem dX6_howMany_72 : decode cX6_howMany 72 = .ok (.aload_n 0, 1) := dk_42 (dk_at dksX6_howMany_2 20 rfl rfl)
theorem dX6_howMany_73 : decode cX6_howMany 73 = .ok (.invokevirtual 242, 3) := dk_182 0 242 (dk_at dksX6_howMany_2 21 rfl rfl)
theorem dX6_howMany_76 : decode cX6_howMany 76 = .ok (.ireturn, 1) := dk_172 (dk_at dksX6_howMany_3 0 rfl rfl)
theorem dX6_howMany_77 : decode cX6_howMany 77 = .ok (.aload_n 0, 1) := dk_42 (dk_at dksX6_howMany_3 1 rfl rfl)
theorem dX6_howMany_78 : decode cX6_howMany 78 = .ok (.getfield 104, 3) := dk_180 0 104 (dk_at dksX6_howMany_3 2 rfl rfl)
theorem dX6_howMany_81 : decode cX6_howMany 81 = .ok (.ireturn, 1) := dk_172 (dk_at dksX6_howMany_3 5 rfl rfl)
theorem dX6_howMany_82 : decode cX6_howMany 82 = .ok (.aload_n 0, 1) := dk_42 (dk_at dksX6_howMany_3 6 rfl rfl)
theorem dX6_howMany_83 : decode cX6_howMany 83 = .ok (.getfield 110, 3) := dk_180 0 110 (dk_at dksX6_howMany_3 7 rfl rfl)
theorem dX6_howMany_86 : decode cX6_howMany 86 = .ok (.ireturn, 1) := dk_172 (dk_at dksX6_howMany_3 10 rfl rfl)
theorem dX6_howMany_87 : decode cX6_howMany 87 = .ok (.aload_n 0, 1) := dk_42 (dk_at dksX6_howMany_3 11 rfl rfl)
theorem dX6_howMany_88 : decode cX6_howMany 88 = .ok (.getfield 69, 3) := dk_180 0 69 (dk_at dksX6_howMany_3 12 rfl rfl)
theorem dX6_howMany_91 : decode cX6_howMany 91 = .ok (.ireturn, 1) := dk_172 (dk_at dksX6_howMany_3 15 rfl rfl)
theorem dX6_howMany_92 : decode cX6_howMany 92 = .ok (.aload_n 0, 1) := dk_42 (dk_at dksX6_howMany_3 16 rfl rfl)
theorem dX6_howMany_93 : decode cX6_howMany 93 = .ok (.getfield 107, 3) := dk_180 0 107 (dk_at dksX6_howMany_3 17 rfl rfl)
theorem dX6_howMany_96 : decode cX6_howMany 96 = .ok (.ireturn, 1) := dk_172 (dk_at dksX6_howMany_3 20 rfl rfl)
theorem dX6_howMany_97 : decode cX6_howMany 97 = .ok (.bipush (-102), 2) := dk_16 154 (dk_at dksX6_howMany_3 21 rfl rfl)
theorem dX6_howMany_99 : decode cX6_howMany 99 = .ok (.ireturn, 1) := dk_172 (dk_at dksX6_howMany_3 23 rfl rfl)
abbrev cX6_bare : ByteArray := prog_9_method_33_code
def yX6_bare : MethodName := ⟨RX6, "bare", "()I"⟩
def dkwX6_bare_1 : List UInt8 := [167, 0, 4, 3, 96, 60, 132, 2, 1, 167, 255, 227, 27, 172]
abbrev dktX6_bare_1 : List UInt8 := dkwX6_bare_1 ++ []
def dkwX6_bare_0 : List UInt8 := [3, 60, 4, 61, 28, 42, 180, 0, 101, 163, 0, 27, 27, 42, 180, 0, 13, 28, 46, 2, 160, 0, 7, 4]
abbrev dktX6_bare_0 : List UInt8 := dkwX6_bare_0 ++ dktX6_bare_1
theorem dksX6_bare_0 : cX6_bare.data.toList.drop 0 = dktX6_bare_0 := by decide +kernel
theorem dksX6_bare_1 : cX6_bare.data.toList.drop 24 = dktX6_bare_1 := dk_seg dksX6_bare_0 24 rfl rfl
theorem dX6_bare_0 : decode cX6_bare 0 = .ok (.iconst 0, 1) := dk_3 (dk_at dksX6_bare_0 0 rfl rfl)
theorem dX6_bare_1 : decode cX6_bare 1 = .ok (.istore_n 1, 1) := dk_60 (dk_at dksX6_bare_0 1 rfl rfl)
theorem dX6_bare_2 : decode cX6_bare 2 = .ok (.iconst 1, 1) := dk_4 (dk_at dksX6_bare_0 2 rfl rfl)
theorem dX6_bare_3 : decode cX6_bare 3 = .ok (.istore_n 2, 1) := dk_61 (dk_at dksX6_bare_0 3 rfl rfl)
theorem dX6_bare_4 : decode cX6_bare 4 = .ok (.iload_n 2, 1) := dk_28 (dk_at dksX6_bare_0 4 rfl rfl)
theorem dX6_bare_5 : decode cX6_bare 5 = .ok (.aload_n 0, 1) := dk_42 (dk_at dksX6_bare_0 5 rfl rfl)
theorem dX6_bare_6 : decode cX6_bare 6 = .ok (.getfield 101, 3) := dk_180 0 101 (dk_at dksX6_bare_0 6 rfl rfl)
theorem dX6_bare_9 : decode cX6_bare 9 = .ok (.if_icmp .gt 27, 3) := dk_163 0 27 (dk_at dksX6_bare_0 9 rfl rfl)
theorem dX6_bare_12 : decode cX6_bare 12 = .ok (.iload_n 1, 1) := dk_27 (dk_at dksX6_bare_0 12 rfl rfl)
theorem dX6_bare_13 : decode cX6_bare 13 = .ok (.aload_n 0, 1) := dk_42 (dk_at dksX6_bare_0 13 rfl rfl)
theorem dX6_bare_14 : decode cX6_bare 14 = .ok (.getfield 13, 3) := dk_180 0 13 (dk_at dksX6_bare_0 14 rfl rfl)
theorem dX6_bare_17 : decode cX6_bare 17 = .ok (.iload_n 2, 1) := dk_28 (dk_at dksX6_bare_0 17 rfl rfl)
theorem dX6_bare_18 : decode cX6_bare 18 = .ok (.iaload, 1) := dk_46 (dk_at dksX6_bare_0 18 rfl rfl)
theorem dX6_bare_19 : decode cX6_bare 19 = .ok (.iconst (-1), 1) := dk_2 (dk_at dksX6_bare_0 19 rfl rfl)
theorem dX6_bare_20 : decode cX6_bare 20 = .ok (.if_icmp .ne 7, 3) := dk_160 0 7 (dk_at dksX6_bare_0 20 rfl rfl)
theorem dX6_bare_23 : decode cX6_bare 23 = .ok (.iconst 1, 1) := dk_4 (dk_at dksX6_bare_0 23 rfl rfl)
theorem dX6_bare_24 : decode cX6_bare 24 = .ok (.goto 4, 3) := dk_167 0 4 (dk_at dksX6_bare_1 0 rfl rfl)
theorem dX6_bare_27 : decode cX6_bare 27 = .ok (.iconst 0, 1) := dk_3 (dk_at dksX6_bare_1 3 rfl rfl)
theorem dX6_bare_28 : decode cX6_bare 28 = .ok (.iadd, 1) := dk_96 (dk_at dksX6_bare_1 4 rfl rfl)
theorem dX6_bare_29 : decode cX6_bare 29 = .ok (.istore_n 1, 1) := dk_60 (dk_at dksX6_bare_1 5 rfl rfl)
theorem dX6_bare_30 : decode cX6_bare 30 = .ok (.iinc 2 1, 3) := dk_132 2 1 (dk_at dksX6_bare_1 6 rfl rfl)
theorem dX6_bare_33 : decode cX6_bare 33 = .ok (.goto (-29), 3) := dk_167 255 227 (dk_at dksX6_bare_1 9 rfl rfl)
theorem dX6_bare_36 : decode cX6_bare 36 = .ok (.iload_n 1, 1) := dk_27 (dk_at dksX6_bare_1 12 rfl rfl)
theorem dX6_bare_37 : decode cX6_bare 37 = .ok (.ireturn, 1) := dk_172 (dk_at dksX6_bare_1 13 rfl rfl)
abbrev cX6_threes : ByteArray := prog_9_method_60_code
def yX6_threes : MethodName := ⟨RX6, "threes", "()I"⟩
def dkwX6_threes_1 : List UInt8 := [27, 172]
abbrev dktX6_threes_1 : List UInt8 := dkwX6_threes_1 ++ []
def dkwX6_threes_0 : List UInt8 := [3, 60, 5, 61, 28, 42, 180, 0, 101, 163, 0, 15, 27, 28, 5, 108, 96, 60, 132, 2, 1, 167, 255, 239]
abbrev dktX6_threes_0 : List UInt8 := dkwX6_threes_0 ++ dktX6_threes_1
theorem dksX6_threes_0 : cX6_threes.data.toList.drop 0 = dktX6_threes_0 := by decide +kernel
theorem dksX6_threes_1 : cX6_threes.data.toList.drop 24 = dktX6_threes_1 := dk_seg dksX6_threes_0 24 rfl rfl
theorem dX6_threes_0 : decode cX6_threes 0 = .ok (.iconst 0, 1) := dk_3 (dk_at dksX6_threes_0 0 rfl rfl)
theorem dX6_threes_1 : decode cX6_threes 1 = .ok (.istore_n 1, 1) := dk_60 (dk_at dksX6_threes_0 1 rfl rfl)
theorem dX6_threes_2 : decode cX6_threes 2 = .ok (.iconst 2, 1) := dk_5 (dk_at dksX6_threes_0 2 rfl rfl)
theorem dX6_threes_3 : decode cX6_threes 3 = .ok (.istore_n 2, 1) := dk_61 (dk_at dksX6_threes_0 3 rfl rfl)
theorem dX6_threes_4 : decode cX6_threes 4 = .ok (.iload_n 2, 1) := dk_28 (dk_at dksX6_threes_0 4 rfl rfl)
theorem dX6_threes_5 : decode cX6_threes 5 = .ok (.aload_n 0, 1) := dk_42 (dk_at dksX6_threes_0 5 rfl rfl)
theorem dX6_threes_6 : decode cX6_threes 6 = .ok (.getfield 101, 3) := dk_180 0 101 (dk_at dksX6_threes_0 6 rfl rfl)
theorem dX6_threes_9 : decode cX6_threes 9 = .ok (.if_icmp .gt 15, 3) := dk_163 0 15 (dk_at dksX6_threes_0 9 rfl rfl)
theorem dX6_threes_12 : decode cX6_threes 12 = .ok (.iload_n 1, 1) := dk_27 (dk_at dksX6_threes_0 12 rfl rfl)
theorem dX6_threes_13 : decode cX6_threes 13 = .ok (.iload_n 2, 1) := dk_28 (dk_at dksX6_threes_0 13 rfl rfl)
theorem dX6_threes_14 : decode cX6_threes 14 = .ok (.iconst 2, 1) := dk_5 (dk_at dksX6_threes_0 14 rfl rfl)
theorem dX6_threes_15 : decode cX6_threes 15 = .ok (.idiv, 1) := dk_108 (dk_at dksX6_threes_0 15 rfl rfl)
theorem dX6_threes_16 : decode cX6_threes 16 = .ok (.iadd, 1) := dk_96 (dk_at dksX6_threes_0 16 rfl rfl)
theorem dX6_threes_17 : decode cX6_threes 17 = .ok (.istore_n 1, 1) := dk_60 (dk_at dksX6_threes_0 17 rfl rfl)
theorem dX6_threes_18 : decode cX6_threes 18 = .ok (.iinc 2 1, 3) := dk_132 2 1 (dk_at dksX6_threes_0 18 rfl rfl)
theorem dX6_threes_21 : decode cX6_threes 21 = .ok (.goto (-17), 3) := dk_167 255 239 (dk_at dksX6_threes_0 21 rfl rfl)
theorem dX6_threes_24 : decode cX6_threes 24 = .ok (.iload_n 1, 1) := dk_27 (dk_at dksX6_threes_1 0 rfl rfl)
theorem dX6_threes_25 : decode cX6_threes 25 = .ok (.ireturn, 1) := dk_172 (dk_at dksX6_threes_1 1 rfl rfl)
abbrev cX6_digest : ByteArray := prog_9_method_65_code
def yX6_digest : MethodName := ⟨RX6, "digest", "()J"⟩
def dkwX6_digest_5 : List UInt8 := [162, 0, 19, 42, 42, 27, 182, 0, 245, 133, 182, 0, 253, 132, 1, 1, 167, 255, 237, 42, 180, 0, 250, 173]
abbrev dktX6_digest_5 : List UInt8 := dkwX6_digest_5 ++ []
def dkwX6_digest_4 : List UInt8 := [42, 42, 180, 0, 25, 27, 51, 133, 182, 0, 253, 132, 1, 1, 167, 255, 234, 3, 60, 27, 16, 9]
abbrev dktX6_digest_4 : List UInt8 := dkwX6_digest_4 ++ dktX6_digest_5
def dkwX6_digest_3 : List UInt8 := [167, 255, 196, 42, 180, 0, 101, 158, 0, 7, 42, 182, 1, 3, 3, 60, 27, 42, 180, 0, 69, 162, 0, 20]
abbrev dktX6_digest_3 : List UInt8 := dkwX6_digest_3 ++ dktX6_digest_4
def dkwX6_digest_2 : List UInt8 := [3, 182, 0, 199, 133, 182, 0, 253, 42, 42, 27, 3, 4, 182, 0, 199, 133, 182, 0, 253, 132, 1, 1]
abbrev dktX6_digest_2 : List UInt8 := dkwX6_digest_2 ++ dktX6_digest_3
def dkwX6_digest_1 : List UInt8 := [162, 0, 20, 42, 42, 27, 28, 182, 0, 152, 133, 182, 0, 253, 132, 2, 1, 167, 255, 236, 42, 42, 27, 3]
abbrev dktX6_digest_1 : List UInt8 := dkwX6_digest_1 ++ dktX6_digest_2
def dkwX6_digest_0 : List UInt8 := [42, 20, 1, 1, 181, 0, 250, 4, 60, 27, 42, 180, 0, 101, 163, 0, 58, 3, 61, 28, 16, 6]
abbrev dktX6_digest_0 : List UInt8 := dkwX6_digest_0 ++ dktX6_digest_1
theorem dksX6_digest_0 : cX6_digest.data.toList.drop 0 = dktX6_digest_0 := by decide +kernel
theorem dksX6_digest_1 : cX6_digest.data.toList.drop 22 = dktX6_digest_1 := dk_seg dksX6_digest_0 22 rfl rfl
theorem dksX6_digest_2 : cX6_digest.data.toList.drop 46 = dktX6_digest_2 := dk_seg dksX6_digest_1 24 rfl rfl
theorem dksX6_digest_3 : cX6_digest.data.toList.drop 69 = dktX6_digest_3 := dk_seg dksX6_digest_2 23 rfl rfl
theorem dksX6_digest_4 : cX6_digest.data.toList.drop 93 = dktX6_digest_4 := dk_seg dksX6_digest_3 24 rfl rfl
theorem dksX6_digest_5 : cX6_digest.data.toList.drop 115 = dktX6_digest_5 := dk_seg dksX6_digest_4 22 rfl rfl
theorem dX6_digest_0 : decode cX6_digest 0 = .ok (.aload_n 0, 1) := dk_42 (dk_at dksX6_digest_0 0 rfl rfl)
theorem dX6_digest_1 : decode cX6_digest 1 = .ok (.ldc2_w 257, 3) := dk_20 1 1 (dk_at dksX6_digest_0 1 rfl rfl)
theorem dX6_digest_4 : decode cX6_digest 4 = .ok (.putfield 250, 3) := dk_181 0 250 (dk_at dksX6_digest_0 4 rfl rfl)
theorem dX6_digest_7 : decode cX6_digest 7 = .ok (.iconst 1, 1) := dk_4 (dk_at dksX6_digest_0 7 rfl rfl)
theorem dX6_digest_8 : decode cX6_digest 8 = .ok (.istore_n 1, 1) := dk_60 (dk_at dksX6_digest_0 8 rfl rfl)
theorem dX6_digest_9 : decode cX6_digest 9 = .ok (.iload_n 1, 1) := dk_27 (dk_at dksX6_digest_0 9 rfl rfl)
theorem dX6_digest_10 : decode cX6_digest 10 = .ok (.aload_n 0, 1) := dk_42 (dk_at dksX6_digest_0 10 rfl rfl)
theorem dX6_digest_11 : decode cX6_digest 11 = .ok (.getfield 101, 3) := dk_180 0 101 (dk_at dksX6_digest_0 11 rfl rfl)
theorem dX6_digest_14 : decode cX6_digest 14 = .ok (.if_icmp .gt 58, 3) := dk_163 0 58 (dk_at dksX6_digest_0 14 rfl rfl)
theorem dX6_digest_17 : decode cX6_digest 17 = .ok (.iconst 0, 1) := dk_3 (dk_at dksX6_digest_0 17 rfl rfl)
theorem dX6_digest_18 : decode cX6_digest 18 = .ok (.istore_n 2, 1) := dk_61 (dk_at dksX6_digest_0 18 rfl rfl)
theorem dX6_digest_19 : decode cX6_digest 19 = .ok (.iload_n 2, 1) := dk_28 (dk_at dksX6_digest_0 19 rfl rfl)
theorem dX6_digest_20 : decode cX6_digest 20 = .ok (.bipush 6, 2) := dk_16 6 (dk_at dksX6_digest_0 20 rfl rfl)
theorem dX6_digest_22 : decode cX6_digest 22 = .ok (.if_icmp .ge 20, 3) := dk_162 0 20 (dk_at dksX6_digest_1 0 rfl rfl)
theorem dX6_digest_25 : decode cX6_digest 25 = .ok (.aload_n 0, 1) := dk_42 (dk_at dksX6_digest_1 3 rfl rfl)
theorem dX6_digest_26 : decode cX6_digest 26 = .ok (.aload_n 0, 1) := dk_42 (dk_at dksX6_digest_1 4 rfl rfl)
theorem dX6_digest_27 : decode cX6_digest 27 = .ok (.iload_n 1, 1) := dk_27 (dk_at dksX6_digest_1 5 rfl rfl)
theorem dX6_digest_28 : decode cX6_digest 28 = .ok (.iload_n 2, 1) := dk_28 (dk_at dksX6_digest_1 6 rfl rfl)
theorem dX6_digest_29 : decode cX6_digest 29 = .ok (.invokevirtual 152, 3) := dk_182 0 152 (dk_at dksX6_digest_1 7 rfl rfl)
theorem dX6_digest_32 : decode cX6_digest 32 = .ok (.i2l, 1) := dk_133 (dk_at dksX6_digest_1 10 rfl rfl)
theorem dX6_digest_33 : decode cX6_digest 33 = .ok (.invokevirtual 253, 3) := dk_182 0 253 (dk_at dksX6_digest_1 11 rfl rfl)
theorem dX6_digest_36 : decode cX6_digest 36 = .ok (.iinc 2 1, 3) := dk_132 2 1 (dk_at dksX6_digest_1 14 rfl rfl)
theorem dX6_digest_39 : decode cX6_digest 39 = .ok (.goto (-20), 3) := dk_167 255 236 (dk_at dksX6_digest_1 17 rfl rfl)
theorem dX6_digest_42 : decode cX6_digest 42 = .ok (.aload_n 0, 1) := dk_42 (dk_at dksX6_digest_1 20 rfl rfl)
theorem dX6_digest_43 : decode cX6_digest 43 = .ok (.aload_n 0, 1) := dk_42 (dk_at dksX6_digest_1 21 rfl rfl)
theorem dX6_digest_44 : decode cX6_digest 44 = .ok (.iload_n 1, 1) := dk_27 (dk_at dksX6_digest_1 22 rfl rfl)
theorem dX6_digest_45 : decode cX6_digest 45 = .ok (.iconst 0, 1) := dk_3 (dk_at dksX6_digest_1 23 rfl rfl)
theorem dX6_digest_46 : decode cX6_digest 46 = .ok (.iconst 0, 1) := dk_3 (dk_at dksX6_digest_2 0 rfl rfl)
theorem dX6_digest_47 : decode cX6_digest 47 = .ok (.invokevirtual 199, 3) := dk_182 0 199 (dk_at dksX6_digest_2 1 rfl rfl)
theorem dX6_digest_50 : decode cX6_digest 50 = .ok (.i2l, 1) := dk_133 (dk_at dksX6_digest_2 4 rfl rfl)
theorem dX6_digest_51 : decode cX6_digest 51 = .ok (.invokevirtual 253, 3) := dk_182 0 253 (dk_at dksX6_digest_2 5 rfl rfl)
theorem dX6_digest_54 : decode cX6_digest 54 = .ok (.aload_n 0, 1) := dk_42 (dk_at dksX6_digest_2 8 rfl rfl)
theorem dX6_digest_55 : decode cX6_digest 55 = .ok (.aload_n 0, 1) := dk_42 (dk_at dksX6_digest_2 9 rfl rfl)
theorem dX6_digest_56 : decode cX6_digest 56 = .ok (.iload_n 1, 1) := dk_27 (dk_at dksX6_digest_2 10 rfl rfl)
theorem dX6_digest_57 : decode cX6_digest 57 = .ok (.iconst 0, 1) := dk_3 (dk_at dksX6_digest_2 11 rfl rfl)
theorem dX6_digest_58 : decode cX6_digest 58 = .ok (.iconst 1, 1) := dk_4 (dk_at dksX6_digest_2 12 rfl rfl)
theorem dX6_digest_59 : decode cX6_digest 59 = .ok (.invokevirtual 199, 3) := dk_182 0 199 (dk_at dksX6_digest_2 13 rfl rfl)
theorem dX6_digest_62 : decode cX6_digest 62 = .ok (.i2l, 1) := dk_133 (dk_at dksX6_digest_2 16 rfl rfl)
theorem dX6_digest_63 : decode cX6_digest 63 = .ok (.invokevirtual 253, 3) := dk_182 0 253 (dk_at dksX6_digest_2 17 rfl rfl)
theorem dX6_digest_66 : decode cX6_digest 66 = .ok (.iinc 1 1, 3) := dk_132 1 1 (dk_at dksX6_digest_2 20 rfl rfl)
theorem dX6_digest_69 : decode cX6_digest 69 = .ok (.goto (-60), 3) := dk_167 255 196 (dk_at dksX6_digest_3 0 rfl rfl)
theorem dX6_digest_72 : decode cX6_digest 72 = .ok (.aload_n 0, 1) := dk_42 (dk_at dksX6_digest_3 3 rfl rfl)
theorem dX6_digest_73 : decode cX6_digest 73 = .ok (.getfield 101, 3) := dk_180 0 101 (dk_at dksX6_digest_3 4 rfl rfl)
theorem dX6_digest_76 : decode cX6_digest 76 = .ok (.ifCond .le 7, 3) := dk_158 0 7 (dk_at dksX6_digest_3 7 rfl rfl)
theorem dX6_digest_79 : decode cX6_digest 79 = .ok (.aload_n 0, 1) := dk_42 (dk_at dksX6_digest_3 10 rfl rfl)
theorem dX6_digest_80 : decode cX6_digest 80 = .ok (.invokevirtual 259, 3) := dk_182 1 3 (dk_at dksX6_digest_3 11 rfl rfl)
theorem dX6_digest_83 : decode cX6_digest 83 = .ok (.iconst 0, 1) := dk_3 (dk_at dksX6_digest_3 14 rfl rfl)
theorem dX6_digest_84 : decode cX6_digest 84 = .ok (.istore_n 1, 1) := dk_60 (dk_at dksX6_digest_3 15 rfl rfl)
theorem dX6_digest_85 : decode cX6_digest 85 = .ok (.iload_n 1, 1) := dk_27 (dk_at dksX6_digest_3 16 rfl rfl)
theorem dX6_digest_86 : decode cX6_digest 86 = .ok (.aload_n 0, 1) := dk_42 (dk_at dksX6_digest_3 17 rfl rfl)
theorem dX6_digest_87 : decode cX6_digest 87 = .ok (.getfield 69, 3) := dk_180 0 69 (dk_at dksX6_digest_3 18 rfl rfl)
theorem dX6_digest_90 : decode cX6_digest 90 = .ok (.if_icmp .ge 20, 3) := dk_162 0 20 (dk_at dksX6_digest_3 21 rfl rfl)
theorem dX6_digest_93 : decode cX6_digest 93 = .ok (.aload_n 0, 1) := dk_42 (dk_at dksX6_digest_4 0 rfl rfl)
theorem dX6_digest_94 : decode cX6_digest 94 = .ok (.aload_n 0, 1) := dk_42 (dk_at dksX6_digest_4 1 rfl rfl)
theorem dX6_digest_95 : decode cX6_digest 95 = .ok (.getfield 25, 3) := dk_180 0 25 (dk_at dksX6_digest_4 2 rfl rfl)
theorem dX6_digest_98 : decode cX6_digest 98 = .ok (.iload_n 1, 1) := dk_27 (dk_at dksX6_digest_4 5 rfl rfl)
theorem dX6_digest_99 : decode cX6_digest 99 = .ok (.baload, 1) := dk_51 (dk_at dksX6_digest_4 6 rfl rfl)
theorem dX6_digest_100 : decode cX6_digest 100 = .ok (.i2l, 1) := dk_133 (dk_at dksX6_digest_4 7 rfl rfl)
theorem dX6_digest_101 : decode cX6_digest 101 = .ok (.invokevirtual 253, 3) := dk_182 0 253 (dk_at dksX6_digest_4 8 rfl rfl)
theorem dX6_digest_104 : decode cX6_digest 104 = .ok (.iinc 1 1, 3) := dk_132 1 1 (dk_at dksX6_digest_4 11 rfl rfl)
theorem dX6_digest_107 : decode cX6_digest 107 = .ok (.goto (-22), 3) := dk_167 255 234 (dk_at dksX6_digest_4 14 rfl rfl)
theorem dX6_digest_110 : decode cX6_digest 110 = .ok (.iconst 0, 1) := dk_3 (dk_at dksX6_digest_4 17 rfl rfl)
theorem dX6_digest_111 : decode cX6_digest 111 = .ok (.istore_n 1, 1) := dk_60 (dk_at dksX6_digest_4 18 rfl rfl)
theorem dX6_digest_112 : decode cX6_digest 112 = .ok (.iload_n 1, 1) := dk_27 (dk_at dksX6_digest_4 19 rfl rfl)
theorem dX6_digest_113 : decode cX6_digest 113 = .ok (.bipush 9, 2) := dk_16 9 (dk_at dksX6_digest_4 20 rfl rfl)
theorem dX6_digest_115 : decode cX6_digest 115 = .ok (.if_icmp .ge 19, 3) := dk_162 0 19 (dk_at dksX6_digest_5 0 rfl rfl)
theorem dX6_digest_118 : decode cX6_digest 118 = .ok (.aload_n 0, 1) := dk_42 (dk_at dksX6_digest_5 3 rfl rfl)
theorem dX6_digest_119 : decode cX6_digest 119 = .ok (.aload_n 0, 1) := dk_42 (dk_at dksX6_digest_5 4 rfl rfl)
theorem dX6_digest_120 : decode cX6_digest 120 = .ok (.iload_n 1, 1) := dk_27 (dk_at dksX6_digest_5 5 rfl rfl)
theorem dX6_digest_121 : decode cX6_digest 121 = .ok (.invokevirtual 245, 3) := dk_182 0 245 (dk_at dksX6_digest_5 6 rfl rfl)
theorem dX6_digest_124 : decode cX6_digest 124 = .ok (.i2l, 1) := dk_133 (dk_at dksX6_digest_5 9 rfl rfl)
theorem dX6_digest_125 : decode cX6_digest 125 = .ok (.invokevirtual 253, 3) := dk_182 0 253 (dk_at dksX6_digest_5 10 rfl rfl)
theorem dX6_digest_128 : decode cX6_digest 128 = .ok (.iinc 1 1, 3) := dk_132 1 1 (dk_at dksX6_digest_5 13 rfl rfl)
theorem dX6_digest_131 : decode cX6_digest 131 = .ok (.goto (-19), 3) := dk_167 255 237 (dk_at dksX6_digest_5 16 rfl rfl)
theorem dX6_digest_134 : decode cX6_digest 134 = .ok (.aload_n 0, 1) := dk_42 (dk_at dksX6_digest_5 19 rfl rfl)
theorem dX6_digest_135 : decode cX6_digest 135 = .ok (.getfield 250, 3) := dk_180 0 250 (dk_at dksX6_digest_5 20 rfl rfl)
theorem dX6_digest_138 : decode cX6_digest 138 = .ok (.lreturn, 1) := dk_173 (dk_at dksX6_digest_5 23 rfl rfl)
abbrev cX6_mix : ByteArray := prog_9_method_63_code
def yX6_mix : MethodName := ⟨RX6, "mix", "(J)V"⟩
def dkwX6_mix_0 : List UInt8 := [42, 20, 0, 248, 42, 180, 0, 250, 105, 31, 97, 181, 0, 250, 177]
abbrev dktX6_mix_0 : List UInt8 := dkwX6_mix_0 ++ []
theorem dksX6_mix_0 : cX6_mix.data.toList.drop 0 = dktX6_mix_0 := by decide +kernel
theorem dX6_mix_0 : decode cX6_mix 0 = .ok (.aload_n 0, 1) := dk_42 (dk_at dksX6_mix_0 0 rfl rfl)
theorem dX6_mix_1 : decode cX6_mix 1 = .ok (.ldc2_w 248, 3) := dk_20 0 248 (dk_at dksX6_mix_0 1 rfl rfl)
theorem dX6_mix_4 : decode cX6_mix 4 = .ok (.aload_n 0, 1) := dk_42 (dk_at dksX6_mix_0 4 rfl rfl)
theorem dX6_mix_5 : decode cX6_mix 5 = .ok (.getfield 250, 3) := dk_180 0 250 (dk_at dksX6_mix_0 5 rfl rfl)
theorem dX6_mix_8 : decode cX6_mix 8 = .ok (.lmul, 1) := dk_105 (dk_at dksX6_mix_0 8 rfl rfl)
theorem dX6_mix_9 : decode cX6_mix 9 = .ok (.lload_n 1, 1) := dk_31 (dk_at dksX6_mix_0 9 rfl rfl)
theorem dX6_mix_10 : decode cX6_mix 10 = .ok (.ladd, 1) := dk_97 (dk_at dksX6_mix_0 10 rfl rfl)
theorem dX6_mix_11 : decode cX6_mix 11 = .ok (.putfield 250, 3) := dk_181 0 250 (dk_at dksX6_mix_0 11 rfl rfl)
theorem dX6_mix_14 : decode cX6_mix 14 = .ok (.return_, 1) := dk_177 (dk_at dksX6_mix_0 14 rfl rfl)
abbrev cX6_mixBoard : ByteArray := prog_9_method_64_code
def yX6_mixBoard : MethodName := ⟨RX6, "mixBoard", "()V"⟩
def dkwX6_mixBoard_2 : List UInt8 := [133, 182, 0, 253, 177]
abbrev dktX6_mixBoard_2 : List UInt8 := dkwX6_mixBoard_2 ++ []
def dkwX6_mixBoard_1 : List UInt8 := [42, 182, 0, 184, 133, 182, 0, 253, 42, 42, 3, 182, 0, 193, 133, 182, 0, 253, 42, 42, 4, 182, 0, 193]
abbrev dktX6_mixBoard_1 : List UInt8 := dkwX6_mixBoard_1 ++ dktX6_mixBoard_2
def dkwX6_mixBoard_0 : List UInt8 := [3, 60, 27, 6, 162, 0, 19, 42, 42, 27, 182, 0, 174, 133, 182, 0, 253, 132, 1, 1, 167, 255, 238, 42]
abbrev dktX6_mixBoard_0 : List UInt8 := dkwX6_mixBoard_0 ++ dktX6_mixBoard_1
theorem dksX6_mixBoard_0 : cX6_mixBoard.data.toList.drop 0 = dktX6_mixBoard_0 := by decide +kernel
theorem dksX6_mixBoard_1 : cX6_mixBoard.data.toList.drop 24 = dktX6_mixBoard_1 := dk_seg dksX6_mixBoard_0 24 rfl rfl
theorem dksX6_mixBoard_2 : cX6_mixBoard.data.toList.drop 48 = dktX6_mixBoard_2 := dk_seg dksX6_mixBoard_1 24 rfl rfl
theorem dX6_mixBoard_0 : decode cX6_mixBoard 0 = .ok (.iconst 0, 1) := dk_3 (dk_at dksX6_mixBoard_0 0 rfl rfl)
theorem dX6_mixBoard_1 : decode cX6_mixBoard 1 = .ok (.istore_n 1, 1) := dk_60 (dk_at dksX6_mixBoard_0 1 rfl rfl)
theorem dX6_mixBoard_2 : decode cX6_mixBoard 2 = .ok (.iload_n 1, 1) := dk_27 (dk_at dksX6_mixBoard_0 2 rfl rfl)
theorem dX6_mixBoard_3 : decode cX6_mixBoard 3 = .ok (.iconst 3, 1) := dk_6 (dk_at dksX6_mixBoard_0 3 rfl rfl)
theorem dX6_mixBoard_4 : decode cX6_mixBoard 4 = .ok (.if_icmp .ge 19, 3) := dk_162 0 19 (dk_at dksX6_mixBoard_0 4 rfl rfl)
theorem dX6_mixBoard_7 : decode cX6_mixBoard 7 = .ok (.aload_n 0, 1) := dk_42 (dk_at dksX6_mixBoard_0 7 rfl rfl)
theorem dX6_mixBoard_8 : decode cX6_mixBoard 8 = .ok (.aload_n 0, 1) := dk_42 (dk_at dksX6_mixBoard_0 8 rfl rfl)
theorem dX6_mixBoard_9 : decode cX6_mixBoard 9 = .ok (.iload_n 1, 1) := dk_27 (dk_at dksX6_mixBoard_0 9 rfl rfl)
theorem dX6_mixBoard_10 : decode cX6_mixBoard 10 = .ok (.invokevirtual 174, 3) := dk_182 0 174 (dk_at dksX6_mixBoard_0 10 rfl rfl)
theorem dX6_mixBoard_13 : decode cX6_mixBoard 13 = .ok (.i2l, 1) := dk_133 (dk_at dksX6_mixBoard_0 13 rfl rfl)
theorem dX6_mixBoard_14 : decode cX6_mixBoard 14 = .ok (.invokevirtual 253, 3) := dk_182 0 253 (dk_at dksX6_mixBoard_0 14 rfl rfl)
theorem dX6_mixBoard_17 : decode cX6_mixBoard 17 = .ok (.iinc 1 1, 3) := dk_132 1 1 (dk_at dksX6_mixBoard_0 17 rfl rfl)
theorem dX6_mixBoard_20 : decode cX6_mixBoard 20 = .ok (.goto (-18), 3) := dk_167 255 238 (dk_at dksX6_mixBoard_0 20 rfl rfl)
theorem dX6_mixBoard_23 : decode cX6_mixBoard 23 = .ok (.aload_n 0, 1) := dk_42 (dk_at dksX6_mixBoard_0 23 rfl rfl)
theorem dX6_mixBoard_24 : decode cX6_mixBoard 24 = .ok (.aload_n 0, 1) := dk_42 (dk_at dksX6_mixBoard_1 0 rfl rfl)
theorem dX6_mixBoard_25 : decode cX6_mixBoard 25 = .ok (.invokevirtual 184, 3) := dk_182 0 184 (dk_at dksX6_mixBoard_1 1 rfl rfl)
theorem dX6_mixBoard_28 : decode cX6_mixBoard 28 = .ok (.i2l, 1) := dk_133 (dk_at dksX6_mixBoard_1 4 rfl rfl)
theorem dX6_mixBoard_29 : decode cX6_mixBoard 29 = .ok (.invokevirtual 253, 3) := dk_182 0 253 (dk_at dksX6_mixBoard_1 5 rfl rfl)
theorem dX6_mixBoard_32 : decode cX6_mixBoard 32 = .ok (.aload_n 0, 1) := dk_42 (dk_at dksX6_mixBoard_1 8 rfl rfl)
theorem dX6_mixBoard_33 : decode cX6_mixBoard 33 = .ok (.aload_n 0, 1) := dk_42 (dk_at dksX6_mixBoard_1 9 rfl rfl)
theorem dX6_mixBoard_34 : decode cX6_mixBoard 34 = .ok (.iconst 0, 1) := dk_3 (dk_at dksX6_mixBoard_1 10 rfl rfl)
theorem dX6_mixBoard_35 : decode cX6_mixBoard 35 = .ok (.invokevirtual 193, 3) := dk_182 0 193 (dk_at dksX6_mixBoard_1 11 rfl rfl)
theorem dX6_mixBoard_38 : decode cX6_mixBoard 38 = .ok (.i2l, 1) := dk_133 (dk_at dksX6_mixBoard_1 14 rfl rfl)
theorem dX6_mixBoard_39 : decode cX6_mixBoard 39 = .ok (.invokevirtual 253, 3) := dk_182 0 253 (dk_at dksX6_mixBoard_1 15 rfl rfl)
theorem dX6_mixBoard_42 : decode cX6_mixBoard 42 = .ok (.aload_n 0, 1) := dk_42 (dk_at dksX6_mixBoard_1 18 rfl rfl)
theorem dX6_mixBoard_43 : decode cX6_mixBoard 43 = .ok (.aload_n 0, 1) := dk_42 (dk_at dksX6_mixBoard_1 19 rfl rfl)
theorem dX6_mixBoard_44 : decode cX6_mixBoard 44 = .ok (.iconst 1, 1) := dk_4 (dk_at dksX6_mixBoard_1 20 rfl rfl)
theorem dX6_mixBoard_45 : decode cX6_mixBoard 45 = .ok (.invokevirtual 193, 3) := dk_182 0 193 (dk_at dksX6_mixBoard_1 21 rfl rfl)
theorem dX6_mixBoard_48 : decode cX6_mixBoard 48 = .ok (.i2l, 1) := dk_133 (dk_at dksX6_mixBoard_2 0 rfl rfl)
theorem dX6_mixBoard_49 : decode cX6_mixBoard 49 = .ok (.invokevirtual 253, 3) := dk_182 0 253 (dk_at dksX6_mixBoard_2 1 rfl rfl)
theorem dX6_mixBoard_52 : decode cX6_mixBoard 52 = .ok (.return_, 1) := dk_177 (dk_at dksX6_mixBoard_2 4 rfl rfl)
theorem q78 : (Jvm.Cond.initialized "SumColoursModel") ∈ lw_all := lw_g (lw_at lw_m1 7 rfl) rfl
theorem q713 : (Jvm.Cond.instantiable "SumColoursModel" (33 : Nat)) ∈ lw_all := lw_g (lw_at lw_m3 162 rfl) rfl
theorem q715 : (Jvm.Cond.instanceMethod ({ cls := "SumColoursModel", name := "<init>", desc := "()V" } : Jvm.MethodName)) ∈ lw_all := lw_g (lw_at lw_m3 164 rfl) rfl
theorem q716 : (Jvm.Cond.code ({ cls := "SumColoursModel", name := "<init>", desc := "()V" } : Jvm.MethodName) prog_9_method_1_code (1 : Nat) (Option.none : Option Jvm.ClassFile.FieldType)) ∈ lw_all := lw_g (lw_at lw_m3 165 rfl) rfl
theorem q717 : (Jvm.Cond.methodLink "SumColoursModel" (1 : Nat) ({ cls := "java/lang/Object", name := "<init>", desc := "()V" } : Jvm.MethodName)) ∈ lw_all := lw_g (lw_at lw_m3 166 rfl) rfl
theorem q718 : (Jvm.Cond.fieldLink "SumColoursModel" (107 : Nat) "SumColoursModel" "boards" "I") ∈ lw_all := lw_g (lw_at lw_m3 167 rfl) rfl
theorem q719 : (Jvm.Cond.fieldLink "SumColoursModel" (101 : Nat) "SumColoursModel" "numbers" "I") ∈ lw_all := lw_g (lw_at lw_m3 168 rfl) rfl
theorem q720 : (Jvm.Cond.fieldLink "SumColoursModel" (98 : Nat) "SumColoursModel" "colours" "I") ∈ lw_all := lw_g (lw_at lw_m3 169 rfl) rfl
theorem q721 : (Jvm.Cond.fieldLink "SumColoursModel" (7 : Nat) "SumColoursModel" "kindOf" "[I") ∈ lw_all := lw_g (lw_at lw_m3 170 rfl) rfl
theorem q722 : (Jvm.Cond.fieldLink "SumColoursModel" (13 : Nat) "SumColoursModel" "colourOf" "[I") ∈ lw_all := lw_g (lw_at lw_m3 171 rfl) rfl
theorem q723 : (Jvm.Cond.fieldLink "SumColoursModel" (104 : Nat) "SumColoursModel" "changes" "I") ∈ lw_all := lw_g (lw_at lw_m3 172 rfl) rfl
theorem q724 : (Jvm.Cond.fieldLink "SumColoursModel" (110 : Nat) "SumColoursModel" "seen" "I") ∈ lw_all := lw_g (lw_at lw_m3 173 rfl) rfl
theorem q725 : (Jvm.Cond.fieldLink "SumColoursModel" (16 : Nat) "SumColoursModel" "seenNumber" "[I") ∈ lw_all := lw_g (lw_at lw_m3 174 rfl) rfl
theorem q726 : (Jvm.Cond.fieldLink "SumColoursModel" (19 : Nat) "SumColoursModel" "seenWhat" "[I") ∈ lw_all := lw_g (lw_at lw_m3 175 rfl) rfl
theorem q727 : (Jvm.Cond.fieldLink "SumColoursModel" (22 : Nat) "SumColoursModel" "seenCould" "[I") ∈ lw_all := lw_g (lw_at lw_m3 176 rfl) rfl
theorem q728 : (Jvm.Cond.fieldLink "SumColoursModel" (69 : Nat) "SumColoursModel" "pageLength" "I") ∈ lw_all := lw_g (lw_at lw_m3 177 rfl) rfl
theorem q729 : (Jvm.Cond.fieldLink "SumColoursModel" (25 : Nat) "SumColoursModel" "page" "[B") ∈ lw_all := lw_g (lw_at lw_m3 178 rfl) rfl
theorem q730 : (Jvm.Cond.fieldLink "SumColoursModel" (83 : Nat) "SumColoursModel" "isWhole" "Z") ∈ lw_all := lw_g (lw_at lw_m3 179 rfl) rfl
theorem q731 : (Jvm.Cond.fieldLink "SumColoursModel" (73 : Nat) "SumColoursModel" "newNumbers" "I") ∈ lw_all := lw_g (lw_at lw_m3 180 rfl) rfl
theorem q732 : (Jvm.Cond.fieldLink "SumColoursModel" (29 : Nat) "SumColoursModel" "now" "[I") ∈ lw_all := lw_g (lw_at lw_m3 181 rfl) rfl
theorem q733 : (Jvm.Cond.fieldLink "SumColoursModel" (32 : Nat) "SumColoursModel" "often" "[I") ∈ lw_all := lw_g (lw_at lw_m3 182 rfl) rfl
theorem q734 : (Jvm.Cond.fieldLink "SumColoursModel" (35 : Nat) "SumColoursModel" "wanted" "[I") ∈ lw_all := lw_g (lw_at lw_m3 183 rfl) rfl
theorem q735 : (Jvm.Cond.fieldLink "SumColoursModel" (158 : Nat) "SumColoursModel" "ways" "I") ∈ lw_all := lw_g (lw_at lw_m3 184 rfl) rfl
theorem q736 : (Jvm.Cond.fieldLink "SumColoursModel" (38 : Nat) "SumColoursModel" "saved" "[I") ∈ lw_all := lw_g (lw_at lw_m3 185 rfl) rfl
theorem q737 : (Jvm.Cond.fieldLink "SumColoursModel" (41 : Nat) "SumColoursModel" "turnOf" "[I") ∈ lw_all := lw_g (lw_at lw_m3 186 rfl) rfl
theorem q738 : (Jvm.Cond.fieldLink "SumColoursModel" (44 : Nat) "SumColoursModel" "colourAt" "[I") ∈ lw_all := lw_g (lw_at lw_m3 187 rfl) rfl
theorem q739 : (Jvm.Cond.fieldLink "SumColoursModel" (47 : Nat) "SumColoursModel" "winAt" "[I") ∈ lw_all := lw_g (lw_at lw_m3 188 rfl) rfl
theorem q740 : (Jvm.Cond.fieldLink "SumColoursModel" (211 : Nat) "SumColoursModel" "seedNow" "J") ∈ lw_all := lw_g (lw_at lw_m3 189 rfl) rfl
theorem q741 : (Jvm.Cond.fieldLink "SumColoursModel" (227 : Nat) "SumColoursModel" "isKept" "Z") ∈ lw_all := lw_g (lw_at lw_m3 190 rfl) rfl
theorem q742 : (Jvm.Cond.fieldLink "SumColoursModel" (230 : Nat) "SumColoursModel" "keptBoard" "I") ∈ lw_all := lw_g (lw_at lw_m3 191 rfl) rfl
theorem q743 : (Jvm.Cond.fieldLink "SumColoursModel" (233 : Nat) "SumColoursModel" "keptChanges" "I") ∈ lw_all := lw_g (lw_at lw_m3 192 rfl) rfl
theorem q744 : (Jvm.Cond.fieldLink "SumColoursModel" (236 : Nat) "SumColoursModel" "keptSeen" "I") ∈ lw_all := lw_g (lw_at lw_m3 193 rfl) rfl
theorem q745 : (Jvm.Cond.fieldLink "SumColoursModel" (50 : Nat) "SumColoursModel" "keptKind" "[I") ∈ lw_all := lw_g (lw_at lw_m3 194 rfl) rfl
theorem q746 : (Jvm.Cond.fieldLink "SumColoursModel" (53 : Nat) "SumColoursModel" "keptColour" "[I") ∈ lw_all := lw_g (lw_at lw_m3 195 rfl) rfl
theorem q747 : (Jvm.Cond.fieldLink "SumColoursModel" (56 : Nat) "SumColoursModel" "keptNumber" "[I") ∈ lw_all := lw_g (lw_at lw_m3 196 rfl) rfl
theorem q748 : (Jvm.Cond.fieldLink "SumColoursModel" (59 : Nat) "SumColoursModel" "keptWhat" "[I") ∈ lw_all := lw_g (lw_at lw_m3 197 rfl) rfl
theorem q749 : (Jvm.Cond.fieldLink "SumColoursModel" (62 : Nat) "SumColoursModel" "keptCould" "[I") ∈ lw_all := lw_g (lw_at lw_m3 198 rfl) rfl
theorem q750 : (Jvm.Cond.fieldLink "SumColoursModel" (250 : Nat) "SumColoursModel" "h" "J") ∈ lw_all := lw_g (lw_at lw_m3 199 rfl) rfl
theorem q751 : (Jvm.Cond.lays "SumColoursModel" "SumColoursModel" "boards" "I") ∈ lw_all := lw_g (lw_at lw_m3 200 rfl) rfl
theorem q752 : (Jvm.Cond.soleField "SumColoursModel" "boards") ∈ lw_all := lw_g (lw_at lw_m3 201 rfl) rfl
theorem q753 : (Jvm.Cond.lays "SumColoursModel" "SumColoursModel" "numbers" "I") ∈ lw_all := lw_g (lw_at lw_m3 202 rfl) rfl
theorem q754 : (Jvm.Cond.soleField "SumColoursModel" "numbers") ∈ lw_all := lw_g (lw_at lw_m3 203 rfl) rfl
theorem q755 : (Jvm.Cond.lays "SumColoursModel" "SumColoursModel" "colours" "I") ∈ lw_all := lw_g (lw_at lw_m3 204 rfl) rfl
theorem q756 : (Jvm.Cond.soleField "SumColoursModel" "colours") ∈ lw_all := lw_g (lw_at lw_m3 205 rfl) rfl
theorem q757 : (Jvm.Cond.laysFinal "SumColoursModel" "SumColoursModel" "kindOf" "[I") ∈ lw_all := lw_g (lw_at lw_m3 206 rfl) rfl
theorem q758 : (Jvm.Cond.soleField "SumColoursModel" "kindOf") ∈ lw_all := lw_g (lw_at lw_m3 207 rfl) rfl
theorem q759 : (Jvm.Cond.laysFinal "SumColoursModel" "SumColoursModel" "colourOf" "[I") ∈ lw_all := lw_g (lw_at lw_m3 208 rfl) rfl
theorem q760 : (Jvm.Cond.soleField "SumColoursModel" "colourOf") ∈ lw_all := lw_g (lw_at lw_m3 209 rfl) rfl
theorem q761 : (Jvm.Cond.lays "SumColoursModel" "SumColoursModel" "changes" "I") ∈ lw_all := lw_g (lw_at lw_m3 210 rfl) rfl
theorem q762 : (Jvm.Cond.soleField "SumColoursModel" "changes") ∈ lw_all := lw_g (lw_at lw_m3 211 rfl) rfl
theorem q763 : (Jvm.Cond.lays "SumColoursModel" "SumColoursModel" "seen" "I") ∈ lw_all := lw_g (lw_at lw_m3 212 rfl) rfl
theorem q764 : (Jvm.Cond.soleField "SumColoursModel" "seen") ∈ lw_all := lw_g (lw_at lw_m3 213 rfl) rfl
theorem q765 : (Jvm.Cond.laysFinal "SumColoursModel" "SumColoursModel" "seenNumber" "[I") ∈ lw_all := lw_g (lw_at lw_m3 214 rfl) rfl
theorem q766 : (Jvm.Cond.soleField "SumColoursModel" "seenNumber") ∈ lw_all := lw_g (lw_at lw_m3 215 rfl) rfl
theorem q767 : (Jvm.Cond.laysFinal "SumColoursModel" "SumColoursModel" "seenWhat" "[I") ∈ lw_all := lw_g (lw_at lw_m3 216 rfl) rfl
theorem q768 : (Jvm.Cond.soleField "SumColoursModel" "seenWhat") ∈ lw_all := lw_g (lw_at lw_m3 217 rfl) rfl
theorem q769 : (Jvm.Cond.laysFinal "SumColoursModel" "SumColoursModel" "seenCould" "[I") ∈ lw_all := lw_g (lw_at lw_m3 218 rfl) rfl
theorem q770 : (Jvm.Cond.soleField "SumColoursModel" "seenCould") ∈ lw_all := lw_g (lw_at lw_m3 219 rfl) rfl
theorem q771 : (Jvm.Cond.lays "SumColoursModel" "SumColoursModel" "pageLength" "I") ∈ lw_all := lw_g (lw_at lw_m3 220 rfl) rfl
theorem q772 : (Jvm.Cond.soleField "SumColoursModel" "pageLength") ∈ lw_all := lw_g (lw_at lw_m3 221 rfl) rfl
theorem q773 : (Jvm.Cond.laysFinal "SumColoursModel" "SumColoursModel" "page" "[B") ∈ lw_all := lw_g (lw_at lw_m3 222 rfl) rfl
theorem q774 : (Jvm.Cond.soleField "SumColoursModel" "page") ∈ lw_all := lw_g (lw_at lw_m3 223 rfl) rfl
theorem q775 : (Jvm.Cond.lays "SumColoursModel" "SumColoursModel" "isWhole" "Z") ∈ lw_all := lw_g (lw_at lw_m3 224 rfl) rfl
theorem q776 : (Jvm.Cond.soleField "SumColoursModel" "isWhole") ∈ lw_all := lw_g (lw_at lw_m3 225 rfl) rfl
theorem q777 : (Jvm.Cond.lays "SumColoursModel" "SumColoursModel" "newNumbers" "I") ∈ lw_all := lw_g (lw_at lw_m3 226 rfl) rfl
theorem q778 : (Jvm.Cond.soleField "SumColoursModel" "newNumbers") ∈ lw_all := lw_g (lw_at lw_m3 227 rfl) rfl
theorem q779 : (Jvm.Cond.laysFinal "SumColoursModel" "SumColoursModel" "now" "[I") ∈ lw_all := lw_g (lw_at lw_m3 228 rfl) rfl
theorem q780 : (Jvm.Cond.soleField "SumColoursModel" "now") ∈ lw_all := lw_g (lw_at lw_m3 229 rfl) rfl
theorem q781 : (Jvm.Cond.laysFinal "SumColoursModel" "SumColoursModel" "often" "[I") ∈ lw_all := lw_g (lw_at lw_m3 230 rfl) rfl
theorem q782 : (Jvm.Cond.soleField "SumColoursModel" "often") ∈ lw_all := lw_g (lw_at lw_m3 231 rfl) rfl
theorem q783 : (Jvm.Cond.laysFinal "SumColoursModel" "SumColoursModel" "wanted" "[I") ∈ lw_all := lw_g (lw_at lw_m3 232 rfl) rfl
theorem q784 : (Jvm.Cond.soleField "SumColoursModel" "wanted") ∈ lw_all := lw_g (lw_at lw_m3 233 rfl) rfl
theorem q785 : (Jvm.Cond.lays "SumColoursModel" "SumColoursModel" "ways" "I") ∈ lw_all := lw_g (lw_at lw_m3 234 rfl) rfl
theorem q786 : (Jvm.Cond.soleField "SumColoursModel" "ways") ∈ lw_all := lw_g (lw_at lw_m3 235 rfl) rfl
theorem q787 : (Jvm.Cond.laysFinal "SumColoursModel" "SumColoursModel" "saved" "[I") ∈ lw_all := lw_g (lw_at lw_m3 236 rfl) rfl
theorem q788 : (Jvm.Cond.soleField "SumColoursModel" "saved") ∈ lw_all := lw_g (lw_at lw_m3 237 rfl) rfl
theorem q789 : (Jvm.Cond.laysFinal "SumColoursModel" "SumColoursModel" "turnOf" "[I") ∈ lw_all := lw_g (lw_at lw_m3 238 rfl) rfl
theorem q790 : (Jvm.Cond.soleField "SumColoursModel" "turnOf") ∈ lw_all := lw_g (lw_at lw_m3 239 rfl) rfl
theorem q791 : (Jvm.Cond.laysFinal "SumColoursModel" "SumColoursModel" "colourAt" "[I") ∈ lw_all := lw_g (lw_at lw_m4 0 rfl) rfl
theorem q792 : (Jvm.Cond.soleField "SumColoursModel" "colourAt") ∈ lw_all := lw_g (lw_at lw_m4 1 rfl) rfl
theorem q793 : (Jvm.Cond.laysFinal "SumColoursModel" "SumColoursModel" "winAt" "[I") ∈ lw_all := lw_g (lw_at lw_m4 2 rfl) rfl
theorem q794 : (Jvm.Cond.soleField "SumColoursModel" "winAt") ∈ lw_all := lw_g (lw_at lw_m4 3 rfl) rfl
theorem q795 : (Jvm.Cond.lays "SumColoursModel" "SumColoursModel" "seedNow" "J") ∈ lw_all := lw_g (lw_at lw_m4 4 rfl) rfl
theorem q796 : (Jvm.Cond.soleField "SumColoursModel" "seedNow") ∈ lw_all := lw_g (lw_at lw_m4 5 rfl) rfl
theorem q797 : (Jvm.Cond.lays "SumColoursModel" "SumColoursModel" "isKept" "Z") ∈ lw_all := lw_g (lw_at lw_m4 6 rfl) rfl
theorem q798 : (Jvm.Cond.soleField "SumColoursModel" "isKept") ∈ lw_all := lw_g (lw_at lw_m4 7 rfl) rfl
theorem q799 : (Jvm.Cond.lays "SumColoursModel" "SumColoursModel" "keptBoard" "I") ∈ lw_all := lw_g (lw_at lw_m4 8 rfl) rfl
theorem q800 : (Jvm.Cond.soleField "SumColoursModel" "keptBoard") ∈ lw_all := lw_g (lw_at lw_m4 9 rfl) rfl
theorem q801 : (Jvm.Cond.lays "SumColoursModel" "SumColoursModel" "keptChanges" "I") ∈ lw_all := lw_g (lw_at lw_m4 10 rfl) rfl
theorem q802 : (Jvm.Cond.soleField "SumColoursModel" "keptChanges") ∈ lw_all := lw_g (lw_at lw_m4 11 rfl) rfl
theorem q803 : (Jvm.Cond.lays "SumColoursModel" "SumColoursModel" "keptSeen" "I") ∈ lw_all := lw_g (lw_at lw_m4 12 rfl) rfl
theorem q804 : (Jvm.Cond.soleField "SumColoursModel" "keptSeen") ∈ lw_all := lw_g (lw_at lw_m4 13 rfl) rfl
theorem q805 : (Jvm.Cond.laysFinal "SumColoursModel" "SumColoursModel" "keptKind" "[I") ∈ lw_all := lw_g (lw_at lw_m4 14 rfl) rfl
theorem q806 : (Jvm.Cond.soleField "SumColoursModel" "keptKind") ∈ lw_all := lw_g (lw_at lw_m4 15 rfl) rfl
theorem q807 : (Jvm.Cond.laysFinal "SumColoursModel" "SumColoursModel" "keptColour" "[I") ∈ lw_all := lw_g (lw_at lw_m4 16 rfl) rfl
theorem q808 : (Jvm.Cond.soleField "SumColoursModel" "keptColour") ∈ lw_all := lw_g (lw_at lw_m4 17 rfl) rfl
theorem q809 : (Jvm.Cond.laysFinal "SumColoursModel" "SumColoursModel" "keptNumber" "[I") ∈ lw_all := lw_g (lw_at lw_m4 18 rfl) rfl
theorem q810 : (Jvm.Cond.soleField "SumColoursModel" "keptNumber") ∈ lw_all := lw_g (lw_at lw_m4 19 rfl) rfl
theorem q811 : (Jvm.Cond.laysFinal "SumColoursModel" "SumColoursModel" "keptWhat" "[I") ∈ lw_all := lw_g (lw_at lw_m4 20 rfl) rfl
theorem q812 : (Jvm.Cond.soleField "SumColoursModel" "keptWhat") ∈ lw_all := lw_g (lw_at lw_m4 21 rfl) rfl
theorem q813 : (Jvm.Cond.laysFinal "SumColoursModel" "SumColoursModel" "keptCould" "[I") ∈ lw_all := lw_g (lw_at lw_m4 22 rfl) rfl
theorem q814 : (Jvm.Cond.soleField "SumColoursModel" "keptCould") ∈ lw_all := lw_g (lw_at lw_m4 23 rfl) rfl
theorem q815 : (Jvm.Cond.lays "SumColoursModel" "SumColoursModel" "h" "J") ∈ lw_all := lw_g (lw_at lw_m4 24 rfl) rfl
theorem q816 : (Jvm.Cond.soleField "SumColoursModel" "h") ∈ lw_all := lw_g (lw_at lw_m4 25 rfl) rfl
theorem q817 : (Jvm.Cond.superclass "SumColoursModel" "java/lang/Object") ∈ lw_all := lw_g (lw_at lw_m4 26 rfl) rfl
theorem q819 : (Jvm.Cond.instanceMethod ({ cls := "SumColoursModel", name := "letter", desc := "(I)I" } : Jvm.MethodName)) ∈ lw_all := lw_g (lw_at lw_m4 28 rfl) rfl
theorem q820 : (Jvm.Cond.selects "SumColoursModel" ({ cls := "SumColoursModel", name := "letter", desc := "(I)I" } : Jvm.MethodName) ({ cls := "SumColoursModel", name := "letter", desc := "(I)I" } : Jvm.MethodName)) ∈ lw_all := lw_g (lw_at lw_m4 29 rfl) rfl
theorem q821 : (Jvm.Cond.code ({ cls := "SumColoursModel", name := "letter", desc := "(I)I" } : Jvm.MethodName) prog_9_method_6_code (2 : Nat) (Option.some Jvm.ClassFile.FieldType.int)) ∈ lw_all := lw_g (lw_at lw_m4 30 rfl) rfl
theorem q822 : (Jvm.Cond.methodLink "SumColoursModel" (65 : Nat) ({ cls := "SumColoursModel", name := "within", desc := "(III)Z" } : Jvm.MethodName)) ∈ lw_all := lw_g (lw_at lw_m4 31 rfl) rfl
theorem q823 : (Jvm.Cond.static ({ cls := "SumColoursModel", name := "within", desc := "(III)Z" } : Jvm.MethodName)) ∈ lw_all := lw_g (lw_at lw_m4 32 rfl) rfl
theorem q824 : (Jvm.Cond.code ({ cls := "SumColoursModel", name := "within", desc := "(III)Z" } : Jvm.MethodName) prog_9_method_3_code (3 : Nat) (Option.some Jvm.ClassFile.FieldType.boolean)) ∈ lw_all := lw_g (lw_at lw_m4 33 rfl) rfl
theorem q826 : (Jvm.Cond.instanceMethod ({ cls := "SumColoursModel", name := "blank", desc := "()I" } : Jvm.MethodName)) ∈ lw_all := lw_g (lw_at lw_m4 35 rfl) rfl
theorem q827 : (Jvm.Cond.selects "SumColoursModel" ({ cls := "SumColoursModel", name := "blank", desc := "()I" } : Jvm.MethodName) ({ cls := "SumColoursModel", name := "blank", desc := "()I" } : Jvm.MethodName)) ∈ lw_all := lw_g (lw_at lw_m4 36 rfl) rfl
theorem q828 : (Jvm.Cond.code ({ cls := "SumColoursModel", name := "blank", desc := "()I" } : Jvm.MethodName) prog_9_method_7_code (2 : Nat) (Option.some Jvm.ClassFile.FieldType.int)) ∈ lw_all := lw_g (lw_at lw_m4 37 rfl) rfl
theorem q830 : (Jvm.Cond.instanceMethod ({ cls := "SumColoursModel", name := "fault", desc := "()I" } : Jvm.MethodName)) ∈ lw_all := lw_g (lw_at lw_m4 39 rfl) rfl
theorem q831 : (Jvm.Cond.selects "SumColoursModel" ({ cls := "SumColoursModel", name := "fault", desc := "()I" } : Jvm.MethodName) ({ cls := "SumColoursModel", name := "fault", desc := "()I" } : Jvm.MethodName)) ∈ lw_all := lw_g (lw_at lw_m4 40 rfl) rfl
theorem q832 : (Jvm.Cond.code ({ cls := "SumColoursModel", name := "fault", desc := "()I" } : Jvm.MethodName) prog_9_method_13_code (1 : Nat) (Option.some Jvm.ClassFile.FieldType.int)) ∈ lw_all := lw_g (lw_at lw_m4 41 rfl) rfl
theorem q833 : (Jvm.Cond.methodLink "SumColoursModel" (95 : Nat) ({ cls := "SumColoursModel", name := "read", desc := "()I" } : Jvm.MethodName)) ∈ lw_all := lw_g (lw_at lw_m4 42 rfl) rfl
theorem q834 : (Jvm.Cond.privateMethod ({ cls := "SumColoursModel", name := "read", desc := "()I" } : Jvm.MethodName)) ∈ lw_tbl := lw_at lw_m4 43 rfl
theorem q835 : (Jvm.Cond.instanceMethod ({ cls := "SumColoursModel", name := "read", desc := "()I" } : Jvm.MethodName)) ∈ lw_all := lw_g (lw_at lw_m4 44 rfl) rfl
theorem q836 : (Jvm.Cond.code ({ cls := "SumColoursModel", name := "read", desc := "()I" } : Jvm.MethodName) prog_9_method_12_code (3 : Nat) (Option.some Jvm.ClassFile.FieldType.int)) ∈ lw_all := lw_g (lw_at lw_m4 45 rfl) rfl
theorem q837 : (Jvm.Cond.methodLink "SumColoursModel" (76 : Nat) ({ cls := "SumColoursModel", name := "at", desc := "(I)I" } : Jvm.MethodName)) ∈ lw_all := lw_g (lw_at lw_m4 46 rfl) rfl
theorem q838 : (Jvm.Cond.privateMethod ({ cls := "SumColoursModel", name := "at", desc := "(I)I" } : Jvm.MethodName)) ∈ lw_tbl := lw_at lw_m4 47 rfl
theorem q839 : (Jvm.Cond.instanceMethod ({ cls := "SumColoursModel", name := "at", desc := "(I)I" } : Jvm.MethodName)) ∈ lw_all := lw_g (lw_at lw_m4 48 rfl) rfl
theorem q840 : (Jvm.Cond.code ({ cls := "SumColoursModel", name := "at", desc := "(I)I" } : Jvm.MethodName) prog_9_method_9_code (2 : Nat) (Option.some Jvm.ClassFile.FieldType.int)) ∈ lw_all := lw_g (lw_at lw_m4 49 rfl) rfl
theorem q841 : (Jvm.Cond.methodLink "SumColoursModel" (87 : Nat) ({ cls := "SumColoursModel", name := "readKinds", desc := "()I" } : Jvm.MethodName)) ∈ lw_all := lw_g (lw_at lw_m4 50 rfl) rfl
theorem q842 : (Jvm.Cond.privateMethod ({ cls := "SumColoursModel", name := "readKinds", desc := "()I" } : Jvm.MethodName)) ∈ lw_tbl := lw_at lw_m4 51 rfl
theorem q843 : (Jvm.Cond.instanceMethod ({ cls := "SumColoursModel", name := "readKinds", desc := "()I" } : Jvm.MethodName)) ∈ lw_all := lw_g (lw_at lw_m4 52 rfl) rfl
theorem q844 : (Jvm.Cond.code ({ cls := "SumColoursModel", name := "readKinds", desc := "()I" } : Jvm.MethodName) prog_9_method_10_code (2 : Nat) (Option.some Jvm.ClassFile.FieldType.int)) ∈ lw_all := lw_g (lw_at lw_m4 53 rfl) rfl
theorem q845 : (Jvm.Cond.methodLink "SumColoursModel" (80 : Nat) ({ cls := "SumColoursModel", name := "kindBy", desc := "(I)I" } : Jvm.MethodName)) ∈ lw_all := lw_g (lw_at lw_m4 54 rfl) rfl
theorem q846 : (Jvm.Cond.static ({ cls := "SumColoursModel", name := "kindBy", desc := "(I)I" } : Jvm.MethodName)) ∈ lw_all := lw_g (lw_at lw_m4 55 rfl) rfl
theorem q847 : (Jvm.Cond.code ({ cls := "SumColoursModel", name := "kindBy", desc := "(I)I" } : Jvm.MethodName) prog_9_method_8_code (1 : Nat) (Option.some Jvm.ClassFile.FieldType.int)) ∈ lw_all := lw_g (lw_at lw_m4 56 rfl) rfl
theorem q848 : (Jvm.Cond.methodLink "SumColoursModel" (91 : Nat) ({ cls := "SumColoursModel", name := "readSigns", desc := "(II)I" } : Jvm.MethodName)) ∈ lw_all := lw_g (lw_at lw_m4 57 rfl) rfl
theorem q849 : (Jvm.Cond.privateMethod ({ cls := "SumColoursModel", name := "readSigns", desc := "(II)I" } : Jvm.MethodName)) ∈ lw_tbl := lw_at lw_m4 58 rfl
theorem q850 : (Jvm.Cond.instanceMethod ({ cls := "SumColoursModel", name := "readSigns", desc := "(II)I" } : Jvm.MethodName)) ∈ lw_all := lw_g (lw_at lw_m4 59 rfl) rfl
theorem q851 : (Jvm.Cond.code ({ cls := "SumColoursModel", name := "readSigns", desc := "(II)I" } : Jvm.MethodName) prog_9_method_11_code (4 : Nat) (Option.some Jvm.ClassFile.FieldType.int)) ∈ lw_all := lw_g (lw_at lw_m4 60 rfl) rfl
theorem q853 : (Jvm.Cond.instanceMethod ({ cls := "SumColoursModel", name := "board", desc := "()I" } : Jvm.MethodName)) ∈ lw_all := lw_g (lw_at lw_m4 62 rfl) rfl
theorem q854 : (Jvm.Cond.selects "SumColoursModel" ({ cls := "SumColoursModel", name := "board", desc := "()I" } : Jvm.MethodName) ({ cls := "SumColoursModel", name := "board", desc := "()I" } : Jvm.MethodName)) ∈ lw_all := lw_g (lw_at lw_m4 63 rfl) rfl
theorem q855 : (Jvm.Cond.code ({ cls := "SumColoursModel", name := "board", desc := "()I" } : Jvm.MethodName) prog_9_method_14_code (3 : Nat) (Option.some Jvm.ClassFile.FieldType.int)) ∈ lw_all := lw_g (lw_at lw_m4 64 rfl) rfl
theorem q857 : (Jvm.Cond.instanceMethod ({ cls := "SumColoursModel", name := "number", desc := "(II)I" } : Jvm.MethodName)) ∈ lw_all := lw_g (lw_at lw_m4 66 rfl) rfl
theorem q858 : (Jvm.Cond.selects "SumColoursModel" ({ cls := "SumColoursModel", name := "number", desc := "(II)I" } : Jvm.MethodName) ({ cls := "SumColoursModel", name := "number", desc := "(II)I" } : Jvm.MethodName)) ∈ lw_all := lw_g (lw_at lw_m4 67 rfl) rfl
theorem q859 : (Jvm.Cond.code ({ cls := "SumColoursModel", name := "number", desc := "(II)I" } : Jvm.MethodName) prog_9_method_26_code (3 : Nat) (Option.some Jvm.ClassFile.FieldType.int)) ∈ lw_all := lw_g (lw_at lw_m4 68 rfl) rfl
theorem q860 : (Jvm.Cond.methodLink "SumColoursModel" (149 : Nat) ({ cls := "SumColoursModel", name := "isNumber", desc := "(I)Z" } : Jvm.MethodName)) ∈ lw_all := lw_g (lw_at lw_m4 69 rfl) rfl
theorem q861 : (Jvm.Cond.privateMethod ({ cls := "SumColoursModel", name := "isNumber", desc := "(I)Z" } : Jvm.MethodName)) ∈ lw_tbl := lw_at lw_m4 70 rfl
theorem q862 : (Jvm.Cond.instanceMethod ({ cls := "SumColoursModel", name := "isNumber", desc := "(I)Z" } : Jvm.MethodName)) ∈ lw_all := lw_g (lw_at lw_m4 71 rfl) rfl
theorem q863 : (Jvm.Cond.code ({ cls := "SumColoursModel", name := "isNumber", desc := "(I)Z" } : Jvm.MethodName) prog_9_method_15_code (2 : Nat) (Option.some Jvm.ClassFile.FieldType.boolean)) ∈ lw_all := lw_g (lw_at lw_m4 72 rfl) rfl
theorem q864 : (Jvm.Cond.methodLink "SumColoursModel" (152 : Nat) ({ cls := "SumColoursModel", name := "numberNow", desc := "(II)I" } : Jvm.MethodName)) ∈ lw_all := lw_g (lw_at lw_m4 73 rfl) rfl
theorem q865 : (Jvm.Cond.privateMethod ({ cls := "SumColoursModel", name := "numberNow", desc := "(II)I" } : Jvm.MethodName)) ∈ lw_tbl := lw_at lw_m4 74 rfl
theorem q866 : (Jvm.Cond.instanceMethod ({ cls := "SumColoursModel", name := "numberNow", desc := "(II)I" } : Jvm.MethodName)) ∈ lw_all := lw_g (lw_at lw_m4 75 rfl) rfl
theorem q867 : (Jvm.Cond.code ({ cls := "SumColoursModel", name := "numberNow", desc := "(II)I" } : Jvm.MethodName) prog_9_method_25_code (3 : Nat) (Option.some Jvm.ClassFile.FieldType.int)) ∈ lw_all := lw_g (lw_at lw_m4 76 rfl) rfl
theorem q868 : (Jvm.Cond.methodLink "SumColoursModel" (134 : Nat) ({ cls := "SumColoursModel", name := "layWays", desc := "(I)I" } : Jvm.MethodName)) ∈ lw_all := lw_g (lw_at lw_m4 77 rfl) rfl
theorem q869 : (Jvm.Cond.privateMethod ({ cls := "SumColoursModel", name := "layWays", desc := "(I)I" } : Jvm.MethodName)) ∈ lw_tbl := lw_at lw_m4 78 rfl
theorem q870 : (Jvm.Cond.instanceMethod ({ cls := "SumColoursModel", name := "layWays", desc := "(I)I" } : Jvm.MethodName)) ∈ lw_all := lw_g (lw_at lw_m4 79 rfl) rfl
theorem q871 : (Jvm.Cond.code ({ cls := "SumColoursModel", name := "layWays", desc := "(I)I" } : Jvm.MethodName) prog_9_method_31_code (3 : Nat) (Option.some Jvm.ClassFile.FieldType.int)) ∈ lw_all := lw_g (lw_at lw_m4 80 rfl) rfl
theorem q872 : (Jvm.Cond.methodLink "SumColoursModel" (128 : Nat) ({ cls := "SumColoursModel", name := "layNow", desc := "()V" } : Jvm.MethodName)) ∈ lw_all := lw_g (lw_at lw_m4 81 rfl) rfl
theorem q873 : (Jvm.Cond.privateMethod ({ cls := "SumColoursModel", name := "layNow", desc := "()V" } : Jvm.MethodName)) ∈ lw_tbl := lw_at lw_m4 82 rfl
theorem q874 : (Jvm.Cond.instanceMethod ({ cls := "SumColoursModel", name := "layNow", desc := "()V" } : Jvm.MethodName)) ∈ lw_all := lw_g (lw_at lw_m4 83 rfl) rfl
theorem q875 : (Jvm.Cond.code ({ cls := "SumColoursModel", name := "layNow", desc := "()V" } : Jvm.MethodName) prog_9_method_19_code (2 : Nat) (Option.none : Option Jvm.ClassFile.FieldType)) ∈ lw_all := lw_g (lw_at lw_m4 84 rfl) rfl
theorem q876 : (Jvm.Cond.methodLink "SumColoursModel" (161 : Nat) ({ cls := "SumColoursModel", name := "goOn", desc := "(II)I" } : Jvm.MethodName)) ∈ lw_all := lw_g (lw_at lw_m4 85 rfl) rfl
theorem q877 : (Jvm.Cond.privateMethod ({ cls := "SumColoursModel", name := "goOn", desc := "(II)I" } : Jvm.MethodName)) ∈ lw_tbl := lw_at lw_m4 86 rfl
theorem q878 : (Jvm.Cond.instanceMethod ({ cls := "SumColoursModel", name := "goOn", desc := "(II)I" } : Jvm.MethodName)) ∈ lw_all := lw_g (lw_at lw_m4 87 rfl) rfl
theorem q879 : (Jvm.Cond.code ({ cls := "SumColoursModel", name := "goOn", desc := "(II)I" } : Jvm.MethodName) prog_9_method_29_code (4 : Nat) (Option.some Jvm.ClassFile.FieldType.int)) ∈ lw_all := lw_g (lw_at lw_m4 88 rfl) rfl
theorem q880 : (Jvm.Cond.methodLink "SumColoursModel" (125 : Nat) ({ cls := "SumColoursModel", name := "badWith", desc := "(I)I" } : Jvm.MethodName)) ∈ lw_all := lw_g (lw_at lw_m4 89 rfl) rfl
theorem q881 : (Jvm.Cond.privateMethod ({ cls := "SumColoursModel", name := "badWith", desc := "(I)I" } : Jvm.MethodName)) ∈ lw_tbl := lw_at lw_m4 90 rfl
theorem q882 : (Jvm.Cond.instanceMethod ({ cls := "SumColoursModel", name := "badWith", desc := "(I)I" } : Jvm.MethodName)) ∈ lw_all := lw_g (lw_at lw_m4 91 rfl) rfl
theorem q883 : (Jvm.Cond.code ({ cls := "SumColoursModel", name := "badWith", desc := "(I)I" } : Jvm.MethodName) prog_9_method_21_code (4 : Nat) (Option.some Jvm.ClassFile.FieldType.int)) ∈ lw_all := lw_g (lw_at lw_m4 92 rfl) rfl
theorem q884 : (Jvm.Cond.methodLink "SumColoursModel" (121 : Nat) ({ cls := "SumColoursModel", name := "isBad", desc := "(II)Z" } : Jvm.MethodName)) ∈ lw_all := lw_g (lw_at lw_m4 93 rfl) rfl
theorem q885 : (Jvm.Cond.privateMethod ({ cls := "SumColoursModel", name := "isBad", desc := "(II)Z" } : Jvm.MethodName)) ∈ lw_tbl := lw_at lw_m4 94 rfl
theorem q886 : (Jvm.Cond.instanceMethod ({ cls := "SumColoursModel", name := "isBad", desc := "(II)Z" } : Jvm.MethodName)) ∈ lw_all := lw_g (lw_at lw_m4 95 rfl) rfl
theorem q887 : (Jvm.Cond.code ({ cls := "SumColoursModel", name := "isBad", desc := "(II)Z" } : Jvm.MethodName) prog_9_method_20_code (5 : Nat) (Option.some Jvm.ClassFile.FieldType.boolean)) ∈ lw_all := lw_g (lw_at lw_m4 96 rfl) rfl
theorem q888 : (Jvm.Cond.methodLink "SumColoursModel" (113 : Nat) ({ cls := "SumColoursModel", name := "isPart", desc := "(I)Z" } : Jvm.MethodName)) ∈ lw_all := lw_g (lw_at lw_m4 97 rfl) rfl
theorem q889 : (Jvm.Cond.static ({ cls := "SumColoursModel", name := "isPart", desc := "(I)Z" } : Jvm.MethodName)) ∈ lw_all := lw_g (lw_at lw_m4 98 rfl) rfl
theorem q890 : (Jvm.Cond.code ({ cls := "SumColoursModel", name := "isPart", desc := "(I)Z" } : Jvm.MethodName) prog_9_method_17_code (1 : Nat) (Option.some Jvm.ClassFile.FieldType.boolean)) ∈ lw_all := lw_g (lw_at lw_m4 99 rfl) rfl
theorem q891 : (Jvm.Cond.methodLink "SumColoursModel" (117 : Nat) ({ cls := "SumColoursModel", name := "minds", desc := "(IZ)Z" } : Jvm.MethodName)) ∈ lw_all := lw_g (lw_at lw_m4 100 rfl) rfl
theorem q892 : (Jvm.Cond.static ({ cls := "SumColoursModel", name := "minds", desc := "(IZ)Z" } : Jvm.MethodName)) ∈ lw_all := lw_g (lw_at lw_m4 101 rfl) rfl
theorem q893 : (Jvm.Cond.code ({ cls := "SumColoursModel", name := "minds", desc := "(IZ)Z" } : Jvm.MethodName) prog_9_method_18_code (2 : Nat) (Option.some Jvm.ClassFile.FieldType.boolean)) ∈ lw_all := lw_g (lw_at lw_m4 102 rfl) rfl
theorem q894 : (Jvm.Cond.methodLink "SumColoursModel" (155 : Nat) ({ cls := "SumColoursModel", name := "turnBack", desc := "(I)I" } : Jvm.MethodName)) ∈ lw_all := lw_g (lw_at lw_m4 103 rfl) rfl
theorem q895 : (Jvm.Cond.privateMethod ({ cls := "SumColoursModel", name := "turnBack", desc := "(I)I" } : Jvm.MethodName)) ∈ lw_tbl := lw_at lw_m4 104 rfl
theorem q896 : (Jvm.Cond.instanceMethod ({ cls := "SumColoursModel", name := "turnBack", desc := "(I)I" } : Jvm.MethodName)) ∈ lw_all := lw_g (lw_at lw_m4 105 rfl) rfl
theorem q897 : (Jvm.Cond.code ({ cls := "SumColoursModel", name := "turnBack", desc := "(I)I" } : Jvm.MethodName) prog_9_method_28_code (3 : Nat) (Option.some Jvm.ClassFile.FieldType.int)) ∈ lw_all := lw_g (lw_at lw_m4 106 rfl) rfl
theorem q898 : (Jvm.Cond.methodLink "SumColoursModel" (164 : Nat) ({ cls := "SumColoursModel", name := "takeWay", desc := "(I)V" } : Jvm.MethodName)) ∈ lw_all := lw_g (lw_at lw_m4 107 rfl) rfl
theorem q899 : (Jvm.Cond.privateMethod ({ cls := "SumColoursModel", name := "takeWay", desc := "(I)V" } : Jvm.MethodName)) ∈ lw_tbl := lw_at lw_m4 108 rfl
theorem q900 : (Jvm.Cond.instanceMethod ({ cls := "SumColoursModel", name := "takeWay", desc := "(I)V" } : Jvm.MethodName)) ∈ lw_all := lw_g (lw_at lw_m4 109 rfl) rfl
theorem q901 : (Jvm.Cond.code ({ cls := "SumColoursModel", name := "takeWay", desc := "(I)V" } : Jvm.MethodName) prog_9_method_30_code (3 : Nat) (Option.none : Option Jvm.ClassFile.FieldType)) ∈ lw_all := lw_g (lw_at lw_m4 110 rfl) rfl
theorem q902 : (Jvm.Cond.methodLink "SumColoursModel" (137 : Nat) ({ cls := "SumColoursModel", name := "sureOf", desc := "(I)I" } : Jvm.MethodName)) ∈ lw_all := lw_g (lw_at lw_m4 111 rfl) rfl
theorem q903 : (Jvm.Cond.privateMethod ({ cls := "SumColoursModel", name := "sureOf", desc := "(I)I" } : Jvm.MethodName)) ∈ lw_tbl := lw_at lw_m4 112 rfl
theorem q904 : (Jvm.Cond.instanceMethod ({ cls := "SumColoursModel", name := "sureOf", desc := "(I)I" } : Jvm.MethodName)) ∈ lw_all := lw_g (lw_at lw_m4 113 rfl) rfl
theorem q905 : (Jvm.Cond.code ({ cls := "SumColoursModel", name := "sureOf", desc := "(I)I" } : Jvm.MethodName) prog_9_method_32_code (3 : Nat) (Option.some Jvm.ClassFile.FieldType.int)) ∈ lw_all := lw_g (lw_at lw_m4 114 rfl) rfl
theorem q906 : (Jvm.Cond.methodLink "SumColoursModel" (140 : Nat) ({ cls := "SumColoursModel", name := "sortsOf", desc := "(I)I" } : Jvm.MethodName)) ∈ lw_all := lw_g (lw_at lw_m4 115 rfl) rfl
theorem q907 : (Jvm.Cond.privateMethod ({ cls := "SumColoursModel", name := "sortsOf", desc := "(I)I" } : Jvm.MethodName)) ∈ lw_tbl := lw_at lw_m4 116 rfl
theorem q908 : (Jvm.Cond.instanceMethod ({ cls := "SumColoursModel", name := "sortsOf", desc := "(I)I" } : Jvm.MethodName)) ∈ lw_all := lw_g (lw_at lw_m4 117 rfl) rfl
theorem q909 : (Jvm.Cond.code ({ cls := "SumColoursModel", name := "sortsOf", desc := "(I)I" } : Jvm.MethodName) prog_9_method_53_code (6 : Nat) (Option.some Jvm.ClassFile.FieldType.int)) ∈ lw_all := lw_g (lw_at lw_m4 118 rfl) rfl
theorem q910 : (Jvm.Cond.methodLink "SumColoursModel" (203 : Nat) ({ cls := "SumColoursModel", name := "could", desc := "(II)Z" } : Jvm.MethodName)) ∈ lw_all := lw_g (lw_at lw_m4 119 rfl) rfl
theorem q911 : (Jvm.Cond.static ({ cls := "SumColoursModel", name := "could", desc := "(II)Z" } : Jvm.MethodName)) ∈ lw_all := lw_g (lw_at lw_m4 120 rfl) rfl
theorem q912 : (Jvm.Cond.code ({ cls := "SumColoursModel", name := "could", desc := "(II)Z" } : Jvm.MethodName) prog_9_method_50_code (2 : Nat) (Option.some Jvm.ClassFile.FieldType.boolean)) ∈ lw_all := lw_g (lw_at lw_m4 121 rfl) rfl
theorem q913 : (Jvm.Cond.methodLink "SumColoursModel" (143 : Nat) ({ cls := "SumColoursModel", name := "askOf", desc := "(I)I" } : Jvm.MethodName)) ∈ lw_all := lw_g (lw_at lw_m4 122 rfl) rfl
theorem q914 : (Jvm.Cond.privateMethod ({ cls := "SumColoursModel", name := "askOf", desc := "(I)I" } : Jvm.MethodName)) ∈ lw_tbl := lw_at lw_m4 123 rfl
theorem q915 : (Jvm.Cond.instanceMethod ({ cls := "SumColoursModel", name := "askOf", desc := "(I)I" } : Jvm.MethodName)) ∈ lw_all := lw_g (lw_at lw_m4 124 rfl) rfl
theorem q916 : (Jvm.Cond.code ({ cls := "SumColoursModel", name := "askOf", desc := "(I)I" } : Jvm.MethodName) prog_9_method_54_code (9 : Nat) (Option.some Jvm.ClassFile.FieldType.int)) ∈ lw_all := lw_g (lw_at lw_m4 125 rfl) rfl
theorem q917 : (Jvm.Cond.constant "SumColoursModel" (183 : Nat) (268435456 : Int32)) ∈ lw_all := lw_g (lw_at lw_m4 126 rfl) rfl
theorem q918 : (Jvm.Cond.methodLink "SumColoursModel" (206 : Nat) ({ cls := "SumColoursModel", name := "isIn", desc := "(II)Z" } : Jvm.MethodName)) ∈ lw_all := lw_g (lw_at lw_m4 127 rfl) rfl
theorem q919 : (Jvm.Cond.static ({ cls := "SumColoursModel", name := "isIn", desc := "(II)Z" } : Jvm.MethodName)) ∈ lw_all := lw_g (lw_at lw_m4 128 rfl) rfl
theorem q920 : (Jvm.Cond.code ({ cls := "SumColoursModel", name := "isIn", desc := "(II)Z" } : Jvm.MethodName) prog_9_method_4_code (2 : Nat) (Option.some Jvm.ClassFile.FieldType.boolean)) ∈ lw_all := lw_g (lw_at lw_m4 129 rfl) rfl
theorem q921 : (Jvm.Cond.methodLink "SumColoursModel" (146 : Nat) ({ cls := "SumColoursModel", name := "badOf", desc := "(I)I" } : Jvm.MethodName)) ∈ lw_all := lw_g (lw_at lw_m4 130 rfl) rfl
theorem q922 : (Jvm.Cond.privateMethod ({ cls := "SumColoursModel", name := "badOf", desc := "(I)I" } : Jvm.MethodName)) ∈ lw_tbl := lw_at lw_m4 131 rfl
theorem q923 : (Jvm.Cond.instanceMethod ({ cls := "SumColoursModel", name := "badOf", desc := "(I)I" } : Jvm.MethodName)) ∈ lw_all := lw_g (lw_at lw_m4 132 rfl) rfl
theorem q924 : (Jvm.Cond.code ({ cls := "SumColoursModel", name := "badOf", desc := "(I)I" } : Jvm.MethodName) prog_9_method_24_code (4 : Nat) (Option.some Jvm.ClassFile.FieldType.int)) ∈ lw_all := lw_g (lw_at lw_m4 133 rfl) rfl
theorem q926 : (Jvm.Cond.instanceMethod ({ cls := "SumColoursModel", name := "as", desc := "(II)I" } : Jvm.MethodName)) ∈ lw_all := lw_g (lw_at lw_m4 135 rfl) rfl
theorem q927 : (Jvm.Cond.selects "SumColoursModel" ({ cls := "SumColoursModel", name := "as", desc := "(II)I" } : Jvm.MethodName) ({ cls := "SumColoursModel", name := "as", desc := "(II)I" } : Jvm.MethodName)) ∈ lw_all := lw_g (lw_at lw_m4 136 rfl) rfl
theorem q928 : (Jvm.Cond.code ({ cls := "SumColoursModel", name := "as", desc := "(II)I" } : Jvm.MethodName) prog_9_method_27_code (4 : Nat) (Option.some Jvm.ClassFile.FieldType.int)) ∈ lw_all := lw_g (lw_at lw_m4 137 rfl) rfl
theorem q930 : (Jvm.Cond.instanceMethod ({ cls := "SumColoursModel", name := "ways", desc := "(I)I" } : Jvm.MethodName)) ∈ lw_all := lw_g (lw_at lw_m4 139 rfl) rfl
theorem q931 : (Jvm.Cond.selects "SumColoursModel" ({ cls := "SumColoursModel", name := "ways", desc := "(I)I" } : Jvm.MethodName) ({ cls := "SumColoursModel", name := "ways", desc := "(I)I" } : Jvm.MethodName)) ∈ lw_all := lw_g (lw_at lw_m4 140 rfl) rfl
theorem q932 : (Jvm.Cond.code ({ cls := "SumColoursModel", name := "ways", desc := "(I)I" } : Jvm.MethodName) prog_9_method_37_code (2 : Nat) (Option.some Jvm.ClassFile.FieldType.int)) ∈ lw_all := lw_g (lw_at lw_m4 141 rfl) rfl
theorem q933 : (Jvm.Cond.methodLink "SumColoursModel" (174 : Nat) ({ cls := "SumColoursModel", name := "waysNow", desc := "(I)I" } : Jvm.MethodName)) ∈ lw_all := lw_g (lw_at lw_m4 142 rfl) rfl
theorem q934 : (Jvm.Cond.privateMethod ({ cls := "SumColoursModel", name := "waysNow", desc := "(I)I" } : Jvm.MethodName)) ∈ lw_tbl := lw_at lw_m4 143 rfl
theorem q935 : (Jvm.Cond.instanceMethod ({ cls := "SumColoursModel", name := "waysNow", desc := "(I)I" } : Jvm.MethodName)) ∈ lw_all := lw_g (lw_at lw_m4 144 rfl) rfl
theorem q936 : (Jvm.Cond.code ({ cls := "SumColoursModel", name := "waysNow", desc := "(I)I" } : Jvm.MethodName) prog_9_method_36_code (2 : Nat) (Option.some Jvm.ClassFile.FieldType.int)) ∈ lw_all := lw_g (lw_at lw_m4 145 rfl) rfl
theorem q937 : (Jvm.Cond.methodLink "SumColoursModel" (168 : Nat) ({ cls := "SumColoursModel", name := "nextNow", desc := "()I" } : Jvm.MethodName)) ∈ lw_all := lw_g (lw_at lw_m4 146 rfl) rfl
theorem q938 : (Jvm.Cond.privateMethod ({ cls := "SumColoursModel", name := "nextNow", desc := "()I" } : Jvm.MethodName)) ∈ lw_tbl := lw_at lw_m4 147 rfl
theorem q939 : (Jvm.Cond.instanceMethod ({ cls := "SumColoursModel", name := "nextNow", desc := "()I" } : Jvm.MethodName)) ∈ lw_all := lw_g (lw_at lw_m4 148 rfl) rfl
theorem q940 : (Jvm.Cond.code ({ cls := "SumColoursModel", name := "nextNow", desc := "()I" } : Jvm.MethodName) prog_9_method_34_code (6 : Nat) (Option.some Jvm.ClassFile.FieldType.int)) ∈ lw_all := lw_g (lw_at lw_m4 149 rfl) rfl
theorem q941 : (Jvm.Cond.methodLink "SumColoursModel" (171 : Nat) ({ cls := "SumColoursModel", name := "upNow", desc := "()I" } : Jvm.MethodName)) ∈ lw_all := lw_g (lw_at lw_m4 150 rfl) rfl
theorem q942 : (Jvm.Cond.privateMethod ({ cls := "SumColoursModel", name := "upNow", desc := "()I" } : Jvm.MethodName)) ∈ lw_tbl := lw_at lw_m4 151 rfl
theorem q943 : (Jvm.Cond.instanceMethod ({ cls := "SumColoursModel", name := "upNow", desc := "()I" } : Jvm.MethodName)) ∈ lw_all := lw_g (lw_at lw_m4 152 rfl) rfl
theorem q944 : (Jvm.Cond.code ({ cls := "SumColoursModel", name := "upNow", desc := "()I" } : Jvm.MethodName) prog_9_method_35_code (3 : Nat) (Option.some Jvm.ClassFile.FieldType.int)) ∈ lw_all := lw_g (lw_at lw_m4 153 rfl) rfl
theorem q946 : (Jvm.Cond.instanceMethod ({ cls := "SumColoursModel", name := "way", desc := "(II)I" } : Jvm.MethodName)) ∈ lw_all := lw_g (lw_at lw_m4 155 rfl) rfl
theorem q947 : (Jvm.Cond.selects "SumColoursModel" ({ cls := "SumColoursModel", name := "way", desc := "(II)I" } : Jvm.MethodName) ({ cls := "SumColoursModel", name := "way", desc := "(II)I" } : Jvm.MethodName)) ∈ lw_all := lw_g (lw_at lw_m4 156 rfl) rfl
theorem q948 : (Jvm.Cond.code ({ cls := "SumColoursModel", name := "way", desc := "(II)I" } : Jvm.MethodName) prog_9_method_38_code (3 : Nat) (Option.some Jvm.ClassFile.FieldType.int)) ∈ lw_all := lw_g (lw_at lw_m4 157 rfl) rfl
theorem q950 : (Jvm.Cond.instanceMethod ({ cls := "SumColoursModel", name := "paint", desc := "(II)I" } : Jvm.MethodName)) ∈ lw_all := lw_g (lw_at lw_m4 159 rfl) rfl
theorem q951 : (Jvm.Cond.selects "SumColoursModel" ({ cls := "SumColoursModel", name := "paint", desc := "(II)I" } : Jvm.MethodName) ({ cls := "SumColoursModel", name := "paint", desc := "(II)I" } : Jvm.MethodName)) ∈ lw_all := lw_g (lw_at lw_m4 160 rfl) rfl
theorem q952 : (Jvm.Cond.code ({ cls := "SumColoursModel", name := "paint", desc := "(II)I" } : Jvm.MethodName) prog_9_method_39_code (3 : Nat) (Option.some Jvm.ClassFile.FieldType.int)) ∈ lw_all := lw_g (lw_at lw_m4 161 rfl) rfl
theorem q953 : (Jvm.Cond.methodLink "SumColoursModel" (177 : Nat) ({ cls := "SumColoursModel", name := "isColour", desc := "(I)Z" } : Jvm.MethodName)) ∈ lw_all := lw_g (lw_at lw_m4 162 rfl) rfl
theorem q954 : (Jvm.Cond.privateMethod ({ cls := "SumColoursModel", name := "isColour", desc := "(I)Z" } : Jvm.MethodName)) ∈ lw_tbl := lw_at lw_m4 163 rfl
theorem q955 : (Jvm.Cond.instanceMethod ({ cls := "SumColoursModel", name := "isColour", desc := "(I)Z" } : Jvm.MethodName)) ∈ lw_all := lw_g (lw_at lw_m4 164 rfl) rfl
theorem q956 : (Jvm.Cond.code ({ cls := "SumColoursModel", name := "isColour", desc := "(I)Z" } : Jvm.MethodName) prog_9_method_16_code (2 : Nat) (Option.some Jvm.ClassFile.FieldType.boolean)) ∈ lw_all := lw_g (lw_at lw_m4 165 rfl) rfl
theorem q957 : (Jvm.Cond.methodLink "SumColoursModel" (180 : Nat) ({ cls := "SumColoursModel", name := "badNow", desc := "()I" } : Jvm.MethodName)) ∈ lw_all := lw_g (lw_at lw_m4 166 rfl) rfl
theorem q958 : (Jvm.Cond.privateMethod ({ cls := "SumColoursModel", name := "badNow", desc := "()I" } : Jvm.MethodName)) ∈ lw_tbl := lw_at lw_m4 167 rfl
theorem q959 : (Jvm.Cond.instanceMethod ({ cls := "SumColoursModel", name := "badNow", desc := "()I" } : Jvm.MethodName)) ∈ lw_all := lw_g (lw_at lw_m4 168 rfl) rfl
theorem q960 : (Jvm.Cond.code ({ cls := "SumColoursModel", name := "badNow", desc := "()I" } : Jvm.MethodName) prog_9_method_23_code (1 : Nat) (Option.some Jvm.ClassFile.FieldType.int)) ∈ lw_all := lw_g (lw_at lw_m4 169 rfl) rfl
theorem q961 : (Jvm.Cond.methodLink "SumColoursModel" (131 : Nat) ({ cls := "SumColoursModel", name := "badUpTo", desc := "(I)I" } : Jvm.MethodName)) ∈ lw_all := lw_g (lw_at lw_m4 170 rfl) rfl
theorem q962 : (Jvm.Cond.privateMethod ({ cls := "SumColoursModel", name := "badUpTo", desc := "(I)I" } : Jvm.MethodName)) ∈ lw_tbl := lw_at lw_m4 171 rfl
theorem q963 : (Jvm.Cond.instanceMethod ({ cls := "SumColoursModel", name := "badUpTo", desc := "(I)I" } : Jvm.MethodName)) ∈ lw_all := lw_g (lw_at lw_m4 172 rfl) rfl
theorem q964 : (Jvm.Cond.code ({ cls := "SumColoursModel", name := "badUpTo", desc := "(I)I" } : Jvm.MethodName) prog_9_method_22_code (4 : Nat) (Option.some Jvm.ClassFile.FieldType.int)) ∈ lw_all := lw_g (lw_at lw_m4 173 rfl) rfl
theorem q966 : (Jvm.Cond.instanceMethod ({ cls := "SumColoursModel", name := "wipe", desc := "(I)I" } : Jvm.MethodName)) ∈ lw_all := lw_g (lw_at lw_m4 175 rfl) rfl
theorem q967 : (Jvm.Cond.selects "SumColoursModel" ({ cls := "SumColoursModel", name := "wipe", desc := "(I)I" } : Jvm.MethodName) ({ cls := "SumColoursModel", name := "wipe", desc := "(I)I" } : Jvm.MethodName)) ∈ lw_all := lw_g (lw_at lw_m4 176 rfl) rfl
theorem q968 : (Jvm.Cond.code ({ cls := "SumColoursModel", name := "wipe", desc := "(I)I" } : Jvm.MethodName) prog_9_method_40_code (3 : Nat) (Option.some Jvm.ClassFile.FieldType.int)) ∈ lw_all := lw_g (lw_at lw_m4 177 rfl) rfl
theorem q970 : (Jvm.Cond.instanceMethod ({ cls := "SumColoursModel", name := "be", desc := "(II)I" } : Jvm.MethodName)) ∈ lw_all := lw_g (lw_at lw_m4 179 rfl) rfl
theorem q971 : (Jvm.Cond.selects "SumColoursModel" ({ cls := "SumColoursModel", name := "be", desc := "(II)I" } : Jvm.MethodName) ({ cls := "SumColoursModel", name := "be", desc := "(II)I" } : Jvm.MethodName)) ∈ lw_all := lw_g (lw_at lw_m4 180 rfl) rfl
theorem q972 : (Jvm.Cond.code ({ cls := "SumColoursModel", name := "be", desc := "(II)I" } : Jvm.MethodName) prog_9_method_41_code (4 : Nat) (Option.some Jvm.ClassFile.FieldType.int)) ∈ lw_all := lw_g (lw_at lw_m4 181 rfl) rfl
theorem q974 : (Jvm.Cond.instanceMethod ({ cls := "SumColoursModel", name := "mend", desc := "()I" } : Jvm.MethodName)) ∈ lw_all := lw_g (lw_at lw_m4 183 rfl) rfl
theorem q975 : (Jvm.Cond.selects "SumColoursModel" ({ cls := "SumColoursModel", name := "mend", desc := "()I" } : Jvm.MethodName) ({ cls := "SumColoursModel", name := "mend", desc := "()I" } : Jvm.MethodName)) ∈ lw_all := lw_g (lw_at lw_m4 184 rfl) rfl
theorem q976 : (Jvm.Cond.code ({ cls := "SumColoursModel", name := "mend", desc := "()I" } : Jvm.MethodName) prog_9_method_43_code (1 : Nat) (Option.some Jvm.ClassFile.FieldType.int)) ∈ lw_all := lw_g (lw_at lw_m4 185 rfl) rfl
theorem q977 : (Jvm.Cond.methodLink "SumColoursModel" (184 : Nat) ({ cls := "SumColoursModel", name := "mendNow", desc := "()I" } : Jvm.MethodName)) ∈ lw_all := lw_g (lw_at lw_m4 186 rfl) rfl
theorem q978 : (Jvm.Cond.privateMethod ({ cls := "SumColoursModel", name := "mendNow", desc := "()I" } : Jvm.MethodName)) ∈ lw_tbl := lw_at lw_m4 187 rfl
theorem q979 : (Jvm.Cond.instanceMethod ({ cls := "SumColoursModel", name := "mendNow", desc := "()I" } : Jvm.MethodName)) ∈ lw_all := lw_g (lw_at lw_m4 188 rfl) rfl
theorem q980 : (Jvm.Cond.code ({ cls := "SumColoursModel", name := "mendNow", desc := "()I" } : Jvm.MethodName) prog_9_method_42_code (5 : Nat) (Option.some Jvm.ClassFile.FieldType.int)) ∈ lw_all := lw_g (lw_at lw_m4 189 rfl) rfl
theorem q982 : (Jvm.Cond.instanceMethod ({ cls := "SumColoursModel", name := "wins", desc := "(I)I" } : Jvm.MethodName)) ∈ lw_all := lw_g (lw_at lw_m4 191 rfl) rfl
theorem q983 : (Jvm.Cond.selects "SumColoursModel" ({ cls := "SumColoursModel", name := "wins", desc := "(I)I" } : Jvm.MethodName) ({ cls := "SumColoursModel", name := "wins", desc := "(I)I" } : Jvm.MethodName)) ∈ lw_all := lw_g (lw_at lw_m4 192 rfl) rfl
theorem q984 : (Jvm.Cond.code ({ cls := "SumColoursModel", name := "wins", desc := "(I)I" } : Jvm.MethodName) prog_9_method_47_code (2 : Nat) (Option.some Jvm.ClassFile.FieldType.int)) ∈ lw_all := lw_g (lw_at lw_m4 193 rfl) rfl
theorem q985 : (Jvm.Cond.methodLink "SumColoursModel" (193 : Nat) ({ cls := "SumColoursModel", name := "winsNow", desc := "(I)I" } : Jvm.MethodName)) ∈ lw_all := lw_g (lw_at lw_m4 194 rfl) rfl
theorem q986 : (Jvm.Cond.privateMethod ({ cls := "SumColoursModel", name := "winsNow", desc := "(I)I" } : Jvm.MethodName)) ∈ lw_tbl := lw_at lw_m4 195 rfl
theorem q987 : (Jvm.Cond.instanceMethod ({ cls := "SumColoursModel", name := "winsNow", desc := "(I)I" } : Jvm.MethodName)) ∈ lw_all := lw_g (lw_at lw_m4 196 rfl) rfl
theorem q988 : (Jvm.Cond.code ({ cls := "SumColoursModel", name := "winsNow", desc := "(I)I" } : Jvm.MethodName) prog_9_method_46_code (3 : Nat) (Option.some Jvm.ClassFile.FieldType.int)) ∈ lw_all := lw_g (lw_at lw_m4 197 rfl) rfl
theorem q989 : (Jvm.Cond.methodLink "SumColoursModel" (190 : Nat) ({ cls := "SumColoursModel", name := "winNow", desc := "()I" } : Jvm.MethodName)) ∈ lw_all := lw_g (lw_at lw_m4 198 rfl) rfl
theorem q990 : (Jvm.Cond.privateMethod ({ cls := "SumColoursModel", name := "winNow", desc := "()I" } : Jvm.MethodName)) ∈ lw_tbl := lw_at lw_m4 199 rfl
theorem q991 : (Jvm.Cond.instanceMethod ({ cls := "SumColoursModel", name := "winNow", desc := "()I" } : Jvm.MethodName)) ∈ lw_all := lw_g (lw_at lw_m4 200 rfl) rfl
theorem q992 : (Jvm.Cond.code ({ cls := "SumColoursModel", name := "winNow", desc := "()I" } : Jvm.MethodName) prog_9_method_45_code (4 : Nat) (Option.some Jvm.ClassFile.FieldType.int)) ∈ lw_all := lw_g (lw_at lw_m4 201 rfl) rfl
theorem q993 : (Jvm.Cond.methodLink "SumColoursModel" (187 : Nat) ({ cls := "SumColoursModel", name := "layTurns", desc := "()I" } : Jvm.MethodName)) ∈ lw_all := lw_g (lw_at lw_m4 202 rfl) rfl
theorem q994 : (Jvm.Cond.privateMethod ({ cls := "SumColoursModel", name := "layTurns", desc := "()I" } : Jvm.MethodName)) ∈ lw_tbl := lw_at lw_m4 203 rfl
theorem q995 : (Jvm.Cond.instanceMethod ({ cls := "SumColoursModel", name := "layTurns", desc := "()I" } : Jvm.MethodName)) ∈ lw_all := lw_g (lw_at lw_m4 204 rfl) rfl
theorem q996 : (Jvm.Cond.code ({ cls := "SumColoursModel", name := "layTurns", desc := "()I" } : Jvm.MethodName) prog_9_method_44_code (3 : Nat) (Option.some Jvm.ClassFile.FieldType.int)) ∈ lw_all := lw_g (lw_at lw_m4 205 rfl) rfl
theorem q998 : (Jvm.Cond.instanceMethod ({ cls := "SumColoursModel", name := "odds", desc := "(III)I" } : Jvm.MethodName)) ∈ lw_all := lw_g (lw_at lw_m4 207 rfl) rfl
theorem q999 : (Jvm.Cond.selects "SumColoursModel" ({ cls := "SumColoursModel", name := "odds", desc := "(III)I" } : Jvm.MethodName) ({ cls := "SumColoursModel", name := "odds", desc := "(III)I" } : Jvm.MethodName)) ∈ lw_all := lw_g (lw_at lw_m4 208 rfl) rfl
theorem q1000 : (Jvm.Cond.code ({ cls := "SumColoursModel", name := "odds", desc := "(III)I" } : Jvm.MethodName) prog_9_method_49_code (4 : Nat) (Option.some Jvm.ClassFile.FieldType.int)) ∈ lw_all := lw_g (lw_at lw_m4 209 rfl) rfl
theorem q1001 : (Jvm.Cond.methodLink "SumColoursModel" (199 : Nat) ({ cls := "SumColoursModel", name := "oddsNow", desc := "(III)I" } : Jvm.MethodName)) ∈ lw_all := lw_g (lw_at lw_m4 210 rfl) rfl
theorem q1002 : (Jvm.Cond.privateMethod ({ cls := "SumColoursModel", name := "oddsNow", desc := "(III)I" } : Jvm.MethodName)) ∈ lw_tbl := lw_at lw_m4 211 rfl
theorem q1003 : (Jvm.Cond.instanceMethod ({ cls := "SumColoursModel", name := "oddsNow", desc := "(III)I" } : Jvm.MethodName)) ∈ lw_all := lw_g (lw_at lw_m4 212 rfl) rfl
theorem q1004 : (Jvm.Cond.code ({ cls := "SumColoursModel", name := "oddsNow", desc := "(III)I" } : Jvm.MethodName) prog_9_method_48_code (7 : Nat) (Option.some Jvm.ClassFile.FieldType.int)) ∈ lw_all := lw_g (lw_at lw_m4 213 rfl) rfl
theorem q1005 : (Jvm.Cond.methodLink "SumColoursModel" (196 : Nat) ({ cls := "SumColoursModel", name := "divisor", desc := "(II)I" } : Jvm.MethodName)) ∈ lw_all := lw_g (lw_at lw_m4 214 rfl) rfl
theorem q1006 : (Jvm.Cond.static ({ cls := "SumColoursModel", name := "divisor", desc := "(II)I" } : Jvm.MethodName)) ∈ lw_all := lw_g (lw_at lw_m4 215 rfl) rfl
theorem q1007 : (Jvm.Cond.code ({ cls := "SumColoursModel", name := "divisor", desc := "(II)I" } : Jvm.MethodName) prog_9_method_5_code (5 : Nat) (Option.some Jvm.ClassFile.FieldType.int)) ∈ lw_all := lw_g (lw_at lw_m4 216 rfl) rfl
theorem q1009 : (Jvm.Cond.instanceMethod ({ cls := "SumColoursModel", name := "see", desc := "(IIZ)I" } : Jvm.MethodName)) ∈ lw_all := lw_g (lw_at lw_m4 218 rfl) rfl
theorem q1010 : (Jvm.Cond.selects "SumColoursModel" ({ cls := "SumColoursModel", name := "see", desc := "(IIZ)I" } : Jvm.MethodName) ({ cls := "SumColoursModel", name := "see", desc := "(IIZ)I" } : Jvm.MethodName)) ∈ lw_all := lw_g (lw_at lw_m4 219 rfl) rfl
theorem q1011 : (Jvm.Cond.code ({ cls := "SumColoursModel", name := "see", desc := "(IIZ)I" } : Jvm.MethodName) prog_9_method_51_code (4 : Nat) (Option.some Jvm.ClassFile.FieldType.int)) ∈ lw_all := lw_g (lw_at lw_m4 220 rfl) rfl
theorem q1013 : (Jvm.Cond.instanceMethod ({ cls := "SumColoursModel", name := "forget", desc := "()I" } : Jvm.MethodName)) ∈ lw_all := lw_g (lw_at lw_m4 222 rfl) rfl
theorem q1014 : (Jvm.Cond.selects "SumColoursModel" ({ cls := "SumColoursModel", name := "forget", desc := "()I" } : Jvm.MethodName) ({ cls := "SumColoursModel", name := "forget", desc := "()I" } : Jvm.MethodName)) ∈ lw_all := lw_g (lw_at lw_m4 223 rfl) rfl
theorem q1015 : (Jvm.Cond.code ({ cls := "SumColoursModel", name := "forget", desc := "()I" } : Jvm.MethodName) prog_9_method_52_code (2 : Nat) (Option.some Jvm.ClassFile.FieldType.int)) ∈ lw_all := lw_g (lw_at lw_m4 224 rfl) rfl
theorem q1017 : (Jvm.Cond.instanceMethod ({ cls := "SumColoursModel", name := "paintings", desc := "(III)I" } : Jvm.MethodName)) ∈ lw_all := lw_g (lw_at lw_m4 226 rfl) rfl
theorem q1018 : (Jvm.Cond.selects "SumColoursModel" ({ cls := "SumColoursModel", name := "paintings", desc := "(III)I" } : Jvm.MethodName) ({ cls := "SumColoursModel", name := "paintings", desc := "(III)I" } : Jvm.MethodName)) ∈ lw_all := lw_g (lw_at lw_m4 227 rfl) rfl
theorem q1019 : (Jvm.Cond.code ({ cls := "SumColoursModel", name := "paintings", desc := "(III)I" } : Jvm.MethodName) prog_9_method_57_code (4 : Nat) (Option.some Jvm.ClassFile.FieldType.int)) ∈ lw_all := lw_g (lw_at lw_m4 228 rfl) rfl
theorem q1020 : (Jvm.Cond.methodLink "SumColoursModel" (224 : Nat) ({ cls := "SumColoursModel", name := "paintingsNow", desc := "(III)I" } : Jvm.MethodName)) ∈ lw_all := lw_g (lw_at lw_m4 229 rfl) rfl
theorem q1021 : (Jvm.Cond.privateMethod ({ cls := "SumColoursModel", name := "paintingsNow", desc := "(III)I" } : Jvm.MethodName)) ∈ lw_tbl := lw_at lw_m4 230 rfl
theorem q1022 : (Jvm.Cond.instanceMethod ({ cls := "SumColoursModel", name := "paintingsNow", desc := "(III)I" } : Jvm.MethodName)) ∈ lw_all := lw_g (lw_at lw_m4 231 rfl) rfl
theorem q1023 : (Jvm.Cond.code ({ cls := "SumColoursModel", name := "paintingsNow", desc := "(III)I" } : Jvm.MethodName) prog_9_method_56_code (8 : Nat) (Option.some Jvm.ClassFile.FieldType.int)) ∈ lw_all := lw_g (lw_at lw_m4 232 rfl) rfl
theorem q1024 : (Jvm.Cond.methodLink "SumColoursModel" (221 : Nat) ({ cls := "SumColoursModel", name := "draw", desc := "(I)I" } : Jvm.MethodName)) ∈ lw_all := lw_g (lw_at lw_m4 233 rfl) rfl
theorem q1025 : (Jvm.Cond.privateMethod ({ cls := "SumColoursModel", name := "draw", desc := "(I)I" } : Jvm.MethodName)) ∈ lw_tbl := lw_at lw_m4 234 rfl
theorem q1026 : (Jvm.Cond.instanceMethod ({ cls := "SumColoursModel", name := "draw", desc := "(I)I" } : Jvm.MethodName)) ∈ lw_all := lw_g (lw_at lw_m4 235 rfl) rfl
theorem q1027 : (Jvm.Cond.code ({ cls := "SumColoursModel", name := "draw", desc := "(I)I" } : Jvm.MethodName) prog_9_method_55_code (2 : Nat) (Option.some Jvm.ClassFile.FieldType.int)) ∈ lw_all := lw_g (lw_at lw_m4 236 rfl) rfl
theorem q1028 : (Jvm.Cond.constantLong "SumColoursModel" (209 : Nat) (1103515245 : Int64)) ∈ lw_all := lw_g (lw_at lw_m4 237 rfl) rfl
theorem q1029 : (Jvm.Cond.constantLong "SumColoursModel" (215 : Nat) (12345 : Int64)) ∈ lw_all := lw_g (lw_at lw_m4 238 rfl) rfl
theorem q1030 : (Jvm.Cond.constantLong "SumColoursModel" (217 : Nat) (2147483647 : Int64)) ∈ lw_all := lw_g (lw_at lw_m4 239 rfl) rfl
theorem q1031 : (Jvm.Cond.constantLong "SumColoursModel" (219 : Nat) (65536 : Int64)) ∈ lw_all := lw_g (lw_at lw_m5 0 rfl) rfl
theorem q1033 : (Jvm.Cond.instanceMethod ({ cls := "SumColoursModel", name := "image", desc := "()I" } : Jvm.MethodName)) ∈ lw_all := lw_g (lw_at lw_m5 2 rfl) rfl
theorem q1034 : (Jvm.Cond.selects "SumColoursModel" ({ cls := "SumColoursModel", name := "image", desc := "()I" } : Jvm.MethodName) ({ cls := "SumColoursModel", name := "image", desc := "()I" } : Jvm.MethodName)) ∈ lw_all := lw_g (lw_at lw_m5 3 rfl) rfl
theorem q1035 : (Jvm.Cond.code ({ cls := "SumColoursModel", name := "image", desc := "()I" } : Jvm.MethodName) prog_9_method_58_code (2 : Nat) (Option.some Jvm.ClassFile.FieldType.int)) ∈ lw_all := lw_g (lw_at lw_m5 4 rfl) rfl
theorem q1037 : (Jvm.Cond.instanceMethod ({ cls := "SumColoursModel", name := "restore", desc := "()I" } : Jvm.MethodName)) ∈ lw_all := lw_g (lw_at lw_m5 6 rfl) rfl
theorem q1038 : (Jvm.Cond.selects "SumColoursModel" ({ cls := "SumColoursModel", name := "restore", desc := "()I" } : Jvm.MethodName) ({ cls := "SumColoursModel", name := "restore", desc := "()I" } : Jvm.MethodName)) ∈ lw_all := lw_g (lw_at lw_m5 7 rfl) rfl
theorem q1039 : (Jvm.Cond.code ({ cls := "SumColoursModel", name := "restore", desc := "()I" } : Jvm.MethodName) prog_9_method_59_code (2 : Nat) (Option.some Jvm.ClassFile.FieldType.int)) ∈ lw_all := lw_g (lw_at lw_m5 8 rfl) rfl
theorem q1041 : (Jvm.Cond.instanceMethod ({ cls := "SumColoursModel", name := "count", desc := "(I)I" } : Jvm.MethodName)) ∈ lw_all := lw_g (lw_at lw_m5 10 rfl) rfl
theorem q1042 : (Jvm.Cond.selects "SumColoursModel" ({ cls := "SumColoursModel", name := "count", desc := "(I)I" } : Jvm.MethodName) ({ cls := "SumColoursModel", name := "count", desc := "(I)I" } : Jvm.MethodName)) ∈ lw_all := lw_g (lw_at lw_m5 11 rfl) rfl
theorem q1043 : (Jvm.Cond.code ({ cls := "SumColoursModel", name := "count", desc := "(I)I" } : Jvm.MethodName) prog_9_method_62_code (2 : Nat) (Option.some Jvm.ClassFile.FieldType.int)) ∈ lw_all := lw_g (lw_at lw_m5 12 rfl) rfl
theorem q1044 : (Jvm.Cond.methodLink "SumColoursModel" (245 : Nat) ({ cls := "SumColoursModel", name := "howMany", desc := "(I)I" } : Jvm.MethodName)) ∈ lw_all := lw_g (lw_at lw_m5 13 rfl) rfl
theorem q1045 : (Jvm.Cond.privateMethod ({ cls := "SumColoursModel", name := "howMany", desc := "(I)I" } : Jvm.MethodName)) ∈ lw_tbl := lw_at lw_m5 14 rfl
theorem q1046 : (Jvm.Cond.instanceMethod ({ cls := "SumColoursModel", name := "howMany", desc := "(I)I" } : Jvm.MethodName)) ∈ lw_all := lw_g (lw_at lw_m5 15 rfl) rfl
theorem q1047 : (Jvm.Cond.code ({ cls := "SumColoursModel", name := "howMany", desc := "(I)I" } : Jvm.MethodName) prog_9_method_61_code (2 : Nat) (Option.some Jvm.ClassFile.FieldType.int)) ∈ lw_all := lw_g (lw_at lw_m5 16 rfl) rfl
theorem q1048 : (Jvm.Cond.methodLink "SumColoursModel" (239 : Nat) ({ cls := "SumColoursModel", name := "bare", desc := "()I" } : Jvm.MethodName)) ∈ lw_all := lw_g (lw_at lw_m5 17 rfl) rfl
theorem q1049 : (Jvm.Cond.privateMethod ({ cls := "SumColoursModel", name := "bare", desc := "()I" } : Jvm.MethodName)) ∈ lw_tbl := lw_at lw_m5 18 rfl
theorem q1050 : (Jvm.Cond.instanceMethod ({ cls := "SumColoursModel", name := "bare", desc := "()I" } : Jvm.MethodName)) ∈ lw_all := lw_g (lw_at lw_m5 19 rfl) rfl
theorem q1051 : (Jvm.Cond.code ({ cls := "SumColoursModel", name := "bare", desc := "()I" } : Jvm.MethodName) prog_9_method_33_code (3 : Nat) (Option.some Jvm.ClassFile.FieldType.int)) ∈ lw_all := lw_g (lw_at lw_m5 20 rfl) rfl
theorem q1052 : (Jvm.Cond.methodLink "SumColoursModel" (242 : Nat) ({ cls := "SumColoursModel", name := "threes", desc := "()I" } : Jvm.MethodName)) ∈ lw_all := lw_g (lw_at lw_m5 21 rfl) rfl
theorem q1053 : (Jvm.Cond.privateMethod ({ cls := "SumColoursModel", name := "threes", desc := "()I" } : Jvm.MethodName)) ∈ lw_tbl := lw_at lw_m5 22 rfl
theorem q1054 : (Jvm.Cond.instanceMethod ({ cls := "SumColoursModel", name := "threes", desc := "()I" } : Jvm.MethodName)) ∈ lw_all := lw_g (lw_at lw_m5 23 rfl) rfl
theorem q1055 : (Jvm.Cond.code ({ cls := "SumColoursModel", name := "threes", desc := "()I" } : Jvm.MethodName) prog_9_method_60_code (3 : Nat) (Option.some Jvm.ClassFile.FieldType.int)) ∈ lw_all := lw_g (lw_at lw_m5 24 rfl) rfl
theorem q1057 : (Jvm.Cond.instanceMethod ({ cls := "SumColoursModel", name := "digest", desc := "()J" } : Jvm.MethodName)) ∈ lw_all := lw_g (lw_at lw_m5 26 rfl) rfl
theorem q1058 : (Jvm.Cond.selects "SumColoursModel" ({ cls := "SumColoursModel", name := "digest", desc := "()J" } : Jvm.MethodName) ({ cls := "SumColoursModel", name := "digest", desc := "()J" } : Jvm.MethodName)) ∈ lw_all := lw_g (lw_at lw_m5 27 rfl) rfl
theorem q1059 : (Jvm.Cond.code ({ cls := "SumColoursModel", name := "digest", desc := "()J" } : Jvm.MethodName) prog_9_method_65_code (3 : Nat) (Option.some Jvm.ClassFile.FieldType.long)) ∈ lw_all := lw_g (lw_at lw_m5 28 rfl) rfl
theorem q1060 : (Jvm.Cond.constantLong "SumColoursModel" (257 : Nat) (1321 : Int64)) ∈ lw_all := lw_g (lw_at lw_m5 29 rfl) rfl
theorem q1061 : (Jvm.Cond.methodLink "SumColoursModel" (253 : Nat) ({ cls := "SumColoursModel", name := "mix", desc := "(J)V" } : Jvm.MethodName)) ∈ lw_all := lw_g (lw_at lw_m5 30 rfl) rfl
theorem q1062 : (Jvm.Cond.privateMethod ({ cls := "SumColoursModel", name := "mix", desc := "(J)V" } : Jvm.MethodName)) ∈ lw_tbl := lw_at lw_m5 31 rfl
theorem q1063 : (Jvm.Cond.instanceMethod ({ cls := "SumColoursModel", name := "mix", desc := "(J)V" } : Jvm.MethodName)) ∈ lw_all := lw_g (lw_at lw_m5 32 rfl) rfl
theorem q1064 : (Jvm.Cond.code ({ cls := "SumColoursModel", name := "mix", desc := "(J)V" } : Jvm.MethodName) prog_9_method_63_code (3 : Nat) (Option.none : Option Jvm.ClassFile.FieldType)) ∈ lw_all := lw_g (lw_at lw_m5 33 rfl) rfl
theorem q1065 : (Jvm.Cond.constantLong "SumColoursModel" (248 : Nat) (31 : Int64)) ∈ lw_all := lw_g (lw_at lw_m5 34 rfl) rfl
theorem q1066 : (Jvm.Cond.methodLink "SumColoursModel" (259 : Nat) ({ cls := "SumColoursModel", name := "mixBoard", desc := "()V" } : Jvm.MethodName)) ∈ lw_all := lw_g (lw_at lw_m5 35 rfl) rfl
theorem q1067 : (Jvm.Cond.privateMethod ({ cls := "SumColoursModel", name := "mixBoard", desc := "()V" } : Jvm.MethodName)) ∈ lw_tbl := lw_at lw_m5 36 rfl
theorem q1068 : (Jvm.Cond.instanceMethod ({ cls := "SumColoursModel", name := "mixBoard", desc := "()V" } : Jvm.MethodName)) ∈ lw_all := lw_g (lw_at lw_m5 37 rfl) rfl
theorem q1069 : (Jvm.Cond.code ({ cls := "SumColoursModel", name := "mixBoard", desc := "()V" } : Jvm.MethodName) prog_9_method_64_code (2 : Nat) (Option.none : Option Jvm.ClassFile.FieldType)) ∈ lw_all := lw_g (lw_at lw_m5 38 rfl) rfl
theorem in_X6 : ∀ w ∈ wsX60, w ∈ lw_all := lw_in wsX60 [751, 753, 755, 757, 759, 761, 763, 765, 767, 769, 771, 773, 775, 777, 779, 781, 783, 785, 787, 789, 791, 793, 795, 797, 799, 801, 803, 805, 807, 809, 811, 813, 815] (by decide +kernel) (by decide +kernel)
