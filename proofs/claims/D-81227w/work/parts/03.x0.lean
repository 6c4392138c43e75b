/-! SumColours -/
set_option maxRecDepth 100000
def RX0 : String := "SumColours"
def TX0 : u_T := fun k => match k with
  | 0 => ("SumColours", "sorts", "[LSumColours$Member;", true)
  | 1 => ("SumColours", "numbers", "[LSumColours$Member;", true)
  | 2 => ("SumColours", "kept", "[LSumColours$Member;", true)
  | 3 => ("SumColours", "many", "I", false)
  | 4 => ("SumColours", "colours", "I", false)
  | 5 => ("SumColours", "changes", "I", false)
  | 6 => ("SumColours", "boardsRead", "I", false)
  | 7 => ("SumColours", "isOld", "Z", false)
  | 8 => ("SumColours", "page", "[I", true)
  | 9 => ("SumColours", "pageMany", "I", false)
  | 10 => ("SumColours", "told", "I", false)
  | 11 => ("SumColours", "end", "I", false)
  | 12 => ("SumColours", "row", "[I", true)
  | 13 => ("SumColours", "ways", "I", false)
  | 14 => ("SumColours", "far", "I", false)
  | 15 => ("SumColours", "having", "[I", true)
  | 16 => ("SumColours", "wanted", "I", false)
  | 17 => ("SumColours", "found", "[I", true)
  | 18 => ("SumColours", "mendTold", "I", false)
  | 19 => ("SumColours", "winTold", "I", false)
  | 20 => ("SumColours", "seenNumber", "[I", true)
  | 21 => ("SumColours", "seenWhat", "[I", true)
  | 22 => ("SumColours", "seenCould", "[Z", true)
  | 23 => ("SumColours", "seenMany", "I", false)
  | 24 => ("SumColours", "drawn", "I", false)
  | 25 => ("SumColours", "keptNumber", "[I", true)
  | 26 => ("SumColours", "keptWhat", "[I", true)
  | 27 => ("SumColours", "keptCould", "[Z", true)
  | 28 => ("SumColours", "keptSeen", "I", false)
  | 29 => ("SumColours", "keptChanges", "I", false)
  | 30 => ("SumColours", "keptBoard", "I", false)
  | _ => ("SumColours", "h", "J", false)
def tyX0 : Nat → FieldType := fun k => match k with
  | 0 => .array (.object "SumColours$Member")
  | 1 => .array (.object "SumColours$Member")
  | 2 => .array (.object "SumColours$Member")
  | 3 => .int
  | 4 => .int
  | 5 => .int
  | 6 => .int
  | 7 => .boolean
  | 8 => .array .int
  | 9 => .int
  | 10 => .int
  | 11 => .int
  | 12 => .array .int
  | 13 => .int
  | 14 => .int
  | 15 => .array .int
  | 16 => .int
  | 17 => .array .int
  | 18 => .int
  | 19 => .int
  | 20 => .array .int
  | 21 => .array .int
  | 22 => .array .boolean
  | 23 => .int
  | 24 => .int
  | 25 => .array .int
  | 26 => .array .int
  | 27 => .array .boolean
  | 28 => .int
  | 29 => .int
  | 30 => .int
  | _ => .long
abbrev wsX00 : List Cond := u_ws RX0 TX0 32
set_option maxRecDepth 100000 in
theorem nmX0 : ∀ a, a < 32 → ∀ b, b < 32 → a ≠ b → (TX0 a).2.1 ≠ (TX0 b).2.1 := by decide +kernel
set_option maxRecDepth 100000 in
theorem tyX0_ok : ∀ k, k < 32 → parseFieldDescriptor (TX0 k).2.2.1 = some (tyX0 k) := by decide +kernel
abbrev cX0_init : ByteArray := prog_1_method_5_code
def yX0_init : MethodName := ⟨RX0, "<init>", "()V"⟩
def dkwX0_init_6 : List UInt8 := [42, 16, 6, 188, 10, 181, 0, 64, 42, 16, 6, 188, 4, 181, 0, 67, 42, 2, 181, 0, 70, 177]
abbrev dktX0_init_6 : List UInt8 := dkwX0_init_6 ++ []
def dkwX0_init_5 : List UInt8 := [42, 16, 6, 188, 10, 181, 0, 54, 42, 16, 6, 188, 4, 181, 0, 57, 42, 16, 6, 188, 10, 181, 0, 61]
abbrev dktX0_init_5 : List UInt8 := dkwX0_init_5 ++ dktX0_init_6
def dkwX0_init_4 : List UInt8 := [42, 16, 33, 188, 10, 181, 0, 45, 42, 16, 11, 188, 10, 181, 0, 48, 42, 16, 6, 188, 10, 181, 0, 51]
abbrev dktX0_init_4 : List UInt8 := dkwX0_init_4 ++ dktX0_init_5
def dkwX0_init_3 : List UInt8 := [16, 11, 189, 0, 7, 181, 0, 35, 42, 16, 26, 188, 10, 181, 0, 38, 42, 16, 11, 188, 10, 181, 0, 42]
abbrev dktX0_init_3 : List UInt8 := dkwX0_init_3 ++ dktX0_init_4
def dkwX0_init_2 : List UInt8 := [83, 89, 7, 187, 0, 22, 89, 183, 0, 24, 83, 181, 0, 28, 42, 16, 11, 189, 0, 7, 181, 0, 32, 42]
abbrev dktX0_init_2 : List UInt8 := dkwX0_init_2 ++ dktX0_init_3
def dkwX0_init_1 : List UInt8 := [89, 183, 0, 15, 83, 89, 5, 187, 0, 16, 89, 183, 0, 18, 83, 89, 6, 187, 0, 19, 89, 183, 0, 21]
abbrev dktX0_init_1 : List UInt8 := dkwX0_init_1 ++ dktX0_init_2
def dkwX0_init_0 : List UInt8 := [42, 183, 0, 25, 42, 8, 189, 0, 7, 89, 3, 187, 0, 7, 89, 183, 0, 9, 83, 89, 4, 187, 0, 13]
abbrev dktX0_init_0 : List UInt8 := dkwX0_init_0 ++ dktX0_init_1
theorem dksX0_init_0 : cX0_init.data.toList.drop 0 = dktX0_init_0 := by decide +kernel
theorem dksX0_init_1 : cX0_init.data.toList.drop 24 = dktX0_init_1 := dk_seg dksX0_init_0 24 rfl rfl
theorem dksX0_init_2 : cX0_init.data.toList.drop 48 = dktX0_init_2 := dk_seg dksX0_init_1 24 rfl rfl
theorem dksX0_init_3 : cX0_init.data.toList.drop 72 = dktX0_init_3 := dk_seg dksX0_init_2 24 rfl rfl
theorem dksX0_init_4 : cX0_init.data.toList.drop 96 = dktX0_init_4 := dk_seg dksX0_init_3 24 rfl rfl
theorem dksX0_init_5 : cX0_init.data.toList.drop 120 = dktX0_init_5 := dk_seg dksX0_init_4 24 rfl rfl
theorem dksX0_init_6 : cX0_init.data.toList.drop 144 = dktX0_init_6 := dk_seg dksX0_init_5 24 rfl rfl
theorem dX0_init_0 : decode cX0_init 0 = .ok (.aload_n 0, 1) := dk_42 (dk_at dksX0_init_0 0 rfl rfl)
theorem dX0_init_1 : decode cX0_init 1 = .ok (.invokespecial 25, 3) := dk_183 0 25 (dk_at dksX0_init_0 1 rfl rfl)
theorem dX0_init_4 : decode cX0_init 4 = .ok (.aload_n 0, 1) := dk_42 (dk_at dksX0_init_0 4 rfl rfl)
theorem dX0_init_5 : decode cX0_init 5 = .ok (.iconst 5, 1) := dk_8 (dk_at dksX0_init_0 5 rfl rfl)
theorem dX0_init_6 : decode cX0_init 6 = .ok (.anewarray 7, 3) := dk_189 0 7 (dk_at dksX0_init_0 6 rfl rfl)
theorem dX0_init_9 : decode cX0_init 9 = .ok (.dup, 1) := dk_89 (dk_at dksX0_init_0 9 rfl rfl)
theorem dX0_init_10 : decode cX0_init 10 = .ok (.iconst 0, 1) := dk_3 (dk_at dksX0_init_0 10 rfl rfl)
theorem dX0_init_11 : decode cX0_init 11 = .ok (.new 7, 3) := dk_187 0 7 (dk_at dksX0_init_0 11 rfl rfl)
theorem dX0_init_14 : decode cX0_init 14 = .ok (.dup, 1) := dk_89 (dk_at dksX0_init_0 14 rfl rfl)
theorem dX0_init_15 : decode cX0_init 15 = .ok (.invokespecial 9, 3) := dk_183 0 9 (dk_at dksX0_init_0 15 rfl rfl)
theorem dX0_init_18 : decode cX0_init 18 = .ok (.aastore, 1) := dk_83 (dk_at dksX0_init_0 18 rfl rfl)
theorem dX0_init_19 : decode cX0_init 19 = .ok (.dup, 1) := dk_89 (dk_at dksX0_init_0 19 rfl rfl)
theorem dX0_init_20 : decode cX0_init 20 = .ok (.iconst 1, 1) := dk_4 (dk_at dksX0_init_0 20 rfl rfl)
theorem dX0_init_21 : decode cX0_init 21 = .ok (.new 13, 3) := dk_187 0 13 (dk_at dksX0_init_0 21 rfl rfl)
theorem dX0_init_24 : decode cX0_init 24 = .ok (.dup, 1) := dk_89 (dk_at dksX0_init_1 0 rfl rfl)
theorem dX0_init_25 : decode cX0_init 25 = .ok (.invokespecial 15, 3) := dk_183 0 15 (dk_at dksX0_init_1 1 rfl rfl)
theorem dX0_init_28 : decode cX0_init 28 = .ok (.aastore, 1) := dk_83 (dk_at dksX0_init_1 4 rfl rfl)
theorem dX0_init_29 : decode cX0_init 29 = .ok (.dup, 1) := dk_89 (dk_at dksX0_init_1 5 rfl rfl)
theorem dX0_init_30 : decode cX0_init 30 = .ok (.iconst 2, 1) := dk_5 (dk_at dksX0_init_1 6 rfl rfl)
theorem dX0_init_31 : decode cX0_init 31 = .ok (.new 16, 3) := dk_187 0 16 (dk_at dksX0_init_1 7 rfl rfl)
theorem dX0_init_34 : decode cX0_init 34 = .ok (.dup, 1) := dk_89 (dk_at dksX0_init_1 10 rfl rfl)
theorem dX0_init_35 : decode cX0_init 35 = .ok (.invokespecial 18, 3) := dk_183 0 18 (dk_at dksX0_init_1 11 rfl rfl)
theorem dX0_init_38 : decode cX0_init 38 = .ok (.aastore, 1) := dk_83 (dk_at dksX0_init_1 14 rfl rfl)
theorem dX0_init_39 : decode cX0_init 39 = .ok (.dup, 1) := dk_89 (dk_at dksX0_init_1 15 rfl rfl)
theorem dX0_init_40 : decode cX0_init 40 = .ok (.iconst 3, 1) := dk_6 (dk_at dksX0_init_1 16 rfl rfl)
theorem dX0_init_41 : decode cX0_init 41 = .ok (.new 19, 3) := dk_187 0 19 (dk_at dksX0_init_1 17 rfl rfl)
theorem dX0_init_44 : decode cX0_init 44 = .ok (.dup, 1) := dk_89 (dk_at dksX0_init_1 20 rfl rfl)
theorem dX0_init_45 : decode cX0_init 45 = .ok (.invokespecial 21, 3) := dk_183 0 21 (dk_at dksX0_init_1 21 rfl rfl)
theorem dX0_init_48 : decode cX0_init 48 = .ok (.aastore, 1) := dk_83 (dk_at dksX0_init_2 0 rfl rfl)
theorem dX0_init_49 : decode cX0_init 49 = .ok (.dup, 1) := dk_89 (dk_at dksX0_init_2 1 rfl rfl)
theorem dX0_init_50 : decode cX0_init 50 = .ok (.iconst 4, 1) := dk_7 (dk_at dksX0_init_2 2 rfl rfl)
theorem dX0_init_51 : decode cX0_init 51 = .ok (.new 22, 3) := dk_187 0 22 (dk_at dksX0_init_2 3 rfl rfl)
theorem dX0_init_54 : decode cX0_init 54 = .ok (.dup, 1) := dk_89 (dk_at dksX0_init_2 6 rfl rfl)
theorem dX0_init_55 : decode cX0_init 55 = .ok (.invokespecial 24, 3) := dk_183 0 24 (dk_at dksX0_init_2 7 rfl rfl)
theorem dX0_init_58 : decode cX0_init 58 = .ok (.aastore, 1) := dk_83 (dk_at dksX0_init_2 10 rfl rfl)
theorem dX0_init_59 : decode cX0_init 59 = .ok (.putfield 28, 3) := dk_181 0 28 (dk_at dksX0_init_2 11 rfl rfl)
theorem dX0_init_62 : decode cX0_init 62 = .ok (.aload_n 0, 1) := dk_42 (dk_at dksX0_init_2 14 rfl rfl)
theorem dX0_init_63 : decode cX0_init 63 = .ok (.bipush 11, 2) := dk_16 11 (dk_at dksX0_init_2 15 rfl rfl)
theorem dX0_init_65 : decode cX0_init 65 = .ok (.anewarray 7, 3) := dk_189 0 7 (dk_at dksX0_init_2 17 rfl rfl)
theorem dX0_init_68 : decode cX0_init 68 = .ok (.putfield 32, 3) := dk_181 0 32 (dk_at dksX0_init_2 20 rfl rfl)
theorem dX0_init_71 : decode cX0_init 71 = .ok (.aload_n 0, 1) := dk_42 (dk_at dksX0_init_2 23 rfl rfl)
theorem dX0_init_72 : decode cX0_init 72 = .ok (.bipush 11, 2) := dk_16 11 (dk_at dksX0_init_3 0 rfl rfl)
theorem dX0_init_74 : decode cX0_init 74 = .ok (.anewarray 7, 3) := dk_189 0 7 (dk_at dksX0_init_3 2 rfl rfl)
theorem dX0_init_77 : decode cX0_init 77 = .ok (.putfield 35, 3) := dk_181 0 35 (dk_at dksX0_init_3 5 rfl rfl)
theorem dX0_init_80 : decode cX0_init 80 = .ok (.aload_n 0, 1) := dk_42 (dk_at dksX0_init_3 8 rfl rfl)
theorem dX0_init_81 : decode cX0_init 81 = .ok (.bipush 26, 2) := dk_16 26 (dk_at dksX0_init_3 9 rfl rfl)
theorem dX0_init_83 : decode cX0_init 83 = .ok (.newarray .int, 2) := dk_188_10 (dk_at dksX0_init_3 11 rfl rfl)
theorem dX0_init_85 : decode cX0_init 85 = .ok (.putfield 38, 3) := dk_181 0 38 (dk_at dksX0_init_3 13 rfl rfl)
theorem dX0_init_88 : decode cX0_init 88 = .ok (.aload_n 0, 1) := dk_42 (dk_at dksX0_init_3 16 rfl rfl)
theorem dX0_init_89 : decode cX0_init 89 = .ok (.bipush 11, 2) := dk_16 11 (dk_at dksX0_init_3 17 rfl rfl)
theorem dX0_init_91 : decode cX0_init 91 = .ok (.newarray .int, 2) := dk_188_10 (dk_at dksX0_init_3 19 rfl rfl)
theorem dX0_init_93 : decode cX0_init 93 = .ok (.putfield 42, 3) := dk_181 0 42 (dk_at dksX0_init_3 21 rfl rfl)
theorem dX0_init_96 : decode cX0_init 96 = .ok (.aload_n 0, 1) := dk_42 (dk_at dksX0_init_4 0 rfl rfl)
theorem dX0_init_97 : decode cX0_init 97 = .ok (.bipush 33, 2) := dk_16 33 (dk_at dksX0_init_4 1 rfl rfl)
theorem dX0_init_99 : decode cX0_init 99 = .ok (.newarray .int, 2) := dk_188_10 (dk_at dksX0_init_4 3 rfl rfl)
theorem dX0_init_101 : decode cX0_init 101 = .ok (.putfield 45, 3) := dk_181 0 45 (dk_at dksX0_init_4 5 rfl rfl)
theorem dX0_init_104 : decode cX0_init 104 = .ok (.aload_n 0, 1) := dk_42 (dk_at dksX0_init_4 8 rfl rfl)
theorem dX0_init_105 : decode cX0_init 105 = .ok (.bipush 11, 2) := dk_16 11 (dk_at dksX0_init_4 9 rfl rfl)
theorem dX0_init_107 : decode cX0_init 107 = .ok (.newarray .int, 2) := dk_188_10 (dk_at dksX0_init_4 11 rfl rfl)
theorem dX0_init_109 : decode cX0_init 109 = .ok (.putfield 48, 3) := dk_181 0 48 (dk_at dksX0_init_4 13 rfl rfl)
theorem dX0_init_112 : decode cX0_init 112 = .ok (.aload_n 0, 1) := dk_42 (dk_at dksX0_init_4 16 rfl rfl)
theorem dX0_init_113 : decode cX0_init 113 = .ok (.bipush 6, 2) := dk_16 6 (dk_at dksX0_init_4 17 rfl rfl)
theorem dX0_init_115 : decode cX0_init 115 = .ok (.newarray .int, 2) := dk_188_10 (dk_at dksX0_init_4 19 rfl rfl)
theorem dX0_init_117 : decode cX0_init 117 = .ok (.putfield 51, 3) := dk_181 0 51 (dk_at dksX0_init_4 21 rfl rfl)
theorem dX0_init_120 : decode cX0_init 120 = .ok (.aload_n 0, 1) := dk_42 (dk_at dksX0_init_5 0 rfl rfl)
theorem dX0_init_121 : decode cX0_init 121 = .ok (.bipush 6, 2) := dk_16 6 (dk_at dksX0_init_5 1 rfl rfl)
theorem dX0_init_123 : decode cX0_init 123 = .ok (.newarray .int, 2) := dk_188_10 (dk_at dksX0_init_5 3 rfl rfl)
theorem dX0_init_125 : decode cX0_init 125 = .ok (.putfield 54, 3) := dk_181 0 54 (dk_at dksX0_init_5 5 rfl rfl)
theorem dX0_init_128 : decode cX0_init 128 = .ok (.aload_n 0, 1) := dk_42 (dk_at dksX0_init_5 8 rfl rfl)
theorem dX0_init_129 : decode cX0_init 129 = .ok (.bipush 6, 2) := dk_16 6 (dk_at dksX0_init_5 9 rfl rfl)
theorem dX0_init_131 : decode cX0_init 131 = .ok (.newarray .boolean, 2) := dk_188_4 (dk_at dksX0_init_5 11 rfl rfl)
theorem dX0_init_133 : decode cX0_init 133 = .ok (.putfield 57, 3) := dk_181 0 57 (dk_at dksX0_init_5 13 rfl rfl)
theorem dX0_init_136 : decode cX0_init 136 = .ok (.aload_n 0, 1) := dk_42 (dk_at dksX0_init_5 16 rfl rfl)
theorem dX0_init_137 : decode cX0_init 137 = .ok (.bipush 6, 2) := dk_16 6 (dk_at dksX0_init_5 17 rfl rfl)
theorem dX0_init_139 : decode cX0_init 139 = .ok (.newarray .int, 2) := dk_188_10 (dk_at dksX0_init_5 19 rfl rfl)
theorem dX0_init_141 : decode cX0_init 141 = .ok (.putfield 61, 3) := dk_181 0 61 (dk_at dksX0_init_5 21 rfl rfl)
theorem dX0_init_144 : decode cX0_init 144 = .ok (.aload_n 0, 1) := dk_42 (dk_at dksX0_init_6 0 rfl rfl)
theorem dX0_init_145 : decode cX0_init 145 = .ok (.bipush 6, 2) := dk_16 6 (dk_at dksX0_init_6 1 rfl rfl)
theorem dX0_init_147 : decode cX0_init 147 = .ok (.newarray .int, 2) := dk_188_10 (dk_at dksX0_init_6 3 rfl rfl)
theorem dX0_init_149 : decode cX0_init 149 = .ok (.putfield 64, 3) := dk_181 0 64 (dk_at dksX0_init_6 5 rfl rfl)
theorem dX0_init_152 : decode cX0_init 152 = .ok (.aload_n 0, 1) := dk_42 (dk_at dksX0_init_6 8 rfl rfl)
theorem dX0_init_153 : decode cX0_init 153 = .ok (.bipush 6, 2) := dk_16 6 (dk_at dksX0_init_6 9 rfl rfl)
theorem dX0_init_155 : decode cX0_init 155 = .ok (.newarray .boolean, 2) := dk_188_4 (dk_at dksX0_init_6 11 rfl rfl)
theorem dX0_init_157 : decode cX0_init 157 = .ok (.putfield 67, 3) := dk_181 0 67 (dk_at dksX0_init_6 13 rfl rfl)
theorem dX0_init_160 : decode cX0_init 160 = .ok (.aload_n 0, 1) := dk_42 (dk_at dksX0_init_6 16 rfl rfl)
theorem dX0_init_161 : decode cX0_init 161 = .ok (.iconst (-1), 1) := dk_2 (dk_at dksX0_init_6 17 rfl rfl)
theorem dX0_init_162 : decode cX0_init 162 = .ok (.putfield 70, 3) := dk_181 0 70 (dk_at dksX0_init_6 18 rfl rfl)
theorem dX0_init_165 : decode cX0_init 165 = .ok (.return_, 1) := dk_177 (dk_at dksX0_init_6 21 rfl rfl)
abbrev cX0_letter : ByteArray := prog_1_method_6_code
def yX0_letter : MethodName := ⟨RX0, "letter", "(I)I"⟩
def dkwX0_letter_2 : List UInt8 := [181, 0, 82, 42, 180, 0, 82, 172]
abbrev dktX0_letter_2 : List UInt8 := dkwX0_letter_2 ++ []
def dkwX0_letter_1 : List UInt8 := [160, 0, 6, 16, 152, 172, 42, 180, 0, 38, 42, 180, 0, 82, 27, 79, 42, 89, 180, 0, 82, 4, 96]
abbrev dktX0_letter_1 : List UInt8 := dkwX0_letter_1 ++ dktX0_letter_2
def dkwX0_letter_0 : List UInt8 := [27, 133, 20, 0, 74, 20, 0, 76, 184, 0, 78, 154, 0, 6, 16, 154, 172, 42, 180, 0, 82, 16, 26]
abbrev dktX0_letter_0 : List UInt8 := dkwX0_letter_0 ++ dktX0_letter_1
theorem dksX0_letter_0 : cX0_letter.data.toList.drop 0 = dktX0_letter_0 := by decide +kernel
theorem dksX0_letter_1 : cX0_letter.data.toList.drop 23 = dktX0_letter_1 := dk_seg dksX0_letter_0 23 rfl rfl
theorem dksX0_letter_2 : cX0_letter.data.toList.drop 46 = dktX0_letter_2 := dk_seg dksX0_letter_1 23 rfl rfl
theorem dX0_letter_0 : decode cX0_letter 0 = .ok (.iload_n 1, 1) := dk_27 (dk_at dksX0_letter_0 0 rfl rfl)
theorem dX0_letter_1 : decode cX0_letter 1 = .ok (.i2l, 1) := dk_133 (dk_at dksX0_letter_0 1 rfl rfl)
theorem dX0_letter_2 : decode cX0_letter 2 = .ok (.ldc2_w 74, 3) := dk_20 0 74 (dk_at dksX0_letter_0 2 rfl rfl)
theorem dX0_letter_5 : decode cX0_letter 5 = .ok (.ldc2_w 76, 3) := dk_20 0 76 (dk_at dksX0_letter_0 5 rfl rfl)
theorem dX0_letter_8 : decode cX0_letter 8 = .ok (.invokestatic 78, 3) := dk_184 0 78 (dk_at dksX0_letter_0 8 rfl rfl)
theorem dX0_letter_11 : decode cX0_letter 11 = .ok (.ifCond .ne 6, 3) := dk_154 0 6 (dk_at dksX0_letter_0 11 rfl rfl)
theorem dX0_letter_14 : decode cX0_letter 14 = .ok (.bipush (-102), 2) := dk_16 154 (dk_at dksX0_letter_0 14 rfl rfl)
theorem dX0_letter_16 : decode cX0_letter 16 = .ok (.ireturn, 1) := dk_172 (dk_at dksX0_letter_0 16 rfl rfl)
theorem dX0_letter_17 : decode cX0_letter 17 = .ok (.aload_n 0, 1) := dk_42 (dk_at dksX0_letter_0 17 rfl rfl)
theorem dX0_letter_18 : decode cX0_letter 18 = .ok (.getfield 82, 3) := dk_180 0 82 (dk_at dksX0_letter_0 18 rfl rfl)
theorem dX0_letter_21 : decode cX0_letter 21 = .ok (.bipush 26, 2) := dk_16 26 (dk_at dksX0_letter_0 21 rfl rfl)
theorem dX0_letter_23 : decode cX0_letter 23 = .ok (.if_icmp .ne 6, 3) := dk_160 0 6 (dk_at dksX0_letter_1 0 rfl rfl)
theorem dX0_letter_26 : decode cX0_letter 26 = .ok (.bipush (-104), 2) := dk_16 152 (dk_at dksX0_letter_1 3 rfl rfl)
theorem dX0_letter_28 : decode cX0_letter 28 = .ok (.ireturn, 1) := dk_172 (dk_at dksX0_letter_1 5 rfl rfl)
theorem dX0_letter_29 : decode cX0_letter 29 = .ok (.aload_n 0, 1) := dk_42 (dk_at dksX0_letter_1 6 rfl rfl)
theorem dX0_letter_30 : decode cX0_letter 30 = .ok (.getfield 38, 3) := dk_180 0 38 (dk_at dksX0_letter_1 7 rfl rfl)
theorem dX0_letter_33 : decode cX0_letter 33 = .ok (.aload_n 0, 1) := dk_42 (dk_at dksX0_letter_1 10 rfl rfl)
theorem dX0_letter_34 : decode cX0_letter 34 = .ok (.getfield 82, 3) := dk_180 0 82 (dk_at dksX0_letter_1 11 rfl rfl)
theorem dX0_letter_37 : decode cX0_letter 37 = .ok (.iload_n 1, 1) := dk_27 (dk_at dksX0_letter_1 14 rfl rfl)
theorem dX0_letter_38 : decode cX0_letter 38 = .ok (.iastore, 1) := dk_79 (dk_at dksX0_letter_1 15 rfl rfl)
theorem dX0_letter_39 : decode cX0_letter 39 = .ok (.aload_n 0, 1) := dk_42 (dk_at dksX0_letter_1 16 rfl rfl)
theorem dX0_letter_40 : decode cX0_letter 40 = .ok (.dup, 1) := dk_89 (dk_at dksX0_letter_1 17 rfl rfl)
theorem dX0_letter_41 : decode cX0_letter 41 = .ok (.getfield 82, 3) := dk_180 0 82 (dk_at dksX0_letter_1 18 rfl rfl)
theorem dX0_letter_44 : decode cX0_letter 44 = .ok (.iconst 1, 1) := dk_4 (dk_at dksX0_letter_1 21 rfl rfl)
theorem dX0_letter_45 : decode cX0_letter 45 = .ok (.iadd, 1) := dk_96 (dk_at dksX0_letter_1 22 rfl rfl)
theorem dX0_letter_46 : decode cX0_letter 46 = .ok (.putfield 82, 3) := dk_181 0 82 (dk_at dksX0_letter_2 0 rfl rfl)
theorem dX0_letter_49 : decode cX0_letter 49 = .ok (.aload_n 0, 1) := dk_42 (dk_at dksX0_letter_2 3 rfl rfl)
theorem dX0_letter_50 : decode cX0_letter 50 = .ok (.getfield 82, 3) := dk_180 0 82 (dk_at dksX0_letter_2 4 rfl rfl)
theorem dX0_letter_53 : decode cX0_letter 53 = .ok (.ireturn, 1) := dk_172 (dk_at dksX0_letter_2 7 rfl rfl)
abbrev cX0_isIn : ByteArray := prog_1_method_1_code
def yX0_isIn : MethodName := ⟨RX0, "isIn", "(JJJ)Z"⟩
def dkwX0_isIn_0 : List UInt8 := [30, 32, 148, 155, 0, 14, 30, 22, 4, 148, 157, 0, 7, 4, 167, 0, 4, 3, 172]
abbrev dktX0_isIn_0 : List UInt8 := dkwX0_isIn_0 ++ []
theorem dksX0_isIn_0 : cX0_isIn.data.toList.drop 0 = dktX0_isIn_0 := by decide +kernel
theorem dX0_isIn_0 : decode cX0_isIn 0 = .ok (.lload_n 0, 1) := dk_30 (dk_at dksX0_isIn_0 0 rfl rfl)
theorem dX0_isIn_1 : decode cX0_isIn 1 = .ok (.lload_n 2, 1) := dk_32 (dk_at dksX0_isIn_0 1 rfl rfl)
theorem dX0_isIn_2 : decode cX0_isIn 2 = .ok (.lcmp, 1) := dk_148 (dk_at dksX0_isIn_0 2 rfl rfl)
theorem dX0_isIn_3 : decode cX0_isIn 3 = .ok (.ifCond .lt 14, 3) := dk_155 0 14 (dk_at dksX0_isIn_0 3 rfl rfl)
theorem dX0_isIn_6 : decode cX0_isIn 6 = .ok (.lload_n 0, 1) := dk_30 (dk_at dksX0_isIn_0 6 rfl rfl)
theorem dX0_isIn_7 : decode cX0_isIn 7 = .ok (.lload 4, 2) := dk_22 4 (dk_at dksX0_isIn_0 7 rfl rfl)
theorem dX0_isIn_9 : decode cX0_isIn 9 = .ok (.lcmp, 1) := dk_148 (dk_at dksX0_isIn_0 9 rfl rfl)
theorem dX0_isIn_10 : decode cX0_isIn 10 = .ok (.ifCond .gt 7, 3) := dk_157 0 7 (dk_at dksX0_isIn_0 10 rfl rfl)
theorem dX0_isIn_13 : decode cX0_isIn 13 = .ok (.iconst 1, 1) := dk_4 (dk_at dksX0_isIn_0 13 rfl rfl)
theorem dX0_isIn_14 : decode cX0_isIn 14 = .ok (.goto 4, 3) := dk_167 0 4 (dk_at dksX0_isIn_0 14 rfl rfl)
theorem dX0_isIn_17 : decode cX0_isIn 17 = .ok (.iconst 0, 1) := dk_3 (dk_at dksX0_isIn_0 17 rfl rfl)
theorem dX0_isIn_18 : decode cX0_isIn 18 = .ok (.ireturn, 1) := dk_172 (dk_at dksX0_isIn_0 18 rfl rfl)
abbrev cX0_blank : ByteArray := prog_1_method_7_code
def yX0_blank : MethodName := ⟨RX0, "blank", "()I"⟩
def dkwX0_blank_0 : List UInt8 := [42, 180, 0, 82, 60, 42, 3, 181, 0, 82, 27, 172]
abbrev dktX0_blank_0 : List UInt8 := dkwX0_blank_0 ++ []
theorem dksX0_blank_0 : cX0_blank.data.toList.drop 0 = dktX0_blank_0 := by decide +kernel
theorem dX0_blank_0 : decode cX0_blank 0 = .ok (.aload_n 0, 1) := dk_42 (dk_at dksX0_blank_0 0 rfl rfl)
theorem dX0_blank_1 : decode cX0_blank 1 = .ok (.getfield 82, 3) := dk_180 0 82 (dk_at dksX0_blank_0 1 rfl rfl)
theorem dX0_blank_4 : decode cX0_blank 4 = .ok (.istore_n 1, 1) := dk_60 (dk_at dksX0_blank_0 4 rfl rfl)
theorem dX0_blank_5 : decode cX0_blank 5 = .ok (.aload_n 0, 1) := dk_42 (dk_at dksX0_blank_0 5 rfl rfl)
theorem dX0_blank_6 : decode cX0_blank 6 = .ok (.iconst 0, 1) := dk_3 (dk_at dksX0_blank_0 6 rfl rfl)
theorem dX0_blank_7 : decode cX0_blank 7 = .ok (.putfield 82, 3) := dk_181 0 82 (dk_at dksX0_blank_0 7 rfl rfl)
theorem dX0_blank_10 : decode cX0_blank 10 = .ok (.iload_n 1, 1) := dk_27 (dk_at dksX0_blank_0 10 rfl rfl)
theorem dX0_blank_11 : decode cX0_blank 11 = .ok (.ireturn, 1) := dk_172 (dk_at dksX0_blank_0 11 rfl rfl)
abbrev cX0_fault : ByteArray := prog_1_method_11_code
def yX0_fault : MethodName := ⟨RX0, "fault", "()I"⟩
def dkwX0_fault_1 : List UInt8 := [182, 0, 105, 153, 0, 9, 132, 1, 1, 167, 255, 237, 27, 172]
abbrev dktX0_fault_1 : List UInt8 := dkwX0_fault_1 ++ []
def dkwX0_fault_0 : List UInt8 := [42, 3, 181, 0, 85, 42, 2, 181, 0, 88, 3, 60, 27, 42, 180, 0, 82, 162, 0, 17, 42, 27]
abbrev dktX0_fault_0 : List UInt8 := dkwX0_fault_0 ++ dktX0_fault_1
theorem dksX0_fault_0 : cX0_fault.data.toList.drop 0 = dktX0_fault_0 := by decide +kernel
theorem dksX0_fault_1 : cX0_fault.data.toList.drop 22 = dktX0_fault_1 := dk_seg dksX0_fault_0 22 rfl rfl
theorem dX0_fault_0 : decode cX0_fault 0 = .ok (.aload_n 0, 1) := dk_42 (dk_at dksX0_fault_0 0 rfl rfl)
theorem dX0_fault_1 : decode cX0_fault 1 = .ok (.iconst 0, 1) := dk_3 (dk_at dksX0_fault_0 1 rfl rfl)
theorem dX0_fault_2 : decode cX0_fault 2 = .ok (.putfield 85, 3) := dk_181 0 85 (dk_at dksX0_fault_0 2 rfl rfl)
theorem dX0_fault_5 : decode cX0_fault 5 = .ok (.aload_n 0, 1) := dk_42 (dk_at dksX0_fault_0 5 rfl rfl)
theorem dX0_fault_6 : decode cX0_fault 6 = .ok (.iconst (-1), 1) := dk_2 (dk_at dksX0_fault_0 6 rfl rfl)
theorem dX0_fault_7 : decode cX0_fault 7 = .ok (.putfield 88, 3) := dk_181 0 88 (dk_at dksX0_fault_0 7 rfl rfl)
theorem dX0_fault_10 : decode cX0_fault 10 = .ok (.iconst 0, 1) := dk_3 (dk_at dksX0_fault_0 10 rfl rfl)
theorem dX0_fault_11 : decode cX0_fault 11 = .ok (.istore_n 1, 1) := dk_60 (dk_at dksX0_fault_0 11 rfl rfl)
theorem dX0_fault_12 : decode cX0_fault 12 = .ok (.iload_n 1, 1) := dk_27 (dk_at dksX0_fault_0 12 rfl rfl)
theorem dX0_fault_13 : decode cX0_fault 13 = .ok (.aload_n 0, 1) := dk_42 (dk_at dksX0_fault_0 13 rfl rfl)
theorem dX0_fault_14 : decode cX0_fault 14 = .ok (.getfield 82, 3) := dk_180 0 82 (dk_at dksX0_fault_0 14 rfl rfl)
theorem dX0_fault_17 : decode cX0_fault 17 = .ok (.if_icmp .ge 17, 3) := dk_162 0 17 (dk_at dksX0_fault_0 17 rfl rfl)
theorem dX0_fault_20 : decode cX0_fault 20 = .ok (.aload_n 0, 1) := dk_42 (dk_at dksX0_fault_0 20 rfl rfl)
theorem dX0_fault_21 : decode cX0_fault 21 = .ok (.iload_n 1, 1) := dk_27 (dk_at dksX0_fault_0 21 rfl rfl)
theorem dX0_fault_22 : decode cX0_fault 22 = .ok (.invokevirtual 105, 3) := dk_182 0 105 (dk_at dksX0_fault_1 0 rfl rfl)
theorem dX0_fault_25 : decode cX0_fault 25 = .ok (.ifCond .eq 9, 3) := dk_153 0 9 (dk_at dksX0_fault_1 3 rfl rfl)
theorem dX0_fault_28 : decode cX0_fault 28 = .ok (.iinc 1 1, 3) := dk_132 1 1 (dk_at dksX0_fault_1 6 rfl rfl)
theorem dX0_fault_31 : decode cX0_fault 31 = .ok (.goto (-19), 3) := dk_167 255 237 (dk_at dksX0_fault_1 9 rfl rfl)
theorem dX0_fault_34 : decode cX0_fault 34 = .ok (.iload_n 1, 1) := dk_27 (dk_at dksX0_fault_1 12 rfl rfl)
theorem dX0_fault_35 : decode cX0_fault 35 = .ok (.ireturn, 1) := dk_172 (dk_at dksX0_fault_1 13 rfl rfl)
abbrev cX0_isGood : ByteArray := prog_1_method_10_code
def yX0_isGood : MethodName := ⟨RX0, "isGood", "(I)Z"⟩
def dkwX0_isGood_4 : List UInt8 := [184, 0, 78, 153, 0, 7, 4, 167, 0, 4, 3, 172]
abbrev dktX0_isGood_4 : List UInt8 := dkwX0_isGood_4 ++ []
def dkwX0_isGood_3 : List UInt8 := [16, 46, 159, 0, 27, 28, 133, 20, 0, 103, 16, 97, 42, 180, 0, 38, 3, 46, 96, 16, 49, 100, 133]
abbrev dktX0_isGood_3 : List UInt8 := dkwX0_isGood_3 ++ dktX0_isGood_4
def dkwX0_isGood_2 : List UInt8 := [160, 0, 10, 42, 27, 28, 182, 0, 99, 172, 27, 42, 180, 0, 88, 42, 180, 0, 85, 96, 163, 0, 37, 28]
abbrev dktX0_isGood_2 : List UInt8 := dkwX0_isGood_2 ++ dktX0_isGood_3
def dkwX0_isGood_1 : List UInt8 := [184, 0, 78, 167, 0, 14, 28, 16, 59, 160, 0, 7, 4, 167, 0, 4, 3, 172, 42, 180, 0, 88, 2]
abbrev dktX0_isGood_1 : List UInt8 := dkwX0_isGood_1 ++ dktX0_isGood_2
def dkwX0_isGood_0 : List UInt8 := [42, 180, 0, 38, 27, 46, 61, 27, 5, 162, 0, 33, 27, 154, 0, 17, 28, 133, 20, 0, 95, 20, 0, 97]
abbrev dktX0_isGood_0 : List UInt8 := dkwX0_isGood_0 ++ dktX0_isGood_1
theorem dksX0_isGood_0 : cX0_isGood.data.toList.drop 0 = dktX0_isGood_0 := by decide +kernel
theorem dksX0_isGood_1 : cX0_isGood.data.toList.drop 24 = dktX0_isGood_1 := dk_seg dksX0_isGood_0 24 rfl rfl
theorem dksX0_isGood_2 : cX0_isGood.data.toList.drop 47 = dktX0_isGood_2 := dk_seg dksX0_isGood_1 23 rfl rfl
theorem dksX0_isGood_3 : cX0_isGood.data.toList.drop 71 = dktX0_isGood_3 := dk_seg dksX0_isGood_2 24 rfl rfl
theorem dksX0_isGood_4 : cX0_isGood.data.toList.drop 94 = dktX0_isGood_4 := dk_seg dksX0_isGood_3 23 rfl rfl
theorem dX0_isGood_0 : decode cX0_isGood 0 = .ok (.aload_n 0, 1) := dk_42 (dk_at dksX0_isGood_0 0 rfl rfl)
theorem dX0_isGood_1 : decode cX0_isGood 1 = .ok (.getfield 38, 3) := dk_180 0 38 (dk_at dksX0_isGood_0 1 rfl rfl)
theorem dX0_isGood_4 : decode cX0_isGood 4 = .ok (.iload_n 1, 1) := dk_27 (dk_at dksX0_isGood_0 4 rfl rfl)
theorem dX0_isGood_5 : decode cX0_isGood 5 = .ok (.iaload, 1) := dk_46 (dk_at dksX0_isGood_0 5 rfl rfl)
theorem dX0_isGood_6 : decode cX0_isGood 6 = .ok (.istore_n 2, 1) := dk_61 (dk_at dksX0_isGood_0 6 rfl rfl)
theorem dX0_isGood_7 : decode cX0_isGood 7 = .ok (.iload_n 1, 1) := dk_27 (dk_at dksX0_isGood_0 7 rfl rfl)
theorem dX0_isGood_8 : decode cX0_isGood 8 = .ok (.iconst 2, 1) := dk_5 (dk_at dksX0_isGood_0 8 rfl rfl)
theorem dX0_isGood_9 : decode cX0_isGood 9 = .ok (.if_icmp .ge 33, 3) := dk_162 0 33 (dk_at dksX0_isGood_0 9 rfl rfl)
theorem dX0_isGood_12 : decode cX0_isGood 12 = .ok (.iload_n 1, 1) := dk_27 (dk_at dksX0_isGood_0 12 rfl rfl)
theorem dX0_isGood_13 : decode cX0_isGood 13 = .ok (.ifCond .ne 17, 3) := dk_154 0 17 (dk_at dksX0_isGood_0 13 rfl rfl)
theorem dX0_isGood_16 : decode cX0_isGood 16 = .ok (.iload_n 2, 1) := dk_28 (dk_at dksX0_isGood_0 16 rfl rfl)
theorem dX0_isGood_17 : decode cX0_isGood 17 = .ok (.i2l, 1) := dk_133 (dk_at dksX0_isGood_0 17 rfl rfl)
theorem dX0_isGood_18 : decode cX0_isGood 18 = .ok (.ldc2_w 95, 3) := dk_20 0 95 (dk_at dksX0_isGood_0 18 rfl rfl)
theorem dX0_isGood_21 : decode cX0_isGood 21 = .ok (.ldc2_w 97, 3) := dk_20 0 97 (dk_at dksX0_isGood_0 21 rfl rfl)
theorem dX0_isGood_24 : decode cX0_isGood 24 = .ok (.invokestatic 78, 3) := dk_184 0 78 (dk_at dksX0_isGood_1 0 rfl rfl)
theorem dX0_isGood_27 : decode cX0_isGood 27 = .ok (.goto 14, 3) := dk_167 0 14 (dk_at dksX0_isGood_1 3 rfl rfl)
theorem dX0_isGood_30 : decode cX0_isGood 30 = .ok (.iload_n 2, 1) := dk_28 (dk_at dksX0_isGood_1 6 rfl rfl)
theorem dX0_isGood_31 : decode cX0_isGood 31 = .ok (.bipush 59, 2) := dk_16 59 (dk_at dksX0_isGood_1 7 rfl rfl)
theorem dX0_isGood_33 : decode cX0_isGood 33 = .ok (.if_icmp .ne 7, 3) := dk_160 0 7 (dk_at dksX0_isGood_1 9 rfl rfl)
theorem dX0_isGood_36 : decode cX0_isGood 36 = .ok (.iconst 1, 1) := dk_4 (dk_at dksX0_isGood_1 12 rfl rfl)
theorem dX0_isGood_37 : decode cX0_isGood 37 = .ok (.goto 4, 3) := dk_167 0 4 (dk_at dksX0_isGood_1 13 rfl rfl)
theorem dX0_isGood_40 : decode cX0_isGood 40 = .ok (.iconst 0, 1) := dk_3 (dk_at dksX0_isGood_1 16 rfl rfl)
theorem dX0_isGood_41 : decode cX0_isGood 41 = .ok (.ireturn, 1) := dk_172 (dk_at dksX0_isGood_1 17 rfl rfl)
theorem dX0_isGood_42 : decode cX0_isGood 42 = .ok (.aload_n 0, 1) := dk_42 (dk_at dksX0_isGood_1 18 rfl rfl)
theorem dX0_isGood_43 : decode cX0_isGood 43 = .ok (.getfield 88, 3) := dk_180 0 88 (dk_at dksX0_isGood_1 19 rfl rfl)
theorem dX0_isGood_46 : decode cX0_isGood 46 = .ok (.iconst (-1), 1) := dk_2 (dk_at dksX0_isGood_1 22 rfl rfl)
theorem dX0_isGood_47 : decode cX0_isGood 47 = .ok (.if_icmp .ne 10, 3) := dk_160 0 10 (dk_at dksX0_isGood_2 0 rfl rfl)
theorem dX0_isGood_50 : decode cX0_isGood 50 = .ok (.aload_n 0, 1) := dk_42 (dk_at dksX0_isGood_2 3 rfl rfl)
theorem dX0_isGood_51 : decode cX0_isGood 51 = .ok (.iload_n 1, 1) := dk_27 (dk_at dksX0_isGood_2 4 rfl rfl)
theorem dX0_isGood_52 : decode cX0_isGood 52 = .ok (.iload_n 2, 1) := dk_28 (dk_at dksX0_isGood_2 5 rfl rfl)
theorem dX0_isGood_53 : decode cX0_isGood 53 = .ok (.invokevirtual 99, 3) := dk_182 0 99 (dk_at dksX0_isGood_2 6 rfl rfl)
theorem dX0_isGood_56 : decode cX0_isGood 56 = .ok (.ireturn, 1) := dk_172 (dk_at dksX0_isGood_2 9 rfl rfl)
theorem dX0_isGood_57 : decode cX0_isGood 57 = .ok (.iload_n 1, 1) := dk_27 (dk_at dksX0_isGood_2 10 rfl rfl)
theorem dX0_isGood_58 : decode cX0_isGood 58 = .ok (.aload_n 0, 1) := dk_42 (dk_at dksX0_isGood_2 11 rfl rfl)
theorem dX0_isGood_59 : decode cX0_isGood 59 = .ok (.getfield 88, 3) := dk_180 0 88 (dk_at dksX0_isGood_2 12 rfl rfl)
theorem dX0_isGood_62 : decode cX0_isGood 62 = .ok (.aload_n 0, 1) := dk_42 (dk_at dksX0_isGood_2 15 rfl rfl)
theorem dX0_isGood_63 : decode cX0_isGood 63 = .ok (.getfield 85, 3) := dk_180 0 85 (dk_at dksX0_isGood_2 16 rfl rfl)
theorem dX0_isGood_66 : decode cX0_isGood 66 = .ok (.iadd, 1) := dk_96 (dk_at dksX0_isGood_2 19 rfl rfl)
theorem dX0_isGood_67 : decode cX0_isGood 67 = .ok (.if_icmp .gt 37, 3) := dk_163 0 37 (dk_at dksX0_isGood_2 20 rfl rfl)
theorem dX0_isGood_70 : decode cX0_isGood 70 = .ok (.iload_n 2, 1) := dk_28 (dk_at dksX0_isGood_2 23 rfl rfl)
theorem dX0_isGood_71 : decode cX0_isGood 71 = .ok (.bipush 46, 2) := dk_16 46 (dk_at dksX0_isGood_3 0 rfl rfl)
theorem dX0_isGood_73 : decode cX0_isGood 73 = .ok (.if_icmp .eq 27, 3) := dk_159 0 27 (dk_at dksX0_isGood_3 2 rfl rfl)
theorem dX0_isGood_76 : decode cX0_isGood 76 = .ok (.iload_n 2, 1) := dk_28 (dk_at dksX0_isGood_3 5 rfl rfl)
theorem dX0_isGood_77 : decode cX0_isGood 77 = .ok (.i2l, 1) := dk_133 (dk_at dksX0_isGood_3 6 rfl rfl)
theorem dX0_isGood_78 : decode cX0_isGood 78 = .ok (.ldc2_w 103, 3) := dk_20 0 103 (dk_at dksX0_isGood_3 7 rfl rfl)
theorem dX0_isGood_81 : decode cX0_isGood 81 = .ok (.bipush 97, 2) := dk_16 97 (dk_at dksX0_isGood_3 10 rfl rfl)
theorem dX0_isGood_83 : decode cX0_isGood 83 = .ok (.aload_n 0, 1) := dk_42 (dk_at dksX0_isGood_3 12 rfl rfl)
theorem dX0_isGood_84 : decode cX0_isGood 84 = .ok (.getfield 38, 3) := dk_180 0 38 (dk_at dksX0_isGood_3 13 rfl rfl)
theorem dX0_isGood_87 : decode cX0_isGood 87 = .ok (.iconst 0, 1) := dk_3 (dk_at dksX0_isGood_3 16 rfl rfl)
theorem dX0_isGood_88 : decode cX0_isGood 88 = .ok (.iaload, 1) := dk_46 (dk_at dksX0_isGood_3 17 rfl rfl)
theorem dX0_isGood_89 : decode cX0_isGood 89 = .ok (.iadd, 1) := dk_96 (dk_at dksX0_isGood_3 18 rfl rfl)
theorem dX0_isGood_90 : decode cX0_isGood 90 = .ok (.bipush 49, 2) := dk_16 49 (dk_at dksX0_isGood_3 19 rfl rfl)
theorem dX0_isGood_92 : decode cX0_isGood 92 = .ok (.isub, 1) := dk_100 (dk_at dksX0_isGood_3 21 rfl rfl)
theorem dX0_isGood_93 : decode cX0_isGood 93 = .ok (.i2l, 1) := dk_133 (dk_at dksX0_isGood_3 22 rfl rfl)
theorem dX0_isGood_94 : decode cX0_isGood 94 = .ok (.invokestatic 78, 3) := dk_184 0 78 (dk_at dksX0_isGood_4 0 rfl rfl)
theorem dX0_isGood_97 : decode cX0_isGood 97 = .ok (.ifCond .eq 7, 3) := dk_153 0 7 (dk_at dksX0_isGood_4 3 rfl rfl)
theorem dX0_isGood_100 : decode cX0_isGood 100 = .ok (.iconst 1, 1) := dk_4 (dk_at dksX0_isGood_4 6 rfl rfl)
theorem dX0_isGood_101 : decode cX0_isGood 101 = .ok (.goto 4, 3) := dk_167 0 4 (dk_at dksX0_isGood_4 7 rfl rfl)
theorem dX0_isGood_104 : decode cX0_isGood 104 = .ok (.iconst 0, 1) := dk_3 (dk_at dksX0_isGood_4 10 rfl rfl)
theorem dX0_isGood_105 : decode cX0_isGood 105 = .ok (.ireturn, 1) := dk_172 (dk_at dksX0_isGood_4 11 rfl rfl)
abbrev cX0_isKindSign : ByteArray := prog_1_method_9_code
def yX0_isKindSign : MethodName := ⟨RX0, "isKindSign", "(II)Z"⟩
def dkwX0_isKindSign_2 : List UInt8 := [163, 0, 7, 4, 167, 0, 4, 3, 172]
abbrev dktX0_isKindSign_2 : List UInt8 := dkwX0_isKindSign_2 ++ []
def dkwX0_isKindSign_1 : List UInt8 := [180, 0, 85, 4, 96, 181, 0, 85, 28, 184, 0, 91, 2, 159, 0, 16, 42, 180, 0, 85, 16, 10]
abbrev dktX0_isKindSign_1 : List UInt8 := dkwX0_isKindSign_1 ++ dktX0_isKindSign_2
def dkwX0_isKindSign_0 : List UInt8 := [28, 16, 59, 160, 0, 18, 42, 180, 0, 85, 7, 161, 0, 10, 42, 27, 181, 0, 88, 4, 172, 42, 89]
abbrev dktX0_isKindSign_0 : List UInt8 := dkwX0_isKindSign_0 ++ dktX0_isKindSign_1
theorem dksX0_isKindSign_0 : cX0_isKindSign.data.toList.drop 0 = dktX0_isKindSign_0 := by decide +kernel
theorem dksX0_isKindSign_1 : cX0_isKindSign.data.toList.drop 23 = dktX0_isKindSign_1 := dk_seg dksX0_isKindSign_0 23 rfl rfl
theorem dksX0_isKindSign_2 : cX0_isKindSign.data.toList.drop 45 = dktX0_isKindSign_2 := dk_seg dksX0_isKindSign_1 22 rfl rfl
theorem dX0_isKindSign_0 : decode cX0_isKindSign 0 = .ok (.iload_n 2, 1) := dk_28 (dk_at dksX0_isKindSign_0 0 rfl rfl)
theorem dX0_isKindSign_1 : decode cX0_isKindSign 1 = .ok (.bipush 59, 2) := dk_16 59 (dk_at dksX0_isKindSign_0 1 rfl rfl)
theorem dX0_isKindSign_3 : decode cX0_isKindSign 3 = .ok (.if_icmp .ne 18, 3) := dk_160 0 18 (dk_at dksX0_isKindSign_0 3 rfl rfl)
theorem dX0_isKindSign_6 : decode cX0_isKindSign 6 = .ok (.aload_n 0, 1) := dk_42 (dk_at dksX0_isKindSign_0 6 rfl rfl)
theorem dX0_isKindSign_7 : decode cX0_isKindSign 7 = .ok (.getfield 85, 3) := dk_180 0 85 (dk_at dksX0_isKindSign_0 7 rfl rfl)
theorem dX0_isKindSign_10 : decode cX0_isKindSign 10 = .ok (.iconst 4, 1) := dk_7 (dk_at dksX0_isKindSign_0 10 rfl rfl)
theorem dX0_isKindSign_11 : decode cX0_isKindSign 11 = .ok (.if_icmp .lt 10, 3) := dk_161 0 10 (dk_at dksX0_isKindSign_0 11 rfl rfl)
theorem dX0_isKindSign_14 : decode cX0_isKindSign 14 = .ok (.aload_n 0, 1) := dk_42 (dk_at dksX0_isKindSign_0 14 rfl rfl)
theorem dX0_isKindSign_15 : decode cX0_isKindSign 15 = .ok (.iload_n 1, 1) := dk_27 (dk_at dksX0_isKindSign_0 15 rfl rfl)
theorem dX0_isKindSign_16 : decode cX0_isKindSign 16 = .ok (.putfield 88, 3) := dk_181 0 88 (dk_at dksX0_isKindSign_0 16 rfl rfl)
theorem dX0_isKindSign_19 : decode cX0_isKindSign 19 = .ok (.iconst 1, 1) := dk_4 (dk_at dksX0_isKindSign_0 19 rfl rfl)
theorem dX0_isKindSign_20 : decode cX0_isKindSign 20 = .ok (.ireturn, 1) := dk_172 (dk_at dksX0_isKindSign_0 20 rfl rfl)
theorem dX0_isKindSign_21 : decode cX0_isKindSign 21 = .ok (.aload_n 0, 1) := dk_42 (dk_at dksX0_isKindSign_0 21 rfl rfl)
theorem dX0_isKindSign_22 : decode cX0_isKindSign 22 = .ok (.dup, 1) := dk_89 (dk_at dksX0_isKindSign_0 22 rfl rfl)
theorem dX0_isKindSign_23 : decode cX0_isKindSign 23 = .ok (.getfield 85, 3) := dk_180 0 85 (dk_at dksX0_isKindSign_1 0 rfl rfl)
theorem dX0_isKindSign_26 : decode cX0_isKindSign 26 = .ok (.iconst 1, 1) := dk_4 (dk_at dksX0_isKindSign_1 3 rfl rfl)
theorem dX0_isKindSign_27 : decode cX0_isKindSign 27 = .ok (.iadd, 1) := dk_96 (dk_at dksX0_isKindSign_1 4 rfl rfl)
theorem dX0_isKindSign_28 : decode cX0_isKindSign 28 = .ok (.putfield 85, 3) := dk_181 0 85 (dk_at dksX0_isKindSign_1 5 rfl rfl)
theorem dX0_isKindSign_31 : decode cX0_isKindSign 31 = .ok (.iload_n 2, 1) := dk_28 (dk_at dksX0_isKindSign_1 8 rfl rfl)
theorem dX0_isKindSign_32 : decode cX0_isKindSign 32 = .ok (.invokestatic 91, 3) := dk_184 0 91 (dk_at dksX0_isKindSign_1 9 rfl rfl)
theorem dX0_isKindSign_35 : decode cX0_isKindSign 35 = .ok (.iconst (-1), 1) := dk_2 (dk_at dksX0_isKindSign_1 12 rfl rfl)
theorem dX0_isKindSign_36 : decode cX0_isKindSign 36 = .ok (.if_icmp .eq 16, 3) := dk_159 0 16 (dk_at dksX0_isKindSign_1 13 rfl rfl)
theorem dX0_isKindSign_39 : decode cX0_isKindSign 39 = .ok (.aload_n 0, 1) := dk_42 (dk_at dksX0_isKindSign_1 16 rfl rfl)
theorem dX0_isKindSign_40 : decode cX0_isKindSign 40 = .ok (.getfield 85, 3) := dk_180 0 85 (dk_at dksX0_isKindSign_1 17 rfl rfl)
theorem dX0_isKindSign_43 : decode cX0_isKindSign 43 = .ok (.bipush 10, 2) := dk_16 10 (dk_at dksX0_isKindSign_1 20 rfl rfl)
theorem dX0_isKindSign_45 : decode cX0_isKindSign 45 = .ok (.if_icmp .gt 7, 3) := dk_163 0 7 (dk_at dksX0_isKindSign_2 0 rfl rfl)
theorem dX0_isKindSign_48 : decode cX0_isKindSign 48 = .ok (.iconst 1, 1) := dk_4 (dk_at dksX0_isKindSign_2 3 rfl rfl)
theorem dX0_isKindSign_49 : decode cX0_isKindSign 49 = .ok (.goto 4, 3) := dk_167 0 4 (dk_at dksX0_isKindSign_2 4 rfl rfl)
theorem dX0_isKindSign_52 : decode cX0_isKindSign 52 = .ok (.iconst 0, 1) := dk_3 (dk_at dksX0_isKindSign_2 7 rfl rfl)
theorem dX0_isKindSign_53 : decode cX0_isKindSign 53 = .ok (.ireturn, 1) := dk_172 (dk_at dksX0_isKindSign_2 8 rfl rfl)
abbrev cX0_kindOf : ByteArray := prog_1_method_8_code
def yX0_kindOf : MethodName := ⟨RX0, "kindOf", "(I)I"⟩
def dkwX0_kindOf_2 : List UInt8 := [3, 172, 4, 172, 5, 172, 6, 172, 7, 172, 2, 172]
abbrev dktX0_kindOf_2 : List UInt8 := dkwX0_kindOf_2 ++ []
def dkwX0_kindOf_1 : List UInt8 := [170, 0, 0, 0, 0, 0, 81, 0, 0, 0, 102, 0, 0, 0, 115, 0, 0, 0, 75, 0, 0, 0, 81, 0, 0, 0, 81, 0, 0, 0, 81, 0, 0, 0, 81, 0, 0, 0, 81, 0, 0, 0, 73, 0, 0, 0, 81, 0, 0, 0, 71, 0, 0, 0, 79, 0, 0, 0, 81, 0, 0, 0, 81, 0, 0, 0, 81, 0, 0, 0, 77]
abbrev dktX0_kindOf_1 : List UInt8 := dkwX0_kindOf_1 ++ dktX0_kindOf_2
def dkwX0_kindOf_0 : List UInt8 := [26]
abbrev dktX0_kindOf_0 : List UInt8 := dkwX0_kindOf_0 ++ dktX0_kindOf_1
theorem dksX0_kindOf_0 : cX0_kindOf.data.toList.drop 0 = dktX0_kindOf_0 := by decide +kernel
theorem dksX0_kindOf_1 : cX0_kindOf.data.toList.drop 1 = dktX0_kindOf_1 := dk_seg dksX0_kindOf_0 1 rfl rfl
theorem dksX0_kindOf_2 : cX0_kindOf.data.toList.drop 72 = dktX0_kindOf_2 := dk_seg dksX0_kindOf_1 71 rfl rfl
theorem dX0_kindOf_0 : decode cX0_kindOf 0 = .ok (.iload_n 0, 1) := dk_26 (dk_at dksX0_kindOf_0 0 rfl rfl)
theorem dX0_kindOf_1 : decode cX0_kindOf 1 = .ok (.tableswitch 81 102 115 #[75, 81, 81, 81, 81, 81, 73, 81, 71, 79, 81, 81, 81, 77], 71) := by decide +kernel
theorem dX0_kindOf_72 : decode cX0_kindOf 72 = .ok (.iconst 0, 1) := dk_3 (dk_at dksX0_kindOf_2 0 rfl rfl)
theorem dX0_kindOf_73 : decode cX0_kindOf 73 = .ok (.ireturn, 1) := dk_172 (dk_at dksX0_kindOf_2 1 rfl rfl)
theorem dX0_kindOf_74 : decode cX0_kindOf 74 = .ok (.iconst 1, 1) := dk_4 (dk_at dksX0_kindOf_2 2 rfl rfl)
theorem dX0_kindOf_75 : decode cX0_kindOf 75 = .ok (.ireturn, 1) := dk_172 (dk_at dksX0_kindOf_2 3 rfl rfl)
theorem dX0_kindOf_76 : decode cX0_kindOf 76 = .ok (.iconst 2, 1) := dk_5 (dk_at dksX0_kindOf_2 4 rfl rfl)
theorem dX0_kindOf_77 : decode cX0_kindOf 77 = .ok (.ireturn, 1) := dk_172 (dk_at dksX0_kindOf_2 5 rfl rfl)
theorem dX0_kindOf_78 : decode cX0_kindOf 78 = .ok (.iconst 3, 1) := dk_6 (dk_at dksX0_kindOf_2 6 rfl rfl)
theorem dX0_kindOf_79 : decode cX0_kindOf 79 = .ok (.ireturn, 1) := dk_172 (dk_at dksX0_kindOf_2 7 rfl rfl)
theorem dX0_kindOf_80 : decode cX0_kindOf 80 = .ok (.iconst 4, 1) := dk_7 (dk_at dksX0_kindOf_2 8 rfl rfl)
theorem dX0_kindOf_81 : decode cX0_kindOf 81 = .ok (.ireturn, 1) := dk_172 (dk_at dksX0_kindOf_2 9 rfl rfl)
theorem dX0_kindOf_82 : decode cX0_kindOf 82 = .ok (.iconst (-1), 1) := dk_2 (dk_at dksX0_kindOf_2 10 rfl rfl)
theorem dX0_kindOf_83 : decode cX0_kindOf 83 = .ok (.ireturn, 1) := dk_172 (dk_at dksX0_kindOf_2 11 rfl rfl)
abbrev cX0_board : ByteArray := prog_1_method_12_code
def yX0_board : MethodName := ⟨RX0, "board", "()I"⟩
def dkwX0_board_7 : List UInt8 := [3, 181, 0, 82, 42, 4, 181, 0, 138, 42, 180, 0, 116, 172]
abbrev dktX0_board_7 : List UInt8 := dkwX0_board_7 ++ []
def dkwX0_board_6 : List UInt8 := [167, 255, 178, 42, 3, 181, 0, 129, 42, 3, 181, 0, 132, 42, 89, 180, 0, 135, 4, 96, 181, 0, 135, 42]
abbrev dktX0_board_6 : List UInt8 := dkwX0_board_6 ++ dktX0_board_7
def dkwX0_board_5 : List UInt8 := [27, 50, 28, 16, 46, 160, 0, 7, 2, 167, 0, 7, 28, 16, 97, 100, 181, 0, 126, 132, 1, 1]
abbrev dktX0_board_5 : List UInt8 := dkwX0_board_5 ++ dktX0_board_6
def dkwX0_board_4 : List UInt8 := [4, 100, 46, 184, 0, 91, 184, 0, 119, 83, 42, 180, 0, 32, 27, 50, 27, 181, 0, 123, 42, 180, 0, 32]
abbrev dktX0_board_4 : List UInt8 := dkwX0_board_4 ++ dktX0_board_5
def dkwX0_board_3 : List UInt8 := [42, 180, 0, 38, 42, 180, 0, 88, 27, 96, 46, 61, 42, 180, 0, 32, 27, 42, 180, 0, 38, 5, 27, 96]
abbrev dktX0_board_3 : List UInt8 := dkwX0_board_3 ++ dktX0_board_4
def dkwX0_board_2 : List UInt8 := [16, 48, 100, 181, 0, 113, 42, 42, 180, 0, 85, 181, 0, 116, 4, 60, 27, 42, 180, 0, 116, 163, 0, 76]
abbrev dktX0_board_2 : List UInt8 := dkwX0_board_2 ++ dktX0_board_3
def dkwX0_board_1 : List UInt8 := [180, 0, 88, 42, 180, 0, 85, 96, 4, 96, 159, 0, 6, 16, 153, 172, 42, 42, 180, 0, 38, 3, 46]
abbrev dktX0_board_1 : List UInt8 := dkwX0_board_1 ++ dktX0_board_2
def dkwX0_board_0 : List UInt8 := [42, 182, 0, 109, 42, 180, 0, 82, 161, 0, 29, 42, 180, 0, 88, 2, 159, 0, 21, 42, 180, 0, 82, 42]
abbrev dktX0_board_0 : List UInt8 := dkwX0_board_0 ++ dktX0_board_1
theorem dksX0_board_0 : cX0_board.data.toList.drop 0 = dktX0_board_0 := by decide +kernel
theorem dksX0_board_1 : cX0_board.data.toList.drop 24 = dktX0_board_1 := dk_seg dksX0_board_0 24 rfl rfl
theorem dksX0_board_2 : cX0_board.data.toList.drop 47 = dktX0_board_2 := dk_seg dksX0_board_1 23 rfl rfl
theorem dksX0_board_3 : cX0_board.data.toList.drop 71 = dktX0_board_3 := dk_seg dksX0_board_2 24 rfl rfl
theorem dksX0_board_4 : cX0_board.data.toList.drop 95 = dktX0_board_4 := dk_seg dksX0_board_3 24 rfl rfl
theorem dksX0_board_5 : cX0_board.data.toList.drop 119 = dktX0_board_5 := dk_seg dksX0_board_4 24 rfl rfl
theorem dksX0_board_6 : cX0_board.data.toList.drop 141 = dktX0_board_6 := dk_seg dksX0_board_5 22 rfl rfl
theorem dksX0_board_7 : cX0_board.data.toList.drop 165 = dktX0_board_7 := dk_seg dksX0_board_6 24 rfl rfl
theorem dX0_board_0 : decode cX0_board 0 = .ok (.aload_n 0, 1) := dk_42 (dk_at dksX0_board_0 0 rfl rfl)
theorem dX0_board_1 : decode cX0_board 1 = .ok (.invokevirtual 109, 3) := dk_182 0 109 (dk_at dksX0_board_0 1 rfl rfl)
theorem dX0_board_4 : decode cX0_board 4 = .ok (.aload_n 0, 1) := dk_42 (dk_at dksX0_board_0 4 rfl rfl)
theorem dX0_board_5 : decode cX0_board 5 = .ok (.getfield 82, 3) := dk_180 0 82 (dk_at dksX0_board_0 5 rfl rfl)
theorem dX0_board_8 : decode cX0_board 8 = .ok (.if_icmp .lt 29, 3) := dk_161 0 29 (dk_at dksX0_board_0 8 rfl rfl)
theorem dX0_board_11 : decode cX0_board 11 = .ok (.aload_n 0, 1) := dk_42 (dk_at dksX0_board_0 11 rfl rfl)
theorem dX0_board_12 : decode cX0_board 12 = .ok (.getfield 88, 3) := dk_180 0 88 (dk_at dksX0_board_0 12 rfl rfl)
theorem dX0_board_15 : decode cX0_board 15 = .ok (.iconst (-1), 1) := dk_2 (dk_at dksX0_board_0 15 rfl rfl)
theorem dX0_board_16 : decode cX0_board 16 = .ok (.if_icmp .eq 21, 3) := dk_159 0 21 (dk_at dksX0_board_0 16 rfl rfl)
theorem dX0_board_19 : decode cX0_board 19 = .ok (.aload_n 0, 1) := dk_42 (dk_at dksX0_board_0 19 rfl rfl)
theorem dX0_board_20 : decode cX0_board 20 = .ok (.getfield 82, 3) := dk_180 0 82 (dk_at dksX0_board_0 20 rfl rfl)
theorem dX0_board_23 : decode cX0_board 23 = .ok (.aload_n 0, 1) := dk_42 (dk_at dksX0_board_0 23 rfl rfl)
theorem dX0_board_24 : decode cX0_board 24 = .ok (.getfield 88, 3) := dk_180 0 88 (dk_at dksX0_board_1 0 rfl rfl)
theorem dX0_board_27 : decode cX0_board 27 = .ok (.aload_n 0, 1) := dk_42 (dk_at dksX0_board_1 3 rfl rfl)
theorem dX0_board_28 : decode cX0_board 28 = .ok (.getfield 85, 3) := dk_180 0 85 (dk_at dksX0_board_1 4 rfl rfl)
theorem dX0_board_31 : decode cX0_board 31 = .ok (.iadd, 1) := dk_96 (dk_at dksX0_board_1 7 rfl rfl)
theorem dX0_board_32 : decode cX0_board 32 = .ok (.iconst 1, 1) := dk_4 (dk_at dksX0_board_1 8 rfl rfl)
theorem dX0_board_33 : decode cX0_board 33 = .ok (.iadd, 1) := dk_96 (dk_at dksX0_board_1 9 rfl rfl)
theorem dX0_board_34 : decode cX0_board 34 = .ok (.if_icmp .eq 6, 3) := dk_159 0 6 (dk_at dksX0_board_1 10 rfl rfl)
theorem dX0_board_37 : decode cX0_board 37 = .ok (.bipush (-103), 2) := dk_16 153 (dk_at dksX0_board_1 13 rfl rfl)
theorem dX0_board_39 : decode cX0_board 39 = .ok (.ireturn, 1) := dk_172 (dk_at dksX0_board_1 15 rfl rfl)
theorem dX0_board_40 : decode cX0_board 40 = .ok (.aload_n 0, 1) := dk_42 (dk_at dksX0_board_1 16 rfl rfl)
theorem dX0_board_41 : decode cX0_board 41 = .ok (.aload_n 0, 1) := dk_42 (dk_at dksX0_board_1 17 rfl rfl)
theorem dX0_board_42 : decode cX0_board 42 = .ok (.getfield 38, 3) := dk_180 0 38 (dk_at dksX0_board_1 18 rfl rfl)
theorem dX0_board_45 : decode cX0_board 45 = .ok (.iconst 0, 1) := dk_3 (dk_at dksX0_board_1 21 rfl rfl)
theorem dX0_board_46 : decode cX0_board 46 = .ok (.iaload, 1) := dk_46 (dk_at dksX0_board_1 22 rfl rfl)
theorem dX0_board_47 : decode cX0_board 47 = .ok (.bipush 48, 2) := dk_16 48 (dk_at dksX0_board_2 0 rfl rfl)
theorem dX0_board_49 : decode cX0_board 49 = .ok (.isub, 1) := dk_100 (dk_at dksX0_board_2 2 rfl rfl)
theorem dX0_board_50 : decode cX0_board 50 = .ok (.putfield 113, 3) := dk_181 0 113 (dk_at dksX0_board_2 3 rfl rfl)
theorem dX0_board_53 : decode cX0_board 53 = .ok (.aload_n 0, 1) := dk_42 (dk_at dksX0_board_2 6 rfl rfl)
theorem dX0_board_54 : decode cX0_board 54 = .ok (.aload_n 0, 1) := dk_42 (dk_at dksX0_board_2 7 rfl rfl)
theorem dX0_board_55 : decode cX0_board 55 = .ok (.getfield 85, 3) := dk_180 0 85 (dk_at dksX0_board_2 8 rfl rfl)
theorem dX0_board_58 : decode cX0_board 58 = .ok (.putfield 116, 3) := dk_181 0 116 (dk_at dksX0_board_2 11 rfl rfl)
theorem dX0_board_61 : decode cX0_board 61 = .ok (.iconst 1, 1) := dk_4 (dk_at dksX0_board_2 14 rfl rfl)
theorem dX0_board_62 : decode cX0_board 62 = .ok (.istore_n 1, 1) := dk_60 (dk_at dksX0_board_2 15 rfl rfl)
theorem dX0_board_63 : decode cX0_board 63 = .ok (.iload_n 1, 1) := dk_27 (dk_at dksX0_board_2 16 rfl rfl)
theorem dX0_board_64 : decode cX0_board 64 = .ok (.aload_n 0, 1) := dk_42 (dk_at dksX0_board_2 17 rfl rfl)
theorem dX0_board_65 : decode cX0_board 65 = .ok (.getfield 116, 3) := dk_180 0 116 (dk_at dksX0_board_2 18 rfl rfl)
theorem dX0_board_68 : decode cX0_board 68 = .ok (.if_icmp .gt 76, 3) := dk_163 0 76 (dk_at dksX0_board_2 21 rfl rfl)
theorem dX0_board_71 : decode cX0_board 71 = .ok (.aload_n 0, 1) := dk_42 (dk_at dksX0_board_3 0 rfl rfl)
theorem dX0_board_72 : decode cX0_board 72 = .ok (.getfield 38, 3) := dk_180 0 38 (dk_at dksX0_board_3 1 rfl rfl)
theorem dX0_board_75 : decode cX0_board 75 = .ok (.aload_n 0, 1) := dk_42 (dk_at dksX0_board_3 4 rfl rfl)
theorem dX0_board_76 : decode cX0_board 76 = .ok (.getfield 88, 3) := dk_180 0 88 (dk_at dksX0_board_3 5 rfl rfl)
theorem dX0_board_79 : decode cX0_board 79 = .ok (.iload_n 1, 1) := dk_27 (dk_at dksX0_board_3 8 rfl rfl)
theorem dX0_board_80 : decode cX0_board 80 = .ok (.iadd, 1) := dk_96 (dk_at dksX0_board_3 9 rfl rfl)
theorem dX0_board_81 : decode cX0_board 81 = .ok (.iaload, 1) := dk_46 (dk_at dksX0_board_3 10 rfl rfl)
theorem dX0_board_82 : decode cX0_board 82 = .ok (.istore_n 2, 1) := dk_61 (dk_at dksX0_board_3 11 rfl rfl)
theorem dX0_board_83 : decode cX0_board 83 = .ok (.aload_n 0, 1) := dk_42 (dk_at dksX0_board_3 12 rfl rfl)
theorem dX0_board_84 : decode cX0_board 84 = .ok (.getfield 32, 3) := dk_180 0 32 (dk_at dksX0_board_3 13 rfl rfl)
theorem dX0_board_87 : decode cX0_board 87 = .ok (.iload_n 1, 1) := dk_27 (dk_at dksX0_board_3 16 rfl rfl)
theorem dX0_board_88 : decode cX0_board 88 = .ok (.aload_n 0, 1) := dk_42 (dk_at dksX0_board_3 17 rfl rfl)
theorem dX0_board_89 : decode cX0_board 89 = .ok (.getfield 38, 3) := dk_180 0 38 (dk_at dksX0_board_3 18 rfl rfl)
theorem dX0_board_92 : decode cX0_board 92 = .ok (.iconst 2, 1) := dk_5 (dk_at dksX0_board_3 21 rfl rfl)
theorem dX0_board_93 : decode cX0_board 93 = .ok (.iload_n 1, 1) := dk_27 (dk_at dksX0_board_3 22 rfl rfl)
theorem dX0_board_94 : decode cX0_board 94 = .ok (.iadd, 1) := dk_96 (dk_at dksX0_board_3 23 rfl rfl)
theorem dX0_board_95 : decode cX0_board 95 = .ok (.iconst 1, 1) := dk_4 (dk_at dksX0_board_4 0 rfl rfl)
theorem dX0_board_96 : decode cX0_board 96 = .ok (.isub, 1) := dk_100 (dk_at dksX0_board_4 1 rfl rfl)
theorem dX0_board_97 : decode cX0_board 97 = .ok (.iaload, 1) := dk_46 (dk_at dksX0_board_4 2 rfl rfl)
theorem dX0_board_98 : decode cX0_board 98 = .ok (.invokestatic 91, 3) := dk_184 0 91 (dk_at dksX0_board_4 3 rfl rfl)
theorem dX0_board_101 : decode cX0_board 101 = .ok (.invokestatic 119, 3) := dk_184 0 119 (dk_at dksX0_board_4 6 rfl rfl)
theorem dX0_board_104 : decode cX0_board 104 = .ok (.aastore, 1) := dk_83 (dk_at dksX0_board_4 9 rfl rfl)
theorem dX0_board_105 : decode cX0_board 105 = .ok (.aload_n 0, 1) := dk_42 (dk_at dksX0_board_4 10 rfl rfl)
theorem dX0_board_106 : decode cX0_board 106 = .ok (.getfield 32, 3) := dk_180 0 32 (dk_at dksX0_board_4 11 rfl rfl)
theorem dX0_board_109 : decode cX0_board 109 = .ok (.iload_n 1, 1) := dk_27 (dk_at dksX0_board_4 14 rfl rfl)
theorem dX0_board_110 : decode cX0_board 110 = .ok (.aaload, 1) := dk_50 (dk_at dksX0_board_4 15 rfl rfl)
theorem dX0_board_111 : decode cX0_board 111 = .ok (.iload_n 1, 1) := dk_27 (dk_at dksX0_board_4 16 rfl rfl)
theorem dX0_board_112 : decode cX0_board 112 = .ok (.putfield 123, 3) := dk_181 0 123 (dk_at dksX0_board_4 17 rfl rfl)
theorem dX0_board_115 : decode cX0_board 115 = .ok (.aload_n 0, 1) := dk_42 (dk_at dksX0_board_4 20 rfl rfl)
theorem dX0_board_116 : decode cX0_board 116 = .ok (.getfield 32, 3) := dk_180 0 32 (dk_at dksX0_board_4 21 rfl rfl)
theorem dX0_board_119 : decode cX0_board 119 = .ok (.iload_n 1, 1) := dk_27 (dk_at dksX0_board_5 0 rfl rfl)
theorem dX0_board_120 : decode cX0_board 120 = .ok (.aaload, 1) := dk_50 (dk_at dksX0_board_5 1 rfl rfl)
theorem dX0_board_121 : decode cX0_board 121 = .ok (.iload_n 2, 1) := dk_28 (dk_at dksX0_board_5 2 rfl rfl)
theorem dX0_board_122 : decode cX0_board 122 = .ok (.bipush 46, 2) := dk_16 46 (dk_at dksX0_board_5 3 rfl rfl)
theorem dX0_board_124 : decode cX0_board 124 = .ok (.if_icmp .ne 7, 3) := dk_160 0 7 (dk_at dksX0_board_5 5 rfl rfl)
theorem dX0_board_127 : decode cX0_board 127 = .ok (.iconst (-1), 1) := dk_2 (dk_at dksX0_board_5 8 rfl rfl)
theorem dX0_board_128 : decode cX0_board 128 = .ok (.goto 7, 3) := dk_167 0 7 (dk_at dksX0_board_5 9 rfl rfl)
theorem dX0_board_131 : decode cX0_board 131 = .ok (.iload_n 2, 1) := dk_28 (dk_at dksX0_board_5 12 rfl rfl)
theorem dX0_board_132 : decode cX0_board 132 = .ok (.bipush 97, 2) := dk_16 97 (dk_at dksX0_board_5 13 rfl rfl)
theorem dX0_board_134 : decode cX0_board 134 = .ok (.isub, 1) := dk_100 (dk_at dksX0_board_5 15 rfl rfl)
theorem dX0_board_135 : decode cX0_board 135 = .ok (.putfield 126, 3) := dk_181 0 126 (dk_at dksX0_board_5 16 rfl rfl)
theorem dX0_board_138 : decode cX0_board 138 = .ok (.iinc 1 1, 3) := dk_132 1 1 (dk_at dksX0_board_5 19 rfl rfl)
theorem dX0_board_141 : decode cX0_board 141 = .ok (.goto (-78), 3) := dk_167 255 178 (dk_at dksX0_board_6 0 rfl rfl)
theorem dX0_board_144 : decode cX0_board 144 = .ok (.aload_n 0, 1) := dk_42 (dk_at dksX0_board_6 3 rfl rfl)
theorem dX0_board_145 : decode cX0_board 145 = .ok (.iconst 0, 1) := dk_3 (dk_at dksX0_board_6 4 rfl rfl)
theorem dX0_board_146 : decode cX0_board 146 = .ok (.putfield 129, 3) := dk_181 0 129 (dk_at dksX0_board_6 5 rfl rfl)
theorem dX0_board_149 : decode cX0_board 149 = .ok (.aload_n 0, 1) := dk_42 (dk_at dksX0_board_6 8 rfl rfl)
theorem dX0_board_150 : decode cX0_board 150 = .ok (.iconst 0, 1) := dk_3 (dk_at dksX0_board_6 9 rfl rfl)
theorem dX0_board_151 : decode cX0_board 151 = .ok (.putfield 132, 3) := dk_181 0 132 (dk_at dksX0_board_6 10 rfl rfl)
theorem dX0_board_154 : decode cX0_board 154 = .ok (.aload_n 0, 1) := dk_42 (dk_at dksX0_board_6 13 rfl rfl)
theorem dX0_board_155 : decode cX0_board 155 = .ok (.dup, 1) := dk_89 (dk_at dksX0_board_6 14 rfl rfl)
theorem dX0_board_156 : decode cX0_board 156 = .ok (.getfield 135, 3) := dk_180 0 135 (dk_at dksX0_board_6 15 rfl rfl)
theorem dX0_board_159 : decode cX0_board 159 = .ok (.iconst 1, 1) := dk_4 (dk_at dksX0_board_6 18 rfl rfl)
theorem dX0_board_160 : decode cX0_board 160 = .ok (.iadd, 1) := dk_96 (dk_at dksX0_board_6 19 rfl rfl)
theorem dX0_board_161 : decode cX0_board 161 = .ok (.putfield 135, 3) := dk_181 0 135 (dk_at dksX0_board_6 20 rfl rfl)
theorem dX0_board_164 : decode cX0_board 164 = .ok (.aload_n 0, 1) := dk_42 (dk_at dksX0_board_6 23 rfl rfl)
theorem dX0_board_165 : decode cX0_board 165 = .ok (.iconst 0, 1) := dk_3 (dk_at dksX0_board_7 0 rfl rfl)
theorem dX0_board_166 : decode cX0_board 166 = .ok (.putfield 82, 3) := dk_181 0 82 (dk_at dksX0_board_7 1 rfl rfl)
theorem dX0_board_169 : decode cX0_board 169 = .ok (.aload_n 0, 1) := dk_42 (dk_at dksX0_board_7 4 rfl rfl)
theorem dX0_board_170 : decode cX0_board 170 = .ok (.iconst 1, 1) := dk_4 (dk_at dksX0_board_7 5 rfl rfl)
theorem dX0_board_171 : decode cX0_board 171 = .ok (.putfield 138, 3) := dk_181 0 138 (dk_at dksX0_board_7 6 rfl rfl)
theorem dX0_board_174 : decode cX0_board 174 = .ok (.aload_n 0, 1) := dk_42 (dk_at dksX0_board_7 9 rfl rfl)
theorem dX0_board_175 : decode cX0_board 175 = .ok (.getfield 116, 3) := dk_180 0 116 (dk_at dksX0_board_7 10 rfl rfl)
theorem dX0_board_178 : decode cX0_board 178 = .ok (.ireturn, 1) := dk_172 (dk_at dksX0_board_7 13 rfl rfl)
abbrev cX0_made : ByteArray := prog_1_method_4_code
def yX0_made : MethodName := ⟨RX0, "made", "(I)LSumColours$Member;"⟩
def dkwX0_made_3 : List UInt8 := [187, 0, 19, 89, 183, 0, 21, 176, 187, 0, 22, 89, 183, 0, 24, 176]
abbrev dktX0_made_3 : List UInt8 := dkwX0_made_3 ++ []
def dkwX0_made_2 : List UInt8 := [187, 0, 7, 89, 183, 0, 9, 176, 187, 0, 13, 89, 183, 0, 15, 176, 187, 0, 16, 89, 183, 0, 18, 176]
abbrev dktX0_made_2 : List UInt8 := dkwX0_made_2 ++ dktX0_made_3
def dkwX0_made_1 : List UInt8 := [170, 0, 0, 0, 0, 0, 63, 0, 0, 0, 0, 0, 0, 0, 3, 0, 0, 0, 31, 0, 0, 0, 39, 0, 0, 0, 47, 0, 0, 0, 55]
abbrev dktX0_made_1 : List UInt8 := dkwX0_made_1 ++ dktX0_made_2
def dkwX0_made_0 : List UInt8 := [26]
abbrev dktX0_made_0 : List UInt8 := dkwX0_made_0 ++ dktX0_made_1
theorem dksX0_made_0 : cX0_made.data.toList.drop 0 = dktX0_made_0 := by decide +kernel
theorem dksX0_made_1 : cX0_made.data.toList.drop 1 = dktX0_made_1 := dk_seg dksX0_made_0 1 rfl rfl
theorem dksX0_made_2 : cX0_made.data.toList.drop 32 = dktX0_made_2 := dk_seg dksX0_made_1 31 rfl rfl
theorem dksX0_made_3 : cX0_made.data.toList.drop 56 = dktX0_made_3 := dk_seg dksX0_made_2 24 rfl rfl
theorem dX0_made_0 : decode cX0_made 0 = .ok (.iload_n 0, 1) := dk_26 (dk_at dksX0_made_0 0 rfl rfl)
theorem dX0_made_1 : decode cX0_made 1 = .ok (.tableswitch 63 0 3 #[31, 39, 47, 55], 31) := by decide +kernel
theorem dX0_made_32 : decode cX0_made 32 = .ok (.new 7, 3) := dk_187 0 7 (dk_at dksX0_made_2 0 rfl rfl)
theorem dX0_made_35 : decode cX0_made 35 = .ok (.dup, 1) := dk_89 (dk_at dksX0_made_2 3 rfl rfl)
theorem dX0_made_36 : decode cX0_made 36 = .ok (.invokespecial 9, 3) := dk_183 0 9 (dk_at dksX0_made_2 4 rfl rfl)
theorem dX0_made_39 : decode cX0_made 39 = .ok (.areturn, 1) := dk_176 (dk_at dksX0_made_2 7 rfl rfl)
theorem dX0_made_40 : decode cX0_made 40 = .ok (.new 13, 3) := dk_187 0 13 (dk_at dksX0_made_2 8 rfl rfl)
theorem dX0_made_43 : decode cX0_made 43 = .ok (.dup, 1) := dk_89 (dk_at dksX0_made_2 11 rfl rfl)
theorem dX0_made_44 : decode cX0_made 44 = .ok (.invokespecial 15, 3) := dk_183 0 15 (dk_at dksX0_made_2 12 rfl rfl)
theorem dX0_made_47 : decode cX0_made 47 = .ok (.areturn, 1) := dk_176 (dk_at dksX0_made_2 15 rfl rfl)
theorem dX0_made_48 : decode cX0_made 48 = .ok (.new 16, 3) := dk_187 0 16 (dk_at dksX0_made_2 16 rfl rfl)
theorem dX0_made_51 : decode cX0_made 51 = .ok (.dup, 1) := dk_89 (dk_at dksX0_made_2 19 rfl rfl)
theorem dX0_made_52 : decode cX0_made 52 = .ok (.invokespecial 18, 3) := dk_183 0 18 (dk_at dksX0_made_2 20 rfl rfl)
theorem dX0_made_55 : decode cX0_made 55 = .ok (.areturn, 1) := dk_176 (dk_at dksX0_made_2 23 rfl rfl)
theorem dX0_made_56 : decode cX0_made 56 = .ok (.new 19, 3) := dk_187 0 19 (dk_at dksX0_made_3 0 rfl rfl)
theorem dX0_made_59 : decode cX0_made 59 = .ok (.dup, 1) := dk_89 (dk_at dksX0_made_3 3 rfl rfl)
theorem dX0_made_60 : decode cX0_made 60 = .ok (.invokespecial 21, 3) := dk_183 0 21 (dk_at dksX0_made_3 4 rfl rfl)
theorem dX0_made_63 : decode cX0_made 63 = .ok (.areturn, 1) := dk_176 (dk_at dksX0_made_3 7 rfl rfl)
theorem dX0_made_64 : decode cX0_made 64 = .ok (.new 22, 3) := dk_187 0 22 (dk_at dksX0_made_3 8 rfl rfl)
theorem dX0_made_67 : decode cX0_made 67 = .ok (.dup, 1) := dk_89 (dk_at dksX0_made_3 11 rfl rfl)
theorem dX0_made_68 : decode cX0_made 68 = .ok (.invokespecial 24, 3) := dk_183 0 24 (dk_at dksX0_made_3 12 rfl rfl)
theorem dX0_made_71 : decode cX0_made 71 = .ok (.areturn, 1) := dk_176 (dk_at dksX0_made_3 15 rfl rfl)
abbrev cX0_ways : ByteArray := prog_1_method_31_code
def yX0_ways : MethodName := ⟨RX0, "ways", "(I)I"⟩
def dkwX0_ways_1 : List UInt8 := [182, 0, 219, 167, 0, 5, 16, 153, 172]
abbrev dktX0_ways_1 : List UInt8 := dkwX0_ways_1 ++ []
def dkwX0_ways_0 : List UInt8 := [27, 133, 9, 20, 0, 217, 184, 0, 78, 154, 0, 6, 16, 154, 172, 42, 180, 0, 116, 158, 0, 11, 42, 27]
abbrev dktX0_ways_0 : List UInt8 := dkwX0_ways_0 ++ dktX0_ways_1
theorem dksX0_ways_0 : cX0_ways.data.toList.drop 0 = dktX0_ways_0 := by decide +kernel
theorem dksX0_ways_1 : cX0_ways.data.toList.drop 24 = dktX0_ways_1 := dk_seg dksX0_ways_0 24 rfl rfl
theorem dX0_ways_0 : decode cX0_ways 0 = .ok (.iload_n 1, 1) := dk_27 (dk_at dksX0_ways_0 0 rfl rfl)
theorem dX0_ways_1 : decode cX0_ways 1 = .ok (.i2l, 1) := dk_133 (dk_at dksX0_ways_0 1 rfl rfl)
theorem dX0_ways_2 : decode cX0_ways 2 = .ok (.lconst 0, 1) := dk_9 (dk_at dksX0_ways_0 2 rfl rfl)
theorem dX0_ways_3 : decode cX0_ways 3 = .ok (.ldc2_w 217, 3) := dk_20 0 217 (dk_at dksX0_ways_0 3 rfl rfl)
theorem dX0_ways_6 : decode cX0_ways 6 = .ok (.invokestatic 78, 3) := dk_184 0 78 (dk_at dksX0_ways_0 6 rfl rfl)
theorem dX0_ways_9 : decode cX0_ways 9 = .ok (.ifCond .ne 6, 3) := dk_154 0 6 (dk_at dksX0_ways_0 9 rfl rfl)
theorem dX0_ways_12 : decode cX0_ways 12 = .ok (.bipush (-102), 2) := dk_16 154 (dk_at dksX0_ways_0 12 rfl rfl)
theorem dX0_ways_14 : decode cX0_ways 14 = .ok (.ireturn, 1) := dk_172 (dk_at dksX0_ways_0 14 rfl rfl)
theorem dX0_ways_15 : decode cX0_ways 15 = .ok (.aload_n 0, 1) := dk_42 (dk_at dksX0_ways_0 15 rfl rfl)
theorem dX0_ways_16 : decode cX0_ways 16 = .ok (.getfield 116, 3) := dk_180 0 116 (dk_at dksX0_ways_0 16 rfl rfl)
theorem dX0_ways_19 : decode cX0_ways 19 = .ok (.ifCond .le 11, 3) := dk_158 0 11 (dk_at dksX0_ways_0 19 rfl rfl)
theorem dX0_ways_22 : decode cX0_ways 22 = .ok (.aload_n 0, 1) := dk_42 (dk_at dksX0_ways_0 22 rfl rfl)
theorem dX0_ways_23 : decode cX0_ways 23 = .ok (.iload_n 1, 1) := dk_27 (dk_at dksX0_ways_0 23 rfl rfl)
theorem dX0_ways_24 : decode cX0_ways 24 = .ok (.invokevirtual 219, 3) := dk_182 0 219 (dk_at dksX0_ways_1 0 rfl rfl)
theorem dX0_ways_27 : decode cX0_ways 27 = .ok (.goto 5, 3) := dk_167 0 5 (dk_at dksX0_ways_1 3 rfl rfl)
theorem dX0_ways_30 : decode cX0_ways 30 = .ok (.bipush (-103), 2) := dk_16 153 (dk_at dksX0_ways_1 6 rfl rfl)
theorem dX0_ways_32 : decode cX0_ways 32 = .ok (.ireturn, 1) := dk_172 (dk_at dksX0_ways_1 8 rfl rfl)
abbrev cX0_tellWays : ByteArray := prog_1_method_30_code
def yX0_tellWays : MethodName := ⟨RX0, "tellWays", "(I)I"⟩
def dkwX0_tellWays_1 : List UInt8 := [167, 0, 7, 42, 180, 0, 168, 172]
abbrev dktX0_tellWays_1 : List UInt8 := dkwX0_tellWays_1 ++ []
def dkwX0_tellWays_0 : List UInt8 := [42, 182, 0, 211, 27, 154, 0, 10, 42, 180, 0, 162, 167, 0, 19, 27, 4, 160, 0, 10, 42, 182, 0, 214]
abbrev dktX0_tellWays_0 : List UInt8 := dkwX0_tellWays_0 ++ dktX0_tellWays_1
theorem dksX0_tellWays_0 : cX0_tellWays.data.toList.drop 0 = dktX0_tellWays_0 := by decide +kernel
theorem dksX0_tellWays_1 : cX0_tellWays.data.toList.drop 24 = dktX0_tellWays_1 := dk_seg dksX0_tellWays_0 24 rfl rfl
theorem dX0_tellWays_0 : decode cX0_tellWays 0 = .ok (.aload_n 0, 1) := dk_42 (dk_at dksX0_tellWays_0 0 rfl rfl)
theorem dX0_tellWays_1 : decode cX0_tellWays 1 = .ok (.invokevirtual 211, 3) := dk_182 0 211 (dk_at dksX0_tellWays_0 1 rfl rfl)
theorem dX0_tellWays_4 : decode cX0_tellWays 4 = .ok (.iload_n 1, 1) := dk_27 (dk_at dksX0_tellWays_0 4 rfl rfl)
theorem dX0_tellWays_5 : decode cX0_tellWays 5 = .ok (.ifCond .ne 10, 3) := dk_154 0 10 (dk_at dksX0_tellWays_0 5 rfl rfl)
theorem dX0_tellWays_8 : decode cX0_tellWays 8 = .ok (.aload_n 0, 1) := dk_42 (dk_at dksX0_tellWays_0 8 rfl rfl)
theorem dX0_tellWays_9 : decode cX0_tellWays 9 = .ok (.getfield 162, 3) := dk_180 0 162 (dk_at dksX0_tellWays_0 9 rfl rfl)
theorem dX0_tellWays_12 : decode cX0_tellWays 12 = .ok (.goto 19, 3) := dk_167 0 19 (dk_at dksX0_tellWays_0 12 rfl rfl)
theorem dX0_tellWays_15 : decode cX0_tellWays 15 = .ok (.iload_n 1, 1) := dk_27 (dk_at dksX0_tellWays_0 15 rfl rfl)
theorem dX0_tellWays_16 : decode cX0_tellWays 16 = .ok (.iconst 1, 1) := dk_4 (dk_at dksX0_tellWays_0 16 rfl rfl)
theorem dX0_tellWays_17 : decode cX0_tellWays 17 = .ok (.if_icmp .ne 10, 3) := dk_160 0 10 (dk_at dksX0_tellWays_0 17 rfl rfl)
theorem dX0_tellWays_20 : decode cX0_tellWays 20 = .ok (.aload_n 0, 1) := dk_42 (dk_at dksX0_tellWays_0 20 rfl rfl)
theorem dX0_tellWays_21 : decode cX0_tellWays 21 = .ok (.invokevirtual 214, 3) := dk_182 0 214 (dk_at dksX0_tellWays_0 21 rfl rfl)
theorem dX0_tellWays_24 : decode cX0_tellWays 24 = .ok (.goto 7, 3) := dk_167 0 7 (dk_at dksX0_tellWays_1 0 rfl rfl)
theorem dX0_tellWays_27 : decode cX0_tellWays 27 = .ok (.aload_n 0, 1) := dk_42 (dk_at dksX0_tellWays_1 3 rfl rfl)
theorem dX0_tellWays_28 : decode cX0_tellWays 28 = .ok (.getfield 168, 3) := dk_180 0 168 (dk_at dksX0_tellWays_1 4 rfl rfl)
theorem dX0_tellWays_31 : decode cX0_tellWays 31 = .ok (.ireturn, 1) := dk_172 (dk_at dksX0_tellWays_1 7 rfl rfl)
abbrev cX0_freshen : ByteArray := prog_1_method_28_code
def yX0_freshen : MethodName := ⟨RX0, "freshen", "()V"⟩
def dkwX0_freshen_2 : List UInt8 := [182, 0, 196, 167, 0, 4, 2, 181, 0, 208, 42, 3, 181, 0, 138, 177]
abbrev dktX0_freshen_2 : List UInt8 := dkwX0_freshen_2 ++ []
def dkwX0_freshen_1 : List UInt8 := [18, 186, 161, 0, 7, 2, 167, 0, 4, 27, 181, 0, 202, 42, 42, 182, 0, 205, 154, 0, 10, 42]
abbrev dktX0_freshen_1 : List UInt8 := dkwX0_freshen_1 ++ dktX0_freshen_2
def dkwX0_freshen_0 : List UInt8 := [42, 180, 0, 138, 153, 0, 57, 42, 2, 182, 0, 199, 42, 4, 42, 180, 0, 116, 182, 0, 190, 60, 42, 27]
abbrev dktX0_freshen_0 : List UInt8 := dkwX0_freshen_0 ++ dktX0_freshen_1
theorem dksX0_freshen_0 : cX0_freshen.data.toList.drop 0 = dktX0_freshen_0 := by decide +kernel
theorem dksX0_freshen_1 : cX0_freshen.data.toList.drop 24 = dktX0_freshen_1 := dk_seg dksX0_freshen_0 24 rfl rfl
theorem dksX0_freshen_2 : cX0_freshen.data.toList.drop 46 = dktX0_freshen_2 := dk_seg dksX0_freshen_1 22 rfl rfl
theorem dX0_freshen_0 : decode cX0_freshen 0 = .ok (.aload_n 0, 1) := dk_42 (dk_at dksX0_freshen_0 0 rfl rfl)
theorem dX0_freshen_1 : decode cX0_freshen 1 = .ok (.getfield 138, 3) := dk_180 0 138 (dk_at dksX0_freshen_0 1 rfl rfl)
theorem dX0_freshen_4 : decode cX0_freshen 4 = .ok (.ifCond .eq 57, 3) := dk_153 0 57 (dk_at dksX0_freshen_0 4 rfl rfl)
theorem dX0_freshen_7 : decode cX0_freshen 7 = .ok (.aload_n 0, 1) := dk_42 (dk_at dksX0_freshen_0 7 rfl rfl)
theorem dX0_freshen_8 : decode cX0_freshen 8 = .ok (.iconst (-1), 1) := dk_2 (dk_at dksX0_freshen_0 8 rfl rfl)
theorem dX0_freshen_9 : decode cX0_freshen 9 = .ok (.invokevirtual 199, 3) := dk_182 0 199 (dk_at dksX0_freshen_0 9 rfl rfl)
theorem dX0_freshen_12 : decode cX0_freshen 12 = .ok (.aload_n 0, 1) := dk_42 (dk_at dksX0_freshen_0 12 rfl rfl)
theorem dX0_freshen_13 : decode cX0_freshen 13 = .ok (.iconst 1, 1) := dk_4 (dk_at dksX0_freshen_0 13 rfl rfl)
theorem dX0_freshen_14 : decode cX0_freshen 14 = .ok (.aload_n 0, 1) := dk_42 (dk_at dksX0_freshen_0 14 rfl rfl)
theorem dX0_freshen_15 : decode cX0_freshen 15 = .ok (.getfield 116, 3) := dk_180 0 116 (dk_at dksX0_freshen_0 15 rfl rfl)
theorem dX0_freshen_18 : decode cX0_freshen 18 = .ok (.invokevirtual 190, 3) := dk_182 0 190 (dk_at dksX0_freshen_0 18 rfl rfl)
theorem dX0_freshen_21 : decode cX0_freshen 21 = .ok (.istore_n 1, 1) := dk_60 (dk_at dksX0_freshen_0 21 rfl rfl)
theorem dX0_freshen_22 : decode cX0_freshen 22 = .ok (.aload_n 0, 1) := dk_42 (dk_at dksX0_freshen_0 22 rfl rfl)
theorem dX0_freshen_23 : decode cX0_freshen 23 = .ok (.iload_n 1, 1) := dk_27 (dk_at dksX0_freshen_0 23 rfl rfl)
theorem dX0_freshen_24 : decode cX0_freshen 24 = .ok (.ldc 186, 2) := dk_18 186 (dk_at dksX0_freshen_1 0 rfl rfl)
theorem dX0_freshen_26 : decode cX0_freshen 26 = .ok (.if_icmp .lt 7, 3) := dk_161 0 7 (dk_at dksX0_freshen_1 2 rfl rfl)
theorem dX0_freshen_29 : decode cX0_freshen 29 = .ok (.iconst (-1), 1) := dk_2 (dk_at dksX0_freshen_1 5 rfl rfl)
theorem dX0_freshen_30 : decode cX0_freshen 30 = .ok (.goto 4, 3) := dk_167 0 4 (dk_at dksX0_freshen_1 6 rfl rfl)
theorem dX0_freshen_33 : decode cX0_freshen 33 = .ok (.iload_n 1, 1) := dk_27 (dk_at dksX0_freshen_1 9 rfl rfl)
theorem dX0_freshen_34 : decode cX0_freshen 34 = .ok (.putfield 202, 3) := dk_181 0 202 (dk_at dksX0_freshen_1 10 rfl rfl)
theorem dX0_freshen_37 : decode cX0_freshen 37 = .ok (.aload_n 0, 1) := dk_42 (dk_at dksX0_freshen_1 13 rfl rfl)
theorem dX0_freshen_38 : decode cX0_freshen 38 = .ok (.aload_n 0, 1) := dk_42 (dk_at dksX0_freshen_1 14 rfl rfl)
theorem dX0_freshen_39 : decode cX0_freshen 39 = .ok (.invokevirtual 205, 3) := dk_182 0 205 (dk_at dksX0_freshen_1 15 rfl rfl)
theorem dX0_freshen_42 : decode cX0_freshen 42 = .ok (.ifCond .ne 10, 3) := dk_154 0 10 (dk_at dksX0_freshen_1 18 rfl rfl)
theorem dX0_freshen_45 : decode cX0_freshen 45 = .ok (.aload_n 0, 1) := dk_42 (dk_at dksX0_freshen_1 21 rfl rfl)
theorem dX0_freshen_46 : decode cX0_freshen 46 = .ok (.invokevirtual 196, 3) := dk_182 0 196 (dk_at dksX0_freshen_2 0 rfl rfl)
theorem dX0_freshen_49 : decode cX0_freshen 49 = .ok (.goto 4, 3) := dk_167 0 4 (dk_at dksX0_freshen_2 3 rfl rfl)
theorem dX0_freshen_52 : decode cX0_freshen 52 = .ok (.iconst (-1), 1) := dk_2 (dk_at dksX0_freshen_2 6 rfl rfl)
theorem dX0_freshen_53 : decode cX0_freshen 53 = .ok (.putfield 208, 3) := dk_181 0 208 (dk_at dksX0_freshen_2 7 rfl rfl)
theorem dX0_freshen_56 : decode cX0_freshen 56 = .ok (.aload_n 0, 1) := dk_42 (dk_at dksX0_freshen_2 10 rfl rfl)
theorem dX0_freshen_57 : decode cX0_freshen 57 = .ok (.iconst 0, 1) := dk_3 (dk_at dksX0_freshen_2 11 rfl rfl)
theorem dX0_freshen_58 : decode cX0_freshen 58 = .ok (.putfield 138, 3) := dk_181 0 138 (dk_at dksX0_freshen_2 12 rfl rfl)
theorem dX0_freshen_61 : decode cX0_freshen 61 = .ok (.return_, 1) := dk_177 (dk_at dksX0_freshen_2 15 rfl rfl)
abbrev cX0_layWays : ByteArray := prog_1_method_24_code
def yX0_layWays : MethodName := ⟨RX0, "layWays", "(I)V"⟩
def dkwX0_layWays_1 : List UInt8 := [42, 3, 181, 0, 162, 42, 3, 181, 0, 168, 42, 27, 181, 0, 165, 42, 4, 182, 0, 176, 177]
abbrev dktX0_layWays_1 : List UInt8 := dkwX0_layWays_1 ++ []
def dkwX0_layWays_0 : List UInt8 := [3, 61, 28, 42, 180, 0, 45, 190, 162, 0, 16, 42, 180, 0, 45, 28, 3, 79, 132, 2, 1, 167, 255, 237]
abbrev dktX0_layWays_0 : List UInt8 := dkwX0_layWays_0 ++ dktX0_layWays_1
theorem dksX0_layWays_0 : cX0_layWays.data.toList.drop 0 = dktX0_layWays_0 := by decide +kernel
theorem dksX0_layWays_1 : cX0_layWays.data.toList.drop 24 = dktX0_layWays_1 := dk_seg dksX0_layWays_0 24 rfl rfl
theorem dX0_layWays_0 : decode cX0_layWays 0 = .ok (.iconst 0, 1) := dk_3 (dk_at dksX0_layWays_0 0 rfl rfl)
theorem dX0_layWays_1 : decode cX0_layWays 1 = .ok (.istore_n 2, 1) := dk_61 (dk_at dksX0_layWays_0 1 rfl rfl)
theorem dX0_layWays_2 : decode cX0_layWays 2 = .ok (.iload_n 2, 1) := dk_28 (dk_at dksX0_layWays_0 2 rfl rfl)
theorem dX0_layWays_3 : decode cX0_layWays 3 = .ok (.aload_n 0, 1) := dk_42 (dk_at dksX0_layWays_0 3 rfl rfl)
theorem dX0_layWays_4 : decode cX0_layWays 4 = .ok (.getfield 45, 3) := dk_180 0 45 (dk_at dksX0_layWays_0 4 rfl rfl)
theorem dX0_layWays_7 : decode cX0_layWays 7 = .ok (.arraylength, 1) := dk_190 (dk_at dksX0_layWays_0 7 rfl rfl)
theorem dX0_layWays_8 : decode cX0_layWays 8 = .ok (.if_icmp .ge 16, 3) := dk_162 0 16 (dk_at dksX0_layWays_0 8 rfl rfl)
theorem dX0_layWays_11 : decode cX0_layWays 11 = .ok (.aload_n 0, 1) := dk_42 (dk_at dksX0_layWays_0 11 rfl rfl)
theorem dX0_layWays_12 : decode cX0_layWays 12 = .ok (.getfield 45, 3) := dk_180 0 45 (dk_at dksX0_layWays_0 12 rfl rfl)
theorem dX0_layWays_15 : decode cX0_layWays 15 = .ok (.iload_n 2, 1) := dk_28 (dk_at dksX0_layWays_0 15 rfl rfl)
theorem dX0_layWays_16 : decode cX0_layWays 16 = .ok (.iconst 0, 1) := dk_3 (dk_at dksX0_layWays_0 16 rfl rfl)
theorem dX0_layWays_17 : decode cX0_layWays 17 = .ok (.iastore, 1) := dk_79 (dk_at dksX0_layWays_0 17 rfl rfl)
theorem dX0_layWays_18 : decode cX0_layWays 18 = .ok (.iinc 2 1, 3) := dk_132 2 1 (dk_at dksX0_layWays_0 18 rfl rfl)
theorem dX0_layWays_21 : decode cX0_layWays 21 = .ok (.goto (-19), 3) := dk_167 255 237 (dk_at dksX0_layWays_0 21 rfl rfl)
theorem dX0_layWays_24 : decode cX0_layWays 24 = .ok (.aload_n 0, 1) := dk_42 (dk_at dksX0_layWays_1 0 rfl rfl)
theorem dX0_layWays_25 : decode cX0_layWays 25 = .ok (.iconst 0, 1) := dk_3 (dk_at dksX0_layWays_1 1 rfl rfl)
theorem dX0_layWays_26 : decode cX0_layWays 26 = .ok (.putfield 162, 3) := dk_181 0 162 (dk_at dksX0_layWays_1 2 rfl rfl)
theorem dX0_layWays_29 : decode cX0_layWays 29 = .ok (.aload_n 0, 1) := dk_42 (dk_at dksX0_layWays_1 5 rfl rfl)
theorem dX0_layWays_30 : decode cX0_layWays 30 = .ok (.iconst 0, 1) := dk_3 (dk_at dksX0_layWays_1 6 rfl rfl)
theorem dX0_layWays_31 : decode cX0_layWays 31 = .ok (.putfield 168, 3) := dk_181 0 168 (dk_at dksX0_layWays_1 7 rfl rfl)
theorem dX0_layWays_34 : decode cX0_layWays 34 = .ok (.aload_n 0, 1) := dk_42 (dk_at dksX0_layWays_1 10 rfl rfl)
theorem dX0_layWays_35 : decode cX0_layWays 35 = .ok (.iload_n 1, 1) := dk_27 (dk_at dksX0_layWays_1 11 rfl rfl)
theorem dX0_layWays_36 : decode cX0_layWays 36 = .ok (.putfield 165, 3) := dk_181 0 165 (dk_at dksX0_layWays_1 12 rfl rfl)
theorem dX0_layWays_39 : decode cX0_layWays 39 = .ok (.aload_n 0, 1) := dk_42 (dk_at dksX0_layWays_1 15 rfl rfl)
theorem dX0_layWays_40 : decode cX0_layWays 40 = .ok (.iconst 1, 1) := dk_4 (dk_at dksX0_layWays_1 16 rfl rfl)
theorem dX0_layWays_41 : decode cX0_layWays 41 = .ok (.invokevirtual 176, 3) := dk_182 0 176 (dk_at dksX0_layWays_1 17 rfl rfl)
theorem dX0_layWays_44 : decode cX0_layWays 44 = .ok (.return_, 1) := dk_177 (dk_at dksX0_layWays_1 20 rfl rfl)
abbrev cX0_goThrough : ByteArray := prog_1_method_23_code
def yX0_goThrough : MethodName := ⟨RX0, "goThrough", "(I)V"⟩
def dkwX0_goThrough_3 : List UInt8 := [132, 2, 1, 167, 255, 233, 177]
abbrev dktX0_goThrough_3 : List UInt8 := dkwX0_goThrough_3 ++ []
def dkwX0_goThrough_2 : List UInt8 := [3, 61, 28, 42, 180, 0, 113, 162, 0, 21, 42, 180, 0, 42, 27, 28, 79, 42, 27, 182, 0, 183]
abbrev dktX0_goThrough_2 : List UInt8 := dkwX0_goThrough_2 ++ dktX0_goThrough_3
def dkwX0_goThrough_1 : List UInt8 := [159, 0, 24, 42, 180, 0, 42, 27, 42, 180, 0, 32, 27, 50, 180, 0, 126, 79, 42, 27, 182, 0, 183, 177]
abbrev dktX0_goThrough_1 : List UInt8 := dkwX0_goThrough_1 ++ dktX0_goThrough_2
def dkwX0_goThrough_0 : List UInt8 := [27, 42, 180, 0, 116, 164, 0, 8, 42, 182, 0, 180, 177, 42, 180, 0, 32, 27, 50, 180, 0, 126, 2]
abbrev dktX0_goThrough_0 : List UInt8 := dkwX0_goThrough_0 ++ dktX0_goThrough_1
theorem dksX0_goThrough_0 : cX0_goThrough.data.toList.drop 0 = dktX0_goThrough_0 := by decide +kernel
theorem dksX0_goThrough_1 : cX0_goThrough.data.toList.drop 23 = dktX0_goThrough_1 := dk_seg dksX0_goThrough_0 23 rfl rfl
theorem dksX0_goThrough_2 : cX0_goThrough.data.toList.drop 47 = dktX0_goThrough_2 := dk_seg dksX0_goThrough_1 24 rfl rfl
theorem dksX0_goThrough_3 : cX0_goThrough.data.toList.drop 69 = dktX0_goThrough_3 := dk_seg dksX0_goThrough_2 22 rfl rfl
theorem dX0_goThrough_0 : decode cX0_goThrough 0 = .ok (.iload_n 1, 1) := dk_27 (dk_at dksX0_goThrough_0 0 rfl rfl)
theorem dX0_goThrough_1 : decode cX0_goThrough 1 = .ok (.aload_n 0, 1) := dk_42 (dk_at dksX0_goThrough_0 1 rfl rfl)
theorem dX0_goThrough_2 : decode cX0_goThrough 2 = .ok (.getfield 116, 3) := dk_180 0 116 (dk_at dksX0_goThrough_0 2 rfl rfl)
theorem dX0_goThrough_5 : decode cX0_goThrough 5 = .ok (.if_icmp .le 8, 3) := dk_164 0 8 (dk_at dksX0_goThrough_0 5 rfl rfl)
theorem dX0_goThrough_8 : decode cX0_goThrough 8 = .ok (.aload_n 0, 1) := dk_42 (dk_at dksX0_goThrough_0 8 rfl rfl)
theorem dX0_goThrough_9 : decode cX0_goThrough 9 = .ok (.invokevirtual 180, 3) := dk_182 0 180 (dk_at dksX0_goThrough_0 9 rfl rfl)
theorem dX0_goThrough_12 : decode cX0_goThrough 12 = .ok (.return_, 1) := dk_177 (dk_at dksX0_goThrough_0 12 rfl rfl)
theorem dX0_goThrough_13 : decode cX0_goThrough 13 = .ok (.aload_n 0, 1) := dk_42 (dk_at dksX0_goThrough_0 13 rfl rfl)
theorem dX0_goThrough_14 : decode cX0_goThrough 14 = .ok (.getfield 32, 3) := dk_180 0 32 (dk_at dksX0_goThrough_0 14 rfl rfl)
theorem dX0_goThrough_17 : decode cX0_goThrough 17 = .ok (.iload_n 1, 1) := dk_27 (dk_at dksX0_goThrough_0 17 rfl rfl)
theorem dX0_goThrough_18 : decode cX0_goThrough 18 = .ok (.aaload, 1) := dk_50 (dk_at dksX0_goThrough_0 18 rfl rfl)
theorem dX0_goThrough_19 : decode cX0_goThrough 19 = .ok (.getfield 126, 3) := dk_180 0 126 (dk_at dksX0_goThrough_0 19 rfl rfl)
theorem dX0_goThrough_22 : decode cX0_goThrough 22 = .ok (.iconst (-1), 1) := dk_2 (dk_at dksX0_goThrough_0 22 rfl rfl)
theorem dX0_goThrough_23 : decode cX0_goThrough 23 = .ok (.if_icmp .eq 24, 3) := dk_159 0 24 (dk_at dksX0_goThrough_1 0 rfl rfl)
theorem dX0_goThrough_26 : decode cX0_goThrough 26 = .ok (.aload_n 0, 1) := dk_42 (dk_at dksX0_goThrough_1 3 rfl rfl)
theorem dX0_goThrough_27 : decode cX0_goThrough 27 = .ok (.getfield 42, 3) := dk_180 0 42 (dk_at dksX0_goThrough_1 4 rfl rfl)
theorem dX0_goThrough_30 : decode cX0_goThrough 30 = .ok (.iload_n 1, 1) := dk_27 (dk_at dksX0_goThrough_1 7 rfl rfl)
theorem dX0_goThrough_31 : decode cX0_goThrough 31 = .ok (.aload_n 0, 1) := dk_42 (dk_at dksX0_goThrough_1 8 rfl rfl)
theorem dX0_goThrough_32 : decode cX0_goThrough 32 = .ok (.getfield 32, 3) := dk_180 0 32 (dk_at dksX0_goThrough_1 9 rfl rfl)
theorem dX0_goThrough_35 : decode cX0_goThrough 35 = .ok (.iload_n 1, 1) := dk_27 (dk_at dksX0_goThrough_1 12 rfl rfl)
theorem dX0_goThrough_36 : decode cX0_goThrough 36 = .ok (.aaload, 1) := dk_50 (dk_at dksX0_goThrough_1 13 rfl rfl)
theorem dX0_goThrough_37 : decode cX0_goThrough 37 = .ok (.getfield 126, 3) := dk_180 0 126 (dk_at dksX0_goThrough_1 14 rfl rfl)
theorem dX0_goThrough_40 : decode cX0_goThrough 40 = .ok (.iastore, 1) := dk_79 (dk_at dksX0_goThrough_1 17 rfl rfl)
theorem dX0_goThrough_41 : decode cX0_goThrough 41 = .ok (.aload_n 0, 1) := dk_42 (dk_at dksX0_goThrough_1 18 rfl rfl)
theorem dX0_goThrough_42 : decode cX0_goThrough 42 = .ok (.iload_n 1, 1) := dk_27 (dk_at dksX0_goThrough_1 19 rfl rfl)
theorem dX0_goThrough_43 : decode cX0_goThrough 43 = .ok (.invokevirtual 183, 3) := dk_182 0 183 (dk_at dksX0_goThrough_1 20 rfl rfl)
theorem dX0_goThrough_46 : decode cX0_goThrough 46 = .ok (.return_, 1) := dk_177 (dk_at dksX0_goThrough_1 23 rfl rfl)
theorem dX0_goThrough_47 : decode cX0_goThrough 47 = .ok (.iconst 0, 1) := dk_3 (dk_at dksX0_goThrough_2 0 rfl rfl)
theorem dX0_goThrough_48 : decode cX0_goThrough 48 = .ok (.istore_n 2, 1) := dk_61 (dk_at dksX0_goThrough_2 1 rfl rfl)
theorem dX0_goThrough_49 : decode cX0_goThrough 49 = .ok (.iload_n 2, 1) := dk_28 (dk_at dksX0_goThrough_2 2 rfl rfl)
theorem dX0_goThrough_50 : decode cX0_goThrough 50 = .ok (.aload_n 0, 1) := dk_42 (dk_at dksX0_goThrough_2 3 rfl rfl)
theorem dX0_goThrough_51 : decode cX0_goThrough 51 = .ok (.getfield 113, 3) := dk_180 0 113 (dk_at dksX0_goThrough_2 4 rfl rfl)
theorem dX0_goThrough_54 : decode cX0_goThrough 54 = .ok (.if_icmp .ge 21, 3) := dk_162 0 21 (dk_at dksX0_goThrough_2 7 rfl rfl)
theorem dX0_goThrough_57 : decode cX0_goThrough 57 = .ok (.aload_n 0, 1) := dk_42 (dk_at dksX0_goThrough_2 10 rfl rfl)
theorem dX0_goThrough_58 : decode cX0_goThrough 58 = .ok (.getfield 42, 3) := dk_180 0 42 (dk_at dksX0_goThrough_2 11 rfl rfl)
theorem dX0_goThrough_61 : decode cX0_goThrough 61 = .ok (.iload_n 1, 1) := dk_27 (dk_at dksX0_goThrough_2 14 rfl rfl)
theorem dX0_goThrough_62 : decode cX0_goThrough 62 = .ok (.iload_n 2, 1) := dk_28 (dk_at dksX0_goThrough_2 15 rfl rfl)
theorem dX0_goThrough_63 : decode cX0_goThrough 63 = .ok (.iastore, 1) := dk_79 (dk_at dksX0_goThrough_2 16 rfl rfl)
theorem dX0_goThrough_64 : decode cX0_goThrough 64 = .ok (.aload_n 0, 1) := dk_42 (dk_at dksX0_goThrough_2 17 rfl rfl)
theorem dX0_goThrough_65 : decode cX0_goThrough 65 = .ok (.iload_n 1, 1) := dk_27 (dk_at dksX0_goThrough_2 18 rfl rfl)
theorem dX0_goThrough_66 : decode cX0_goThrough 66 = .ok (.invokevirtual 183, 3) := dk_182 0 183 (dk_at dksX0_goThrough_2 19 rfl rfl)
theorem dX0_goThrough_69 : decode cX0_goThrough 69 = .ok (.iinc 2 1, 3) := dk_132 2 1 (dk_at dksX0_goThrough_3 0 rfl rfl)
theorem dX0_goThrough_72 : decode cX0_goThrough 72 = .ok (.goto (-23), 3) := dk_167 255 233 (dk_at dksX0_goThrough_3 3 rfl rfl)
theorem dX0_goThrough_75 : decode cX0_goThrough 75 = .ok (.return_, 1) := dk_177 (dk_at dksX0_goThrough_3 6 rfl rfl)
abbrev cX0_keepWay : ByteArray := prog_1_method_21_code
def yX0_keepWay : MethodName := ⟨RX0, "keepWay", "()V"⟩
def dkwX0_keepWay_3 : List UInt8 := [180, 0, 162, 4, 96, 181, 0, 162, 177]
abbrev dktX0_keepWay_3 : List UInt8 := dkwX0_keepWay_3 ++ []
def dkwX0_keepWay_2 : List UInt8 := [180, 0, 42, 27, 46, 167, 0, 9, 42, 180, 0, 48, 27, 46, 79, 132, 1, 1, 167, 255, 194, 42, 89]
abbrev dktX0_keepWay_2 : List UInt8 := dkwX0_keepWay_2 ++ dktX0_keepWay_3
def dkwX0_keepWay_1 : List UInt8 := [92, 46, 4, 96, 79, 42, 180, 0, 48, 27, 42, 180, 0, 162, 42, 180, 0, 165, 160, 0, 12, 42]
abbrev dktX0_keepWay_1 : List UInt8 := dkwX0_keepWay_1 ++ dktX0_keepWay_2
def dkwX0_keepWay_0 : List UInt8 := [4, 60, 27, 42, 180, 0, 116, 163, 0, 60, 42, 180, 0, 45, 27, 6, 104, 42, 180, 0, 42, 27, 46, 96]
abbrev dktX0_keepWay_0 : List UInt8 := dkwX0_keepWay_0 ++ dktX0_keepWay_1
theorem dksX0_keepWay_0 : cX0_keepWay.data.toList.drop 0 = dktX0_keepWay_0 := by decide +kernel
theorem dksX0_keepWay_1 : cX0_keepWay.data.toList.drop 24 = dktX0_keepWay_1 := dk_seg dksX0_keepWay_0 24 rfl rfl
theorem dksX0_keepWay_2 : cX0_keepWay.data.toList.drop 46 = dktX0_keepWay_2 := dk_seg dksX0_keepWay_1 22 rfl rfl
theorem dksX0_keepWay_3 : cX0_keepWay.data.toList.drop 69 = dktX0_keepWay_3 := dk_seg dksX0_keepWay_2 23 rfl rfl
theorem dX0_keepWay_0 : decode cX0_keepWay 0 = .ok (.iconst 1, 1) := dk_4 (dk_at dksX0_keepWay_0 0 rfl rfl)
theorem dX0_keepWay_1 : decode cX0_keepWay 1 = .ok (.istore_n 1, 1) := dk_60 (dk_at dksX0_keepWay_0 1 rfl rfl)
theorem dX0_keepWay_2 : decode cX0_keepWay 2 = .ok (.iload_n 1, 1) := dk_27 (dk_at dksX0_keepWay_0 2 rfl rfl)
theorem dX0_keepWay_3 : decode cX0_keepWay 3 = .ok (.aload_n 0, 1) := dk_42 (dk_at dksX0_keepWay_0 3 rfl rfl)
theorem dX0_keepWay_4 : decode cX0_keepWay 4 = .ok (.getfield 116, 3) := dk_180 0 116 (dk_at dksX0_keepWay_0 4 rfl rfl)
theorem dX0_keepWay_7 : decode cX0_keepWay 7 = .ok (.if_icmp .gt 60, 3) := dk_163 0 60 (dk_at dksX0_keepWay_0 7 rfl rfl)
theorem dX0_keepWay_10 : decode cX0_keepWay 10 = .ok (.aload_n 0, 1) := dk_42 (dk_at dksX0_keepWay_0 10 rfl rfl)
theorem dX0_keepWay_11 : decode cX0_keepWay 11 = .ok (.getfield 45, 3) := dk_180 0 45 (dk_at dksX0_keepWay_0 11 rfl rfl)
theorem dX0_keepWay_14 : decode cX0_keepWay 14 = .ok (.iload_n 1, 1) := dk_27 (dk_at dksX0_keepWay_0 14 rfl rfl)
theorem dX0_keepWay_15 : decode cX0_keepWay 15 = .ok (.iconst 3, 1) := dk_6 (dk_at dksX0_keepWay_0 15 rfl rfl)
theorem dX0_keepWay_16 : decode cX0_keepWay 16 = .ok (.imul, 1) := dk_104 (dk_at dksX0_keepWay_0 16 rfl rfl)
theorem dX0_keepWay_17 : decode cX0_keepWay 17 = .ok (.aload_n 0, 1) := dk_42 (dk_at dksX0_keepWay_0 17 rfl rfl)
theorem dX0_keepWay_18 : decode cX0_keepWay 18 = .ok (.getfield 42, 3) := dk_180 0 42 (dk_at dksX0_keepWay_0 18 rfl rfl)
theorem dX0_keepWay_21 : decode cX0_keepWay 21 = .ok (.iload_n 1, 1) := dk_27 (dk_at dksX0_keepWay_0 21 rfl rfl)
theorem dX0_keepWay_22 : decode cX0_keepWay 22 = .ok (.iaload, 1) := dk_46 (dk_at dksX0_keepWay_0 22 rfl rfl)
theorem dX0_keepWay_23 : decode cX0_keepWay 23 = .ok (.iadd, 1) := dk_96 (dk_at dksX0_keepWay_0 23 rfl rfl)
theorem dX0_keepWay_24 : decode cX0_keepWay 24 = .ok (.dup2, 1) := dk_92 (dk_at dksX0_keepWay_1 0 rfl rfl)
theorem dX0_keepWay_25 : decode cX0_keepWay 25 = .ok (.iaload, 1) := dk_46 (dk_at dksX0_keepWay_1 1 rfl rfl)
theorem dX0_keepWay_26 : decode cX0_keepWay 26 = .ok (.iconst 1, 1) := dk_4 (dk_at dksX0_keepWay_1 2 rfl rfl)
theorem dX0_keepWay_27 : decode cX0_keepWay 27 = .ok (.iadd, 1) := dk_96 (dk_at dksX0_keepWay_1 3 rfl rfl)
theorem dX0_keepWay_28 : decode cX0_keepWay 28 = .ok (.iastore, 1) := dk_79 (dk_at dksX0_keepWay_1 4 rfl rfl)
theorem dX0_keepWay_29 : decode cX0_keepWay 29 = .ok (.aload_n 0, 1) := dk_42 (dk_at dksX0_keepWay_1 5 rfl rfl)
theorem dX0_keepWay_30 : decode cX0_keepWay 30 = .ok (.getfield 48, 3) := dk_180 0 48 (dk_at dksX0_keepWay_1 6 rfl rfl)
theorem dX0_keepWay_33 : decode cX0_keepWay 33 = .ok (.iload_n 1, 1) := dk_27 (dk_at dksX0_keepWay_1 9 rfl rfl)
theorem dX0_keepWay_34 : decode cX0_keepWay 34 = .ok (.aload_n 0, 1) := dk_42 (dk_at dksX0_keepWay_1 10 rfl rfl)
theorem dX0_keepWay_35 : decode cX0_keepWay 35 = .ok (.getfield 162, 3) := dk_180 0 162 (dk_at dksX0_keepWay_1 11 rfl rfl)
theorem dX0_keepWay_38 : decode cX0_keepWay 38 = .ok (.aload_n 0, 1) := dk_42 (dk_at dksX0_keepWay_1 14 rfl rfl)
theorem dX0_keepWay_39 : decode cX0_keepWay 39 = .ok (.getfield 165, 3) := dk_180 0 165 (dk_at dksX0_keepWay_1 15 rfl rfl)
theorem dX0_keepWay_42 : decode cX0_keepWay 42 = .ok (.if_icmp .ne 12, 3) := dk_160 0 12 (dk_at dksX0_keepWay_1 18 rfl rfl)
theorem dX0_keepWay_45 : decode cX0_keepWay 45 = .ok (.aload_n 0, 1) := dk_42 (dk_at dksX0_keepWay_1 21 rfl rfl)
theorem dX0_keepWay_46 : decode cX0_keepWay 46 = .ok (.getfield 42, 3) := dk_180 0 42 (dk_at dksX0_keepWay_2 0 rfl rfl)
theorem dX0_keepWay_49 : decode cX0_keepWay 49 = .ok (.iload_n 1, 1) := dk_27 (dk_at dksX0_keepWay_2 3 rfl rfl)
theorem dX0_keepWay_50 : decode cX0_keepWay 50 = .ok (.iaload, 1) := dk_46 (dk_at dksX0_keepWay_2 4 rfl rfl)
theorem dX0_keepWay_51 : decode cX0_keepWay 51 = .ok (.goto 9, 3) := dk_167 0 9 (dk_at dksX0_keepWay_2 5 rfl rfl)
theorem dX0_keepWay_54 : decode cX0_keepWay 54 = .ok (.aload_n 0, 1) := dk_42 (dk_at dksX0_keepWay_2 8 rfl rfl)
theorem dX0_keepWay_55 : decode cX0_keepWay 55 = .ok (.getfield 48, 3) := dk_180 0 48 (dk_at dksX0_keepWay_2 9 rfl rfl)
theorem dX0_keepWay_58 : decode cX0_keepWay 58 = .ok (.iload_n 1, 1) := dk_27 (dk_at dksX0_keepWay_2 12 rfl rfl)
theorem dX0_keepWay_59 : decode cX0_keepWay 59 = .ok (.iaload, 1) := dk_46 (dk_at dksX0_keepWay_2 13 rfl rfl)
theorem dX0_keepWay_60 : decode cX0_keepWay 60 = .ok (.iastore, 1) := dk_79 (dk_at dksX0_keepWay_2 14 rfl rfl)
theorem dX0_keepWay_61 : decode cX0_keepWay 61 = .ok (.iinc 1 1, 3) := dk_132 1 1 (dk_at dksX0_keepWay_2 15 rfl rfl)
theorem dX0_keepWay_64 : decode cX0_keepWay 64 = .ok (.goto (-62), 3) := dk_167 255 194 (dk_at dksX0_keepWay_2 18 rfl rfl)
theorem dX0_keepWay_67 : decode cX0_keepWay 67 = .ok (.aload_n 0, 1) := dk_42 (dk_at dksX0_keepWay_2 21 rfl rfl)
theorem dX0_keepWay_68 : decode cX0_keepWay 68 = .ok (.dup, 1) := dk_89 (dk_at dksX0_keepWay_2 22 rfl rfl)
theorem dX0_keepWay_69 : decode cX0_keepWay 69 = .ok (.getfield 162, 3) := dk_180 0 162 (dk_at dksX0_keepWay_3 0 rfl rfl)
theorem dX0_keepWay_72 : decode cX0_keepWay 72 = .ok (.iconst 1, 1) := dk_4 (dk_at dksX0_keepWay_3 3 rfl rfl)
theorem dX0_keepWay_73 : decode cX0_keepWay 73 = .ok (.iadd, 1) := dk_96 (dk_at dksX0_keepWay_3 4 rfl rfl)
theorem dX0_keepWay_74 : decode cX0_keepWay 74 = .ok (.putfield 162, 3) := dk_181 0 162 (dk_at dksX0_keepWay_3 5 rfl rfl)
theorem dX0_keepWay_77 : decode cX0_keepWay 77 = .ok (.return_, 1) := dk_177 (dk_at dksX0_keepWay_3 8 rfl rfl)
abbrev cX0_goOn : ByteArray := prog_1_method_22_code
def yX0_goOn : MethodName := ⟨RX0, "goOn", "(I)V"⟩
def dkwX0_goOn_1 : List UInt8 := [182, 0, 176, 177]
abbrev dktX0_goOn_1 : List UInt8 := dkwX0_goOn_1 ++ []
def dkwX0_goOn_0 : List UInt8 := [42, 27, 182, 0, 153, 154, 0, 22, 42, 42, 180, 0, 168, 27, 184, 0, 171, 181, 0, 168, 42, 27, 4, 96]
abbrev dktX0_goOn_0 : List UInt8 := dkwX0_goOn_0 ++ dktX0_goOn_1
theorem dksX0_goOn_0 : cX0_goOn.data.toList.drop 0 = dktX0_goOn_0 := by decide +kernel
theorem dksX0_goOn_1 : cX0_goOn.data.toList.drop 24 = dktX0_goOn_1 := dk_seg dksX0_goOn_0 24 rfl rfl
theorem dX0_goOn_0 : decode cX0_goOn 0 = .ok (.aload_n 0, 1) := dk_42 (dk_at dksX0_goOn_0 0 rfl rfl)
theorem dX0_goOn_1 : decode cX0_goOn 1 = .ok (.iload_n 1, 1) := dk_27 (dk_at dksX0_goOn_0 1 rfl rfl)
theorem dX0_goOn_2 : decode cX0_goOn 2 = .ok (.invokevirtual 153, 3) := dk_182 0 153 (dk_at dksX0_goOn_0 2 rfl rfl)
theorem dX0_goOn_5 : decode cX0_goOn 5 = .ok (.ifCond .ne 22, 3) := dk_154 0 22 (dk_at dksX0_goOn_0 5 rfl rfl)
theorem dX0_goOn_8 : decode cX0_goOn 8 = .ok (.aload_n 0, 1) := dk_42 (dk_at dksX0_goOn_0 8 rfl rfl)
theorem dX0_goOn_9 : decode cX0_goOn 9 = .ok (.aload_n 0, 1) := dk_42 (dk_at dksX0_goOn_0 9 rfl rfl)
theorem dX0_goOn_10 : decode cX0_goOn 10 = .ok (.getfield 168, 3) := dk_180 0 168 (dk_at dksX0_goOn_0 10 rfl rfl)
theorem dX0_goOn_13 : decode cX0_goOn 13 = .ok (.iload_n 1, 1) := dk_27 (dk_at dksX0_goOn_0 13 rfl rfl)
theorem dX0_goOn_14 : decode cX0_goOn 14 = .ok (.invokestatic 171, 3) := dk_184 0 171 (dk_at dksX0_goOn_0 14 rfl rfl)
theorem dX0_goOn_17 : decode cX0_goOn 17 = .ok (.putfield 168, 3) := dk_181 0 168 (dk_at dksX0_goOn_0 17 rfl rfl)
theorem dX0_goOn_20 : decode cX0_goOn 20 = .ok (.aload_n 0, 1) := dk_42 (dk_at dksX0_goOn_0 20 rfl rfl)
theorem dX0_goOn_21 : decode cX0_goOn 21 = .ok (.iload_n 1, 1) := dk_27 (dk_at dksX0_goOn_0 21 rfl rfl)
theorem dX0_goOn_22 : decode cX0_goOn 22 = .ok (.iconst 1, 1) := dk_4 (dk_at dksX0_goOn_0 22 rfl rfl)
theorem dX0_goOn_23 : decode cX0_goOn 23 = .ok (.iadd, 1) := dk_96 (dk_at dksX0_goOn_0 23 rfl rfl)
theorem dX0_goOn_24 : decode cX0_goOn 24 = .ok (.invokevirtual 176, 3) := dk_182 0 176 (dk_at dksX0_goOn_1 0 rfl rfl)
theorem dX0_goOn_27 : decode cX0_goOn 27 = .ok (.return_, 1) := dk_177 (dk_at dksX0_goOn_1 3 rfl rfl)
abbrev cX0_badAt : ByteArray := prog_1_method_17_code
def yX0_badAt : MethodName := ⟨RX0, "badAt", "(I)I"⟩
def dkwX0_badAt_1 : List UInt8 := [167, 0, 4, 3, 96, 61, 132, 3, 1, 167, 255, 227, 28, 172]
abbrev dktX0_badAt_1 : List UInt8 := dkwX0_badAt_1 ++ []
def dkwX0_badAt_0 : List UInt8 := [3, 61, 4, 62, 5, 29, 104, 27, 163, 0, 28, 28, 42, 29, 27, 29, 100, 182, 0, 150, 153, 0, 7, 4]
abbrev dktX0_badAt_0 : List UInt8 := dkwX0_badAt_0 ++ dktX0_badAt_1
theorem dksX0_badAt_0 : cX0_badAt.data.toList.drop 0 = dktX0_badAt_0 := by decide +kernel
theorem dksX0_badAt_1 : cX0_badAt.data.toList.drop 24 = dktX0_badAt_1 := dk_seg dksX0_badAt_0 24 rfl rfl
theorem dX0_badAt_0 : decode cX0_badAt 0 = .ok (.iconst 0, 1) := dk_3 (dk_at dksX0_badAt_0 0 rfl rfl)
theorem dX0_badAt_1 : decode cX0_badAt 1 = .ok (.istore_n 2, 1) := dk_61 (dk_at dksX0_badAt_0 1 rfl rfl)
theorem dX0_badAt_2 : decode cX0_badAt 2 = .ok (.iconst 1, 1) := dk_4 (dk_at dksX0_badAt_0 2 rfl rfl)
theorem dX0_badAt_3 : decode cX0_badAt 3 = .ok (.istore_n 3, 1) := dk_62 (dk_at dksX0_badAt_0 3 rfl rfl)
theorem dX0_badAt_4 : decode cX0_badAt 4 = .ok (.iconst 2, 1) := dk_5 (dk_at dksX0_badAt_0 4 rfl rfl)
theorem dX0_badAt_5 : decode cX0_badAt 5 = .ok (.iload_n 3, 1) := dk_29 (dk_at dksX0_badAt_0 5 rfl rfl)
theorem dX0_badAt_6 : decode cX0_badAt 6 = .ok (.imul, 1) := dk_104 (dk_at dksX0_badAt_0 6 rfl rfl)
theorem dX0_badAt_7 : decode cX0_badAt 7 = .ok (.iload_n 1, 1) := dk_27 (dk_at dksX0_badAt_0 7 rfl rfl)
theorem dX0_badAt_8 : decode cX0_badAt 8 = .ok (.if_icmp .gt 28, 3) := dk_163 0 28 (dk_at dksX0_badAt_0 8 rfl rfl)
theorem dX0_badAt_11 : decode cX0_badAt 11 = .ok (.iload_n 2, 1) := dk_28 (dk_at dksX0_badAt_0 11 rfl rfl)
theorem dX0_badAt_12 : decode cX0_badAt 12 = .ok (.aload_n 0, 1) := dk_42 (dk_at dksX0_badAt_0 12 rfl rfl)
theorem dX0_badAt_13 : decode cX0_badAt 13 = .ok (.iload_n 3, 1) := dk_29 (dk_at dksX0_badAt_0 13 rfl rfl)
theorem dX0_badAt_14 : decode cX0_badAt 14 = .ok (.iload_n 1, 1) := dk_27 (dk_at dksX0_badAt_0 14 rfl rfl)
theorem dX0_badAt_15 : decode cX0_badAt 15 = .ok (.iload_n 3, 1) := dk_29 (dk_at dksX0_badAt_0 15 rfl rfl)
theorem dX0_badAt_16 : decode cX0_badAt 16 = .ok (.isub, 1) := dk_100 (dk_at dksX0_badAt_0 16 rfl rfl)
theorem dX0_badAt_17 : decode cX0_badAt 17 = .ok (.invokevirtual 150, 3) := dk_182 0 150 (dk_at dksX0_badAt_0 17 rfl rfl)
theorem dX0_badAt_20 : decode cX0_badAt 20 = .ok (.ifCond .eq 7, 3) := dk_153 0 7 (dk_at dksX0_badAt_0 20 rfl rfl)
theorem dX0_badAt_23 : decode cX0_badAt 23 = .ok (.iconst 1, 1) := dk_4 (dk_at dksX0_badAt_0 23 rfl rfl)
theorem dX0_badAt_24 : decode cX0_badAt 24 = .ok (.goto 4, 3) := dk_167 0 4 (dk_at dksX0_badAt_1 0 rfl rfl)
theorem dX0_badAt_27 : decode cX0_badAt 27 = .ok (.iconst 0, 1) := dk_3 (dk_at dksX0_badAt_1 3 rfl rfl)
theorem dX0_badAt_28 : decode cX0_badAt 28 = .ok (.iadd, 1) := dk_96 (dk_at dksX0_badAt_1 4 rfl rfl)
theorem dX0_badAt_29 : decode cX0_badAt 29 = .ok (.istore_n 2, 1) := dk_61 (dk_at dksX0_badAt_1 5 rfl rfl)
theorem dX0_badAt_30 : decode cX0_badAt 30 = .ok (.iinc 3 1, 3) := dk_132 3 1 (dk_at dksX0_badAt_1 6 rfl rfl)
theorem dX0_badAt_33 : decode cX0_badAt 33 = .ok (.goto (-29), 3) := dk_167 255 227 (dk_at dksX0_badAt_1 9 rfl rfl)
theorem dX0_badAt_36 : decode cX0_badAt 36 = .ok (.iload_n 2, 1) := dk_28 (dk_at dksX0_badAt_1 12 rfl rfl)
theorem dX0_badAt_37 : decode cX0_badAt 37 = .ok (.ireturn, 1) := dk_172 (dk_at dksX0_badAt_1 13 rfl rfl)
abbrev cX0_isBad : ByteArray := prog_1_method_16_code
def yX0_isBad : MethodName := ⟨RX0, "isBad", "(II)Z"⟩
def dkwX0_isBad_4 : List UInt8 := [182, 0, 146, 153, 0, 7, 4, 167, 0, 4, 3, 172]
abbrev dktX0_isBad_4 : List UInt8 := dkwX0_isBad_4 ++ []
def dkwX0_isBad_3 : List UInt8 := [28, 50, 182, 0, 142, 153, 0, 29, 42, 180, 0, 32, 29, 50, 27, 28, 160, 0, 7, 4, 167, 0, 4, 3]
abbrev dktX0_isBad_3 : List UInt8 := dkwX0_isBad_3 ++ dktX0_isBad_4
def dkwX0_isBad_2 : List UInt8 := [3, 54, 4, 21, 4, 153, 0, 53, 42, 180, 0, 32, 27, 50, 182, 0, 142, 153, 0, 41, 42, 180, 0, 32]
abbrev dktX0_isBad_2 : List UInt8 := dkwX0_isBad_2 ++ dktX0_isBad_3
def dkwX0_isBad_1 : List UInt8 := [28, 46, 160, 0, 22, 42, 180, 0, 42, 27, 46, 42, 180, 0, 42, 29, 46, 160, 0, 7, 4, 167, 0, 4]
abbrev dktX0_isBad_1 : List UInt8 := dkwX0_isBad_1 ++ dktX0_isBad_2
def dkwX0_isBad_0 : List UInt8 := [27, 28, 96, 62, 42, 180, 0, 42, 27, 46, 2, 159, 0, 37, 42, 180, 0, 42, 27, 46, 42, 180, 0, 42]
abbrev dktX0_isBad_0 : List UInt8 := dkwX0_isBad_0 ++ dktX0_isBad_1
theorem dksX0_isBad_0 : cX0_isBad.data.toList.drop 0 = dktX0_isBad_0 := by decide +kernel
theorem dksX0_isBad_1 : cX0_isBad.data.toList.drop 24 = dktX0_isBad_1 := dk_seg dksX0_isBad_0 24 rfl rfl
theorem dksX0_isBad_2 : cX0_isBad.data.toList.drop 48 = dktX0_isBad_2 := dk_seg dksX0_isBad_1 24 rfl rfl
theorem dksX0_isBad_3 : cX0_isBad.data.toList.drop 72 = dktX0_isBad_3 := dk_seg dksX0_isBad_2 24 rfl rfl
theorem dksX0_isBad_4 : cX0_isBad.data.toList.drop 96 = dktX0_isBad_4 := dk_seg dksX0_isBad_3 24 rfl rfl
theorem dX0_isBad_0 : decode cX0_isBad 0 = .ok (.iload_n 1, 1) := dk_27 (dk_at dksX0_isBad_0 0 rfl rfl)
theorem dX0_isBad_1 : decode cX0_isBad 1 = .ok (.iload_n 2, 1) := dk_28 (dk_at dksX0_isBad_0 1 rfl rfl)
theorem dX0_isBad_2 : decode cX0_isBad 2 = .ok (.iadd, 1) := dk_96 (dk_at dksX0_isBad_0 2 rfl rfl)
theorem dX0_isBad_3 : decode cX0_isBad 3 = .ok (.istore_n 3, 1) := dk_62 (dk_at dksX0_isBad_0 3 rfl rfl)
theorem dX0_isBad_4 : decode cX0_isBad 4 = .ok (.aload_n 0, 1) := dk_42 (dk_at dksX0_isBad_0 4 rfl rfl)
theorem dX0_isBad_5 : decode cX0_isBad 5 = .ok (.getfield 42, 3) := dk_180 0 42 (dk_at dksX0_isBad_0 5 rfl rfl)
theorem dX0_isBad_8 : decode cX0_isBad 8 = .ok (.iload_n 1, 1) := dk_27 (dk_at dksX0_isBad_0 8 rfl rfl)
theorem dX0_isBad_9 : decode cX0_isBad 9 = .ok (.iaload, 1) := dk_46 (dk_at dksX0_isBad_0 9 rfl rfl)
theorem dX0_isBad_10 : decode cX0_isBad 10 = .ok (.iconst (-1), 1) := dk_2 (dk_at dksX0_isBad_0 10 rfl rfl)
theorem dX0_isBad_11 : decode cX0_isBad 11 = .ok (.if_icmp .eq 37, 3) := dk_159 0 37 (dk_at dksX0_isBad_0 11 rfl rfl)
theorem dX0_isBad_14 : decode cX0_isBad 14 = .ok (.aload_n 0, 1) := dk_42 (dk_at dksX0_isBad_0 14 rfl rfl)
theorem dX0_isBad_15 : decode cX0_isBad 15 = .ok (.getfield 42, 3) := dk_180 0 42 (dk_at dksX0_isBad_0 15 rfl rfl)
theorem dX0_isBad_18 : decode cX0_isBad 18 = .ok (.iload_n 1, 1) := dk_27 (dk_at dksX0_isBad_0 18 rfl rfl)
theorem dX0_isBad_19 : decode cX0_isBad 19 = .ok (.iaload, 1) := dk_46 (dk_at dksX0_isBad_0 19 rfl rfl)
theorem dX0_isBad_20 : decode cX0_isBad 20 = .ok (.aload_n 0, 1) := dk_42 (dk_at dksX0_isBad_0 20 rfl rfl)
theorem dX0_isBad_21 : decode cX0_isBad 21 = .ok (.getfield 42, 3) := dk_180 0 42 (dk_at dksX0_isBad_0 21 rfl rfl)
theorem dX0_isBad_24 : decode cX0_isBad 24 = .ok (.iload_n 2, 1) := dk_28 (dk_at dksX0_isBad_1 0 rfl rfl)
theorem dX0_isBad_25 : decode cX0_isBad 25 = .ok (.iaload, 1) := dk_46 (dk_at dksX0_isBad_1 1 rfl rfl)
theorem dX0_isBad_26 : decode cX0_isBad 26 = .ok (.if_icmp .ne 22, 3) := dk_160 0 22 (dk_at dksX0_isBad_1 2 rfl rfl)
theorem dX0_isBad_29 : decode cX0_isBad 29 = .ok (.aload_n 0, 1) := dk_42 (dk_at dksX0_isBad_1 5 rfl rfl)
theorem dX0_isBad_30 : decode cX0_isBad 30 = .ok (.getfield 42, 3) := dk_180 0 42 (dk_at dksX0_isBad_1 6 rfl rfl)
theorem dX0_isBad_33 : decode cX0_isBad 33 = .ok (.iload_n 1, 1) := dk_27 (dk_at dksX0_isBad_1 9 rfl rfl)
theorem dX0_isBad_34 : decode cX0_isBad 34 = .ok (.iaload, 1) := dk_46 (dk_at dksX0_isBad_1 10 rfl rfl)
theorem dX0_isBad_35 : decode cX0_isBad 35 = .ok (.aload_n 0, 1) := dk_42 (dk_at dksX0_isBad_1 11 rfl rfl)
theorem dX0_isBad_36 : decode cX0_isBad 36 = .ok (.getfield 42, 3) := dk_180 0 42 (dk_at dksX0_isBad_1 12 rfl rfl)
theorem dX0_isBad_39 : decode cX0_isBad 39 = .ok (.iload_n 3, 1) := dk_29 (dk_at dksX0_isBad_1 15 rfl rfl)
theorem dX0_isBad_40 : decode cX0_isBad 40 = .ok (.iaload, 1) := dk_46 (dk_at dksX0_isBad_1 16 rfl rfl)
theorem dX0_isBad_41 : decode cX0_isBad 41 = .ok (.if_icmp .ne 7, 3) := dk_160 0 7 (dk_at dksX0_isBad_1 17 rfl rfl)
theorem dX0_isBad_44 : decode cX0_isBad 44 = .ok (.iconst 1, 1) := dk_4 (dk_at dksX0_isBad_1 20 rfl rfl)
theorem dX0_isBad_45 : decode cX0_isBad 45 = .ok (.goto 4, 3) := dk_167 0 4 (dk_at dksX0_isBad_1 21 rfl rfl)
theorem dX0_isBad_48 : decode cX0_isBad 48 = .ok (.iconst 0, 1) := dk_3 (dk_at dksX0_isBad_2 0 rfl rfl)
theorem dX0_isBad_49 : decode cX0_isBad 49 = .ok (.istore 4, 2) := dk_54 4 (dk_at dksX0_isBad_2 1 rfl rfl)
theorem dX0_isBad_51 : decode cX0_isBad 51 = .ok (.iload 4, 2) := dk_21 4 (dk_at dksX0_isBad_2 3 rfl rfl)
theorem dX0_isBad_53 : decode cX0_isBad 53 = .ok (.ifCond .eq 53, 3) := dk_153 0 53 (dk_at dksX0_isBad_2 5 rfl rfl)
theorem dX0_isBad_56 : decode cX0_isBad 56 = .ok (.aload_n 0, 1) := dk_42 (dk_at dksX0_isBad_2 8 rfl rfl)
theorem dX0_isBad_57 : decode cX0_isBad 57 = .ok (.getfield 32, 3) := dk_180 0 32 (dk_at dksX0_isBad_2 9 rfl rfl)
theorem dX0_isBad_60 : decode cX0_isBad 60 = .ok (.iload_n 1, 1) := dk_27 (dk_at dksX0_isBad_2 12 rfl rfl)
theorem dX0_isBad_61 : decode cX0_isBad 61 = .ok (.aaload, 1) := dk_50 (dk_at dksX0_isBad_2 13 rfl rfl)
theorem dX0_isBad_62 : decode cX0_isBad 62 = .ok (.invokevirtual 142, 3) := dk_182 0 142 (dk_at dksX0_isBad_2 14 rfl rfl)
theorem dX0_isBad_65 : decode cX0_isBad 65 = .ok (.ifCond .eq 41, 3) := dk_153 0 41 (dk_at dksX0_isBad_2 17 rfl rfl)
theorem dX0_isBad_68 : decode cX0_isBad 68 = .ok (.aload_n 0, 1) := dk_42 (dk_at dksX0_isBad_2 20 rfl rfl)
theorem dX0_isBad_69 : decode cX0_isBad 69 = .ok (.getfield 32, 3) := dk_180 0 32 (dk_at dksX0_isBad_2 21 rfl rfl)
theorem dX0_isBad_72 : decode cX0_isBad 72 = .ok (.iload_n 2, 1) := dk_28 (dk_at dksX0_isBad_3 0 rfl rfl)
theorem dX0_isBad_73 : decode cX0_isBad 73 = .ok (.aaload, 1) := dk_50 (dk_at dksX0_isBad_3 1 rfl rfl)
theorem dX0_isBad_74 : decode cX0_isBad 74 = .ok (.invokevirtual 142, 3) := dk_182 0 142 (dk_at dksX0_isBad_3 2 rfl rfl)
theorem dX0_isBad_77 : decode cX0_isBad 77 = .ok (.ifCond .eq 29, 3) := dk_153 0 29 (dk_at dksX0_isBad_3 5 rfl rfl)
theorem dX0_isBad_80 : decode cX0_isBad 80 = .ok (.aload_n 0, 1) := dk_42 (dk_at dksX0_isBad_3 8 rfl rfl)
theorem dX0_isBad_81 : decode cX0_isBad 81 = .ok (.getfield 32, 3) := dk_180 0 32 (dk_at dksX0_isBad_3 9 rfl rfl)
theorem dX0_isBad_84 : decode cX0_isBad 84 = .ok (.iload_n 3, 1) := dk_29 (dk_at dksX0_isBad_3 12 rfl rfl)
theorem dX0_isBad_85 : decode cX0_isBad 85 = .ok (.aaload, 1) := dk_50 (dk_at dksX0_isBad_3 13 rfl rfl)
theorem dX0_isBad_86 : decode cX0_isBad 86 = .ok (.iload_n 1, 1) := dk_27 (dk_at dksX0_isBad_3 14 rfl rfl)
theorem dX0_isBad_87 : decode cX0_isBad 87 = .ok (.iload_n 2, 1) := dk_28 (dk_at dksX0_isBad_3 15 rfl rfl)
theorem dX0_isBad_88 : decode cX0_isBad 88 = .ok (.if_icmp .ne 7, 3) := dk_160 0 7 (dk_at dksX0_isBad_3 16 rfl rfl)
theorem dX0_isBad_91 : decode cX0_isBad 91 = .ok (.iconst 1, 1) := dk_4 (dk_at dksX0_isBad_3 19 rfl rfl)
theorem dX0_isBad_92 : decode cX0_isBad 92 = .ok (.goto 4, 3) := dk_167 0 4 (dk_at dksX0_isBad_3 20 rfl rfl)
theorem dX0_isBad_95 : decode cX0_isBad 95 = .ok (.iconst 0, 1) := dk_3 (dk_at dksX0_isBad_3 23 rfl rfl)
theorem dX0_isBad_96 : decode cX0_isBad 96 = .ok (.invokevirtual 146, 3) := dk_182 0 146 (dk_at dksX0_isBad_4 0 rfl rfl)
theorem dX0_isBad_99 : decode cX0_isBad 99 = .ok (.ifCond .eq 7, 3) := dk_153 0 7 (dk_at dksX0_isBad_4 3 rfl rfl)
theorem dX0_isBad_102 : decode cX0_isBad 102 = .ok (.iconst 1, 1) := dk_4 (dk_at dksX0_isBad_4 6 rfl rfl)
theorem dX0_isBad_103 : decode cX0_isBad 103 = .ok (.goto 4, 3) := dk_167 0 4 (dk_at dksX0_isBad_4 7 rfl rfl)
theorem dX0_isBad_106 : decode cX0_isBad 106 = .ok (.iconst 0, 1) := dk_3 (dk_at dksX0_isBad_4 10 rfl rfl)
theorem dX0_isBad_107 : decode cX0_isBad 107 = .ok (.ireturn, 1) := dk_172 (dk_at dksX0_isBad_4 11 rfl rfl)
abbrev cX0_leastFrom : ByteArray := prog_1_method_25_code
def yX0_leastFrom : MethodName := ⟨RX0, "leastFrom", "(II)I"⟩
def dkwX0_leastFrom_4 : List UInt8 := [100, 184, 0, 187, 21, 5, 100, 182, 0, 190, 96, 184, 0, 187, 62, 132, 4, 1, 167, 255, 163, 29, 172]
abbrev dktX0_leastFrom_4 : List UInt8 := dkwX0_leastFrom_4 ++ []
def dkwX0_leastFrom_3 : List UInt8 := [21, 5, 28, 163, 0, 36, 42, 27, 182, 0, 153, 154, 0, 28, 29, 21, 5, 42, 27, 4, 96, 28, 29, 4]
abbrev dktX0_leastFrom_3 : List UInt8 := dkwX0_leastFrom_3 ++ dktX0_leastFrom_4
def dkwX0_leastFrom_2 : List UInt8 := [180, 0, 126, 21, 4, 160, 0, 7, 3, 167, 0, 4, 4, 54, 5, 42, 180, 0, 42, 27, 21, 4, 79]
abbrev dktX0_leastFrom_2 : List UInt8 := dkwX0_leastFrom_2 ++ dktX0_leastFrom_3
def dkwX0_leastFrom_1 : List UInt8 := [162, 0, 90, 42, 180, 0, 32, 27, 50, 180, 0, 126, 2, 159, 0, 17, 42, 180, 0, 32, 27, 50]
abbrev dktX0_leastFrom_1 : List UInt8 := dkwX0_leastFrom_1 ++ dktX0_leastFrom_2
def dkwX0_leastFrom_0 : List UInt8 := [27, 42, 180, 0, 116, 164, 0, 5, 3, 172, 18, 186, 62, 3, 54, 4, 21, 4, 42, 180, 0, 113]
abbrev dktX0_leastFrom_0 : List UInt8 := dkwX0_leastFrom_0 ++ dktX0_leastFrom_1
theorem dksX0_leastFrom_0 : cX0_leastFrom.data.toList.drop 0 = dktX0_leastFrom_0 := by decide +kernel
theorem dksX0_leastFrom_1 : cX0_leastFrom.data.toList.drop 22 = dktX0_leastFrom_1 := dk_seg dksX0_leastFrom_0 22 rfl rfl
theorem dksX0_leastFrom_2 : cX0_leastFrom.data.toList.drop 44 = dktX0_leastFrom_2 := dk_seg dksX0_leastFrom_1 22 rfl rfl
theorem dksX0_leastFrom_3 : cX0_leastFrom.data.toList.drop 67 = dktX0_leastFrom_3 := dk_seg dksX0_leastFrom_2 23 rfl rfl
theorem dksX0_leastFrom_4 : cX0_leastFrom.data.toList.drop 91 = dktX0_leastFrom_4 := dk_seg dksX0_leastFrom_3 24 rfl rfl
theorem dX0_leastFrom_0 : decode cX0_leastFrom 0 = .ok (.iload_n 1, 1) := dk_27 (dk_at dksX0_leastFrom_0 0 rfl rfl)
theorem dX0_leastFrom_1 : decode cX0_leastFrom 1 = .ok (.aload_n 0, 1) := dk_42 (dk_at dksX0_leastFrom_0 1 rfl rfl)
theorem dX0_leastFrom_2 : decode cX0_leastFrom 2 = .ok (.getfield 116, 3) := dk_180 0 116 (dk_at dksX0_leastFrom_0 2 rfl rfl)
theorem dX0_leastFrom_5 : decode cX0_leastFrom 5 = .ok (.if_icmp .le 5, 3) := dk_164 0 5 (dk_at dksX0_leastFrom_0 5 rfl rfl)
theorem dX0_leastFrom_8 : decode cX0_leastFrom 8 = .ok (.iconst 0, 1) := dk_3 (dk_at dksX0_leastFrom_0 8 rfl rfl)
theorem dX0_leastFrom_9 : decode cX0_leastFrom 9 = .ok (.ireturn, 1) := dk_172 (dk_at dksX0_leastFrom_0 9 rfl rfl)
theorem dX0_leastFrom_10 : decode cX0_leastFrom 10 = .ok (.ldc 186, 2) := dk_18 186 (dk_at dksX0_leastFrom_0 10 rfl rfl)
theorem dX0_leastFrom_12 : decode cX0_leastFrom 12 = .ok (.istore_n 3, 1) := dk_62 (dk_at dksX0_leastFrom_0 12 rfl rfl)
theorem dX0_leastFrom_13 : decode cX0_leastFrom 13 = .ok (.iconst 0, 1) := dk_3 (dk_at dksX0_leastFrom_0 13 rfl rfl)
theorem dX0_leastFrom_14 : decode cX0_leastFrom 14 = .ok (.istore 4, 2) := dk_54 4 (dk_at dksX0_leastFrom_0 14 rfl rfl)
theorem dX0_leastFrom_16 : decode cX0_leastFrom 16 = .ok (.iload 4, 2) := dk_21 4 (dk_at dksX0_leastFrom_0 16 rfl rfl)
theorem dX0_leastFrom_18 : decode cX0_leastFrom 18 = .ok (.aload_n 0, 1) := dk_42 (dk_at dksX0_leastFrom_0 18 rfl rfl)
theorem dX0_leastFrom_19 : decode cX0_leastFrom 19 = .ok (.getfield 113, 3) := dk_180 0 113 (dk_at dksX0_leastFrom_0 19 rfl rfl)
theorem dX0_leastFrom_22 : decode cX0_leastFrom 22 = .ok (.if_icmp .ge 90, 3) := dk_162 0 90 (dk_at dksX0_leastFrom_1 0 rfl rfl)
theorem dX0_leastFrom_25 : decode cX0_leastFrom 25 = .ok (.aload_n 0, 1) := dk_42 (dk_at dksX0_leastFrom_1 3 rfl rfl)
theorem dX0_leastFrom_26 : decode cX0_leastFrom 26 = .ok (.getfield 32, 3) := dk_180 0 32 (dk_at dksX0_leastFrom_1 4 rfl rfl)
theorem dX0_leastFrom_29 : decode cX0_leastFrom 29 = .ok (.iload_n 1, 1) := dk_27 (dk_at dksX0_leastFrom_1 7 rfl rfl)
theorem dX0_leastFrom_30 : decode cX0_leastFrom 30 = .ok (.aaload, 1) := dk_50 (dk_at dksX0_leastFrom_1 8 rfl rfl)
theorem dX0_leastFrom_31 : decode cX0_leastFrom 31 = .ok (.getfield 126, 3) := dk_180 0 126 (dk_at dksX0_leastFrom_1 9 rfl rfl)
theorem dX0_leastFrom_34 : decode cX0_leastFrom 34 = .ok (.iconst (-1), 1) := dk_2 (dk_at dksX0_leastFrom_1 12 rfl rfl)
theorem dX0_leastFrom_35 : decode cX0_leastFrom 35 = .ok (.if_icmp .eq 17, 3) := dk_159 0 17 (dk_at dksX0_leastFrom_1 13 rfl rfl)
theorem dX0_leastFrom_38 : decode cX0_leastFrom 38 = .ok (.aload_n 0, 1) := dk_42 (dk_at dksX0_leastFrom_1 16 rfl rfl)
theorem dX0_leastFrom_39 : decode cX0_leastFrom 39 = .ok (.getfield 32, 3) := dk_180 0 32 (dk_at dksX0_leastFrom_1 17 rfl rfl)
theorem dX0_leastFrom_42 : decode cX0_leastFrom 42 = .ok (.iload_n 1, 1) := dk_27 (dk_at dksX0_leastFrom_1 20 rfl rfl)
theorem dX0_leastFrom_43 : decode cX0_leastFrom 43 = .ok (.aaload, 1) := dk_50 (dk_at dksX0_leastFrom_1 21 rfl rfl)
theorem dX0_leastFrom_44 : decode cX0_leastFrom 44 = .ok (.getfield 126, 3) := dk_180 0 126 (dk_at dksX0_leastFrom_2 0 rfl rfl)
theorem dX0_leastFrom_47 : decode cX0_leastFrom 47 = .ok (.iload 4, 2) := dk_21 4 (dk_at dksX0_leastFrom_2 3 rfl rfl)
theorem dX0_leastFrom_49 : decode cX0_leastFrom 49 = .ok (.if_icmp .ne 7, 3) := dk_160 0 7 (dk_at dksX0_leastFrom_2 5 rfl rfl)
theorem dX0_leastFrom_52 : decode cX0_leastFrom 52 = .ok (.iconst 0, 1) := dk_3 (dk_at dksX0_leastFrom_2 8 rfl rfl)
theorem dX0_leastFrom_53 : decode cX0_leastFrom 53 = .ok (.goto 4, 3) := dk_167 0 4 (dk_at dksX0_leastFrom_2 9 rfl rfl)
theorem dX0_leastFrom_56 : decode cX0_leastFrom 56 = .ok (.iconst 1, 1) := dk_4 (dk_at dksX0_leastFrom_2 12 rfl rfl)
theorem dX0_leastFrom_57 : decode cX0_leastFrom 57 = .ok (.istore 5, 2) := dk_54 5 (dk_at dksX0_leastFrom_2 13 rfl rfl)
theorem dX0_leastFrom_59 : decode cX0_leastFrom 59 = .ok (.aload_n 0, 1) := dk_42 (dk_at dksX0_leastFrom_2 15 rfl rfl)
theorem dX0_leastFrom_60 : decode cX0_leastFrom 60 = .ok (.getfield 42, 3) := dk_180 0 42 (dk_at dksX0_leastFrom_2 16 rfl rfl)
theorem dX0_leastFrom_63 : decode cX0_leastFrom 63 = .ok (.iload_n 1, 1) := dk_27 (dk_at dksX0_leastFrom_2 19 rfl rfl)
theorem dX0_leastFrom_64 : decode cX0_leastFrom 64 = .ok (.iload 4, 2) := dk_21 4 (dk_at dksX0_leastFrom_2 20 rfl rfl)
theorem dX0_leastFrom_66 : decode cX0_leastFrom 66 = .ok (.iastore, 1) := dk_79 (dk_at dksX0_leastFrom_2 22 rfl rfl)
theorem dX0_leastFrom_67 : decode cX0_leastFrom 67 = .ok (.iload 5, 2) := dk_21 5 (dk_at dksX0_leastFrom_3 0 rfl rfl)
theorem dX0_leastFrom_69 : decode cX0_leastFrom 69 = .ok (.iload_n 2, 1) := dk_28 (dk_at dksX0_leastFrom_3 2 rfl rfl)
theorem dX0_leastFrom_70 : decode cX0_leastFrom 70 = .ok (.if_icmp .gt 36, 3) := dk_163 0 36 (dk_at dksX0_leastFrom_3 3 rfl rfl)
theorem dX0_leastFrom_73 : decode cX0_leastFrom 73 = .ok (.aload_n 0, 1) := dk_42 (dk_at dksX0_leastFrom_3 6 rfl rfl)
theorem dX0_leastFrom_74 : decode cX0_leastFrom 74 = .ok (.iload_n 1, 1) := dk_27 (dk_at dksX0_leastFrom_3 7 rfl rfl)
theorem dX0_leastFrom_75 : decode cX0_leastFrom 75 = .ok (.invokevirtual 153, 3) := dk_182 0 153 (dk_at dksX0_leastFrom_3 8 rfl rfl)
theorem dX0_leastFrom_78 : decode cX0_leastFrom 78 = .ok (.ifCond .ne 28, 3) := dk_154 0 28 (dk_at dksX0_leastFrom_3 11 rfl rfl)
theorem dX0_leastFrom_81 : decode cX0_leastFrom 81 = .ok (.iload_n 3, 1) := dk_29 (dk_at dksX0_leastFrom_3 14 rfl rfl)
theorem dX0_leastFrom_82 : decode cX0_leastFrom 82 = .ok (.iload 5, 2) := dk_21 5 (dk_at dksX0_leastFrom_3 15 rfl rfl)
theorem dX0_leastFrom_84 : decode cX0_leastFrom 84 = .ok (.aload_n 0, 1) := dk_42 (dk_at dksX0_leastFrom_3 17 rfl rfl)
theorem dX0_leastFrom_85 : decode cX0_leastFrom 85 = .ok (.iload_n 1, 1) := dk_27 (dk_at dksX0_leastFrom_3 18 rfl rfl)
theorem dX0_leastFrom_86 : decode cX0_leastFrom 86 = .ok (.iconst 1, 1) := dk_4 (dk_at dksX0_leastFrom_3 19 rfl rfl)
theorem dX0_leastFrom_87 : decode cX0_leastFrom 87 = .ok (.iadd, 1) := dk_96 (dk_at dksX0_leastFrom_3 20 rfl rfl)
theorem dX0_leastFrom_88 : decode cX0_leastFrom 88 = .ok (.iload_n 2, 1) := dk_28 (dk_at dksX0_leastFrom_3 21 rfl rfl)
theorem dX0_leastFrom_89 : decode cX0_leastFrom 89 = .ok (.iload_n 3, 1) := dk_29 (dk_at dksX0_leastFrom_3 22 rfl rfl)
theorem dX0_leastFrom_90 : decode cX0_leastFrom 90 = .ok (.iconst 1, 1) := dk_4 (dk_at dksX0_leastFrom_3 23 rfl rfl)
theorem dX0_leastFrom_91 : decode cX0_leastFrom 91 = .ok (.isub, 1) := dk_100 (dk_at dksX0_leastFrom_4 0 rfl rfl)
theorem dX0_leastFrom_92 : decode cX0_leastFrom 92 = .ok (.invokestatic 187, 3) := dk_184 0 187 (dk_at dksX0_leastFrom_4 1 rfl rfl)
theorem dX0_leastFrom_95 : decode cX0_leastFrom 95 = .ok (.iload 5, 2) := dk_21 5 (dk_at dksX0_leastFrom_4 4 rfl rfl)
theorem dX0_leastFrom_97 : decode cX0_leastFrom 97 = .ok (.isub, 1) := dk_100 (dk_at dksX0_leastFrom_4 6 rfl rfl)
theorem dX0_leastFrom_98 : decode cX0_leastFrom 98 = .ok (.invokevirtual 190, 3) := dk_182 0 190 (dk_at dksX0_leastFrom_4 7 rfl rfl)
theorem dX0_leastFrom_101 : decode cX0_leastFrom 101 = .ok (.iadd, 1) := dk_96 (dk_at dksX0_leastFrom_4 10 rfl rfl)
theorem dX0_leastFrom_102 : decode cX0_leastFrom 102 = .ok (.invokestatic 187, 3) := dk_184 0 187 (dk_at dksX0_leastFrom_4 11 rfl rfl)
theorem dX0_leastFrom_105 : decode cX0_leastFrom 105 = .ok (.istore_n 3, 1) := dk_62 (dk_at dksX0_leastFrom_4 14 rfl rfl)
theorem dX0_leastFrom_106 : decode cX0_leastFrom 106 = .ok (.iinc 4 1, 3) := dk_132 4 1 (dk_at dksX0_leastFrom_4 15 rfl rfl)
theorem dX0_leastFrom_109 : decode cX0_leastFrom 109 = .ok (.goto (-93), 3) := dk_167 255 163 (dk_at dksX0_leastFrom_4 18 rfl rfl)
theorem dX0_leastFrom_112 : decode cX0_leastFrom 112 = .ok (.iload_n 3, 1) := dk_29 (dk_at dksX0_leastFrom_4 21 rfl rfl)
theorem dX0_leastFrom_113 : decode cX0_leastFrom 113 = .ok (.ireturn, 1) := dk_172 (dk_at dksX0_leastFrom_4 22 rfl rfl)
abbrev cX0_badNow : ByteArray := prog_1_method_19_code
def yX0_badNow : MethodName := ⟨RX0, "badNow", "()I"⟩
def dkwX0_badNow_0 : List UInt8 := [42, 182, 0, 156, 42, 42, 180, 0, 116, 182, 0, 159, 172]
abbrev dktX0_badNow_0 : List UInt8 := dkwX0_badNow_0 ++ []
theorem dksX0_badNow_0 : cX0_badNow.data.toList.drop 0 = dktX0_badNow_0 := by decide +kernel
theorem dX0_badNow_0 : decode cX0_badNow 0 = .ok (.aload_n 0, 1) := dk_42 (dk_at dksX0_badNow_0 0 rfl rfl)
theorem dX0_badNow_1 : decode cX0_badNow 1 = .ok (.invokevirtual 156, 3) := dk_182 0 156 (dk_at dksX0_badNow_0 1 rfl rfl)
theorem dX0_badNow_4 : decode cX0_badNow 4 = .ok (.aload_n 0, 1) := dk_42 (dk_at dksX0_badNow_0 4 rfl rfl)
theorem dX0_badNow_5 : decode cX0_badNow 5 = .ok (.aload_n 0, 1) := dk_42 (dk_at dksX0_badNow_0 5 rfl rfl)
theorem dX0_badNow_6 : decode cX0_badNow 6 = .ok (.getfield 116, 3) := dk_180 0 116 (dk_at dksX0_badNow_0 6 rfl rfl)
theorem dX0_badNow_9 : decode cX0_badNow 9 = .ok (.invokevirtual 159, 3) := dk_182 0 159 (dk_at dksX0_badNow_0 9 rfl rfl)
theorem dX0_badNow_12 : decode cX0_badNow 12 = .ok (.ireturn, 1) := dk_172 (dk_at dksX0_badNow_0 12 rfl rfl)
abbrev cX0_layRow : ByteArray := prog_1_method_15_code
def yX0_layRow : MethodName := ⟨RX0, "layRow", "()V"⟩
def dkwX0_layRow_1 : List UInt8 := [79, 132, 1, 1, 167, 255, 230, 177]
abbrev dktX0_layRow_1 : List UInt8 := dkwX0_layRow_1 ++ []
def dkwX0_layRow_0 : List UInt8 := [4, 60, 27, 42, 180, 0, 116, 163, 0, 24, 42, 180, 0, 42, 27, 42, 180, 0, 32, 27, 50, 180, 0, 126]
abbrev dktX0_layRow_0 : List UInt8 := dkwX0_layRow_0 ++ dktX0_layRow_1
theorem dksX0_layRow_0 : cX0_layRow.data.toList.drop 0 = dktX0_layRow_0 := by decide +kernel
theorem dksX0_layRow_1 : cX0_layRow.data.toList.drop 24 = dktX0_layRow_1 := dk_seg dksX0_layRow_0 24 rfl rfl
theorem dX0_layRow_0 : decode cX0_layRow 0 = .ok (.iconst 1, 1) := dk_4 (dk_at dksX0_layRow_0 0 rfl rfl)
theorem dX0_layRow_1 : decode cX0_layRow 1 = .ok (.istore_n 1, 1) := dk_60 (dk_at dksX0_layRow_0 1 rfl rfl)
theorem dX0_layRow_2 : decode cX0_layRow 2 = .ok (.iload_n 1, 1) := dk_27 (dk_at dksX0_layRow_0 2 rfl rfl)
theorem dX0_layRow_3 : decode cX0_layRow 3 = .ok (.aload_n 0, 1) := dk_42 (dk_at dksX0_layRow_0 3 rfl rfl)
theorem dX0_layRow_4 : decode cX0_layRow 4 = .ok (.getfield 116, 3) := dk_180 0 116 (dk_at dksX0_layRow_0 4 rfl rfl)
theorem dX0_layRow_7 : decode cX0_layRow 7 = .ok (.if_icmp .gt 24, 3) := dk_163 0 24 (dk_at dksX0_layRow_0 7 rfl rfl)
theorem dX0_layRow_10 : decode cX0_layRow 10 = .ok (.aload_n 0, 1) := dk_42 (dk_at dksX0_layRow_0 10 rfl rfl)
theorem dX0_layRow_11 : decode cX0_layRow 11 = .ok (.getfield 42, 3) := dk_180 0 42 (dk_at dksX0_layRow_0 11 rfl rfl)
theorem dX0_layRow_14 : decode cX0_layRow 14 = .ok (.iload_n 1, 1) := dk_27 (dk_at dksX0_layRow_0 14 rfl rfl)
theorem dX0_layRow_15 : decode cX0_layRow 15 = .ok (.aload_n 0, 1) := dk_42 (dk_at dksX0_layRow_0 15 rfl rfl)
theorem dX0_layRow_16 : decode cX0_layRow 16 = .ok (.getfield 32, 3) := dk_180 0 32 (dk_at dksX0_layRow_0 16 rfl rfl)
theorem dX0_layRow_19 : decode cX0_layRow 19 = .ok (.iload_n 1, 1) := dk_27 (dk_at dksX0_layRow_0 19 rfl rfl)
theorem dX0_layRow_20 : decode cX0_layRow 20 = .ok (.aaload, 1) := dk_50 (dk_at dksX0_layRow_0 20 rfl rfl)
theorem dX0_layRow_21 : decode cX0_layRow 21 = .ok (.getfield 126, 3) := dk_180 0 126 (dk_at dksX0_layRow_0 21 rfl rfl)
theorem dX0_layRow_24 : decode cX0_layRow 24 = .ok (.iastore, 1) := dk_79 (dk_at dksX0_layRow_1 0 rfl rfl)
theorem dX0_layRow_25 : decode cX0_layRow 25 = .ok (.iinc 1 1, 3) := dk_132 1 1 (dk_at dksX0_layRow_1 1 rfl rfl)
theorem dX0_layRow_28 : decode cX0_layRow 28 = .ok (.goto (-26), 3) := dk_167 255 230 (dk_at dksX0_layRow_1 4 rfl rfl)
theorem dX0_layRow_31 : decode cX0_layRow 31 = .ok (.return_, 1) := dk_177 (dk_at dksX0_layRow_1 7 rfl rfl)
abbrev cX0_badUpTo : ByteArray := prog_1_method_18_code
def yX0_badUpTo : MethodName := ⟨RX0, "badUpTo", "(I)I"⟩
def dkwX0_badUpTo_1 : List UInt8 := [172]
abbrev dktX0_badUpTo_1 : List UInt8 := dkwX0_badUpTo_1 ++ []
def dkwX0_badUpTo_0 : List UInt8 := [3, 61, 4, 62, 29, 27, 163, 0, 17, 28, 42, 29, 182, 0, 153, 96, 61, 132, 3, 1, 167, 255, 240, 28]
abbrev dktX0_badUpTo_0 : List UInt8 := dkwX0_badUpTo_0 ++ dktX0_badUpTo_1
theorem dksX0_badUpTo_0 : cX0_badUpTo.data.toList.drop 0 = dktX0_badUpTo_0 := by decide +kernel
theorem dksX0_badUpTo_1 : cX0_badUpTo.data.toList.drop 24 = dktX0_badUpTo_1 := dk_seg dksX0_badUpTo_0 24 rfl rfl
theorem dX0_badUpTo_0 : decode cX0_badUpTo 0 = .ok (.iconst 0, 1) := dk_3 (dk_at dksX0_badUpTo_0 0 rfl rfl)
theorem dX0_badUpTo_1 : decode cX0_badUpTo 1 = .ok (.istore_n 2, 1) := dk_61 (dk_at dksX0_badUpTo_0 1 rfl rfl)
theorem dX0_badUpTo_2 : decode cX0_badUpTo 2 = .ok (.iconst 1, 1) := dk_4 (dk_at dksX0_badUpTo_0 2 rfl rfl)
theorem dX0_badUpTo_3 : decode cX0_badUpTo 3 = .ok (.istore_n 3, 1) := dk_62 (dk_at dksX0_badUpTo_0 3 rfl rfl)
theorem dX0_badUpTo_4 : decode cX0_badUpTo 4 = .ok (.iload_n 3, 1) := dk_29 (dk_at dksX0_badUpTo_0 4 rfl rfl)
theorem dX0_badUpTo_5 : decode cX0_badUpTo 5 = .ok (.iload_n 1, 1) := dk_27 (dk_at dksX0_badUpTo_0 5 rfl rfl)
theorem dX0_badUpTo_6 : decode cX0_badUpTo 6 = .ok (.if_icmp .gt 17, 3) := dk_163 0 17 (dk_at dksX0_badUpTo_0 6 rfl rfl)
theorem dX0_badUpTo_9 : decode cX0_badUpTo 9 = .ok (.iload_n 2, 1) := dk_28 (dk_at dksX0_badUpTo_0 9 rfl rfl)
theorem dX0_badUpTo_10 : decode cX0_badUpTo 10 = .ok (.aload_n 0, 1) := dk_42 (dk_at dksX0_badUpTo_0 10 rfl rfl)
theorem dX0_badUpTo_11 : decode cX0_badUpTo 11 = .ok (.iload_n 3, 1) := dk_29 (dk_at dksX0_badUpTo_0 11 rfl rfl)
theorem dX0_badUpTo_12 : decode cX0_badUpTo 12 = .ok (.invokevirtual 153, 3) := dk_182 0 153 (dk_at dksX0_badUpTo_0 12 rfl rfl)
theorem dX0_badUpTo_15 : decode cX0_badUpTo 15 = .ok (.iadd, 1) := dk_96 (dk_at dksX0_badUpTo_0 15 rfl rfl)
theorem dX0_badUpTo_16 : decode cX0_badUpTo 16 = .ok (.istore_n 2, 1) := dk_61 (dk_at dksX0_badUpTo_0 16 rfl rfl)
theorem dX0_badUpTo_17 : decode cX0_badUpTo 17 = .ok (.iinc 3 1, 3) := dk_132 3 1 (dk_at dksX0_badUpTo_0 17 rfl rfl)
theorem dX0_badUpTo_20 : decode cX0_badUpTo 20 = .ok (.goto (-16), 3) := dk_167 255 240 (dk_at dksX0_badUpTo_0 20 rfl rfl)
theorem dX0_badUpTo_23 : decode cX0_badUpTo 23 = .ok (.iload_n 2, 1) := dk_28 (dk_at dksX0_badUpTo_0 23 rfl rfl)
theorem dX0_badUpTo_24 : decode cX0_badUpTo 24 = .ok (.ireturn, 1) := dk_172 (dk_at dksX0_badUpTo_1 0 rfl rfl)
abbrev cX0_winning : ByteArray := prog_1_method_27_code
def yX0_winning : MethodName := ⟨RX0, "winning", "()I"⟩
def dkwX0_winning_3 : List UInt8 := [42, 180, 0, 116, 163, 0, 10, 42, 180, 0, 42, 27, 2, 79, 28, 172]
abbrev dktX0_winning_3 : List UInt8 := dkwX0_winning_3 ++ []
def dkwX0_winning_2 : List UInt8 := [154, 0, 15, 42, 182, 0, 196, 2, 160, 0, 7, 29, 167, 0, 4, 2, 61, 132, 3, 1, 167, 255, 200, 27]
abbrev dktX0_winning_2 : List UInt8 := dkwX0_winning_2 ++ dktX0_winning_3
def dkwX0_winning_1 : List UInt8 := [163, 0, 46, 28, 2, 160, 0, 41, 42, 180, 0, 42, 27, 29, 79, 42, 42, 180, 0, 116, 182, 0, 159]
abbrev dktX0_winning_1 : List UInt8 := dkwX0_winning_1 ++ dktX0_winning_2
def dkwX0_winning_0 : List UInt8 := [42, 182, 0, 193, 60, 2, 61, 3, 62, 29, 42, 180, 0, 113, 162, 0, 54, 27, 42, 180, 0, 116]
abbrev dktX0_winning_0 : List UInt8 := dkwX0_winning_0 ++ dktX0_winning_1
theorem dksX0_winning_0 : cX0_winning.data.toList.drop 0 = dktX0_winning_0 := by decide +kernel
theorem dksX0_winning_1 : cX0_winning.data.toList.drop 22 = dktX0_winning_1 := dk_seg dksX0_winning_0 22 rfl rfl
theorem dksX0_winning_2 : cX0_winning.data.toList.drop 45 = dktX0_winning_2 := dk_seg dksX0_winning_1 23 rfl rfl
theorem dksX0_winning_3 : cX0_winning.data.toList.drop 69 = dktX0_winning_3 := dk_seg dksX0_winning_2 24 rfl rfl
theorem dX0_winning_0 : decode cX0_winning 0 = .ok (.aload_n 0, 1) := dk_42 (dk_at dksX0_winning_0 0 rfl rfl)
theorem dX0_winning_1 : decode cX0_winning 1 = .ok (.invokevirtual 193, 3) := dk_182 0 193 (dk_at dksX0_winning_0 1 rfl rfl)
theorem dX0_winning_4 : decode cX0_winning 4 = .ok (.istore_n 1, 1) := dk_60 (dk_at dksX0_winning_0 4 rfl rfl)
theorem dX0_winning_5 : decode cX0_winning 5 = .ok (.iconst (-1), 1) := dk_2 (dk_at dksX0_winning_0 5 rfl rfl)
theorem dX0_winning_6 : decode cX0_winning 6 = .ok (.istore_n 2, 1) := dk_61 (dk_at dksX0_winning_0 6 rfl rfl)
theorem dX0_winning_7 : decode cX0_winning 7 = .ok (.iconst 0, 1) := dk_3 (dk_at dksX0_winning_0 7 rfl rfl)
theorem dX0_winning_8 : decode cX0_winning 8 = .ok (.istore_n 3, 1) := dk_62 (dk_at dksX0_winning_0 8 rfl rfl)
theorem dX0_winning_9 : decode cX0_winning 9 = .ok (.iload_n 3, 1) := dk_29 (dk_at dksX0_winning_0 9 rfl rfl)
theorem dX0_winning_10 : decode cX0_winning 10 = .ok (.aload_n 0, 1) := dk_42 (dk_at dksX0_winning_0 10 rfl rfl)
theorem dX0_winning_11 : decode cX0_winning 11 = .ok (.getfield 113, 3) := dk_180 0 113 (dk_at dksX0_winning_0 11 rfl rfl)
theorem dX0_winning_14 : decode cX0_winning 14 = .ok (.if_icmp .ge 54, 3) := dk_162 0 54 (dk_at dksX0_winning_0 14 rfl rfl)
theorem dX0_winning_17 : decode cX0_winning 17 = .ok (.iload_n 1, 1) := dk_27 (dk_at dksX0_winning_0 17 rfl rfl)
theorem dX0_winning_18 : decode cX0_winning 18 = .ok (.aload_n 0, 1) := dk_42 (dk_at dksX0_winning_0 18 rfl rfl)
theorem dX0_winning_19 : decode cX0_winning 19 = .ok (.getfield 116, 3) := dk_180 0 116 (dk_at dksX0_winning_0 19 rfl rfl)
theorem dX0_winning_22 : decode cX0_winning 22 = .ok (.if_icmp .gt 46, 3) := dk_163 0 46 (dk_at dksX0_winning_1 0 rfl rfl)
theorem dX0_winning_25 : decode cX0_winning 25 = .ok (.iload_n 2, 1) := dk_28 (dk_at dksX0_winning_1 3 rfl rfl)
theorem dX0_winning_26 : decode cX0_winning 26 = .ok (.iconst (-1), 1) := dk_2 (dk_at dksX0_winning_1 4 rfl rfl)
theorem dX0_winning_27 : decode cX0_winning 27 = .ok (.if_icmp .ne 41, 3) := dk_160 0 41 (dk_at dksX0_winning_1 5 rfl rfl)
theorem dX0_winning_30 : decode cX0_winning 30 = .ok (.aload_n 0, 1) := dk_42 (dk_at dksX0_winning_1 8 rfl rfl)
theorem dX0_winning_31 : decode cX0_winning 31 = .ok (.getfield 42, 3) := dk_180 0 42 (dk_at dksX0_winning_1 9 rfl rfl)
theorem dX0_winning_34 : decode cX0_winning 34 = .ok (.iload_n 1, 1) := dk_27 (dk_at dksX0_winning_1 12 rfl rfl)
theorem dX0_winning_35 : decode cX0_winning 35 = .ok (.iload_n 3, 1) := dk_29 (dk_at dksX0_winning_1 13 rfl rfl)
theorem dX0_winning_36 : decode cX0_winning 36 = .ok (.iastore, 1) := dk_79 (dk_at dksX0_winning_1 14 rfl rfl)
theorem dX0_winning_37 : decode cX0_winning 37 = .ok (.aload_n 0, 1) := dk_42 (dk_at dksX0_winning_1 15 rfl rfl)
theorem dX0_winning_38 : decode cX0_winning 38 = .ok (.aload_n 0, 1) := dk_42 (dk_at dksX0_winning_1 16 rfl rfl)
theorem dX0_winning_39 : decode cX0_winning 39 = .ok (.getfield 116, 3) := dk_180 0 116 (dk_at dksX0_winning_1 17 rfl rfl)
theorem dX0_winning_42 : decode cX0_winning 42 = .ok (.invokevirtual 159, 3) := dk_182 0 159 (dk_at dksX0_winning_1 20 rfl rfl)
theorem dX0_winning_45 : decode cX0_winning 45 = .ok (.ifCond .ne 15, 3) := dk_154 0 15 (dk_at dksX0_winning_2 0 rfl rfl)
theorem dX0_winning_48 : decode cX0_winning 48 = .ok (.aload_n 0, 1) := dk_42 (dk_at dksX0_winning_2 3 rfl rfl)
theorem dX0_winning_49 : decode cX0_winning 49 = .ok (.invokevirtual 196, 3) := dk_182 0 196 (dk_at dksX0_winning_2 4 rfl rfl)
theorem dX0_winning_52 : decode cX0_winning 52 = .ok (.iconst (-1), 1) := dk_2 (dk_at dksX0_winning_2 7 rfl rfl)
theorem dX0_winning_53 : decode cX0_winning 53 = .ok (.if_icmp .ne 7, 3) := dk_160 0 7 (dk_at dksX0_winning_2 8 rfl rfl)
theorem dX0_winning_56 : decode cX0_winning 56 = .ok (.iload_n 3, 1) := dk_29 (dk_at dksX0_winning_2 11 rfl rfl)
theorem dX0_winning_57 : decode cX0_winning 57 = .ok (.goto 4, 3) := dk_167 0 4 (dk_at dksX0_winning_2 12 rfl rfl)
theorem dX0_winning_60 : decode cX0_winning 60 = .ok (.iconst (-1), 1) := dk_2 (dk_at dksX0_winning_2 15 rfl rfl)
theorem dX0_winning_61 : decode cX0_winning 61 = .ok (.istore_n 2, 1) := dk_61 (dk_at dksX0_winning_2 16 rfl rfl)
theorem dX0_winning_62 : decode cX0_winning 62 = .ok (.iinc 3 1, 3) := dk_132 3 1 (dk_at dksX0_winning_2 17 rfl rfl)
theorem dX0_winning_65 : decode cX0_winning 65 = .ok (.goto (-56), 3) := dk_167 255 200 (dk_at dksX0_winning_2 20 rfl rfl)
theorem dX0_winning_68 : decode cX0_winning 68 = .ok (.iload_n 1, 1) := dk_27 (dk_at dksX0_winning_2 23 rfl rfl)
theorem dX0_winning_69 : decode cX0_winning 69 = .ok (.aload_n 0, 1) := dk_42 (dk_at dksX0_winning_3 0 rfl rfl)
theorem dX0_winning_70 : decode cX0_winning 70 = .ok (.getfield 116, 3) := dk_180 0 116 (dk_at dksX0_winning_3 1 rfl rfl)
theorem dX0_winning_73 : decode cX0_winning 73 = .ok (.if_icmp .gt 10, 3) := dk_163 0 10 (dk_at dksX0_winning_3 4 rfl rfl)
theorem dX0_winning_76 : decode cX0_winning 76 = .ok (.aload_n 0, 1) := dk_42 (dk_at dksX0_winning_3 7 rfl rfl)
theorem dX0_winning_77 : decode cX0_winning 77 = .ok (.getfield 42, 3) := dk_180 0 42 (dk_at dksX0_winning_3 8 rfl rfl)
theorem dX0_winning_80 : decode cX0_winning 80 = .ok (.iload_n 1, 1) := dk_27 (dk_at dksX0_winning_3 11 rfl rfl)
theorem dX0_winning_81 : decode cX0_winning 81 = .ok (.iconst (-1), 1) := dk_2 (dk_at dksX0_winning_3 12 rfl rfl)
theorem dX0_winning_82 : decode cX0_winning 82 = .ok (.iastore, 1) := dk_79 (dk_at dksX0_winning_3 13 rfl rfl)
theorem dX0_winning_83 : decode cX0_winning 83 = .ok (.iload_n 2, 1) := dk_28 (dk_at dksX0_winning_3 14 rfl rfl)
theorem dX0_winning_84 : decode cX0_winning 84 = .ok (.ireturn, 1) := dk_172 (dk_at dksX0_winning_3 15 rfl rfl)
abbrev cX0_barest : ByteArray := prog_1_method_26_code
def yX0_barest : MethodName := ⟨RX0, "barest", "()I"⟩
def dkwX0_barest_1 : List UInt8 := [167, 255, 235, 27, 172]
abbrev dktX0_barest_1 : List UInt8 := dkwX0_barest_1 ++ []
def dkwX0_barest_0 : List UInt8 := [4, 60, 27, 42, 180, 0, 116, 163, 0, 19, 42, 180, 0, 42, 27, 46, 2, 159, 0, 9, 132, 1, 1]
abbrev dktX0_barest_0 : List UInt8 := dkwX0_barest_0 ++ dktX0_barest_1
theorem dksX0_barest_0 : cX0_barest.data.toList.drop 0 = dktX0_barest_0 := by decide +kernel
theorem dksX0_barest_1 : cX0_barest.data.toList.drop 23 = dktX0_barest_1 := dk_seg dksX0_barest_0 23 rfl rfl
theorem dX0_barest_0 : decode cX0_barest 0 = .ok (.iconst 1, 1) := dk_4 (dk_at dksX0_barest_0 0 rfl rfl)
theorem dX0_barest_1 : decode cX0_barest 1 = .ok (.istore_n 1, 1) := dk_60 (dk_at dksX0_barest_0 1 rfl rfl)
theorem dX0_barest_2 : decode cX0_barest 2 = .ok (.iload_n 1, 1) := dk_27 (dk_at dksX0_barest_0 2 rfl rfl)
theorem dX0_barest_3 : decode cX0_barest 3 = .ok (.aload_n 0, 1) := dk_42 (dk_at dksX0_barest_0 3 rfl rfl)
theorem dX0_barest_4 : decode cX0_barest 4 = .ok (.getfield 116, 3) := dk_180 0 116 (dk_at dksX0_barest_0 4 rfl rfl)
theorem dX0_barest_7 : decode cX0_barest 7 = .ok (.if_icmp .gt 19, 3) := dk_163 0 19 (dk_at dksX0_barest_0 7 rfl rfl)
theorem dX0_barest_10 : decode cX0_barest 10 = .ok (.aload_n 0, 1) := dk_42 (dk_at dksX0_barest_0 10 rfl rfl)
theorem dX0_barest_11 : decode cX0_barest 11 = .ok (.getfield 42, 3) := dk_180 0 42 (dk_at dksX0_barest_0 11 rfl rfl)
theorem dX0_barest_14 : decode cX0_barest 14 = .ok (.iload_n 1, 1) := dk_27 (dk_at dksX0_barest_0 14 rfl rfl)
theorem dX0_barest_15 : decode cX0_barest 15 = .ok (.iaload, 1) := dk_46 (dk_at dksX0_barest_0 15 rfl rfl)
theorem dX0_barest_16 : decode cX0_barest 16 = .ok (.iconst (-1), 1) := dk_2 (dk_at dksX0_barest_0 16 rfl rfl)
theorem dX0_barest_17 : decode cX0_barest 17 = .ok (.if_icmp .eq 9, 3) := dk_159 0 9 (dk_at dksX0_barest_0 17 rfl rfl)
theorem dX0_barest_20 : decode cX0_barest 20 = .ok (.iinc 1 1, 3) := dk_132 1 1 (dk_at dksX0_barest_0 20 rfl rfl)
theorem dX0_barest_23 : decode cX0_barest 23 = .ok (.goto (-21), 3) := dk_167 255 235 (dk_at dksX0_barest_1 0 rfl rfl)
theorem dX0_barest_26 : decode cX0_barest 26 = .ok (.iload_n 1, 1) := dk_27 (dk_at dksX0_barest_1 3 rfl rfl)
theorem dX0_barest_27 : decode cX0_barest 27 = .ok (.ireturn, 1) := dk_172 (dk_at dksX0_barest_1 4 rfl rfl)
abbrev cX0_nextOf : ByteArray := prog_1_method_29_code
def yX0_nextOf : MethodName := ⟨RX0, "nextOf", "()I"⟩
def dkwX0_nextOf_3 : List UInt8 := [28, 21, 5, 184, 0, 171, 61, 132, 4, 1, 167, 255, 193, 132, 3, 1, 167, 255, 176, 27, 172]
abbrev dktX0_nextOf_3 : List UInt8 := dkwX0_nextOf_3 ++ []
def dkwX0_nextOf_2 : List UInt8 := [21, 4, 96, 46, 54, 5, 21, 5, 28, 164, 0, 13, 16, 10, 29, 104, 21, 4, 96, 167, 0, 4, 27, 60]
abbrev dktX0_nextOf_2 : List UInt8 := dkwX0_nextOf_2 ++ dktX0_nextOf_3
def dkwX0_nextOf_1 : List UInt8 := [162, 0, 60, 42, 180, 0, 32, 29, 50, 180, 0, 126, 2, 160, 0, 47, 42, 180, 0, 45, 29, 6, 104]
abbrev dktX0_nextOf_1 : List UInt8 := dkwX0_nextOf_1 ++ dktX0_nextOf_2
def dkwX0_nextOf_0 : List UInt8 := [2, 60, 3, 61, 4, 62, 29, 42, 180, 0, 116, 163, 0, 78, 3, 54, 4, 21, 4, 42, 180, 0, 113]
abbrev dktX0_nextOf_0 : List UInt8 := dkwX0_nextOf_0 ++ dktX0_nextOf_1
theorem dksX0_nextOf_0 : cX0_nextOf.data.toList.drop 0 = dktX0_nextOf_0 := by decide +kernel
theorem dksX0_nextOf_1 : cX0_nextOf.data.toList.drop 23 = dktX0_nextOf_1 := dk_seg dksX0_nextOf_0 23 rfl rfl
theorem dksX0_nextOf_2 : cX0_nextOf.data.toList.drop 46 = dktX0_nextOf_2 := dk_seg dksX0_nextOf_1 23 rfl rfl
theorem dksX0_nextOf_3 : cX0_nextOf.data.toList.drop 70 = dktX0_nextOf_3 := dk_seg dksX0_nextOf_2 24 rfl rfl
theorem dX0_nextOf_0 : decode cX0_nextOf 0 = .ok (.iconst (-1), 1) := dk_2 (dk_at dksX0_nextOf_0 0 rfl rfl)
theorem dX0_nextOf_1 : decode cX0_nextOf 1 = .ok (.istore_n 1, 1) := dk_60 (dk_at dksX0_nextOf_0 1 rfl rfl)
theorem dX0_nextOf_2 : decode cX0_nextOf 2 = .ok (.iconst 0, 1) := dk_3 (dk_at dksX0_nextOf_0 2 rfl rfl)
theorem dX0_nextOf_3 : decode cX0_nextOf 3 = .ok (.istore_n 2, 1) := dk_61 (dk_at dksX0_nextOf_0 3 rfl rfl)
theorem dX0_nextOf_4 : decode cX0_nextOf 4 = .ok (.iconst 1, 1) := dk_4 (dk_at dksX0_nextOf_0 4 rfl rfl)
theorem dX0_nextOf_5 : decode cX0_nextOf 5 = .ok (.istore_n 3, 1) := dk_62 (dk_at dksX0_nextOf_0 5 rfl rfl)
theorem dX0_nextOf_6 : decode cX0_nextOf 6 = .ok (.iload_n 3, 1) := dk_29 (dk_at dksX0_nextOf_0 6 rfl rfl)
theorem dX0_nextOf_7 : decode cX0_nextOf 7 = .ok (.aload_n 0, 1) := dk_42 (dk_at dksX0_nextOf_0 7 rfl rfl)
theorem dX0_nextOf_8 : decode cX0_nextOf 8 = .ok (.getfield 116, 3) := dk_180 0 116 (dk_at dksX0_nextOf_0 8 rfl rfl)
theorem dX0_nextOf_11 : decode cX0_nextOf 11 = .ok (.if_icmp .gt 78, 3) := dk_163 0 78 (dk_at dksX0_nextOf_0 11 rfl rfl)
theorem dX0_nextOf_14 : decode cX0_nextOf 14 = .ok (.iconst 0, 1) := dk_3 (dk_at dksX0_nextOf_0 14 rfl rfl)
theorem dX0_nextOf_15 : decode cX0_nextOf 15 = .ok (.istore 4, 2) := dk_54 4 (dk_at dksX0_nextOf_0 15 rfl rfl)
theorem dX0_nextOf_17 : decode cX0_nextOf 17 = .ok (.iload 4, 2) := dk_21 4 (dk_at dksX0_nextOf_0 17 rfl rfl)
theorem dX0_nextOf_19 : decode cX0_nextOf 19 = .ok (.aload_n 0, 1) := dk_42 (dk_at dksX0_nextOf_0 19 rfl rfl)
theorem dX0_nextOf_20 : decode cX0_nextOf 20 = .ok (.getfield 113, 3) := dk_180 0 113 (dk_at dksX0_nextOf_0 20 rfl rfl)
theorem dX0_nextOf_23 : decode cX0_nextOf 23 = .ok (.if_icmp .ge 60, 3) := dk_162 0 60 (dk_at dksX0_nextOf_1 0 rfl rfl)
theorem dX0_nextOf_26 : decode cX0_nextOf 26 = .ok (.aload_n 0, 1) := dk_42 (dk_at dksX0_nextOf_1 3 rfl rfl)
theorem dX0_nextOf_27 : decode cX0_nextOf 27 = .ok (.getfield 32, 3) := dk_180 0 32 (dk_at dksX0_nextOf_1 4 rfl rfl)
theorem dX0_nextOf_30 : decode cX0_nextOf 30 = .ok (.iload_n 3, 1) := dk_29 (dk_at dksX0_nextOf_1 7 rfl rfl)
theorem dX0_nextOf_31 : decode cX0_nextOf 31 = .ok (.aaload, 1) := dk_50 (dk_at dksX0_nextOf_1 8 rfl rfl)
theorem dX0_nextOf_32 : decode cX0_nextOf 32 = .ok (.getfield 126, 3) := dk_180 0 126 (dk_at dksX0_nextOf_1 9 rfl rfl)
theorem dX0_nextOf_35 : decode cX0_nextOf 35 = .ok (.iconst (-1), 1) := dk_2 (dk_at dksX0_nextOf_1 12 rfl rfl)
theorem dX0_nextOf_36 : decode cX0_nextOf 36 = .ok (.if_icmp .ne 47, 3) := dk_160 0 47 (dk_at dksX0_nextOf_1 13 rfl rfl)
theorem dX0_nextOf_39 : decode cX0_nextOf 39 = .ok (.aload_n 0, 1) := dk_42 (dk_at dksX0_nextOf_1 16 rfl rfl)
theorem dX0_nextOf_40 : decode cX0_nextOf 40 = .ok (.getfield 45, 3) := dk_180 0 45 (dk_at dksX0_nextOf_1 17 rfl rfl)
theorem dX0_nextOf_43 : decode cX0_nextOf 43 = .ok (.iload_n 3, 1) := dk_29 (dk_at dksX0_nextOf_1 20 rfl rfl)
theorem dX0_nextOf_44 : decode cX0_nextOf 44 = .ok (.iconst 3, 1) := dk_6 (dk_at dksX0_nextOf_1 21 rfl rfl)
theorem dX0_nextOf_45 : decode cX0_nextOf 45 = .ok (.imul, 1) := dk_104 (dk_at dksX0_nextOf_1 22 rfl rfl)
theorem dX0_nextOf_46 : decode cX0_nextOf 46 = .ok (.iload 4, 2) := dk_21 4 (dk_at dksX0_nextOf_2 0 rfl rfl)
theorem dX0_nextOf_48 : decode cX0_nextOf 48 = .ok (.iadd, 1) := dk_96 (dk_at dksX0_nextOf_2 2 rfl rfl)
theorem dX0_nextOf_49 : decode cX0_nextOf 49 = .ok (.iaload, 1) := dk_46 (dk_at dksX0_nextOf_2 3 rfl rfl)
theorem dX0_nextOf_50 : decode cX0_nextOf 50 = .ok (.istore 5, 2) := dk_54 5 (dk_at dksX0_nextOf_2 4 rfl rfl)
theorem dX0_nextOf_52 : decode cX0_nextOf 52 = .ok (.iload 5, 2) := dk_21 5 (dk_at dksX0_nextOf_2 6 rfl rfl)
theorem dX0_nextOf_54 : decode cX0_nextOf 54 = .ok (.iload_n 2, 1) := dk_28 (dk_at dksX0_nextOf_2 8 rfl rfl)
theorem dX0_nextOf_55 : decode cX0_nextOf 55 = .ok (.if_icmp .le 13, 3) := dk_164 0 13 (dk_at dksX0_nextOf_2 9 rfl rfl)
theorem dX0_nextOf_58 : decode cX0_nextOf 58 = .ok (.bipush 10, 2) := dk_16 10 (dk_at dksX0_nextOf_2 12 rfl rfl)
theorem dX0_nextOf_60 : decode cX0_nextOf 60 = .ok (.iload_n 3, 1) := dk_29 (dk_at dksX0_nextOf_2 14 rfl rfl)
theorem dX0_nextOf_61 : decode cX0_nextOf 61 = .ok (.imul, 1) := dk_104 (dk_at dksX0_nextOf_2 15 rfl rfl)
theorem dX0_nextOf_62 : decode cX0_nextOf 62 = .ok (.iload 4, 2) := dk_21 4 (dk_at dksX0_nextOf_2 16 rfl rfl)
theorem dX0_nextOf_64 : decode cX0_nextOf 64 = .ok (.iadd, 1) := dk_96 (dk_at dksX0_nextOf_2 18 rfl rfl)
theorem dX0_nextOf_65 : decode cX0_nextOf 65 = .ok (.goto 4, 3) := dk_167 0 4 (dk_at dksX0_nextOf_2 19 rfl rfl)
theorem dX0_nextOf_68 : decode cX0_nextOf 68 = .ok (.iload_n 1, 1) := dk_27 (dk_at dksX0_nextOf_2 22 rfl rfl)
theorem dX0_nextOf_69 : decode cX0_nextOf 69 = .ok (.istore_n 1, 1) := dk_60 (dk_at dksX0_nextOf_2 23 rfl rfl)
theorem dX0_nextOf_70 : decode cX0_nextOf 70 = .ok (.iload_n 2, 1) := dk_28 (dk_at dksX0_nextOf_3 0 rfl rfl)
theorem dX0_nextOf_71 : decode cX0_nextOf 71 = .ok (.iload 5, 2) := dk_21 5 (dk_at dksX0_nextOf_3 1 rfl rfl)
theorem dX0_nextOf_73 : decode cX0_nextOf 73 = .ok (.invokestatic 171, 3) := dk_184 0 171 (dk_at dksX0_nextOf_3 3 rfl rfl)
theorem dX0_nextOf_76 : decode cX0_nextOf 76 = .ok (.istore_n 2, 1) := dk_61 (dk_at dksX0_nextOf_3 6 rfl rfl)
theorem dX0_nextOf_77 : decode cX0_nextOf 77 = .ok (.iinc 4 1, 3) := dk_132 4 1 (dk_at dksX0_nextOf_3 7 rfl rfl)
theorem dX0_nextOf_80 : decode cX0_nextOf 80 = .ok (.goto (-63), 3) := dk_167 255 193 (dk_at dksX0_nextOf_3 10 rfl rfl)
theorem dX0_nextOf_83 : decode cX0_nextOf 83 = .ok (.iinc 3 1, 3) := dk_132 3 1 (dk_at dksX0_nextOf_3 13 rfl rfl)
theorem dX0_nextOf_86 : decode cX0_nextOf 86 = .ok (.goto (-80), 3) := dk_167 255 176 (dk_at dksX0_nextOf_3 16 rfl rfl)
theorem dX0_nextOf_89 : decode cX0_nextOf 89 = .ok (.iload_n 1, 1) := dk_27 (dk_at dksX0_nextOf_3 19 rfl rfl)
theorem dX0_nextOf_90 : decode cX0_nextOf 90 = .ok (.ireturn, 1) := dk_172 (dk_at dksX0_nextOf_3 20 rfl rfl)
abbrev cX0_mend : ByteArray := prog_1_method_33_code
def yX0_mend : MethodName := ⟨RX0, "mend", "()I"⟩
def dkwX0_mend_0 : List UInt8 := [42, 180, 0, 116, 158, 0, 10, 42, 182, 0, 222, 167, 0, 5, 16, 153, 172]
abbrev dktX0_mend_0 : List UInt8 := dkwX0_mend_0 ++ []
theorem dksX0_mend_0 : cX0_mend.data.toList.drop 0 = dktX0_mend_0 := by decide +kernel
theorem dX0_mend_0 : decode cX0_mend 0 = .ok (.aload_n 0, 1) := dk_42 (dk_at dksX0_mend_0 0 rfl rfl)
theorem dX0_mend_1 : decode cX0_mend 1 = .ok (.getfield 116, 3) := dk_180 0 116 (dk_at dksX0_mend_0 1 rfl rfl)
theorem dX0_mend_4 : decode cX0_mend 4 = .ok (.ifCond .le 10, 3) := dk_158 0 10 (dk_at dksX0_mend_0 4 rfl rfl)
theorem dX0_mend_7 : decode cX0_mend 7 = .ok (.aload_n 0, 1) := dk_42 (dk_at dksX0_mend_0 7 rfl rfl)
theorem dX0_mend_8 : decode cX0_mend 8 = .ok (.invokevirtual 222, 3) := dk_182 0 222 (dk_at dksX0_mend_0 8 rfl rfl)
theorem dX0_mend_11 : decode cX0_mend 11 = .ok (.goto 5, 3) := dk_167 0 5 (dk_at dksX0_mend_0 11 rfl rfl)
theorem dX0_mend_14 : decode cX0_mend 14 = .ok (.bipush (-103), 2) := dk_16 153 (dk_at dksX0_mend_0 14 rfl rfl)
theorem dX0_mend_16 : decode cX0_mend 16 = .ok (.ireturn, 1) := dk_172 (dk_at dksX0_mend_0 16 rfl rfl)
abbrev cX0_tellMend : ByteArray := prog_1_method_32_code
def yX0_tellMend : MethodName := ⟨RX0, "tellMend", "()I"⟩
def dkwX0_tellMend_0 : List UInt8 := [42, 182, 0, 211, 42, 180, 0, 202, 172]
abbrev dktX0_tellMend_0 : List UInt8 := dkwX0_tellMend_0 ++ []
theorem dksX0_tellMend_0 : cX0_tellMend.data.toList.drop 0 = dktX0_tellMend_0 := by decide +kernel
theorem dX0_tellMend_0 : decode cX0_tellMend 0 = .ok (.aload_n 0, 1) := dk_42 (dk_at dksX0_tellMend_0 0 rfl rfl)
theorem dX0_tellMend_1 : decode cX0_tellMend 1 = .ok (.invokevirtual 211, 3) := dk_182 0 211 (dk_at dksX0_tellMend_0 1 rfl rfl)
theorem dX0_tellMend_4 : decode cX0_tellMend 4 = .ok (.aload_n 0, 1) := dk_42 (dk_at dksX0_tellMend_0 4 rfl rfl)
theorem dX0_tellMend_5 : decode cX0_tellMend 5 = .ok (.getfield 202, 3) := dk_180 0 202 (dk_at dksX0_tellMend_0 5 rfl rfl)
theorem dX0_tellMend_8 : decode cX0_tellMend 8 = .ok (.ireturn, 1) := dk_172 (dk_at dksX0_tellMend_0 8 rfl rfl)
abbrev cX0_wins : ByteArray := prog_1_method_35_code
def yX0_wins : MethodName := ⟨RX0, "wins", "(I)I"⟩
def dkwX0_wins_1 : List UInt8 := [182, 0, 225, 167, 0, 5, 16, 153, 172]
abbrev dktX0_wins_1 : List UInt8 := dkwX0_wins_1 ++ []
def dkwX0_wins_0 : List UInt8 := [27, 133, 9, 10, 184, 0, 78, 154, 0, 6, 16, 154, 172, 42, 180, 0, 116, 158, 0, 11, 42, 27]
abbrev dktX0_wins_0 : List UInt8 := dkwX0_wins_0 ++ dktX0_wins_1
theorem dksX0_wins_0 : cX0_wins.data.toList.drop 0 = dktX0_wins_0 := by decide +kernel
theorem dksX0_wins_1 : cX0_wins.data.toList.drop 22 = dktX0_wins_1 := dk_seg dksX0_wins_0 22 rfl rfl
theorem dX0_wins_0 : decode cX0_wins 0 = .ok (.iload_n 1, 1) := dk_27 (dk_at dksX0_wins_0 0 rfl rfl)
theorem dX0_wins_1 : decode cX0_wins 1 = .ok (.i2l, 1) := dk_133 (dk_at dksX0_wins_0 1 rfl rfl)
theorem dX0_wins_2 : decode cX0_wins 2 = .ok (.lconst 0, 1) := dk_9 (dk_at dksX0_wins_0 2 rfl rfl)
theorem dX0_wins_3 : decode cX0_wins 3 = .ok (.lconst 1, 1) := dk_10 (dk_at dksX0_wins_0 3 rfl rfl)
theorem dX0_wins_4 : decode cX0_wins 4 = .ok (.invokestatic 78, 3) := dk_184 0 78 (dk_at dksX0_wins_0 4 rfl rfl)
theorem dX0_wins_7 : decode cX0_wins 7 = .ok (.ifCond .ne 6, 3) := dk_154 0 6 (dk_at dksX0_wins_0 7 rfl rfl)
theorem dX0_wins_10 : decode cX0_wins 10 = .ok (.bipush (-102), 2) := dk_16 154 (dk_at dksX0_wins_0 10 rfl rfl)
theorem dX0_wins_12 : decode cX0_wins 12 = .ok (.ireturn, 1) := dk_172 (dk_at dksX0_wins_0 12 rfl rfl)
theorem dX0_wins_13 : decode cX0_wins 13 = .ok (.aload_n 0, 1) := dk_42 (dk_at dksX0_wins_0 13 rfl rfl)
theorem dX0_wins_14 : decode cX0_wins 14 = .ok (.getfield 116, 3) := dk_180 0 116 (dk_at dksX0_wins_0 14 rfl rfl)
theorem dX0_wins_17 : decode cX0_wins 17 = .ok (.ifCond .le 11, 3) := dk_158 0 11 (dk_at dksX0_wins_0 17 rfl rfl)
theorem dX0_wins_20 : decode cX0_wins 20 = .ok (.aload_n 0, 1) := dk_42 (dk_at dksX0_wins_0 20 rfl rfl)
theorem dX0_wins_21 : decode cX0_wins 21 = .ok (.iload_n 1, 1) := dk_27 (dk_at dksX0_wins_0 21 rfl rfl)
theorem dX0_wins_22 : decode cX0_wins 22 = .ok (.invokevirtual 225, 3) := dk_182 0 225 (dk_at dksX0_wins_1 0 rfl rfl)
theorem dX0_wins_25 : decode cX0_wins 25 = .ok (.goto 5, 3) := dk_167 0 5 (dk_at dksX0_wins_1 3 rfl rfl)
theorem dX0_wins_28 : decode cX0_wins 28 = .ok (.bipush (-103), 2) := dk_16 153 (dk_at dksX0_wins_1 6 rfl rfl)
theorem dX0_wins_30 : decode cX0_wins 30 = .ok (.ireturn, 1) := dk_172 (dk_at dksX0_wins_1 8 rfl rfl)
abbrev cX0_tellWins : ByteArray := prog_1_method_34_code
def yX0_tellWins : MethodName := ⟨RX0, "tellWins", "(I)I"⟩
def dkwX0_tellWins_1 : List UInt8 := [3, 167, 0, 4, 4, 172]
abbrev dktX0_tellWins_1 : List UInt8 := dkwX0_tellWins_1 ++ []
def dkwX0_tellWins_0 : List UInt8 := [42, 182, 0, 211, 27, 4, 160, 0, 10, 42, 180, 0, 208, 167, 0, 16, 42, 180, 0, 208, 2, 160, 0, 7]
abbrev dktX0_tellWins_0 : List UInt8 := dkwX0_tellWins_0 ++ dktX0_tellWins_1
theorem dksX0_tellWins_0 : cX0_tellWins.data.toList.drop 0 = dktX0_tellWins_0 := by decide +kernel
theorem dksX0_tellWins_1 : cX0_tellWins.data.toList.drop 24 = dktX0_tellWins_1 := dk_seg dksX0_tellWins_0 24 rfl rfl
theorem dX0_tellWins_0 : decode cX0_tellWins 0 = .ok (.aload_n 0, 1) := dk_42 (dk_at dksX0_tellWins_0 0 rfl rfl)
theorem dX0_tellWins_1 : decode cX0_tellWins 1 = .ok (.invokevirtual 211, 3) := dk_182 0 211 (dk_at dksX0_tellWins_0 1 rfl rfl)
theorem dX0_tellWins_4 : decode cX0_tellWins 4 = .ok (.iload_n 1, 1) := dk_27 (dk_at dksX0_tellWins_0 4 rfl rfl)
theorem dX0_tellWins_5 : decode cX0_tellWins 5 = .ok (.iconst 1, 1) := dk_4 (dk_at dksX0_tellWins_0 5 rfl rfl)
theorem dX0_tellWins_6 : decode cX0_tellWins 6 = .ok (.if_icmp .ne 10, 3) := dk_160 0 10 (dk_at dksX0_tellWins_0 6 rfl rfl)
theorem dX0_tellWins_9 : decode cX0_tellWins 9 = .ok (.aload_n 0, 1) := dk_42 (dk_at dksX0_tellWins_0 9 rfl rfl)
theorem dX0_tellWins_10 : decode cX0_tellWins 10 = .ok (.getfield 208, 3) := dk_180 0 208 (dk_at dksX0_tellWins_0 10 rfl rfl)
theorem dX0_tellWins_13 : decode cX0_tellWins 13 = .ok (.goto 16, 3) := dk_167 0 16 (dk_at dksX0_tellWins_0 13 rfl rfl)
theorem dX0_tellWins_16 : decode cX0_tellWins 16 = .ok (.aload_n 0, 1) := dk_42 (dk_at dksX0_tellWins_0 16 rfl rfl)
theorem dX0_tellWins_17 : decode cX0_tellWins 17 = .ok (.getfield 208, 3) := dk_180 0 208 (dk_at dksX0_tellWins_0 17 rfl rfl)
theorem dX0_tellWins_20 : decode cX0_tellWins 20 = .ok (.iconst (-1), 1) := dk_2 (dk_at dksX0_tellWins_0 20 rfl rfl)
theorem dX0_tellWins_21 : decode cX0_tellWins 21 = .ok (.if_icmp .ne 7, 3) := dk_160 0 7 (dk_at dksX0_tellWins_0 21 rfl rfl)
theorem dX0_tellWins_24 : decode cX0_tellWins 24 = .ok (.iconst 0, 1) := dk_3 (dk_at dksX0_tellWins_1 0 rfl rfl)
theorem dX0_tellWins_25 : decode cX0_tellWins 25 = .ok (.goto 4, 3) := dk_167 0 4 (dk_at dksX0_tellWins_1 1 rfl rfl)
theorem dX0_tellWins_28 : decode cX0_tellWins 28 = .ok (.iconst 1, 1) := dk_4 (dk_at dksX0_tellWins_1 4 rfl rfl)
theorem dX0_tellWins_29 : decode cX0_tellWins 29 = .ok (.ireturn, 1) := dk_172 (dk_at dksX0_tellWins_1 5 rfl rfl)
abbrev cX0_odds : ByteArray := prog_1_method_37_code
def yX0_odds : MethodName := ⟨RX0, "odds", "(III)I"⟩
def dkwX0_odds_1 : List UInt8 := [184, 0, 78, 153, 0, 13, 42, 27, 28, 29, 182, 0, 234, 167, 0, 5, 16, 154, 172]
abbrev dktX0_odds_1 : List UInt8 := dkwX0_odds_1 ++ []
def dkwX0_odds_0 : List UInt8 := [42, 27, 182, 0, 228, 154, 0, 6, 16, 155, 172, 42, 28, 182, 0, 231, 153, 0, 23, 29, 133, 9, 10]
abbrev dktX0_odds_0 : List UInt8 := dkwX0_odds_0 ++ dktX0_odds_1
theorem dksX0_odds_0 : cX0_odds.data.toList.drop 0 = dktX0_odds_0 := by decide +kernel
theorem dksX0_odds_1 : cX0_odds.data.toList.drop 23 = dktX0_odds_1 := dk_seg dksX0_odds_0 23 rfl rfl
theorem dX0_odds_0 : decode cX0_odds 0 = .ok (.aload_n 0, 1) := dk_42 (dk_at dksX0_odds_0 0 rfl rfl)
theorem dX0_odds_1 : decode cX0_odds 1 = .ok (.iload_n 1, 1) := dk_27 (dk_at dksX0_odds_0 1 rfl rfl)
theorem dX0_odds_2 : decode cX0_odds 2 = .ok (.invokevirtual 228, 3) := dk_182 0 228 (dk_at dksX0_odds_0 2 rfl rfl)
theorem dX0_odds_5 : decode cX0_odds 5 = .ok (.ifCond .ne 6, 3) := dk_154 0 6 (dk_at dksX0_odds_0 5 rfl rfl)
theorem dX0_odds_8 : decode cX0_odds 8 = .ok (.bipush (-101), 2) := dk_16 155 (dk_at dksX0_odds_0 8 rfl rfl)
theorem dX0_odds_10 : decode cX0_odds 10 = .ok (.ireturn, 1) := dk_172 (dk_at dksX0_odds_0 10 rfl rfl)
theorem dX0_odds_11 : decode cX0_odds 11 = .ok (.aload_n 0, 1) := dk_42 (dk_at dksX0_odds_0 11 rfl rfl)
theorem dX0_odds_12 : decode cX0_odds 12 = .ok (.iload_n 2, 1) := dk_28 (dk_at dksX0_odds_0 12 rfl rfl)
theorem dX0_odds_13 : decode cX0_odds 13 = .ok (.invokevirtual 231, 3) := dk_182 0 231 (dk_at dksX0_odds_0 13 rfl rfl)
theorem dX0_odds_16 : decode cX0_odds 16 = .ok (.ifCond .eq 23, 3) := dk_153 0 23 (dk_at dksX0_odds_0 16 rfl rfl)
theorem dX0_odds_19 : decode cX0_odds 19 = .ok (.iload_n 3, 1) := dk_29 (dk_at dksX0_odds_0 19 rfl rfl)
theorem dX0_odds_20 : decode cX0_odds 20 = .ok (.i2l, 1) := dk_133 (dk_at dksX0_odds_0 20 rfl rfl)
theorem dX0_odds_21 : decode cX0_odds 21 = .ok (.lconst 0, 1) := dk_9 (dk_at dksX0_odds_0 21 rfl rfl)
theorem dX0_odds_22 : decode cX0_odds 22 = .ok (.lconst 1, 1) := dk_10 (dk_at dksX0_odds_0 22 rfl rfl)
theorem dX0_odds_23 : decode cX0_odds 23 = .ok (.invokestatic 78, 3) := dk_184 0 78 (dk_at dksX0_odds_1 0 rfl rfl)
theorem dX0_odds_26 : decode cX0_odds 26 = .ok (.ifCond .eq 13, 3) := dk_153 0 13 (dk_at dksX0_odds_1 3 rfl rfl)
theorem dX0_odds_29 : decode cX0_odds 29 = .ok (.aload_n 0, 1) := dk_42 (dk_at dksX0_odds_1 6 rfl rfl)
theorem dX0_odds_30 : decode cX0_odds 30 = .ok (.iload_n 1, 1) := dk_27 (dk_at dksX0_odds_1 7 rfl rfl)
theorem dX0_odds_31 : decode cX0_odds 31 = .ok (.iload_n 2, 1) := dk_28 (dk_at dksX0_odds_1 8 rfl rfl)
theorem dX0_odds_32 : decode cX0_odds 32 = .ok (.iload_n 3, 1) := dk_29 (dk_at dksX0_odds_1 9 rfl rfl)
theorem dX0_odds_33 : decode cX0_odds 33 = .ok (.invokevirtual 234, 3) := dk_182 0 234 (dk_at dksX0_odds_1 10 rfl rfl)
theorem dX0_odds_36 : decode cX0_odds 36 = .ok (.goto 5, 3) := dk_167 0 5 (dk_at dksX0_odds_1 13 rfl rfl)
theorem dX0_odds_39 : decode cX0_odds 39 = .ok (.bipush (-102), 2) := dk_16 154 (dk_at dksX0_odds_1 16 rfl rfl)
theorem dX0_odds_41 : decode cX0_odds 41 = .ok (.ireturn, 1) := dk_172 (dk_at dksX0_odds_1 18 rfl rfl)
abbrev cX0_isNumber : ByteArray := prog_1_method_13_code
def yX0_isNumber : MethodName := ⟨RX0, "isNumber", "(I)Z"⟩
def dkwX0_isNumber_0 : List UInt8 := [27, 133, 10, 42, 180, 0, 116, 133, 184, 0, 78, 172]
abbrev dktX0_isNumber_0 : List UInt8 := dkwX0_isNumber_0 ++ []
theorem dksX0_isNumber_0 : cX0_isNumber.data.toList.drop 0 = dktX0_isNumber_0 := by decide +kernel
theorem dX0_isNumber_0 : decode cX0_isNumber 0 = .ok (.iload_n 1, 1) := dk_27 (dk_at dksX0_isNumber_0 0 rfl rfl)
theorem dX0_isNumber_1 : decode cX0_isNumber 1 = .ok (.i2l, 1) := dk_133 (dk_at dksX0_isNumber_0 1 rfl rfl)
theorem dX0_isNumber_2 : decode cX0_isNumber 2 = .ok (.lconst 1, 1) := dk_10 (dk_at dksX0_isNumber_0 2 rfl rfl)
theorem dX0_isNumber_3 : decode cX0_isNumber 3 = .ok (.aload_n 0, 1) := dk_42 (dk_at dksX0_isNumber_0 3 rfl rfl)
theorem dX0_isNumber_4 : decode cX0_isNumber 4 = .ok (.getfield 116, 3) := dk_180 0 116 (dk_at dksX0_isNumber_0 4 rfl rfl)
theorem dX0_isNumber_7 : decode cX0_isNumber 7 = .ok (.i2l, 1) := dk_133 (dk_at dksX0_isNumber_0 7 rfl rfl)
theorem dX0_isNumber_8 : decode cX0_isNumber 8 = .ok (.invokestatic 78, 3) := dk_184 0 78 (dk_at dksX0_isNumber_0 8 rfl rfl)
theorem dX0_isNumber_11 : decode cX0_isNumber 11 = .ok (.ireturn, 1) := dk_172 (dk_at dksX0_isNumber_0 11 rfl rfl)
abbrev cX0_isColour : ByteArray := prog_1_method_14_code
def yX0_isColour : MethodName := ⟨RX0, "isColour", "(I)Z"⟩
def dkwX0_isColour_0 : List UInt8 := [27, 133, 9, 42, 180, 0, 113, 4, 100, 133, 184, 0, 78, 172]
abbrev dktX0_isColour_0 : List UInt8 := dkwX0_isColour_0 ++ []
theorem dksX0_isColour_0 : cX0_isColour.data.toList.drop 0 = dktX0_isColour_0 := by decide +kernel
theorem dX0_isColour_0 : decode cX0_isColour 0 = .ok (.iload_n 1, 1) := dk_27 (dk_at dksX0_isColour_0 0 rfl rfl)
theorem dX0_isColour_1 : decode cX0_isColour 1 = .ok (.i2l, 1) := dk_133 (dk_at dksX0_isColour_0 1 rfl rfl)
theorem dX0_isColour_2 : decode cX0_isColour 2 = .ok (.lconst 0, 1) := dk_9 (dk_at dksX0_isColour_0 2 rfl rfl)
theorem dX0_isColour_3 : decode cX0_isColour 3 = .ok (.aload_n 0, 1) := dk_42 (dk_at dksX0_isColour_0 3 rfl rfl)
theorem dX0_isColour_4 : decode cX0_isColour 4 = .ok (.getfield 113, 3) := dk_180 0 113 (dk_at dksX0_isColour_0 4 rfl rfl)
theorem dX0_isColour_7 : decode cX0_isColour 7 = .ok (.iconst 1, 1) := dk_4 (dk_at dksX0_isColour_0 7 rfl rfl)
theorem dX0_isColour_8 : decode cX0_isColour 8 = .ok (.isub, 1) := dk_100 (dk_at dksX0_isColour_0 8 rfl rfl)
theorem dX0_isColour_9 : decode cX0_isColour 9 = .ok (.i2l, 1) := dk_133 (dk_at dksX0_isColour_0 9 rfl rfl)
theorem dX0_isColour_10 : decode cX0_isColour 10 = .ok (.invokestatic 78, 3) := dk_184 0 78 (dk_at dksX0_isColour_0 10 rfl rfl)
theorem dX0_isColour_13 : decode cX0_isColour 13 = .ok (.ireturn, 1) := dk_172 (dk_at dksX0_isColour_0 13 rfl rfl)
abbrev cX0_tellOdds : ByteArray := prog_1_method_36_code
def yX0_tellOdds : MethodName := ⟨RX0, "tellOdds", "(III)I"⟩
def dkwX0_tellOdds_2 : List UInt8 := [167, 0, 10, 42, 180, 0, 162, 21, 5, 108, 172]
abbrev dktX0_tellOdds_2 : List UInt8 := dkwX0_tellOdds_2 ++ []
def dkwX0_tellOdds_1 : List UInt8 := [54, 4, 42, 180, 0, 162, 21, 4, 184, 0, 1, 54, 5, 29, 154, 0, 11, 21, 4, 21, 5, 108]
abbrev dktX0_tellOdds_1 : List UInt8 := dkwX0_tellOdds_1 ++ dktX0_tellOdds_2
def dkwX0_tellOdds_0 : List UInt8 := [42, 182, 0, 211, 42, 180, 0, 162, 154, 0, 5, 29, 172, 42, 180, 0, 45, 27, 6, 104, 28, 96, 46]
abbrev dktX0_tellOdds_0 : List UInt8 := dkwX0_tellOdds_0 ++ dktX0_tellOdds_1
theorem dksX0_tellOdds_0 : cX0_tellOdds.data.toList.drop 0 = dktX0_tellOdds_0 := by decide +kernel
theorem dksX0_tellOdds_1 : cX0_tellOdds.data.toList.drop 23 = dktX0_tellOdds_1 := dk_seg dksX0_tellOdds_0 23 rfl rfl
theorem dksX0_tellOdds_2 : cX0_tellOdds.data.toList.drop 45 = dktX0_tellOdds_2 := dk_seg dksX0_tellOdds_1 22 rfl rfl
theorem dX0_tellOdds_0 : decode cX0_tellOdds 0 = .ok (.aload_n 0, 1) := dk_42 (dk_at dksX0_tellOdds_0 0 rfl rfl)
theorem dX0_tellOdds_1 : decode cX0_tellOdds 1 = .ok (.invokevirtual 211, 3) := dk_182 0 211 (dk_at dksX0_tellOdds_0 1 rfl rfl)
theorem dX0_tellOdds_4 : decode cX0_tellOdds 4 = .ok (.aload_n 0, 1) := dk_42 (dk_at dksX0_tellOdds_0 4 rfl rfl)
theorem dX0_tellOdds_5 : decode cX0_tellOdds 5 = .ok (.getfield 162, 3) := dk_180 0 162 (dk_at dksX0_tellOdds_0 5 rfl rfl)
theorem dX0_tellOdds_8 : decode cX0_tellOdds 8 = .ok (.ifCond .ne 5, 3) := dk_154 0 5 (dk_at dksX0_tellOdds_0 8 rfl rfl)
theorem dX0_tellOdds_11 : decode cX0_tellOdds 11 = .ok (.iload_n 3, 1) := dk_29 (dk_at dksX0_tellOdds_0 11 rfl rfl)
theorem dX0_tellOdds_12 : decode cX0_tellOdds 12 = .ok (.ireturn, 1) := dk_172 (dk_at dksX0_tellOdds_0 12 rfl rfl)
theorem dX0_tellOdds_13 : decode cX0_tellOdds 13 = .ok (.aload_n 0, 1) := dk_42 (dk_at dksX0_tellOdds_0 13 rfl rfl)
theorem dX0_tellOdds_14 : decode cX0_tellOdds 14 = .ok (.getfield 45, 3) := dk_180 0 45 (dk_at dksX0_tellOdds_0 14 rfl rfl)
theorem dX0_tellOdds_17 : decode cX0_tellOdds 17 = .ok (.iload_n 1, 1) := dk_27 (dk_at dksX0_tellOdds_0 17 rfl rfl)
theorem dX0_tellOdds_18 : decode cX0_tellOdds 18 = .ok (.iconst 3, 1) := dk_6 (dk_at dksX0_tellOdds_0 18 rfl rfl)
theorem dX0_tellOdds_19 : decode cX0_tellOdds 19 = .ok (.imul, 1) := dk_104 (dk_at dksX0_tellOdds_0 19 rfl rfl)
theorem dX0_tellOdds_20 : decode cX0_tellOdds 20 = .ok (.iload_n 2, 1) := dk_28 (dk_at dksX0_tellOdds_0 20 rfl rfl)
theorem dX0_tellOdds_21 : decode cX0_tellOdds 21 = .ok (.iadd, 1) := dk_96 (dk_at dksX0_tellOdds_0 21 rfl rfl)
theorem dX0_tellOdds_22 : decode cX0_tellOdds 22 = .ok (.iaload, 1) := dk_46 (dk_at dksX0_tellOdds_0 22 rfl rfl)
theorem dX0_tellOdds_23 : decode cX0_tellOdds 23 = .ok (.istore 4, 2) := dk_54 4 (dk_at dksX0_tellOdds_1 0 rfl rfl)
theorem dX0_tellOdds_25 : decode cX0_tellOdds 25 = .ok (.aload_n 0, 1) := dk_42 (dk_at dksX0_tellOdds_1 2 rfl rfl)
theorem dX0_tellOdds_26 : decode cX0_tellOdds 26 = .ok (.getfield 162, 3) := dk_180 0 162 (dk_at dksX0_tellOdds_1 3 rfl rfl)
theorem dX0_tellOdds_29 : decode cX0_tellOdds 29 = .ok (.iload 4, 2) := dk_21 4 (dk_at dksX0_tellOdds_1 6 rfl rfl)
theorem dX0_tellOdds_31 : decode cX0_tellOdds 31 = .ok (.invokestatic 1, 3) := dk_184 0 1 (dk_at dksX0_tellOdds_1 8 rfl rfl)
theorem dX0_tellOdds_34 : decode cX0_tellOdds 34 = .ok (.istore 5, 2) := dk_54 5 (dk_at dksX0_tellOdds_1 11 rfl rfl)
theorem dX0_tellOdds_36 : decode cX0_tellOdds 36 = .ok (.iload_n 3, 1) := dk_29 (dk_at dksX0_tellOdds_1 13 rfl rfl)
theorem dX0_tellOdds_37 : decode cX0_tellOdds 37 = .ok (.ifCond .ne 11, 3) := dk_154 0 11 (dk_at dksX0_tellOdds_1 14 rfl rfl)
theorem dX0_tellOdds_40 : decode cX0_tellOdds 40 = .ok (.iload 4, 2) := dk_21 4 (dk_at dksX0_tellOdds_1 17 rfl rfl)
theorem dX0_tellOdds_42 : decode cX0_tellOdds 42 = .ok (.iload 5, 2) := dk_21 5 (dk_at dksX0_tellOdds_1 19 rfl rfl)
theorem dX0_tellOdds_44 : decode cX0_tellOdds 44 = .ok (.idiv, 1) := dk_108 (dk_at dksX0_tellOdds_1 21 rfl rfl)
theorem dX0_tellOdds_45 : decode cX0_tellOdds 45 = .ok (.goto 10, 3) := dk_167 0 10 (dk_at dksX0_tellOdds_2 0 rfl rfl)
theorem dX0_tellOdds_48 : decode cX0_tellOdds 48 = .ok (.aload_n 0, 1) := dk_42 (dk_at dksX0_tellOdds_2 3 rfl rfl)
theorem dX0_tellOdds_49 : decode cX0_tellOdds 49 = .ok (.getfield 162, 3) := dk_180 0 162 (dk_at dksX0_tellOdds_2 4 rfl rfl)
theorem dX0_tellOdds_52 : decode cX0_tellOdds 52 = .ok (.iload 5, 2) := dk_21 5 (dk_at dksX0_tellOdds_2 7 rfl rfl)
theorem dX0_tellOdds_54 : decode cX0_tellOdds 54 = .ok (.idiv, 1) := dk_108 (dk_at dksX0_tellOdds_2 9 rfl rfl)
theorem dX0_tellOdds_55 : decode cX0_tellOdds 55 = .ok (.ireturn, 1) := dk_172 (dk_at dksX0_tellOdds_2 10 rfl rfl)
abbrev cX0_common : ByteArray := prog_1_method_3_code
def yX0_common : MethodName := ⟨RX0, "common", "(II)I"⟩
def dkwX0_common_0 : List UInt8 := [27, 154, 0, 7, 26, 167, 0, 10, 27, 26, 27, 112, 184, 0, 1, 172]
abbrev dktX0_common_0 : List UInt8 := dkwX0_common_0 ++ []
theorem dksX0_common_0 : cX0_common.data.toList.drop 0 = dktX0_common_0 := by decide +kernel
theorem dX0_common_0 : decode cX0_common 0 = .ok (.iload_n 1, 1) := dk_27 (dk_at dksX0_common_0 0 rfl rfl)
theorem dX0_common_1 : decode cX0_common 1 = .ok (.ifCond .ne 7, 3) := dk_154 0 7 (dk_at dksX0_common_0 1 rfl rfl)
theorem dX0_common_4 : decode cX0_common 4 = .ok (.iload_n 0, 1) := dk_26 (dk_at dksX0_common_0 4 rfl rfl)
theorem dX0_common_5 : decode cX0_common 5 = .ok (.goto 10, 3) := dk_167 0 10 (dk_at dksX0_common_0 5 rfl rfl)
theorem dX0_common_8 : decode cX0_common 8 = .ok (.iload_n 1, 1) := dk_27 (dk_at dksX0_common_0 8 rfl rfl)
theorem dX0_common_9 : decode cX0_common 9 = .ok (.iload_n 0, 1) := dk_26 (dk_at dksX0_common_0 9 rfl rfl)
theorem dX0_common_10 : decode cX0_common 10 = .ok (.iload_n 1, 1) := dk_27 (dk_at dksX0_common_0 10 rfl rfl)
theorem dX0_common_11 : decode cX0_common 11 = .ok (.irem, 1) := dk_112 (dk_at dksX0_common_0 11 rfl rfl)
theorem dX0_common_12 : decode cX0_common 12 = .ok (.invokestatic 1, 3) := dk_184 0 1 (dk_at dksX0_common_0 12 rfl rfl)
theorem dX0_common_15 : decode cX0_common 15 = .ok (.ireturn, 1) := dk_172 (dk_at dksX0_common_0 15 rfl rfl)
abbrev cX0_way : ByteArray := prog_1_method_38_code
def yX0_way : MethodName := ⟨RX0, "way", "(II)I"⟩
def dkwX0_way_1 : List UInt8 := [42, 27, 182, 0, 199, 42, 180, 0, 48, 28, 46, 172]
abbrev dktX0_way_1 : List UInt8 := dkwX0_way_1 ++ []
def dkwX0_way_0 : List UInt8 := [42, 28, 182, 0, 228, 153, 0, 16, 27, 155, 0, 12, 27, 42, 3, 182, 0, 219, 161, 0, 6, 16, 155, 172]
abbrev dktX0_way_0 : List UInt8 := dkwX0_way_0 ++ dktX0_way_1
theorem dksX0_way_0 : cX0_way.data.toList.drop 0 = dktX0_way_0 := by decide +kernel
theorem dksX0_way_1 : cX0_way.data.toList.drop 24 = dktX0_way_1 := dk_seg dksX0_way_0 24 rfl rfl
theorem dX0_way_0 : decode cX0_way 0 = .ok (.aload_n 0, 1) := dk_42 (dk_at dksX0_way_0 0 rfl rfl)
theorem dX0_way_1 : decode cX0_way 1 = .ok (.iload_n 2, 1) := dk_28 (dk_at dksX0_way_0 1 rfl rfl)
theorem dX0_way_2 : decode cX0_way 2 = .ok (.invokevirtual 228, 3) := dk_182 0 228 (dk_at dksX0_way_0 2 rfl rfl)
theorem dX0_way_5 : decode cX0_way 5 = .ok (.ifCond .eq 16, 3) := dk_153 0 16 (dk_at dksX0_way_0 5 rfl rfl)
theorem dX0_way_8 : decode cX0_way 8 = .ok (.iload_n 1, 1) := dk_27 (dk_at dksX0_way_0 8 rfl rfl)
theorem dX0_way_9 : decode cX0_way 9 = .ok (.ifCond .lt 12, 3) := dk_155 0 12 (dk_at dksX0_way_0 9 rfl rfl)
theorem dX0_way_12 : decode cX0_way 12 = .ok (.iload_n 1, 1) := dk_27 (dk_at dksX0_way_0 12 rfl rfl)
theorem dX0_way_13 : decode cX0_way 13 = .ok (.aload_n 0, 1) := dk_42 (dk_at dksX0_way_0 13 rfl rfl)
theorem dX0_way_14 : decode cX0_way 14 = .ok (.iconst 0, 1) := dk_3 (dk_at dksX0_way_0 14 rfl rfl)
theorem dX0_way_15 : decode cX0_way 15 = .ok (.invokevirtual 219, 3) := dk_182 0 219 (dk_at dksX0_way_0 15 rfl rfl)
theorem dX0_way_18 : decode cX0_way 18 = .ok (.if_icmp .lt 6, 3) := dk_161 0 6 (dk_at dksX0_way_0 18 rfl rfl)
theorem dX0_way_21 : decode cX0_way 21 = .ok (.bipush (-101), 2) := dk_16 155 (dk_at dksX0_way_0 21 rfl rfl)
theorem dX0_way_23 : decode cX0_way 23 = .ok (.ireturn, 1) := dk_172 (dk_at dksX0_way_0 23 rfl rfl)
theorem dX0_way_24 : decode cX0_way 24 = .ok (.aload_n 0, 1) := dk_42 (dk_at dksX0_way_1 0 rfl rfl)
theorem dX0_way_25 : decode cX0_way 25 = .ok (.iload_n 1, 1) := dk_27 (dk_at dksX0_way_1 1 rfl rfl)
theorem dX0_way_26 : decode cX0_way 26 = .ok (.invokevirtual 199, 3) := dk_182 0 199 (dk_at dksX0_way_1 2 rfl rfl)
theorem dX0_way_29 : decode cX0_way 29 = .ok (.aload_n 0, 1) := dk_42 (dk_at dksX0_way_1 5 rfl rfl)
theorem dX0_way_30 : decode cX0_way 30 = .ok (.getfield 48, 3) := dk_180 0 48 (dk_at dksX0_way_1 6 rfl rfl)
theorem dX0_way_33 : decode cX0_way 33 = .ok (.iload_n 2, 1) := dk_28 (dk_at dksX0_way_1 9 rfl rfl)
theorem dX0_way_34 : decode cX0_way 34 = .ok (.iaload, 1) := dk_46 (dk_at dksX0_way_1 10 rfl rfl)
theorem dX0_way_35 : decode cX0_way 35 = .ok (.ireturn, 1) := dk_172 (dk_at dksX0_way_1 11 rfl rfl)
abbrev cX0_number : ByteArray := prog_1_method_41_code
def yX0_number : MethodName := ⟨RX0, "number", "(II)I"⟩
def dkwX0_number_1 : List UInt8 := [172]
abbrev dktX0_number_1 : List UInt8 := dkwX0_number_1 ++ []
def dkwX0_number_0 : List UInt8 := [42, 27, 182, 0, 228, 153, 0, 17, 42, 42, 180, 0, 32, 27, 50, 28, 182, 0, 253, 167, 0, 5, 16, 155]
abbrev dktX0_number_0 : List UInt8 := dkwX0_number_0 ++ dktX0_number_1
theorem dksX0_number_0 : cX0_number.data.toList.drop 0 = dktX0_number_0 := by decide +kernel
theorem dksX0_number_1 : cX0_number.data.toList.drop 24 = dktX0_number_1 := dk_seg dksX0_number_0 24 rfl rfl
theorem dX0_number_0 : decode cX0_number 0 = .ok (.aload_n 0, 1) := dk_42 (dk_at dksX0_number_0 0 rfl rfl)
theorem dX0_number_1 : decode cX0_number 1 = .ok (.iload_n 1, 1) := dk_27 (dk_at dksX0_number_0 1 rfl rfl)
theorem dX0_number_2 : decode cX0_number 2 = .ok (.invokevirtual 228, 3) := dk_182 0 228 (dk_at dksX0_number_0 2 rfl rfl)
theorem dX0_number_5 : decode cX0_number 5 = .ok (.ifCond .eq 17, 3) := dk_153 0 17 (dk_at dksX0_number_0 5 rfl rfl)
theorem dX0_number_8 : decode cX0_number 8 = .ok (.aload_n 0, 1) := dk_42 (dk_at dksX0_number_0 8 rfl rfl)
theorem dX0_number_9 : decode cX0_number 9 = .ok (.aload_n 0, 1) := dk_42 (dk_at dksX0_number_0 9 rfl rfl)
theorem dX0_number_10 : decode cX0_number 10 = .ok (.getfield 32, 3) := dk_180 0 32 (dk_at dksX0_number_0 10 rfl rfl)
theorem dX0_number_13 : decode cX0_number 13 = .ok (.iload_n 1, 1) := dk_27 (dk_at dksX0_number_0 13 rfl rfl)
theorem dX0_number_14 : decode cX0_number 14 = .ok (.aaload, 1) := dk_50 (dk_at dksX0_number_0 14 rfl rfl)
theorem dX0_number_15 : decode cX0_number 15 = .ok (.iload_n 2, 1) := dk_28 (dk_at dksX0_number_0 15 rfl rfl)
theorem dX0_number_16 : decode cX0_number 16 = .ok (.invokevirtual 253, 3) := dk_182 0 253 (dk_at dksX0_number_0 16 rfl rfl)
theorem dX0_number_19 : decode cX0_number 19 = .ok (.goto 5, 3) := dk_167 0 5 (dk_at dksX0_number_0 19 rfl rfl)
theorem dX0_number_22 : decode cX0_number 22 = .ok (.bipush (-101), 2) := dk_16 155 (dk_at dksX0_number_0 22 rfl rfl)
theorem dX0_number_24 : decode cX0_number 24 = .ok (.ireturn, 1) := dk_172 (dk_at dksX0_number_1 0 rfl rfl)
abbrev cX0_tellNumber : ByteArray := prog_1_method_40_code
def yX0_tellNumber : MethodName := ⟨RX0, "tellNumber", "(LSumColours$Member;I)I"⟩
def dkwX0_tellNumber_4 : List UInt8 := [172]
abbrev dktX0_tellNumber_4 : List UInt8 := dkwX0_tellNumber_4 ++ []
def dkwX0_tellNumber_3 : List UInt8 := [182, 0, 244, 172, 42, 43, 180, 0, 123, 182, 0, 247, 172, 42, 43, 180, 0, 123, 182, 0, 250, 172, 16, 154]
abbrev dktX0_tellNumber_3 : List UInt8 := dkwX0_tellNumber_3 ++ dktX0_tellNumber_4
def dkwX0_tellNumber_2 : List UInt8 := [43, 182, 0, 238, 172, 43, 180, 0, 126, 172, 42, 43, 180, 0, 123, 182, 0, 241, 172, 42, 43, 180, 0, 123]
abbrev dktX0_tellNumber_2 : List UInt8 := dkwX0_tellNumber_2 ++ dktX0_tellNumber_3
def dkwX0_tellNumber_1 : List UInt8 := [170, 0, 0, 0, 0, 0, 85, 0, 0, 0, 0, 0, 0, 0, 5, 0, 0, 0, 39, 0, 0, 0, 44, 0, 0, 0, 49, 0, 0, 0, 58, 0, 0, 0, 67, 0, 0, 0, 76]
abbrev dktX0_tellNumber_1 : List UInt8 := dkwX0_tellNumber_1 ++ dktX0_tellNumber_2
def dkwX0_tellNumber_0 : List UInt8 := [28]
abbrev dktX0_tellNumber_0 : List UInt8 := dkwX0_tellNumber_0 ++ dktX0_tellNumber_1
theorem dksX0_tellNumber_0 : cX0_tellNumber.data.toList.drop 0 = dktX0_tellNumber_0 := by decide +kernel
theorem dksX0_tellNumber_1 : cX0_tellNumber.data.toList.drop 1 = dktX0_tellNumber_1 := dk_seg dksX0_tellNumber_0 1 rfl rfl
theorem dksX0_tellNumber_2 : cX0_tellNumber.data.toList.drop 40 = dktX0_tellNumber_2 := dk_seg dksX0_tellNumber_1 39 rfl rfl
theorem dksX0_tellNumber_3 : cX0_tellNumber.data.toList.drop 64 = dktX0_tellNumber_3 := dk_seg dksX0_tellNumber_2 24 rfl rfl
theorem dksX0_tellNumber_4 : cX0_tellNumber.data.toList.drop 88 = dktX0_tellNumber_4 := dk_seg dksX0_tellNumber_3 24 rfl rfl
theorem dX0_tellNumber_0 : decode cX0_tellNumber 0 = .ok (.iload_n 2, 1) := dk_28 (dk_at dksX0_tellNumber_0 0 rfl rfl)
theorem dX0_tellNumber_1 : decode cX0_tellNumber 1 = .ok (.tableswitch 85 0 5 #[39, 44, 49, 58, 67, 76], 39) := by decide +kernel
theorem dX0_tellNumber_40 : decode cX0_tellNumber 40 = .ok (.aload_n 1, 1) := dk_43 (dk_at dksX0_tellNumber_2 0 rfl rfl)
theorem dX0_tellNumber_41 : decode cX0_tellNumber 41 = .ok (.invokevirtual 238, 3) := dk_182 0 238 (dk_at dksX0_tellNumber_2 1 rfl rfl)
theorem dX0_tellNumber_44 : decode cX0_tellNumber 44 = .ok (.ireturn, 1) := dk_172 (dk_at dksX0_tellNumber_2 4 rfl rfl)
theorem dX0_tellNumber_45 : decode cX0_tellNumber 45 = .ok (.aload_n 1, 1) := dk_43 (dk_at dksX0_tellNumber_2 5 rfl rfl)
theorem dX0_tellNumber_46 : decode cX0_tellNumber 46 = .ok (.getfield 126, 3) := dk_180 0 126 (dk_at dksX0_tellNumber_2 6 rfl rfl)
theorem dX0_tellNumber_49 : decode cX0_tellNumber 49 = .ok (.ireturn, 1) := dk_172 (dk_at dksX0_tellNumber_2 9 rfl rfl)
theorem dX0_tellNumber_50 : decode cX0_tellNumber 50 = .ok (.aload_n 0, 1) := dk_42 (dk_at dksX0_tellNumber_2 10 rfl rfl)
theorem dX0_tellNumber_51 : decode cX0_tellNumber 51 = .ok (.aload_n 1, 1) := dk_43 (dk_at dksX0_tellNumber_2 11 rfl rfl)
theorem dX0_tellNumber_52 : decode cX0_tellNumber 52 = .ok (.getfield 123, 3) := dk_180 0 123 (dk_at dksX0_tellNumber_2 12 rfl rfl)
theorem dX0_tellNumber_55 : decode cX0_tellNumber 55 = .ok (.invokevirtual 241, 3) := dk_182 0 241 (dk_at dksX0_tellNumber_2 15 rfl rfl)
theorem dX0_tellNumber_58 : decode cX0_tellNumber 58 = .ok (.ireturn, 1) := dk_172 (dk_at dksX0_tellNumber_2 18 rfl rfl)
theorem dX0_tellNumber_59 : decode cX0_tellNumber 59 = .ok (.aload_n 0, 1) := dk_42 (dk_at dksX0_tellNumber_2 19 rfl rfl)
theorem dX0_tellNumber_60 : decode cX0_tellNumber 60 = .ok (.aload_n 1, 1) := dk_43 (dk_at dksX0_tellNumber_2 20 rfl rfl)
theorem dX0_tellNumber_61 : decode cX0_tellNumber 61 = .ok (.getfield 123, 3) := dk_180 0 123 (dk_at dksX0_tellNumber_2 21 rfl rfl)
theorem dX0_tellNumber_64 : decode cX0_tellNumber 64 = .ok (.invokevirtual 244, 3) := dk_182 0 244 (dk_at dksX0_tellNumber_3 0 rfl rfl)
theorem dX0_tellNumber_67 : decode cX0_tellNumber 67 = .ok (.ireturn, 1) := dk_172 (dk_at dksX0_tellNumber_3 3 rfl rfl)
theorem dX0_tellNumber_68 : decode cX0_tellNumber 68 = .ok (.aload_n 0, 1) := dk_42 (dk_at dksX0_tellNumber_3 4 rfl rfl)
theorem dX0_tellNumber_69 : decode cX0_tellNumber 69 = .ok (.aload_n 1, 1) := dk_43 (dk_at dksX0_tellNumber_3 5 rfl rfl)
theorem dX0_tellNumber_70 : decode cX0_tellNumber 70 = .ok (.getfield 123, 3) := dk_180 0 123 (dk_at dksX0_tellNumber_3 6 rfl rfl)
theorem dX0_tellNumber_73 : decode cX0_tellNumber 73 = .ok (.invokevirtual 247, 3) := dk_182 0 247 (dk_at dksX0_tellNumber_3 9 rfl rfl)
theorem dX0_tellNumber_76 : decode cX0_tellNumber 76 = .ok (.ireturn, 1) := dk_172 (dk_at dksX0_tellNumber_3 12 rfl rfl)
theorem dX0_tellNumber_77 : decode cX0_tellNumber 77 = .ok (.aload_n 0, 1) := dk_42 (dk_at dksX0_tellNumber_3 13 rfl rfl)
theorem dX0_tellNumber_78 : decode cX0_tellNumber 78 = .ok (.aload_n 1, 1) := dk_43 (dk_at dksX0_tellNumber_3 14 rfl rfl)
theorem dX0_tellNumber_79 : decode cX0_tellNumber 79 = .ok (.getfield 123, 3) := dk_180 0 123 (dk_at dksX0_tellNumber_3 15 rfl rfl)
theorem dX0_tellNumber_82 : decode cX0_tellNumber 82 = .ok (.invokevirtual 250, 3) := dk_182 0 250 (dk_at dksX0_tellNumber_3 18 rfl rfl)
theorem dX0_tellNumber_85 : decode cX0_tellNumber 85 = .ok (.ireturn, 1) := dk_172 (dk_at dksX0_tellNumber_3 21 rfl rfl)
theorem dX0_tellNumber_86 : decode cX0_tellNumber 86 = .ok (.bipush (-102), 2) := dk_16 154 (dk_at dksX0_tellNumber_3 22 rfl rfl)
theorem dX0_tellNumber_88 : decode cX0_tellNumber 88 = .ok (.ireturn, 1) := dk_172 (dk_at dksX0_tellNumber_4 0 rfl rfl)
abbrev cX0_sureOf : ByteArray := prog_1_method_39_code
def yX0_sureOf : MethodName := ⟨RX0, "sureOf", "(I)I"⟩
def dkwX0_sureOf_2 : List UInt8 := [132, 3, 1, 167, 255, 215, 28, 172]
abbrev dktX0_sureOf_2 : List UInt8 := dkwX0_sureOf_2 ++ []
def dkwX0_sureOf_1 : List UInt8 := [180, 0, 45, 27, 6, 104, 29, 96, 46, 42, 180, 0, 162, 160, 0, 7, 29, 167, 0, 4, 28, 61]
abbrev dktX0_sureOf_1 : List UInt8 := dkwX0_sureOf_1 ++ dktX0_sureOf_2
def dkwX0_sureOf_0 : List UInt8 := [42, 182, 0, 211, 2, 61, 3, 62, 29, 42, 180, 0, 113, 162, 0, 39, 42, 180, 0, 162, 158, 0, 32, 42]
abbrev dktX0_sureOf_0 : List UInt8 := dkwX0_sureOf_0 ++ dktX0_sureOf_1
theorem dksX0_sureOf_0 : cX0_sureOf.data.toList.drop 0 = dktX0_sureOf_0 := by decide +kernel
theorem dksX0_sureOf_1 : cX0_sureOf.data.toList.drop 24 = dktX0_sureOf_1 := dk_seg dksX0_sureOf_0 24 rfl rfl
theorem dksX0_sureOf_2 : cX0_sureOf.data.toList.drop 46 = dktX0_sureOf_2 := dk_seg dksX0_sureOf_1 22 rfl rfl
theorem dX0_sureOf_0 : decode cX0_sureOf 0 = .ok (.aload_n 0, 1) := dk_42 (dk_at dksX0_sureOf_0 0 rfl rfl)
theorem dX0_sureOf_1 : decode cX0_sureOf 1 = .ok (.invokevirtual 211, 3) := dk_182 0 211 (dk_at dksX0_sureOf_0 1 rfl rfl)
theorem dX0_sureOf_4 : decode cX0_sureOf 4 = .ok (.iconst (-1), 1) := dk_2 (dk_at dksX0_sureOf_0 4 rfl rfl)
theorem dX0_sureOf_5 : decode cX0_sureOf 5 = .ok (.istore_n 2, 1) := dk_61 (dk_at dksX0_sureOf_0 5 rfl rfl)
theorem dX0_sureOf_6 : decode cX0_sureOf 6 = .ok (.iconst 0, 1) := dk_3 (dk_at dksX0_sureOf_0 6 rfl rfl)
theorem dX0_sureOf_7 : decode cX0_sureOf 7 = .ok (.istore_n 3, 1) := dk_62 (dk_at dksX0_sureOf_0 7 rfl rfl)
theorem dX0_sureOf_8 : decode cX0_sureOf 8 = .ok (.iload_n 3, 1) := dk_29 (dk_at dksX0_sureOf_0 8 rfl rfl)
theorem dX0_sureOf_9 : decode cX0_sureOf 9 = .ok (.aload_n 0, 1) := dk_42 (dk_at dksX0_sureOf_0 9 rfl rfl)
theorem dX0_sureOf_10 : decode cX0_sureOf 10 = .ok (.getfield 113, 3) := dk_180 0 113 (dk_at dksX0_sureOf_0 10 rfl rfl)
theorem dX0_sureOf_13 : decode cX0_sureOf 13 = .ok (.if_icmp .ge 39, 3) := dk_162 0 39 (dk_at dksX0_sureOf_0 13 rfl rfl)
theorem dX0_sureOf_16 : decode cX0_sureOf 16 = .ok (.aload_n 0, 1) := dk_42 (dk_at dksX0_sureOf_0 16 rfl rfl)
theorem dX0_sureOf_17 : decode cX0_sureOf 17 = .ok (.getfield 162, 3) := dk_180 0 162 (dk_at dksX0_sureOf_0 17 rfl rfl)
theorem dX0_sureOf_20 : decode cX0_sureOf 20 = .ok (.ifCond .le 32, 3) := dk_158 0 32 (dk_at dksX0_sureOf_0 20 rfl rfl)
theorem dX0_sureOf_23 : decode cX0_sureOf 23 = .ok (.aload_n 0, 1) := dk_42 (dk_at dksX0_sureOf_0 23 rfl rfl)
theorem dX0_sureOf_24 : decode cX0_sureOf 24 = .ok (.getfield 45, 3) := dk_180 0 45 (dk_at dksX0_sureOf_1 0 rfl rfl)
theorem dX0_sureOf_27 : decode cX0_sureOf 27 = .ok (.iload_n 1, 1) := dk_27 (dk_at dksX0_sureOf_1 3 rfl rfl)
theorem dX0_sureOf_28 : decode cX0_sureOf 28 = .ok (.iconst 3, 1) := dk_6 (dk_at dksX0_sureOf_1 4 rfl rfl)
theorem dX0_sureOf_29 : decode cX0_sureOf 29 = .ok (.imul, 1) := dk_104 (dk_at dksX0_sureOf_1 5 rfl rfl)
theorem dX0_sureOf_30 : decode cX0_sureOf 30 = .ok (.iload_n 3, 1) := dk_29 (dk_at dksX0_sureOf_1 6 rfl rfl)
theorem dX0_sureOf_31 : decode cX0_sureOf 31 = .ok (.iadd, 1) := dk_96 (dk_at dksX0_sureOf_1 7 rfl rfl)
theorem dX0_sureOf_32 : decode cX0_sureOf 32 = .ok (.iaload, 1) := dk_46 (dk_at dksX0_sureOf_1 8 rfl rfl)
theorem dX0_sureOf_33 : decode cX0_sureOf 33 = .ok (.aload_n 0, 1) := dk_42 (dk_at dksX0_sureOf_1 9 rfl rfl)
theorem dX0_sureOf_34 : decode cX0_sureOf 34 = .ok (.getfield 162, 3) := dk_180 0 162 (dk_at dksX0_sureOf_1 10 rfl rfl)
theorem dX0_sureOf_37 : decode cX0_sureOf 37 = .ok (.if_icmp .ne 7, 3) := dk_160 0 7 (dk_at dksX0_sureOf_1 13 rfl rfl)
theorem dX0_sureOf_40 : decode cX0_sureOf 40 = .ok (.iload_n 3, 1) := dk_29 (dk_at dksX0_sureOf_1 16 rfl rfl)
theorem dX0_sureOf_41 : decode cX0_sureOf 41 = .ok (.goto 4, 3) := dk_167 0 4 (dk_at dksX0_sureOf_1 17 rfl rfl)
theorem dX0_sureOf_44 : decode cX0_sureOf 44 = .ok (.iload_n 2, 1) := dk_28 (dk_at dksX0_sureOf_1 20 rfl rfl)
theorem dX0_sureOf_45 : decode cX0_sureOf 45 = .ok (.istore_n 2, 1) := dk_61 (dk_at dksX0_sureOf_1 21 rfl rfl)
theorem dX0_sureOf_46 : decode cX0_sureOf 46 = .ok (.iinc 3 1, 3) := dk_132 3 1 (dk_at dksX0_sureOf_2 0 rfl rfl)
theorem dX0_sureOf_49 : decode cX0_sureOf 49 = .ok (.goto (-41), 3) := dk_167 255 215 (dk_at dksX0_sureOf_2 3 rfl rfl)
theorem dX0_sureOf_52 : decode cX0_sureOf 52 = .ok (.iload_n 2, 1) := dk_28 (dk_at dksX0_sureOf_2 6 rfl rfl)
theorem dX0_sureOf_53 : decode cX0_sureOf 53 = .ok (.ireturn, 1) := dk_172 (dk_at dksX0_sureOf_2 7 rfl rfl)
abbrev cX0_sortsOf : ByteArray := prog_1_method_50_code
def yX0_sortsOf : MethodName := ⟨RX0, "sortsOf", "(I)I"⟩
def dkwX0_sortsOf_2 : List UInt8 := [153, 0, 8, 21, 4, 167, 0, 7, 21, 4, 2, 130, 126, 61, 132, 3, 1, 167, 255, 198, 28, 172]
abbrev dktX0_sortsOf_2 : List UInt8 := dkwX0_sortsOf_2 ++ []
def dkwX0_sortsOf_1 : List UInt8 := [54, 4, 28, 42, 180, 0, 51, 29, 46, 27, 159, 0, 7, 28, 167, 0, 21, 42, 180, 0, 57, 29, 51]
abbrev dktX0_sortsOf_1 : List UInt8 := dkwX0_sortsOf_1 ++ dktX0_sortsOf_2
def dkwX0_sortsOf_0 : List UInt8 := [16, 31, 61, 3, 62, 29, 42, 180, 0, 132, 162, 0, 56, 42, 42, 180, 0, 54, 29, 46, 182, 1, 20]
abbrev dktX0_sortsOf_0 : List UInt8 := dkwX0_sortsOf_0 ++ dktX0_sortsOf_1
theorem dksX0_sortsOf_0 : cX0_sortsOf.data.toList.drop 0 = dktX0_sortsOf_0 := by decide +kernel
theorem dksX0_sortsOf_1 : cX0_sortsOf.data.toList.drop 23 = dktX0_sortsOf_1 := dk_seg dksX0_sortsOf_0 23 rfl rfl
theorem dksX0_sortsOf_2 : cX0_sortsOf.data.toList.drop 46 = dktX0_sortsOf_2 := dk_seg dksX0_sortsOf_1 23 rfl rfl
theorem dX0_sortsOf_0 : decode cX0_sortsOf 0 = .ok (.bipush 31, 2) := dk_16 31 (dk_at dksX0_sortsOf_0 0 rfl rfl)
theorem dX0_sortsOf_2 : decode cX0_sortsOf 2 = .ok (.istore_n 2, 1) := dk_61 (dk_at dksX0_sortsOf_0 2 rfl rfl)
theorem dX0_sortsOf_3 : decode cX0_sortsOf 3 = .ok (.iconst 0, 1) := dk_3 (dk_at dksX0_sortsOf_0 3 rfl rfl)
theorem dX0_sortsOf_4 : decode cX0_sortsOf 4 = .ok (.istore_n 3, 1) := dk_62 (dk_at dksX0_sortsOf_0 4 rfl rfl)
theorem dX0_sortsOf_5 : decode cX0_sortsOf 5 = .ok (.iload_n 3, 1) := dk_29 (dk_at dksX0_sortsOf_0 5 rfl rfl)
theorem dX0_sortsOf_6 : decode cX0_sortsOf 6 = .ok (.aload_n 0, 1) := dk_42 (dk_at dksX0_sortsOf_0 6 rfl rfl)
theorem dX0_sortsOf_7 : decode cX0_sortsOf 7 = .ok (.getfield 132, 3) := dk_180 0 132 (dk_at dksX0_sortsOf_0 7 rfl rfl)
theorem dX0_sortsOf_10 : decode cX0_sortsOf 10 = .ok (.if_icmp .ge 56, 3) := dk_162 0 56 (dk_at dksX0_sortsOf_0 10 rfl rfl)
theorem dX0_sortsOf_13 : decode cX0_sortsOf 13 = .ok (.aload_n 0, 1) := dk_42 (dk_at dksX0_sortsOf_0 13 rfl rfl)
theorem dX0_sortsOf_14 : decode cX0_sortsOf 14 = .ok (.aload_n 0, 1) := dk_42 (dk_at dksX0_sortsOf_0 14 rfl rfl)
theorem dX0_sortsOf_15 : decode cX0_sortsOf 15 = .ok (.getfield 54, 3) := dk_180 0 54 (dk_at dksX0_sortsOf_0 15 rfl rfl)
theorem dX0_sortsOf_18 : decode cX0_sortsOf 18 = .ok (.iload_n 3, 1) := dk_29 (dk_at dksX0_sortsOf_0 18 rfl rfl)
theorem dX0_sortsOf_19 : decode cX0_sortsOf 19 = .ok (.iaload, 1) := dk_46 (dk_at dksX0_sortsOf_0 19 rfl rfl)
theorem dX0_sortsOf_20 : decode cX0_sortsOf 20 = .ok (.invokevirtual 276, 3) := dk_182 1 20 (dk_at dksX0_sortsOf_0 20 rfl rfl)
theorem dX0_sortsOf_23 : decode cX0_sortsOf 23 = .ok (.istore 4, 2) := dk_54 4 (dk_at dksX0_sortsOf_1 0 rfl rfl)
theorem dX0_sortsOf_25 : decode cX0_sortsOf 25 = .ok (.iload_n 2, 1) := dk_28 (dk_at dksX0_sortsOf_1 2 rfl rfl)
theorem dX0_sortsOf_26 : decode cX0_sortsOf 26 = .ok (.aload_n 0, 1) := dk_42 (dk_at dksX0_sortsOf_1 3 rfl rfl)
theorem dX0_sortsOf_27 : decode cX0_sortsOf 27 = .ok (.getfield 51, 3) := dk_180 0 51 (dk_at dksX0_sortsOf_1 4 rfl rfl)
theorem dX0_sortsOf_30 : decode cX0_sortsOf 30 = .ok (.iload_n 3, 1) := dk_29 (dk_at dksX0_sortsOf_1 7 rfl rfl)
theorem dX0_sortsOf_31 : decode cX0_sortsOf 31 = .ok (.iaload, 1) := dk_46 (dk_at dksX0_sortsOf_1 8 rfl rfl)
theorem dX0_sortsOf_32 : decode cX0_sortsOf 32 = .ok (.iload_n 1, 1) := dk_27 (dk_at dksX0_sortsOf_1 9 rfl rfl)
theorem dX0_sortsOf_33 : decode cX0_sortsOf 33 = .ok (.if_icmp .eq 7, 3) := dk_159 0 7 (dk_at dksX0_sortsOf_1 10 rfl rfl)
theorem dX0_sortsOf_36 : decode cX0_sortsOf 36 = .ok (.iload_n 2, 1) := dk_28 (dk_at dksX0_sortsOf_1 13 rfl rfl)
theorem dX0_sortsOf_37 : decode cX0_sortsOf 37 = .ok (.goto 21, 3) := dk_167 0 21 (dk_at dksX0_sortsOf_1 14 rfl rfl)
theorem dX0_sortsOf_40 : decode cX0_sortsOf 40 = .ok (.aload_n 0, 1) := dk_42 (dk_at dksX0_sortsOf_1 17 rfl rfl)
theorem dX0_sortsOf_41 : decode cX0_sortsOf 41 = .ok (.getfield 57, 3) := dk_180 0 57 (dk_at dksX0_sortsOf_1 18 rfl rfl)
theorem dX0_sortsOf_44 : decode cX0_sortsOf 44 = .ok (.iload_n 3, 1) := dk_29 (dk_at dksX0_sortsOf_1 21 rfl rfl)
theorem dX0_sortsOf_45 : decode cX0_sortsOf 45 = .ok (.baload, 1) := dk_51 (dk_at dksX0_sortsOf_1 22 rfl rfl)
theorem dX0_sortsOf_46 : decode cX0_sortsOf 46 = .ok (.ifCond .eq 8, 3) := dk_153 0 8 (dk_at dksX0_sortsOf_2 0 rfl rfl)
theorem dX0_sortsOf_49 : decode cX0_sortsOf 49 = .ok (.iload 4, 2) := dk_21 4 (dk_at dksX0_sortsOf_2 3 rfl rfl)
theorem dX0_sortsOf_51 : decode cX0_sortsOf 51 = .ok (.goto 7, 3) := dk_167 0 7 (dk_at dksX0_sortsOf_2 5 rfl rfl)
theorem dX0_sortsOf_54 : decode cX0_sortsOf 54 = .ok (.iload 4, 2) := dk_21 4 (dk_at dksX0_sortsOf_2 8 rfl rfl)
theorem dX0_sortsOf_56 : decode cX0_sortsOf 56 = .ok (.iconst (-1), 1) := dk_2 (dk_at dksX0_sortsOf_2 10 rfl rfl)
theorem dX0_sortsOf_57 : decode cX0_sortsOf 57 = .ok (.ixor, 1) := dk_130 (dk_at dksX0_sortsOf_2 11 rfl rfl)
theorem dX0_sortsOf_58 : decode cX0_sortsOf 58 = .ok (.iand, 1) := dk_126 (dk_at dksX0_sortsOf_2 12 rfl rfl)
theorem dX0_sortsOf_59 : decode cX0_sortsOf 59 = .ok (.istore_n 2, 1) := dk_61 (dk_at dksX0_sortsOf_2 13 rfl rfl)
theorem dX0_sortsOf_60 : decode cX0_sortsOf 60 = .ok (.iinc 3 1, 3) := dk_132 3 1 (dk_at dksX0_sortsOf_2 14 rfl rfl)
theorem dX0_sortsOf_63 : decode cX0_sortsOf 63 = .ok (.goto (-58), 3) := dk_167 255 198 (dk_at dksX0_sortsOf_2 17 rfl rfl)
theorem dX0_sortsOf_66 : decode cX0_sortsOf 66 = .ok (.iload_n 2, 1) := dk_28 (dk_at dksX0_sortsOf_2 20 rfl rfl)
theorem dX0_sortsOf_67 : decode cX0_sortsOf 67 = .ok (.ireturn, 1) := dk_172 (dk_at dksX0_sortsOf_2 21 rfl rfl)
abbrev cX0_sortsBy : ByteArray := prog_1_method_49_code
def yX0_sortsBy : MethodName := ⟨RX0, "sortsBy", "(I)I"⟩
def dkwX0_sortsBy_1 : List UInt8 := [29, 120, 167, 0, 4, 3, 128, 61, 132, 3, 1, 167, 255, 225, 28, 172]
abbrev dktX0_sortsBy_1 : List UInt8 := dkwX0_sortsBy_1 ++ []
def dkwX0_sortsBy_0 : List UInt8 := [3, 61, 3, 62, 29, 8, 162, 0, 32, 28, 42, 180, 0, 28, 29, 50, 27, 182, 1, 17, 153, 0, 9, 4]
abbrev dktX0_sortsBy_0 : List UInt8 := dkwX0_sortsBy_0 ++ dktX0_sortsBy_1
theorem dksX0_sortsBy_0 : cX0_sortsBy.data.toList.drop 0 = dktX0_sortsBy_0 := by decide +kernel
theorem dksX0_sortsBy_1 : cX0_sortsBy.data.toList.drop 24 = dktX0_sortsBy_1 := dk_seg dksX0_sortsBy_0 24 rfl rfl
theorem dX0_sortsBy_0 : decode cX0_sortsBy 0 = .ok (.iconst 0, 1) := dk_3 (dk_at dksX0_sortsBy_0 0 rfl rfl)
theorem dX0_sortsBy_1 : decode cX0_sortsBy 1 = .ok (.istore_n 2, 1) := dk_61 (dk_at dksX0_sortsBy_0 1 rfl rfl)
theorem dX0_sortsBy_2 : decode cX0_sortsBy 2 = .ok (.iconst 0, 1) := dk_3 (dk_at dksX0_sortsBy_0 2 rfl rfl)
theorem dX0_sortsBy_3 : decode cX0_sortsBy 3 = .ok (.istore_n 3, 1) := dk_62 (dk_at dksX0_sortsBy_0 3 rfl rfl)
theorem dX0_sortsBy_4 : decode cX0_sortsBy 4 = .ok (.iload_n 3, 1) := dk_29 (dk_at dksX0_sortsBy_0 4 rfl rfl)
theorem dX0_sortsBy_5 : decode cX0_sortsBy 5 = .ok (.iconst 5, 1) := dk_8 (dk_at dksX0_sortsBy_0 5 rfl rfl)
theorem dX0_sortsBy_6 : decode cX0_sortsBy 6 = .ok (.if_icmp .ge 32, 3) := dk_162 0 32 (dk_at dksX0_sortsBy_0 6 rfl rfl)
theorem dX0_sortsBy_9 : decode cX0_sortsBy 9 = .ok (.iload_n 2, 1) := dk_28 (dk_at dksX0_sortsBy_0 9 rfl rfl)
theorem dX0_sortsBy_10 : decode cX0_sortsBy 10 = .ok (.aload_n 0, 1) := dk_42 (dk_at dksX0_sortsBy_0 10 rfl rfl)
theorem dX0_sortsBy_11 : decode cX0_sortsBy 11 = .ok (.getfield 28, 3) := dk_180 0 28 (dk_at dksX0_sortsBy_0 11 rfl rfl)
theorem dX0_sortsBy_14 : decode cX0_sortsBy 14 = .ok (.iload_n 3, 1) := dk_29 (dk_at dksX0_sortsBy_0 14 rfl rfl)
theorem dX0_sortsBy_15 : decode cX0_sortsBy 15 = .ok (.aaload, 1) := dk_50 (dk_at dksX0_sortsBy_0 15 rfl rfl)
theorem dX0_sortsBy_16 : decode cX0_sortsBy 16 = .ok (.iload_n 1, 1) := dk_27 (dk_at dksX0_sortsBy_0 16 rfl rfl)
theorem dX0_sortsBy_17 : decode cX0_sortsBy 17 = .ok (.invokevirtual 273, 3) := dk_182 1 17 (dk_at dksX0_sortsBy_0 17 rfl rfl)
theorem dX0_sortsBy_20 : decode cX0_sortsBy 20 = .ok (.ifCond .eq 9, 3) := dk_153 0 9 (dk_at dksX0_sortsBy_0 20 rfl rfl)
theorem dX0_sortsBy_23 : decode cX0_sortsBy 23 = .ok (.iconst 1, 1) := dk_4 (dk_at dksX0_sortsBy_0 23 rfl rfl)
theorem dX0_sortsBy_24 : decode cX0_sortsBy 24 = .ok (.iload_n 3, 1) := dk_29 (dk_at dksX0_sortsBy_1 0 rfl rfl)
theorem dX0_sortsBy_25 : decode cX0_sortsBy 25 = .ok (.ishl, 1) := dk_120 (dk_at dksX0_sortsBy_1 1 rfl rfl)
theorem dX0_sortsBy_26 : decode cX0_sortsBy 26 = .ok (.goto 4, 3) := dk_167 0 4 (dk_at dksX0_sortsBy_1 2 rfl rfl)
theorem dX0_sortsBy_29 : decode cX0_sortsBy 29 = .ok (.iconst 0, 1) := dk_3 (dk_at dksX0_sortsBy_1 5 rfl rfl)
theorem dX0_sortsBy_30 : decode cX0_sortsBy 30 = .ok (.ior, 1) := dk_128 (dk_at dksX0_sortsBy_1 6 rfl rfl)
theorem dX0_sortsBy_31 : decode cX0_sortsBy 31 = .ok (.istore_n 2, 1) := dk_61 (dk_at dksX0_sortsBy_1 7 rfl rfl)
theorem dX0_sortsBy_32 : decode cX0_sortsBy 32 = .ok (.iinc 3 1, 3) := dk_132 3 1 (dk_at dksX0_sortsBy_1 8 rfl rfl)
theorem dX0_sortsBy_35 : decode cX0_sortsBy 35 = .ok (.goto (-31), 3) := dk_167 255 225 (dk_at dksX0_sortsBy_1 11 rfl rfl)
theorem dX0_sortsBy_38 : decode cX0_sortsBy 38 = .ok (.iload_n 2, 1) := dk_28 (dk_at dksX0_sortsBy_1 14 rfl rfl)
theorem dX0_sortsBy_39 : decode cX0_sortsBy 39 = .ok (.ireturn, 1) := dk_172 (dk_at dksX0_sortsBy_1 15 rfl rfl)
abbrev cX0_toAsk : ByteArray := prog_1_method_51_code
def yX0_toAsk : MethodName := ⟨RX0, "toAsk", "(I)I"⟩
def dkwX0_toAsk_3 : List UInt8 := [21, 5, 21, 8, 184, 0, 187, 54, 5, 132, 6, 1, 167, 255, 194, 21, 4, 172]
abbrev dktX0_toAsk_3 : List UInt8 := dkwX0_toAsk_3 ++ []
def dkwX0_toAsk_2 : List UInt8 := [21, 7, 100, 184, 0, 171, 54, 8, 21, 8, 21, 5, 162, 0, 8, 21, 6, 167, 0, 5, 21, 4, 54, 4]
abbrev dktX0_toAsk_2 : List UInt8 := dkwX0_toAsk_2 ++ dktX0_toAsk_3
def dkwX0_toAsk_1 : List UInt8 := [162, 0, 62, 29, 158, 0, 58, 28, 42, 21, 6, 182, 1, 20, 126, 184, 1, 23, 54, 7, 21, 7, 29]
abbrev dktX0_toAsk_1 : List UInt8 := dkwX0_toAsk_1 ++ dktX0_toAsk_2
def dkwX0_toAsk_0 : List UInt8 := [42, 27, 182, 0, 244, 61, 28, 184, 1, 23, 62, 2, 54, 4, 18, 186, 54, 5, 3, 54, 6, 21, 6, 6]
abbrev dktX0_toAsk_0 : List UInt8 := dkwX0_toAsk_0 ++ dktX0_toAsk_1
theorem dksX0_toAsk_0 : cX0_toAsk.data.toList.drop 0 = dktX0_toAsk_0 := by decide +kernel
theorem dksX0_toAsk_1 : cX0_toAsk.data.toList.drop 24 = dktX0_toAsk_1 := dk_seg dksX0_toAsk_0 24 rfl rfl
theorem dksX0_toAsk_2 : cX0_toAsk.data.toList.drop 47 = dktX0_toAsk_2 := dk_seg dksX0_toAsk_1 23 rfl rfl
theorem dksX0_toAsk_3 : cX0_toAsk.data.toList.drop 71 = dktX0_toAsk_3 := dk_seg dksX0_toAsk_2 24 rfl rfl
theorem dX0_toAsk_0 : decode cX0_toAsk 0 = .ok (.aload_n 0, 1) := dk_42 (dk_at dksX0_toAsk_0 0 rfl rfl)
theorem dX0_toAsk_1 : decode cX0_toAsk 1 = .ok (.iload_n 1, 1) := dk_27 (dk_at dksX0_toAsk_0 1 rfl rfl)
theorem dX0_toAsk_2 : decode cX0_toAsk 2 = .ok (.invokevirtual 244, 3) := dk_182 0 244 (dk_at dksX0_toAsk_0 2 rfl rfl)
theorem dX0_toAsk_5 : decode cX0_toAsk 5 = .ok (.istore_n 2, 1) := dk_61 (dk_at dksX0_toAsk_0 5 rfl rfl)
theorem dX0_toAsk_6 : decode cX0_toAsk 6 = .ok (.iload_n 2, 1) := dk_28 (dk_at dksX0_toAsk_0 6 rfl rfl)
theorem dX0_toAsk_7 : decode cX0_toAsk 7 = .ok (.invokestatic 279, 3) := dk_184 1 23 (dk_at dksX0_toAsk_0 7 rfl rfl)
theorem dX0_toAsk_10 : decode cX0_toAsk 10 = .ok (.istore_n 3, 1) := dk_62 (dk_at dksX0_toAsk_0 10 rfl rfl)
theorem dX0_toAsk_11 : decode cX0_toAsk 11 = .ok (.iconst (-1), 1) := dk_2 (dk_at dksX0_toAsk_0 11 rfl rfl)
theorem dX0_toAsk_12 : decode cX0_toAsk 12 = .ok (.istore 4, 2) := dk_54 4 (dk_at dksX0_toAsk_0 12 rfl rfl)
theorem dX0_toAsk_14 : decode cX0_toAsk 14 = .ok (.ldc 186, 2) := dk_18 186 (dk_at dksX0_toAsk_0 14 rfl rfl)
theorem dX0_toAsk_16 : decode cX0_toAsk 16 = .ok (.istore 5, 2) := dk_54 5 (dk_at dksX0_toAsk_0 16 rfl rfl)
theorem dX0_toAsk_18 : decode cX0_toAsk 18 = .ok (.iconst 0, 1) := dk_3 (dk_at dksX0_toAsk_0 18 rfl rfl)
theorem dX0_toAsk_19 : decode cX0_toAsk 19 = .ok (.istore 6, 2) := dk_54 6 (dk_at dksX0_toAsk_0 19 rfl rfl)
theorem dX0_toAsk_21 : decode cX0_toAsk 21 = .ok (.iload 6, 2) := dk_21 6 (dk_at dksX0_toAsk_0 21 rfl rfl)
theorem dX0_toAsk_23 : decode cX0_toAsk 23 = .ok (.iconst 3, 1) := dk_6 (dk_at dksX0_toAsk_0 23 rfl rfl)
theorem dX0_toAsk_24 : decode cX0_toAsk 24 = .ok (.if_icmp .ge 62, 3) := dk_162 0 62 (dk_at dksX0_toAsk_1 0 rfl rfl)
theorem dX0_toAsk_27 : decode cX0_toAsk 27 = .ok (.iload_n 3, 1) := dk_29 (dk_at dksX0_toAsk_1 3 rfl rfl)
theorem dX0_toAsk_28 : decode cX0_toAsk 28 = .ok (.ifCond .le 58, 3) := dk_158 0 58 (dk_at dksX0_toAsk_1 4 rfl rfl)
theorem dX0_toAsk_31 : decode cX0_toAsk 31 = .ok (.iload_n 2, 1) := dk_28 (dk_at dksX0_toAsk_1 7 rfl rfl)
theorem dX0_toAsk_32 : decode cX0_toAsk 32 = .ok (.aload_n 0, 1) := dk_42 (dk_at dksX0_toAsk_1 8 rfl rfl)
theorem dX0_toAsk_33 : decode cX0_toAsk 33 = .ok (.iload 6, 2) := dk_21 6 (dk_at dksX0_toAsk_1 9 rfl rfl)
theorem dX0_toAsk_35 : decode cX0_toAsk 35 = .ok (.invokevirtual 276, 3) := dk_182 1 20 (dk_at dksX0_toAsk_1 11 rfl rfl)
theorem dX0_toAsk_38 : decode cX0_toAsk 38 = .ok (.iand, 1) := dk_126 (dk_at dksX0_toAsk_1 14 rfl rfl)
theorem dX0_toAsk_39 : decode cX0_toAsk 39 = .ok (.invokestatic 279, 3) := dk_184 1 23 (dk_at dksX0_toAsk_1 15 rfl rfl)
theorem dX0_toAsk_42 : decode cX0_toAsk 42 = .ok (.istore 7, 2) := dk_54 7 (dk_at dksX0_toAsk_1 18 rfl rfl)
theorem dX0_toAsk_44 : decode cX0_toAsk 44 = .ok (.iload 7, 2) := dk_21 7 (dk_at dksX0_toAsk_1 20 rfl rfl)
theorem dX0_toAsk_46 : decode cX0_toAsk 46 = .ok (.iload_n 3, 1) := dk_29 (dk_at dksX0_toAsk_1 22 rfl rfl)
theorem dX0_toAsk_47 : decode cX0_toAsk 47 = .ok (.iload 7, 2) := dk_21 7 (dk_at dksX0_toAsk_2 0 rfl rfl)
theorem dX0_toAsk_49 : decode cX0_toAsk 49 = .ok (.isub, 1) := dk_100 (dk_at dksX0_toAsk_2 2 rfl rfl)
theorem dX0_toAsk_50 : decode cX0_toAsk 50 = .ok (.invokestatic 171, 3) := dk_184 0 171 (dk_at dksX0_toAsk_2 3 rfl rfl)
theorem dX0_toAsk_53 : decode cX0_toAsk 53 = .ok (.istore 8, 2) := dk_54 8 (dk_at dksX0_toAsk_2 6 rfl rfl)
theorem dX0_toAsk_55 : decode cX0_toAsk 55 = .ok (.iload 8, 2) := dk_21 8 (dk_at dksX0_toAsk_2 8 rfl rfl)
theorem dX0_toAsk_57 : decode cX0_toAsk 57 = .ok (.iload 5, 2) := dk_21 5 (dk_at dksX0_toAsk_2 10 rfl rfl)
theorem dX0_toAsk_59 : decode cX0_toAsk 59 = .ok (.if_icmp .ge 8, 3) := dk_162 0 8 (dk_at dksX0_toAsk_2 12 rfl rfl)
theorem dX0_toAsk_62 : decode cX0_toAsk 62 = .ok (.iload 6, 2) := dk_21 6 (dk_at dksX0_toAsk_2 15 rfl rfl)
theorem dX0_toAsk_64 : decode cX0_toAsk 64 = .ok (.goto 5, 3) := dk_167 0 5 (dk_at dksX0_toAsk_2 17 rfl rfl)
theorem dX0_toAsk_67 : decode cX0_toAsk 67 = .ok (.iload 4, 2) := dk_21 4 (dk_at dksX0_toAsk_2 20 rfl rfl)
theorem dX0_toAsk_69 : decode cX0_toAsk 69 = .ok (.istore 4, 2) := dk_54 4 (dk_at dksX0_toAsk_2 22 rfl rfl)
theorem dX0_toAsk_71 : decode cX0_toAsk 71 = .ok (.iload 5, 2) := dk_21 5 (dk_at dksX0_toAsk_3 0 rfl rfl)
theorem dX0_toAsk_73 : decode cX0_toAsk 73 = .ok (.iload 8, 2) := dk_21 8 (dk_at dksX0_toAsk_3 2 rfl rfl)
theorem dX0_toAsk_75 : decode cX0_toAsk 75 = .ok (.invokestatic 187, 3) := dk_184 0 187 (dk_at dksX0_toAsk_3 4 rfl rfl)
theorem dX0_toAsk_78 : decode cX0_toAsk 78 = .ok (.istore 5, 2) := dk_54 5 (dk_at dksX0_toAsk_3 7 rfl rfl)
theorem dX0_toAsk_80 : decode cX0_toAsk 80 = .ok (.iinc 6 1, 3) := dk_132 6 1 (dk_at dksX0_toAsk_3 9 rfl rfl)
theorem dX0_toAsk_83 : decode cX0_toAsk 83 = .ok (.goto (-62), 3) := dk_167 255 194 (dk_at dksX0_toAsk_3 12 rfl rfl)
theorem dX0_toAsk_86 : decode cX0_toAsk 86 = .ok (.iload 4, 2) := dk_21 4 (dk_at dksX0_toAsk_3 15 rfl rfl)
theorem dX0_toAsk_88 : decode cX0_toAsk 88 = .ok (.ireturn, 1) := dk_172 (dk_at dksX0_toAsk_3 17 rfl rfl)
abbrev cX0_badWith : ByteArray := prog_1_method_20_code
def yX0_badWith : MethodName := ⟨RX0, "badWith", "(I)I"⟩
def dkwX0_badWith_3 : List UInt8 := [153, 0, 7, 4, 167, 0, 4, 3, 96, 61, 132, 4, 1, 167, 255, 193, 132, 3, 1, 167, 255, 176, 28, 172]
abbrev dktX0_badWith_3 : List UInt8 := dkwX0_badWith_3 ++ []
def dkwX0_badWith_2 : List UInt8 := [160, 0, 7, 4, 167, 0, 4, 3, 54, 5, 28, 21, 5, 153, 0, 17, 42, 29, 21, 4, 182, 0, 150]
abbrev dktX0_badWith_2 : List UInt8 := dkwX0_badWith_2 ++ dktX0_badWith_3
def dkwX0_badWith_1 : List UInt8 := [180, 0, 116, 163, 0, 58, 29, 27, 159, 0, 17, 21, 4, 27, 159, 0, 11, 29, 21, 4, 96, 27]
abbrev dktX0_badWith_1 : List UInt8 := dkwX0_badWith_1 ++ dktX0_badWith_2
def dkwX0_badWith_0 : List UInt8 := [42, 182, 0, 156, 3, 61, 4, 62, 29, 42, 180, 0, 116, 163, 0, 78, 29, 54, 4, 29, 21, 4, 96, 42]
abbrev dktX0_badWith_0 : List UInt8 := dkwX0_badWith_0 ++ dktX0_badWith_1
theorem dksX0_badWith_0 : cX0_badWith.data.toList.drop 0 = dktX0_badWith_0 := by decide +kernel
theorem dksX0_badWith_1 : cX0_badWith.data.toList.drop 24 = dktX0_badWith_1 := dk_seg dksX0_badWith_0 24 rfl rfl
theorem dksX0_badWith_2 : cX0_badWith.data.toList.drop 46 = dktX0_badWith_2 := dk_seg dksX0_badWith_1 22 rfl rfl
theorem dksX0_badWith_3 : cX0_badWith.data.toList.drop 69 = dktX0_badWith_3 := dk_seg dksX0_badWith_2 23 rfl rfl
theorem dX0_badWith_0 : decode cX0_badWith 0 = .ok (.aload_n 0, 1) := dk_42 (dk_at dksX0_badWith_0 0 rfl rfl)
theorem dX0_badWith_1 : decode cX0_badWith 1 = .ok (.invokevirtual 156, 3) := dk_182 0 156 (dk_at dksX0_badWith_0 1 rfl rfl)
theorem dX0_badWith_4 : decode cX0_badWith 4 = .ok (.iconst 0, 1) := dk_3 (dk_at dksX0_badWith_0 4 rfl rfl)
theorem dX0_badWith_5 : decode cX0_badWith 5 = .ok (.istore_n 2, 1) := dk_61 (dk_at dksX0_badWith_0 5 rfl rfl)
theorem dX0_badWith_6 : decode cX0_badWith 6 = .ok (.iconst 1, 1) := dk_4 (dk_at dksX0_badWith_0 6 rfl rfl)
theorem dX0_badWith_7 : decode cX0_badWith 7 = .ok (.istore_n 3, 1) := dk_62 (dk_at dksX0_badWith_0 7 rfl rfl)
theorem dX0_badWith_8 : decode cX0_badWith 8 = .ok (.iload_n 3, 1) := dk_29 (dk_at dksX0_badWith_0 8 rfl rfl)
theorem dX0_badWith_9 : decode cX0_badWith 9 = .ok (.aload_n 0, 1) := dk_42 (dk_at dksX0_badWith_0 9 rfl rfl)
theorem dX0_badWith_10 : decode cX0_badWith 10 = .ok (.getfield 116, 3) := dk_180 0 116 (dk_at dksX0_badWith_0 10 rfl rfl)
theorem dX0_badWith_13 : decode cX0_badWith 13 = .ok (.if_icmp .gt 78, 3) := dk_163 0 78 (dk_at dksX0_badWith_0 13 rfl rfl)
theorem dX0_badWith_16 : decode cX0_badWith 16 = .ok (.iload_n 3, 1) := dk_29 (dk_at dksX0_badWith_0 16 rfl rfl)
theorem dX0_badWith_17 : decode cX0_badWith 17 = .ok (.istore 4, 2) := dk_54 4 (dk_at dksX0_badWith_0 17 rfl rfl)
theorem dX0_badWith_19 : decode cX0_badWith 19 = .ok (.iload_n 3, 1) := dk_29 (dk_at dksX0_badWith_0 19 rfl rfl)
theorem dX0_badWith_20 : decode cX0_badWith 20 = .ok (.iload 4, 2) := dk_21 4 (dk_at dksX0_badWith_0 20 rfl rfl)
theorem dX0_badWith_22 : decode cX0_badWith 22 = .ok (.iadd, 1) := dk_96 (dk_at dksX0_badWith_0 22 rfl rfl)
theorem dX0_badWith_23 : decode cX0_badWith 23 = .ok (.aload_n 0, 1) := dk_42 (dk_at dksX0_badWith_0 23 rfl rfl)
theorem dX0_badWith_24 : decode cX0_badWith 24 = .ok (.getfield 116, 3) := dk_180 0 116 (dk_at dksX0_badWith_1 0 rfl rfl)
theorem dX0_badWith_27 : decode cX0_badWith 27 = .ok (.if_icmp .gt 58, 3) := dk_163 0 58 (dk_at dksX0_badWith_1 3 rfl rfl)
theorem dX0_badWith_30 : decode cX0_badWith 30 = .ok (.iload_n 3, 1) := dk_29 (dk_at dksX0_badWith_1 6 rfl rfl)
theorem dX0_badWith_31 : decode cX0_badWith 31 = .ok (.iload_n 1, 1) := dk_27 (dk_at dksX0_badWith_1 7 rfl rfl)
theorem dX0_badWith_32 : decode cX0_badWith 32 = .ok (.if_icmp .eq 17, 3) := dk_159 0 17 (dk_at dksX0_badWith_1 8 rfl rfl)
theorem dX0_badWith_35 : decode cX0_badWith 35 = .ok (.iload 4, 2) := dk_21 4 (dk_at dksX0_badWith_1 11 rfl rfl)
theorem dX0_badWith_37 : decode cX0_badWith 37 = .ok (.iload_n 1, 1) := dk_27 (dk_at dksX0_badWith_1 13 rfl rfl)
theorem dX0_badWith_38 : decode cX0_badWith 38 = .ok (.if_icmp .eq 11, 3) := dk_159 0 11 (dk_at dksX0_badWith_1 14 rfl rfl)
theorem dX0_badWith_41 : decode cX0_badWith 41 = .ok (.iload_n 3, 1) := dk_29 (dk_at dksX0_badWith_1 17 rfl rfl)
theorem dX0_badWith_42 : decode cX0_badWith 42 = .ok (.iload 4, 2) := dk_21 4 (dk_at dksX0_badWith_1 18 rfl rfl)
theorem dX0_badWith_44 : decode cX0_badWith 44 = .ok (.iadd, 1) := dk_96 (dk_at dksX0_badWith_1 20 rfl rfl)
theorem dX0_badWith_45 : decode cX0_badWith 45 = .ok (.iload_n 1, 1) := dk_27 (dk_at dksX0_badWith_1 21 rfl rfl)
theorem dX0_badWith_46 : decode cX0_badWith 46 = .ok (.if_icmp .ne 7, 3) := dk_160 0 7 (dk_at dksX0_badWith_2 0 rfl rfl)
theorem dX0_badWith_49 : decode cX0_badWith 49 = .ok (.iconst 1, 1) := dk_4 (dk_at dksX0_badWith_2 3 rfl rfl)
theorem dX0_badWith_50 : decode cX0_badWith 50 = .ok (.goto 4, 3) := dk_167 0 4 (dk_at dksX0_badWith_2 4 rfl rfl)
theorem dX0_badWith_53 : decode cX0_badWith 53 = .ok (.iconst 0, 1) := dk_3 (dk_at dksX0_badWith_2 7 rfl rfl)
theorem dX0_badWith_54 : decode cX0_badWith 54 = .ok (.istore 5, 2) := dk_54 5 (dk_at dksX0_badWith_2 8 rfl rfl)
theorem dX0_badWith_56 : decode cX0_badWith 56 = .ok (.iload_n 2, 1) := dk_28 (dk_at dksX0_badWith_2 10 rfl rfl)
theorem dX0_badWith_57 : decode cX0_badWith 57 = .ok (.iload 5, 2) := dk_21 5 (dk_at dksX0_badWith_2 11 rfl rfl)
theorem dX0_badWith_59 : decode cX0_badWith 59 = .ok (.ifCond .eq 17, 3) := dk_153 0 17 (dk_at dksX0_badWith_2 13 rfl rfl)
theorem dX0_badWith_62 : decode cX0_badWith 62 = .ok (.aload_n 0, 1) := dk_42 (dk_at dksX0_badWith_2 16 rfl rfl)
theorem dX0_badWith_63 : decode cX0_badWith 63 = .ok (.iload_n 3, 1) := dk_29 (dk_at dksX0_badWith_2 17 rfl rfl)
theorem dX0_badWith_64 : decode cX0_badWith 64 = .ok (.iload 4, 2) := dk_21 4 (dk_at dksX0_badWith_2 18 rfl rfl)
theorem dX0_badWith_66 : decode cX0_badWith 66 = .ok (.invokevirtual 150, 3) := dk_182 0 150 (dk_at dksX0_badWith_2 20 rfl rfl)
theorem dX0_badWith_69 : decode cX0_badWith 69 = .ok (.ifCond .eq 7, 3) := dk_153 0 7 (dk_at dksX0_badWith_3 0 rfl rfl)
theorem dX0_badWith_72 : decode cX0_badWith 72 = .ok (.iconst 1, 1) := dk_4 (dk_at dksX0_badWith_3 3 rfl rfl)
theorem dX0_badWith_73 : decode cX0_badWith 73 = .ok (.goto 4, 3) := dk_167 0 4 (dk_at dksX0_badWith_3 4 rfl rfl)
theorem dX0_badWith_76 : decode cX0_badWith 76 = .ok (.iconst 0, 1) := dk_3 (dk_at dksX0_badWith_3 7 rfl rfl)
theorem dX0_badWith_77 : decode cX0_badWith 77 = .ok (.iadd, 1) := dk_96 (dk_at dksX0_badWith_3 8 rfl rfl)
theorem dX0_badWith_78 : decode cX0_badWith 78 = .ok (.istore_n 2, 1) := dk_61 (dk_at dksX0_badWith_3 9 rfl rfl)
theorem dX0_badWith_79 : decode cX0_badWith 79 = .ok (.iinc 4 1, 3) := dk_132 4 1 (dk_at dksX0_badWith_3 10 rfl rfl)
theorem dX0_badWith_82 : decode cX0_badWith 82 = .ok (.goto (-63), 3) := dk_167 255 193 (dk_at dksX0_badWith_3 13 rfl rfl)
theorem dX0_badWith_85 : decode cX0_badWith 85 = .ok (.iinc 3 1, 3) := dk_132 3 1 (dk_at dksX0_badWith_3 16 rfl rfl)
theorem dX0_badWith_88 : decode cX0_badWith 88 = .ok (.goto (-80), 3) := dk_167 255 176 (dk_at dksX0_badWith_3 19 rfl rfl)
theorem dX0_badWith_91 : decode cX0_badWith 91 = .ok (.iload_n 2, 1) := dk_28 (dk_at dksX0_badWith_3 22 rfl rfl)
theorem dX0_badWith_92 : decode cX0_badWith 92 = .ok (.ireturn, 1) := dk_172 (dk_at dksX0_badWith_3 23 rfl rfl)
abbrev cX0_as : ByteArray := prog_1_method_43_code
def yX0_as : MethodName := ⟨RX0, "as", "(II)I"⟩
def dkwX0_as_1 : List UInt8 := [16, 154, 172, 42, 180, 0, 32, 27, 50, 28, 184, 1, 7, 172, 78, 2, 172]
abbrev dktX0_as_1 : List UInt8 := dkwX0_as_1 ++ []
def dkwX0_as_0 : List UInt8 := [42, 27, 182, 0, 228, 154, 0, 6, 16, 155, 172, 28, 133, 9, 20, 1, 5, 184, 0, 78, 154, 0, 6]
abbrev dktX0_as_0 : List UInt8 := dkwX0_as_0 ++ dktX0_as_1
theorem dksX0_as_0 : cX0_as.data.toList.drop 0 = dktX0_as_0 := by decide +kernel
theorem dksX0_as_1 : cX0_as.data.toList.drop 23 = dktX0_as_1 := dk_seg dksX0_as_0 23 rfl rfl
theorem dX0_as_0 : decode cX0_as 0 = .ok (.aload_n 0, 1) := dk_42 (dk_at dksX0_as_0 0 rfl rfl)
theorem dX0_as_1 : decode cX0_as 1 = .ok (.iload_n 1, 1) := dk_27 (dk_at dksX0_as_0 1 rfl rfl)
theorem dX0_as_2 : decode cX0_as 2 = .ok (.invokevirtual 228, 3) := dk_182 0 228 (dk_at dksX0_as_0 2 rfl rfl)
theorem dX0_as_5 : decode cX0_as 5 = .ok (.ifCond .ne 6, 3) := dk_154 0 6 (dk_at dksX0_as_0 5 rfl rfl)
theorem dX0_as_8 : decode cX0_as 8 = .ok (.bipush (-101), 2) := dk_16 155 (dk_at dksX0_as_0 8 rfl rfl)
theorem dX0_as_10 : decode cX0_as 10 = .ok (.ireturn, 1) := dk_172 (dk_at dksX0_as_0 10 rfl rfl)
theorem dX0_as_11 : decode cX0_as 11 = .ok (.iload_n 2, 1) := dk_28 (dk_at dksX0_as_0 11 rfl rfl)
theorem dX0_as_12 : decode cX0_as 12 = .ok (.i2l, 1) := dk_133 (dk_at dksX0_as_0 12 rfl rfl)
theorem dX0_as_13 : decode cX0_as 13 = .ok (.lconst 0, 1) := dk_9 (dk_at dksX0_as_0 13 rfl rfl)
theorem dX0_as_14 : decode cX0_as 14 = .ok (.ldc2_w 261, 3) := dk_20 1 5 (dk_at dksX0_as_0 14 rfl rfl)
theorem dX0_as_17 : decode cX0_as 17 = .ok (.invokestatic 78, 3) := dk_184 0 78 (dk_at dksX0_as_0 17 rfl rfl)
theorem dX0_as_20 : decode cX0_as 20 = .ok (.ifCond .ne 6, 3) := dk_154 0 6 (dk_at dksX0_as_0 20 rfl rfl)
theorem dX0_as_23 : decode cX0_as 23 = .ok (.bipush (-102), 2) := dk_16 154 (dk_at dksX0_as_1 0 rfl rfl)
theorem dX0_as_25 : decode cX0_as 25 = .ok (.ireturn, 1) := dk_172 (dk_at dksX0_as_1 2 rfl rfl)
theorem dX0_as_26 : decode cX0_as 26 = .ok (.aload_n 0, 1) := dk_42 (dk_at dksX0_as_1 3 rfl rfl)
theorem dX0_as_27 : decode cX0_as 27 = .ok (.getfield 32, 3) := dk_180 0 32 (dk_at dksX0_as_1 4 rfl rfl)
theorem dX0_as_30 : decode cX0_as 30 = .ok (.iload_n 1, 1) := dk_27 (dk_at dksX0_as_1 7 rfl rfl)
theorem dX0_as_31 : decode cX0_as 31 = .ok (.aaload, 1) := dk_50 (dk_at dksX0_as_1 8 rfl rfl)
theorem dX0_as_32 : decode cX0_as 32 = .ok (.iload_n 2, 1) := dk_28 (dk_at dksX0_as_1 9 rfl rfl)
theorem dX0_as_33 : decode cX0_as 33 = .ok (.invokestatic 263, 3) := dk_184 1 7 (dk_at dksX0_as_1 10 rfl rfl)
theorem dX0_as_36 : decode cX0_as 36 = .ok (.ireturn, 1) := dk_172 (dk_at dksX0_as_1 13 rfl rfl)
theorem dX0_as_37 : decode cX0_as 37 = .ok (.astore_n 3, 1) := dk_78 (dk_at dksX0_as_1 14 rfl rfl)
theorem dX0_as_38 : decode cX0_as 38 = .ok (.iconst (-1), 1) := dk_2 (dk_at dksX0_as_1 15 rfl rfl)
theorem dX0_as_39 : decode cX0_as 39 = .ok (.ireturn, 1) := dk_172 (dk_at dksX0_as_1 16 rfl rfl)
abbrev cX0_castTo : ByteArray := prog_1_method_42_code
def yX0_castTo : MethodName := ⟨RX0, "castTo", "(Ljava/lang/Object;I)I"⟩
def dkwX0_castTo_3 : List UInt8 := [42, 192, 0, 19, 180, 1, 3, 172, 42, 192, 0, 22, 180, 1, 4, 172]
abbrev dktX0_castTo_3 : List UInt8 := dkwX0_castTo_3 ++ []
def dkwX0_castTo_2 : List UInt8 := [42, 192, 0, 7, 180, 0, 123, 172, 42, 192, 0, 13, 180, 1, 1, 172, 42, 192, 0, 16, 180, 1, 2, 172]
abbrev dktX0_castTo_2 : List UInt8 := dkwX0_castTo_2 ++ dktX0_castTo_3
def dkwX0_castTo_1 : List UInt8 := [170, 0, 0, 0, 0, 0, 63, 0, 0, 0, 0, 0, 0, 0, 3, 0, 0, 0, 31, 0, 0, 0, 39, 0, 0, 0, 47, 0, 0, 0, 55]
abbrev dktX0_castTo_1 : List UInt8 := dkwX0_castTo_1 ++ dktX0_castTo_2
def dkwX0_castTo_0 : List UInt8 := [27]
abbrev dktX0_castTo_0 : List UInt8 := dkwX0_castTo_0 ++ dktX0_castTo_1
theorem dksX0_castTo_0 : cX0_castTo.data.toList.drop 0 = dktX0_castTo_0 := by decide +kernel
theorem dksX0_castTo_1 : cX0_castTo.data.toList.drop 1 = dktX0_castTo_1 := dk_seg dksX0_castTo_0 1 rfl rfl
theorem dksX0_castTo_2 : cX0_castTo.data.toList.drop 32 = dktX0_castTo_2 := dk_seg dksX0_castTo_1 31 rfl rfl
theorem dksX0_castTo_3 : cX0_castTo.data.toList.drop 56 = dktX0_castTo_3 := dk_seg dksX0_castTo_2 24 rfl rfl
theorem dX0_castTo_0 : decode cX0_castTo 0 = .ok (.iload_n 1, 1) := dk_27 (dk_at dksX0_castTo_0 0 rfl rfl)
theorem dX0_castTo_1 : decode cX0_castTo 1 = .ok (.tableswitch 63 0 3 #[31, 39, 47, 55], 31) := by decide +kernel
theorem dX0_castTo_32 : decode cX0_castTo 32 = .ok (.aload_n 0, 1) := dk_42 (dk_at dksX0_castTo_2 0 rfl rfl)
theorem dX0_castTo_33 : decode cX0_castTo 33 = .ok (.checkcast 7, 3) := dk_192 0 7 (dk_at dksX0_castTo_2 1 rfl rfl)
theorem dX0_castTo_36 : decode cX0_castTo 36 = .ok (.getfield 123, 3) := dk_180 0 123 (dk_at dksX0_castTo_2 4 rfl rfl)
theorem dX0_castTo_39 : decode cX0_castTo 39 = .ok (.ireturn, 1) := dk_172 (dk_at dksX0_castTo_2 7 rfl rfl)
theorem dX0_castTo_40 : decode cX0_castTo 40 = .ok (.aload_n 0, 1) := dk_42 (dk_at dksX0_castTo_2 8 rfl rfl)
theorem dX0_castTo_41 : decode cX0_castTo 41 = .ok (.checkcast 13, 3) := dk_192 0 13 (dk_at dksX0_castTo_2 9 rfl rfl)
theorem dX0_castTo_44 : decode cX0_castTo 44 = .ok (.getfield 257, 3) := dk_180 1 1 (dk_at dksX0_castTo_2 12 rfl rfl)
theorem dX0_castTo_47 : decode cX0_castTo 47 = .ok (.ireturn, 1) := dk_172 (dk_at dksX0_castTo_2 15 rfl rfl)
theorem dX0_castTo_48 : decode cX0_castTo 48 = .ok (.aload_n 0, 1) := dk_42 (dk_at dksX0_castTo_2 16 rfl rfl)
theorem dX0_castTo_49 : decode cX0_castTo 49 = .ok (.checkcast 16, 3) := dk_192 0 16 (dk_at dksX0_castTo_2 17 rfl rfl)
theorem dX0_castTo_52 : decode cX0_castTo 52 = .ok (.getfield 258, 3) := dk_180 1 2 (dk_at dksX0_castTo_2 20 rfl rfl)
theorem dX0_castTo_55 : decode cX0_castTo 55 = .ok (.ireturn, 1) := dk_172 (dk_at dksX0_castTo_2 23 rfl rfl)
theorem dX0_castTo_56 : decode cX0_castTo 56 = .ok (.aload_n 0, 1) := dk_42 (dk_at dksX0_castTo_3 0 rfl rfl)
theorem dX0_castTo_57 : decode cX0_castTo 57 = .ok (.checkcast 19, 3) := dk_192 0 19 (dk_at dksX0_castTo_3 1 rfl rfl)
theorem dX0_castTo_60 : decode cX0_castTo 60 = .ok (.getfield 259, 3) := dk_180 1 3 (dk_at dksX0_castTo_3 4 rfl rfl)
theorem dX0_castTo_63 : decode cX0_castTo 63 = .ok (.ireturn, 1) := dk_172 (dk_at dksX0_castTo_3 7 rfl rfl)
theorem dX0_castTo_64 : decode cX0_castTo 64 = .ok (.aload_n 0, 1) := dk_42 (dk_at dksX0_castTo_3 8 rfl rfl)
theorem dX0_castTo_65 : decode cX0_castTo 65 = .ok (.checkcast 22, 3) := dk_192 0 22 (dk_at dksX0_castTo_3 9 rfl rfl)
theorem dX0_castTo_68 : decode cX0_castTo 68 = .ok (.getfield 260, 3) := dk_180 1 4 (dk_at dksX0_castTo_3 12 rfl rfl)
theorem dX0_castTo_71 : decode cX0_castTo 71 = .ok (.ireturn, 1) := dk_172 (dk_at dksX0_castTo_3 15 rfl rfl)
abbrev cX0_paint : ByteArray := prog_1_method_44_code
def yX0_paint : MethodName := ⟨RX0, "paint", "(II)I"⟩
def dkwX0_paint_2 : List UInt8 := [180, 0, 129, 4, 96, 181, 0, 129, 42, 4, 181, 0, 138, 42, 182, 0, 205, 172]
abbrev dktX0_paint_2 : List UInt8 := dkwX0_paint_2 ++ []
def dkwX0_paint_1 : List UInt8 := [180, 0, 129, 17, 3, 231, 160, 0, 6, 16, 152, 172, 42, 180, 0, 32, 27, 50, 28, 181, 0, 126, 42, 89]
abbrev dktX0_paint_1 : List UInt8 := dkwX0_paint_1 ++ dktX0_paint_2
def dkwX0_paint_0 : List UInt8 := [42, 27, 182, 0, 228, 154, 0, 6, 16, 155, 172, 42, 28, 182, 0, 231, 154, 0, 6, 16, 154, 172, 42]
abbrev dktX0_paint_0 : List UInt8 := dkwX0_paint_0 ++ dktX0_paint_1
theorem dksX0_paint_0 : cX0_paint.data.toList.drop 0 = dktX0_paint_0 := by decide +kernel
theorem dksX0_paint_1 : cX0_paint.data.toList.drop 23 = dktX0_paint_1 := dk_seg dksX0_paint_0 23 rfl rfl
theorem dksX0_paint_2 : cX0_paint.data.toList.drop 47 = dktX0_paint_2 := dk_seg dksX0_paint_1 24 rfl rfl
theorem dX0_paint_0 : decode cX0_paint 0 = .ok (.aload_n 0, 1) := dk_42 (dk_at dksX0_paint_0 0 rfl rfl)
theorem dX0_paint_1 : decode cX0_paint 1 = .ok (.iload_n 1, 1) := dk_27 (dk_at dksX0_paint_0 1 rfl rfl)
theorem dX0_paint_2 : decode cX0_paint 2 = .ok (.invokevirtual 228, 3) := dk_182 0 228 (dk_at dksX0_paint_0 2 rfl rfl)
theorem dX0_paint_5 : decode cX0_paint 5 = .ok (.ifCond .ne 6, 3) := dk_154 0 6 (dk_at dksX0_paint_0 5 rfl rfl)
theorem dX0_paint_8 : decode cX0_paint 8 = .ok (.bipush (-101), 2) := dk_16 155 (dk_at dksX0_paint_0 8 rfl rfl)
theorem dX0_paint_10 : decode cX0_paint 10 = .ok (.ireturn, 1) := dk_172 (dk_at dksX0_paint_0 10 rfl rfl)
theorem dX0_paint_11 : decode cX0_paint 11 = .ok (.aload_n 0, 1) := dk_42 (dk_at dksX0_paint_0 11 rfl rfl)
theorem dX0_paint_12 : decode cX0_paint 12 = .ok (.iload_n 2, 1) := dk_28 (dk_at dksX0_paint_0 12 rfl rfl)
theorem dX0_paint_13 : decode cX0_paint 13 = .ok (.invokevirtual 231, 3) := dk_182 0 231 (dk_at dksX0_paint_0 13 rfl rfl)
theorem dX0_paint_16 : decode cX0_paint 16 = .ok (.ifCond .ne 6, 3) := dk_154 0 6 (dk_at dksX0_paint_0 16 rfl rfl)
theorem dX0_paint_19 : decode cX0_paint 19 = .ok (.bipush (-102), 2) := dk_16 154 (dk_at dksX0_paint_0 19 rfl rfl)
theorem dX0_paint_21 : decode cX0_paint 21 = .ok (.ireturn, 1) := dk_172 (dk_at dksX0_paint_0 21 rfl rfl)
theorem dX0_paint_22 : decode cX0_paint 22 = .ok (.aload_n 0, 1) := dk_42 (dk_at dksX0_paint_0 22 rfl rfl)
theorem dX0_paint_23 : decode cX0_paint 23 = .ok (.getfield 129, 3) := dk_180 0 129 (dk_at dksX0_paint_1 0 rfl rfl)
theorem dX0_paint_26 : decode cX0_paint 26 = .ok (.sipush 999, 3) := dk_17 3 231 (dk_at dksX0_paint_1 3 rfl rfl)
theorem dX0_paint_29 : decode cX0_paint 29 = .ok (.if_icmp .ne 6, 3) := dk_160 0 6 (dk_at dksX0_paint_1 6 rfl rfl)
theorem dX0_paint_32 : decode cX0_paint 32 = .ok (.bipush (-104), 2) := dk_16 152 (dk_at dksX0_paint_1 9 rfl rfl)
theorem dX0_paint_34 : decode cX0_paint 34 = .ok (.ireturn, 1) := dk_172 (dk_at dksX0_paint_1 11 rfl rfl)
theorem dX0_paint_35 : decode cX0_paint 35 = .ok (.aload_n 0, 1) := dk_42 (dk_at dksX0_paint_1 12 rfl rfl)
theorem dX0_paint_36 : decode cX0_paint 36 = .ok (.getfield 32, 3) := dk_180 0 32 (dk_at dksX0_paint_1 13 rfl rfl)
theorem dX0_paint_39 : decode cX0_paint 39 = .ok (.iload_n 1, 1) := dk_27 (dk_at dksX0_paint_1 16 rfl rfl)
theorem dX0_paint_40 : decode cX0_paint 40 = .ok (.aaload, 1) := dk_50 (dk_at dksX0_paint_1 17 rfl rfl)
theorem dX0_paint_41 : decode cX0_paint 41 = .ok (.iload_n 2, 1) := dk_28 (dk_at dksX0_paint_1 18 rfl rfl)
theorem dX0_paint_42 : decode cX0_paint 42 = .ok (.putfield 126, 3) := dk_181 0 126 (dk_at dksX0_paint_1 19 rfl rfl)
theorem dX0_paint_45 : decode cX0_paint 45 = .ok (.aload_n 0, 1) := dk_42 (dk_at dksX0_paint_1 22 rfl rfl)
theorem dX0_paint_46 : decode cX0_paint 46 = .ok (.dup, 1) := dk_89 (dk_at dksX0_paint_1 23 rfl rfl)
theorem dX0_paint_47 : decode cX0_paint 47 = .ok (.getfield 129, 3) := dk_180 0 129 (dk_at dksX0_paint_2 0 rfl rfl)
theorem dX0_paint_50 : decode cX0_paint 50 = .ok (.iconst 1, 1) := dk_4 (dk_at dksX0_paint_2 3 rfl rfl)
theorem dX0_paint_51 : decode cX0_paint 51 = .ok (.iadd, 1) := dk_96 (dk_at dksX0_paint_2 4 rfl rfl)
theorem dX0_paint_52 : decode cX0_paint 52 = .ok (.putfield 129, 3) := dk_181 0 129 (dk_at dksX0_paint_2 5 rfl rfl)
theorem dX0_paint_55 : decode cX0_paint 55 = .ok (.aload_n 0, 1) := dk_42 (dk_at dksX0_paint_2 8 rfl rfl)
theorem dX0_paint_56 : decode cX0_paint 56 = .ok (.iconst 1, 1) := dk_4 (dk_at dksX0_paint_2 9 rfl rfl)
theorem dX0_paint_57 : decode cX0_paint 57 = .ok (.putfield 138, 3) := dk_181 0 138 (dk_at dksX0_paint_2 10 rfl rfl)
theorem dX0_paint_60 : decode cX0_paint 60 = .ok (.aload_n 0, 1) := dk_42 (dk_at dksX0_paint_2 13 rfl rfl)
theorem dX0_paint_61 : decode cX0_paint 61 = .ok (.invokevirtual 205, 3) := dk_182 0 205 (dk_at dksX0_paint_2 14 rfl rfl)
theorem dX0_paint_64 : decode cX0_paint 64 = .ok (.ireturn, 1) := dk_172 (dk_at dksX0_paint_2 17 rfl rfl)
abbrev cX0_wipe : ByteArray := prog_1_method_45_code
def yX0_wipe : MethodName := ⟨RX0, "wipe", "(I)I"⟩
def dkwX0_wipe_2 : List UInt8 := [50, 2, 181, 0, 126, 42, 89, 180, 0, 129, 4, 96, 181, 0, 129, 42, 4, 181, 0, 138, 28, 172]
abbrev dktX0_wipe_2 : List UInt8 := dkwX0_wipe_2 ++ []
def dkwX0_wipe_1 : List UInt8 := [160, 0, 6, 16, 153, 172, 42, 180, 0, 129, 17, 3, 231, 160, 0, 6, 16, 152, 172, 42, 180, 0, 32, 27]
abbrev dktX0_wipe_1 : List UInt8 := dkwX0_wipe_1 ++ dktX0_wipe_2
def dkwX0_wipe_0 : List UInt8 := [42, 27, 182, 0, 228, 154, 0, 6, 16, 155, 172, 42, 180, 0, 32, 27, 50, 180, 0, 126, 61, 28, 2]
abbrev dktX0_wipe_0 : List UInt8 := dkwX0_wipe_0 ++ dktX0_wipe_1
theorem dksX0_wipe_0 : cX0_wipe.data.toList.drop 0 = dktX0_wipe_0 := by decide +kernel
theorem dksX0_wipe_1 : cX0_wipe.data.toList.drop 23 = dktX0_wipe_1 := dk_seg dksX0_wipe_0 23 rfl rfl
theorem dksX0_wipe_2 : cX0_wipe.data.toList.drop 47 = dktX0_wipe_2 := dk_seg dksX0_wipe_1 24 rfl rfl
theorem dX0_wipe_0 : decode cX0_wipe 0 = .ok (.aload_n 0, 1) := dk_42 (dk_at dksX0_wipe_0 0 rfl rfl)
theorem dX0_wipe_1 : decode cX0_wipe 1 = .ok (.iload_n 1, 1) := dk_27 (dk_at dksX0_wipe_0 1 rfl rfl)
theorem dX0_wipe_2 : decode cX0_wipe 2 = .ok (.invokevirtual 228, 3) := dk_182 0 228 (dk_at dksX0_wipe_0 2 rfl rfl)
theorem dX0_wipe_5 : decode cX0_wipe 5 = .ok (.ifCond .ne 6, 3) := dk_154 0 6 (dk_at dksX0_wipe_0 5 rfl rfl)
theorem dX0_wipe_8 : decode cX0_wipe 8 = .ok (.bipush (-101), 2) := dk_16 155 (dk_at dksX0_wipe_0 8 rfl rfl)
theorem dX0_wipe_10 : decode cX0_wipe 10 = .ok (.ireturn, 1) := dk_172 (dk_at dksX0_wipe_0 10 rfl rfl)
theorem dX0_wipe_11 : decode cX0_wipe 11 = .ok (.aload_n 0, 1) := dk_42 (dk_at dksX0_wipe_0 11 rfl rfl)
theorem dX0_wipe_12 : decode cX0_wipe 12 = .ok (.getfield 32, 3) := dk_180 0 32 (dk_at dksX0_wipe_0 12 rfl rfl)
theorem dX0_wipe_15 : decode cX0_wipe 15 = .ok (.iload_n 1, 1) := dk_27 (dk_at dksX0_wipe_0 15 rfl rfl)
theorem dX0_wipe_16 : decode cX0_wipe 16 = .ok (.aaload, 1) := dk_50 (dk_at dksX0_wipe_0 16 rfl rfl)
theorem dX0_wipe_17 : decode cX0_wipe 17 = .ok (.getfield 126, 3) := dk_180 0 126 (dk_at dksX0_wipe_0 17 rfl rfl)
theorem dX0_wipe_20 : decode cX0_wipe 20 = .ok (.istore_n 2, 1) := dk_61 (dk_at dksX0_wipe_0 20 rfl rfl)
theorem dX0_wipe_21 : decode cX0_wipe 21 = .ok (.iload_n 2, 1) := dk_28 (dk_at dksX0_wipe_0 21 rfl rfl)
theorem dX0_wipe_22 : decode cX0_wipe 22 = .ok (.iconst (-1), 1) := dk_2 (dk_at dksX0_wipe_0 22 rfl rfl)
theorem dX0_wipe_23 : decode cX0_wipe 23 = .ok (.if_icmp .ne 6, 3) := dk_160 0 6 (dk_at dksX0_wipe_1 0 rfl rfl)
theorem dX0_wipe_26 : decode cX0_wipe 26 = .ok (.bipush (-103), 2) := dk_16 153 (dk_at dksX0_wipe_1 3 rfl rfl)
theorem dX0_wipe_28 : decode cX0_wipe 28 = .ok (.ireturn, 1) := dk_172 (dk_at dksX0_wipe_1 5 rfl rfl)
theorem dX0_wipe_29 : decode cX0_wipe 29 = .ok (.aload_n 0, 1) := dk_42 (dk_at dksX0_wipe_1 6 rfl rfl)
theorem dX0_wipe_30 : decode cX0_wipe 30 = .ok (.getfield 129, 3) := dk_180 0 129 (dk_at dksX0_wipe_1 7 rfl rfl)
theorem dX0_wipe_33 : decode cX0_wipe 33 = .ok (.sipush 999, 3) := dk_17 3 231 (dk_at dksX0_wipe_1 10 rfl rfl)
theorem dX0_wipe_36 : decode cX0_wipe 36 = .ok (.if_icmp .ne 6, 3) := dk_160 0 6 (dk_at dksX0_wipe_1 13 rfl rfl)
theorem dX0_wipe_39 : decode cX0_wipe 39 = .ok (.bipush (-104), 2) := dk_16 152 (dk_at dksX0_wipe_1 16 rfl rfl)
theorem dX0_wipe_41 : decode cX0_wipe 41 = .ok (.ireturn, 1) := dk_172 (dk_at dksX0_wipe_1 18 rfl rfl)
theorem dX0_wipe_42 : decode cX0_wipe 42 = .ok (.aload_n 0, 1) := dk_42 (dk_at dksX0_wipe_1 19 rfl rfl)
theorem dX0_wipe_43 : decode cX0_wipe 43 = .ok (.getfield 32, 3) := dk_180 0 32 (dk_at dksX0_wipe_1 20 rfl rfl)
theorem dX0_wipe_46 : decode cX0_wipe 46 = .ok (.iload_n 1, 1) := dk_27 (dk_at dksX0_wipe_1 23 rfl rfl)
theorem dX0_wipe_47 : decode cX0_wipe 47 = .ok (.aaload, 1) := dk_50 (dk_at dksX0_wipe_2 0 rfl rfl)
theorem dX0_wipe_48 : decode cX0_wipe 48 = .ok (.iconst (-1), 1) := dk_2 (dk_at dksX0_wipe_2 1 rfl rfl)
theorem dX0_wipe_49 : decode cX0_wipe 49 = .ok (.putfield 126, 3) := dk_181 0 126 (dk_at dksX0_wipe_2 2 rfl rfl)
theorem dX0_wipe_52 : decode cX0_wipe 52 = .ok (.aload_n 0, 1) := dk_42 (dk_at dksX0_wipe_2 5 rfl rfl)
theorem dX0_wipe_53 : decode cX0_wipe 53 = .ok (.dup, 1) := dk_89 (dk_at dksX0_wipe_2 6 rfl rfl)
theorem dX0_wipe_54 : decode cX0_wipe 54 = .ok (.getfield 129, 3) := dk_180 0 129 (dk_at dksX0_wipe_2 7 rfl rfl)
theorem dX0_wipe_57 : decode cX0_wipe 57 = .ok (.iconst 1, 1) := dk_4 (dk_at dksX0_wipe_2 10 rfl rfl)
theorem dX0_wipe_58 : decode cX0_wipe 58 = .ok (.iadd, 1) := dk_96 (dk_at dksX0_wipe_2 11 rfl rfl)
theorem dX0_wipe_59 : decode cX0_wipe 59 = .ok (.putfield 129, 3) := dk_181 0 129 (dk_at dksX0_wipe_2 12 rfl rfl)
theorem dX0_wipe_62 : decode cX0_wipe 62 = .ok (.aload_n 0, 1) := dk_42 (dk_at dksX0_wipe_2 15 rfl rfl)
theorem dX0_wipe_63 : decode cX0_wipe 63 = .ok (.iconst 1, 1) := dk_4 (dk_at dksX0_wipe_2 16 rfl rfl)
theorem dX0_wipe_64 : decode cX0_wipe 64 = .ok (.putfield 138, 3) := dk_181 0 138 (dk_at dksX0_wipe_2 17 rfl rfl)
theorem dX0_wipe_67 : decode cX0_wipe 67 = .ok (.iload_n 2, 1) := dk_28 (dk_at dksX0_wipe_2 20 rfl rfl)
theorem dX0_wipe_68 : decode cX0_wipe 68 = .ok (.ireturn, 1) := dk_172 (dk_at dksX0_wipe_2 21 rfl rfl)
abbrev cX0_be : ByteArray := prog_1_method_46_code
def yX0_be : MethodName := ⟨RX0, "be", "(II)I"⟩
def dkwX0_be_2 : List UInt8 := [180, 0, 32, 27, 50, 182, 1, 13, 42, 180, 0, 32, 27, 25, 4, 83, 42, 4, 181, 0, 138, 29, 172]
abbrev dktX0_be_2 : List UInt8 := dkwX0_be_2 ++ []
def dkwX0_be_1 : List UInt8 := [16, 154, 172, 42, 180, 0, 32, 27, 50, 182, 0, 238, 62, 28, 184, 0, 119, 58, 4, 25, 4, 42]
abbrev dktX0_be_1 : List UInt8 := dkwX0_be_1 ++ dktX0_be_2
def dkwX0_be_0 : List UInt8 := [42, 27, 182, 0, 228, 154, 0, 6, 16, 155, 172, 28, 133, 9, 20, 1, 5, 184, 0, 78, 154, 0, 6]
abbrev dktX0_be_0 : List UInt8 := dkwX0_be_0 ++ dktX0_be_1
theorem dksX0_be_0 : cX0_be.data.toList.drop 0 = dktX0_be_0 := by decide +kernel
theorem dksX0_be_1 : cX0_be.data.toList.drop 23 = dktX0_be_1 := dk_seg dksX0_be_0 23 rfl rfl
theorem dksX0_be_2 : cX0_be.data.toList.drop 45 = dktX0_be_2 := dk_seg dksX0_be_1 22 rfl rfl
theorem dX0_be_0 : decode cX0_be 0 = .ok (.aload_n 0, 1) := dk_42 (dk_at dksX0_be_0 0 rfl rfl)
theorem dX0_be_1 : decode cX0_be 1 = .ok (.iload_n 1, 1) := dk_27 (dk_at dksX0_be_0 1 rfl rfl)
theorem dX0_be_2 : decode cX0_be 2 = .ok (.invokevirtual 228, 3) := dk_182 0 228 (dk_at dksX0_be_0 2 rfl rfl)
theorem dX0_be_5 : decode cX0_be 5 = .ok (.ifCond .ne 6, 3) := dk_154 0 6 (dk_at dksX0_be_0 5 rfl rfl)
theorem dX0_be_8 : decode cX0_be 8 = .ok (.bipush (-101), 2) := dk_16 155 (dk_at dksX0_be_0 8 rfl rfl)
theorem dX0_be_10 : decode cX0_be 10 = .ok (.ireturn, 1) := dk_172 (dk_at dksX0_be_0 10 rfl rfl)
theorem dX0_be_11 : decode cX0_be 11 = .ok (.iload_n 2, 1) := dk_28 (dk_at dksX0_be_0 11 rfl rfl)
theorem dX0_be_12 : decode cX0_be 12 = .ok (.i2l, 1) := dk_133 (dk_at dksX0_be_0 12 rfl rfl)
theorem dX0_be_13 : decode cX0_be 13 = .ok (.lconst 0, 1) := dk_9 (dk_at dksX0_be_0 13 rfl rfl)
theorem dX0_be_14 : decode cX0_be 14 = .ok (.ldc2_w 261, 3) := dk_20 1 5 (dk_at dksX0_be_0 14 rfl rfl)
theorem dX0_be_17 : decode cX0_be 17 = .ok (.invokestatic 78, 3) := dk_184 0 78 (dk_at dksX0_be_0 17 rfl rfl)
theorem dX0_be_20 : decode cX0_be 20 = .ok (.ifCond .ne 6, 3) := dk_154 0 6 (dk_at dksX0_be_0 20 rfl rfl)
theorem dX0_be_23 : decode cX0_be 23 = .ok (.bipush (-102), 2) := dk_16 154 (dk_at dksX0_be_1 0 rfl rfl)
theorem dX0_be_25 : decode cX0_be 25 = .ok (.ireturn, 1) := dk_172 (dk_at dksX0_be_1 2 rfl rfl)
theorem dX0_be_26 : decode cX0_be 26 = .ok (.aload_n 0, 1) := dk_42 (dk_at dksX0_be_1 3 rfl rfl)
theorem dX0_be_27 : decode cX0_be 27 = .ok (.getfield 32, 3) := dk_180 0 32 (dk_at dksX0_be_1 4 rfl rfl)
theorem dX0_be_30 : decode cX0_be 30 = .ok (.iload_n 1, 1) := dk_27 (dk_at dksX0_be_1 7 rfl rfl)
theorem dX0_be_31 : decode cX0_be 31 = .ok (.aaload, 1) := dk_50 (dk_at dksX0_be_1 8 rfl rfl)
theorem dX0_be_32 : decode cX0_be 32 = .ok (.invokevirtual 238, 3) := dk_182 0 238 (dk_at dksX0_be_1 9 rfl rfl)
theorem dX0_be_35 : decode cX0_be 35 = .ok (.istore_n 3, 1) := dk_62 (dk_at dksX0_be_1 12 rfl rfl)
theorem dX0_be_36 : decode cX0_be 36 = .ok (.iload_n 2, 1) := dk_28 (dk_at dksX0_be_1 13 rfl rfl)
theorem dX0_be_37 : decode cX0_be 37 = .ok (.invokestatic 119, 3) := dk_184 0 119 (dk_at dksX0_be_1 14 rfl rfl)
theorem dX0_be_40 : decode cX0_be 40 = .ok (.astore 4, 2) := dk_58 4 (dk_at dksX0_be_1 17 rfl rfl)
theorem dX0_be_42 : decode cX0_be 42 = .ok (.aload 4, 2) := dk_25 4 (dk_at dksX0_be_1 19 rfl rfl)
theorem dX0_be_44 : decode cX0_be 44 = .ok (.aload_n 0, 1) := dk_42 (dk_at dksX0_be_1 21 rfl rfl)
theorem dX0_be_45 : decode cX0_be 45 = .ok (.getfield 32, 3) := dk_180 0 32 (dk_at dksX0_be_2 0 rfl rfl)
theorem dX0_be_48 : decode cX0_be 48 = .ok (.iload_n 1, 1) := dk_27 (dk_at dksX0_be_2 3 rfl rfl)
theorem dX0_be_49 : decode cX0_be 49 = .ok (.aaload, 1) := dk_50 (dk_at dksX0_be_2 4 rfl rfl)
theorem dX0_be_50 : decode cX0_be 50 = .ok (.invokevirtual 269, 3) := dk_182 1 13 (dk_at dksX0_be_2 5 rfl rfl)
theorem dX0_be_53 : decode cX0_be 53 = .ok (.aload_n 0, 1) := dk_42 (dk_at dksX0_be_2 8 rfl rfl)
theorem dX0_be_54 : decode cX0_be 54 = .ok (.getfield 32, 3) := dk_180 0 32 (dk_at dksX0_be_2 9 rfl rfl)
theorem dX0_be_57 : decode cX0_be 57 = .ok (.iload_n 1, 1) := dk_27 (dk_at dksX0_be_2 12 rfl rfl)
theorem dX0_be_58 : decode cX0_be 58 = .ok (.aload 4, 2) := dk_25 4 (dk_at dksX0_be_2 13 rfl rfl)
theorem dX0_be_60 : decode cX0_be 60 = .ok (.aastore, 1) := dk_83 (dk_at dksX0_be_2 15 rfl rfl)
theorem dX0_be_61 : decode cX0_be 61 = .ok (.aload_n 0, 1) := dk_42 (dk_at dksX0_be_2 16 rfl rfl)
theorem dX0_be_62 : decode cX0_be 62 = .ok (.iconst 1, 1) := dk_4 (dk_at dksX0_be_2 17 rfl rfl)
theorem dX0_be_63 : decode cX0_be 63 = .ok (.putfield 138, 3) := dk_181 0 138 (dk_at dksX0_be_2 18 rfl rfl)
theorem dX0_be_66 : decode cX0_be 66 = .ok (.iload_n 3, 1) := dk_29 (dk_at dksX0_be_2 21 rfl rfl)
theorem dX0_be_67 : decode cX0_be 67 = .ok (.ireturn, 1) := dk_172 (dk_at dksX0_be_2 22 rfl rfl)
abbrev cX0_see : ByteArray := prog_1_method_47_code
def yX0_see : MethodName := ⟨RX0, "see", "(IIZ)I"⟩
def dkwX0_see_3 : List UInt8 := [180, 0, 132, 4, 96, 181, 0, 132, 42, 180, 0, 132, 172]
abbrev dktX0_see_3 : List UInt8 := dkwX0_see_3 ++ []
def dkwX0_see_2 : List UInt8 := [79, 42, 180, 0, 54, 42, 180, 0, 132, 28, 79, 42, 180, 0, 57, 42, 180, 0, 132, 29, 84, 42, 89]
abbrev dktX0_see_2 : List UInt8 := dkwX0_see_2 ++ dktX0_see_3
def dkwX0_see_1 : List UInt8 := [16, 154, 172, 42, 180, 0, 132, 16, 6, 160, 0, 6, 16, 152, 172, 42, 180, 0, 51, 42, 180, 0, 132, 27]
abbrev dktX0_see_1 : List UInt8 := dkwX0_see_1 ++ dktX0_see_2
def dkwX0_see_0 : List UInt8 := [42, 27, 182, 0, 228, 154, 0, 6, 16, 155, 172, 28, 133, 9, 20, 0, 217, 184, 0, 78, 154, 0, 6]
abbrev dktX0_see_0 : List UInt8 := dkwX0_see_0 ++ dktX0_see_1
theorem dksX0_see_0 : cX0_see.data.toList.drop 0 = dktX0_see_0 := by decide +kernel
theorem dksX0_see_1 : cX0_see.data.toList.drop 23 = dktX0_see_1 := dk_seg dksX0_see_0 23 rfl rfl
theorem dksX0_see_2 : cX0_see.data.toList.drop 47 = dktX0_see_2 := dk_seg dksX0_see_1 24 rfl rfl
theorem dksX0_see_3 : cX0_see.data.toList.drop 70 = dktX0_see_3 := dk_seg dksX0_see_2 23 rfl rfl
theorem dX0_see_0 : decode cX0_see 0 = .ok (.aload_n 0, 1) := dk_42 (dk_at dksX0_see_0 0 rfl rfl)
theorem dX0_see_1 : decode cX0_see 1 = .ok (.iload_n 1, 1) := dk_27 (dk_at dksX0_see_0 1 rfl rfl)
theorem dX0_see_2 : decode cX0_see 2 = .ok (.invokevirtual 228, 3) := dk_182 0 228 (dk_at dksX0_see_0 2 rfl rfl)
theorem dX0_see_5 : decode cX0_see 5 = .ok (.ifCond .ne 6, 3) := dk_154 0 6 (dk_at dksX0_see_0 5 rfl rfl)
theorem dX0_see_8 : decode cX0_see 8 = .ok (.bipush (-101), 2) := dk_16 155 (dk_at dksX0_see_0 8 rfl rfl)
theorem dX0_see_10 : decode cX0_see 10 = .ok (.ireturn, 1) := dk_172 (dk_at dksX0_see_0 10 rfl rfl)
theorem dX0_see_11 : decode cX0_see 11 = .ok (.iload_n 2, 1) := dk_28 (dk_at dksX0_see_0 11 rfl rfl)
theorem dX0_see_12 : decode cX0_see 12 = .ok (.i2l, 1) := dk_133 (dk_at dksX0_see_0 12 rfl rfl)
theorem dX0_see_13 : decode cX0_see 13 = .ok (.lconst 0, 1) := dk_9 (dk_at dksX0_see_0 13 rfl rfl)
theorem dX0_see_14 : decode cX0_see 14 = .ok (.ldc2_w 217, 3) := dk_20 0 217 (dk_at dksX0_see_0 14 rfl rfl)
theorem dX0_see_17 : decode cX0_see 17 = .ok (.invokestatic 78, 3) := dk_184 0 78 (dk_at dksX0_see_0 17 rfl rfl)
theorem dX0_see_20 : decode cX0_see 20 = .ok (.ifCond .ne 6, 3) := dk_154 0 6 (dk_at dksX0_see_0 20 rfl rfl)
theorem dX0_see_23 : decode cX0_see 23 = .ok (.bipush (-102), 2) := dk_16 154 (dk_at dksX0_see_1 0 rfl rfl)
theorem dX0_see_25 : decode cX0_see 25 = .ok (.ireturn, 1) := dk_172 (dk_at dksX0_see_1 2 rfl rfl)
theorem dX0_see_26 : decode cX0_see 26 = .ok (.aload_n 0, 1) := dk_42 (dk_at dksX0_see_1 3 rfl rfl)
theorem dX0_see_27 : decode cX0_see 27 = .ok (.getfield 132, 3) := dk_180 0 132 (dk_at dksX0_see_1 4 rfl rfl)
theorem dX0_see_30 : decode cX0_see 30 = .ok (.bipush 6, 2) := dk_16 6 (dk_at dksX0_see_1 7 rfl rfl)
theorem dX0_see_32 : decode cX0_see 32 = .ok (.if_icmp .ne 6, 3) := dk_160 0 6 (dk_at dksX0_see_1 9 rfl rfl)
theorem dX0_see_35 : decode cX0_see 35 = .ok (.bipush (-104), 2) := dk_16 152 (dk_at dksX0_see_1 12 rfl rfl)
theorem dX0_see_37 : decode cX0_see 37 = .ok (.ireturn, 1) := dk_172 (dk_at dksX0_see_1 14 rfl rfl)
theorem dX0_see_38 : decode cX0_see 38 = .ok (.aload_n 0, 1) := dk_42 (dk_at dksX0_see_1 15 rfl rfl)
theorem dX0_see_39 : decode cX0_see 39 = .ok (.getfield 51, 3) := dk_180 0 51 (dk_at dksX0_see_1 16 rfl rfl)
theorem dX0_see_42 : decode cX0_see 42 = .ok (.aload_n 0, 1) := dk_42 (dk_at dksX0_see_1 19 rfl rfl)
theorem dX0_see_43 : decode cX0_see 43 = .ok (.getfield 132, 3) := dk_180 0 132 (dk_at dksX0_see_1 20 rfl rfl)
theorem dX0_see_46 : decode cX0_see 46 = .ok (.iload_n 1, 1) := dk_27 (dk_at dksX0_see_1 23 rfl rfl)
theorem dX0_see_47 : decode cX0_see 47 = .ok (.iastore, 1) := dk_79 (dk_at dksX0_see_2 0 rfl rfl)
theorem dX0_see_48 : decode cX0_see 48 = .ok (.aload_n 0, 1) := dk_42 (dk_at dksX0_see_2 1 rfl rfl)
theorem dX0_see_49 : decode cX0_see 49 = .ok (.getfield 54, 3) := dk_180 0 54 (dk_at dksX0_see_2 2 rfl rfl)
theorem dX0_see_52 : decode cX0_see 52 = .ok (.aload_n 0, 1) := dk_42 (dk_at dksX0_see_2 5 rfl rfl)
theorem dX0_see_53 : decode cX0_see 53 = .ok (.getfield 132, 3) := dk_180 0 132 (dk_at dksX0_see_2 6 rfl rfl)
theorem dX0_see_56 : decode cX0_see 56 = .ok (.iload_n 2, 1) := dk_28 (dk_at dksX0_see_2 9 rfl rfl)
theorem dX0_see_57 : decode cX0_see 57 = .ok (.iastore, 1) := dk_79 (dk_at dksX0_see_2 10 rfl rfl)
theorem dX0_see_58 : decode cX0_see 58 = .ok (.aload_n 0, 1) := dk_42 (dk_at dksX0_see_2 11 rfl rfl)
theorem dX0_see_59 : decode cX0_see 59 = .ok (.getfield 57, 3) := dk_180 0 57 (dk_at dksX0_see_2 12 rfl rfl)
theorem dX0_see_62 : decode cX0_see 62 = .ok (.aload_n 0, 1) := dk_42 (dk_at dksX0_see_2 15 rfl rfl)
theorem dX0_see_63 : decode cX0_see 63 = .ok (.getfield 132, 3) := dk_180 0 132 (dk_at dksX0_see_2 16 rfl rfl)
theorem dX0_see_66 : decode cX0_see 66 = .ok (.iload_n 3, 1) := dk_29 (dk_at dksX0_see_2 19 rfl rfl)
theorem dX0_see_67 : decode cX0_see 67 = .ok (.bastore, 1) := dk_84 (dk_at dksX0_see_2 20 rfl rfl)
theorem dX0_see_68 : decode cX0_see 68 = .ok (.aload_n 0, 1) := dk_42 (dk_at dksX0_see_2 21 rfl rfl)
theorem dX0_see_69 : decode cX0_see 69 = .ok (.dup, 1) := dk_89 (dk_at dksX0_see_2 22 rfl rfl)
theorem dX0_see_70 : decode cX0_see 70 = .ok (.getfield 132, 3) := dk_180 0 132 (dk_at dksX0_see_3 0 rfl rfl)
theorem dX0_see_73 : decode cX0_see 73 = .ok (.iconst 1, 1) := dk_4 (dk_at dksX0_see_3 3 rfl rfl)
theorem dX0_see_74 : decode cX0_see 74 = .ok (.iadd, 1) := dk_96 (dk_at dksX0_see_3 4 rfl rfl)
theorem dX0_see_75 : decode cX0_see 75 = .ok (.putfield 132, 3) := dk_181 0 132 (dk_at dksX0_see_3 5 rfl rfl)
theorem dX0_see_78 : decode cX0_see 78 = .ok (.aload_n 0, 1) := dk_42 (dk_at dksX0_see_3 8 rfl rfl)
theorem dX0_see_79 : decode cX0_see 79 = .ok (.getfield 132, 3) := dk_180 0 132 (dk_at dksX0_see_3 9 rfl rfl)
theorem dX0_see_82 : decode cX0_see 82 = .ok (.ireturn, 1) := dk_172 (dk_at dksX0_see_3 12 rfl rfl)
abbrev cX0_forget : ByteArray := prog_1_method_48_code
def yX0_forget : MethodName := ⟨RX0, "forget", "()I"⟩
def dkwX0_forget_0 : List UInt8 := [42, 180, 0, 132, 60, 42, 3, 181, 0, 132, 27, 172]
abbrev dktX0_forget_0 : List UInt8 := dkwX0_forget_0 ++ []
theorem dksX0_forget_0 : cX0_forget.data.toList.drop 0 = dktX0_forget_0 := by decide +kernel
theorem dX0_forget_0 : decode cX0_forget 0 = .ok (.aload_n 0, 1) := dk_42 (dk_at dksX0_forget_0 0 rfl rfl)
theorem dX0_forget_1 : decode cX0_forget 1 = .ok (.getfield 132, 3) := dk_180 0 132 (dk_at dksX0_forget_0 1 rfl rfl)
theorem dX0_forget_4 : decode cX0_forget 4 = .ok (.istore_n 1, 1) := dk_60 (dk_at dksX0_forget_0 4 rfl rfl)
theorem dX0_forget_5 : decode cX0_forget 5 = .ok (.aload_n 0, 1) := dk_42 (dk_at dksX0_forget_0 5 rfl rfl)
theorem dX0_forget_6 : decode cX0_forget 6 = .ok (.iconst 0, 1) := dk_3 (dk_at dksX0_forget_0 6 rfl rfl)
theorem dX0_forget_7 : decode cX0_forget 7 = .ok (.putfield 132, 3) := dk_181 0 132 (dk_at dksX0_forget_0 7 rfl rfl)
theorem dX0_forget_10 : decode cX0_forget 10 = .ok (.iload_n 1, 1) := dk_27 (dk_at dksX0_forget_0 10 rfl rfl)
theorem dX0_forget_11 : decode cX0_forget 11 = .ok (.ireturn, 1) := dk_172 (dk_at dksX0_forget_0 11 rfl rfl)
abbrev cX0_paintings : ByteArray := prog_1_method_54_code
def yX0_paintings : MethodName := ⟨RX0, "paintings", "(III)I"⟩
def dkwX0_paintings_2 : List UInt8 := [167, 0, 5, 16, 153, 172]
abbrev dktX0_paintings_2 : List UInt8 := dkwX0_paintings_2 ++ []
def dkwX0_paintings_1 : List UInt8 := [184, 0, 78, 154, 0, 6, 16, 154, 172, 42, 180, 0, 116, 158, 0, 13, 42, 27, 28, 29, 182, 1, 43]
abbrev dktX0_paintings_1 : List UInt8 := dkwX0_paintings_1 ++ dktX0_paintings_2
def dkwX0_paintings_0 : List UInt8 := [27, 133, 10, 20, 1, 41, 184, 0, 78, 153, 0, 19, 28, 155, 0, 15, 29, 133, 9, 20, 0, 217]
abbrev dktX0_paintings_0 : List UInt8 := dkwX0_paintings_0 ++ dktX0_paintings_1
theorem dksX0_paintings_0 : cX0_paintings.data.toList.drop 0 = dktX0_paintings_0 := by decide +kernel
theorem dksX0_paintings_1 : cX0_paintings.data.toList.drop 22 = dktX0_paintings_1 := dk_seg dksX0_paintings_0 22 rfl rfl
theorem dksX0_paintings_2 : cX0_paintings.data.toList.drop 45 = dktX0_paintings_2 := dk_seg dksX0_paintings_1 23 rfl rfl
theorem dX0_paintings_0 : decode cX0_paintings 0 = .ok (.iload_n 1, 1) := dk_27 (dk_at dksX0_paintings_0 0 rfl rfl)
theorem dX0_paintings_1 : decode cX0_paintings 1 = .ok (.i2l, 1) := dk_133 (dk_at dksX0_paintings_0 1 rfl rfl)
theorem dX0_paintings_2 : decode cX0_paintings 2 = .ok (.lconst 1, 1) := dk_10 (dk_at dksX0_paintings_0 2 rfl rfl)
theorem dX0_paintings_3 : decode cX0_paintings 3 = .ok (.ldc2_w 297, 3) := dk_20 1 41 (dk_at dksX0_paintings_0 3 rfl rfl)
theorem dX0_paintings_6 : decode cX0_paintings 6 = .ok (.invokestatic 78, 3) := dk_184 0 78 (dk_at dksX0_paintings_0 6 rfl rfl)
theorem dX0_paintings_9 : decode cX0_paintings 9 = .ok (.ifCond .eq 19, 3) := dk_153 0 19 (dk_at dksX0_paintings_0 9 rfl rfl)
theorem dX0_paintings_12 : decode cX0_paintings 12 = .ok (.iload_n 2, 1) := dk_28 (dk_at dksX0_paintings_0 12 rfl rfl)
theorem dX0_paintings_13 : decode cX0_paintings 13 = .ok (.ifCond .lt 15, 3) := dk_155 0 15 (dk_at dksX0_paintings_0 13 rfl rfl)
theorem dX0_paintings_16 : decode cX0_paintings 16 = .ok (.iload_n 3, 1) := dk_29 (dk_at dksX0_paintings_0 16 rfl rfl)
theorem dX0_paintings_17 : decode cX0_paintings 17 = .ok (.i2l, 1) := dk_133 (dk_at dksX0_paintings_0 17 rfl rfl)
theorem dX0_paintings_18 : decode cX0_paintings 18 = .ok (.lconst 0, 1) := dk_9 (dk_at dksX0_paintings_0 18 rfl rfl)
theorem dX0_paintings_19 : decode cX0_paintings 19 = .ok (.ldc2_w 217, 3) := dk_20 0 217 (dk_at dksX0_paintings_0 19 rfl rfl)
theorem dX0_paintings_22 : decode cX0_paintings 22 = .ok (.invokestatic 78, 3) := dk_184 0 78 (dk_at dksX0_paintings_1 0 rfl rfl)
theorem dX0_paintings_25 : decode cX0_paintings 25 = .ok (.ifCond .ne 6, 3) := dk_154 0 6 (dk_at dksX0_paintings_1 3 rfl rfl)
theorem dX0_paintings_28 : decode cX0_paintings 28 = .ok (.bipush (-102), 2) := dk_16 154 (dk_at dksX0_paintings_1 6 rfl rfl)
theorem dX0_paintings_30 : decode cX0_paintings 30 = .ok (.ireturn, 1) := dk_172 (dk_at dksX0_paintings_1 8 rfl rfl)
theorem dX0_paintings_31 : decode cX0_paintings 31 = .ok (.aload_n 0, 1) := dk_42 (dk_at dksX0_paintings_1 9 rfl rfl)
theorem dX0_paintings_32 : decode cX0_paintings 32 = .ok (.getfield 116, 3) := dk_180 0 116 (dk_at dksX0_paintings_1 10 rfl rfl)
theorem dX0_paintings_35 : decode cX0_paintings 35 = .ok (.ifCond .le 13, 3) := dk_158 0 13 (dk_at dksX0_paintings_1 13 rfl rfl)
theorem dX0_paintings_38 : decode cX0_paintings 38 = .ok (.aload_n 0, 1) := dk_42 (dk_at dksX0_paintings_1 16 rfl rfl)
theorem dX0_paintings_39 : decode cX0_paintings 39 = .ok (.iload_n 1, 1) := dk_27 (dk_at dksX0_paintings_1 17 rfl rfl)
theorem dX0_paintings_40 : decode cX0_paintings 40 = .ok (.iload_n 2, 1) := dk_28 (dk_at dksX0_paintings_1 18 rfl rfl)
theorem dX0_paintings_41 : decode cX0_paintings 41 = .ok (.iload_n 3, 1) := dk_29 (dk_at dksX0_paintings_1 19 rfl rfl)
theorem dX0_paintings_42 : decode cX0_paintings 42 = .ok (.invokevirtual 299, 3) := dk_182 1 43 (dk_at dksX0_paintings_1 20 rfl rfl)
theorem dX0_paintings_45 : decode cX0_paintings 45 = .ok (.goto 5, 3) := dk_167 0 5 (dk_at dksX0_paintings_2 0 rfl rfl)
theorem dX0_paintings_48 : decode cX0_paintings 48 = .ok (.bipush (-103), 2) := dk_16 153 (dk_at dksX0_paintings_2 3 rfl rfl)
theorem dX0_paintings_50 : decode cX0_paintings 50 = .ok (.ireturn, 1) := dk_172 (dk_at dksX0_paintings_2 5 rfl rfl)
abbrev cX0_paintingsBy : ByteArray := prog_1_method_53_code
def yX0_paintingsBy : MethodName := ⟨RX0, "paintingsBy", "(III)I"⟩
def dkwX0_paintingsBy_5 : List UInt8 := [160, 0, 8, 21, 5, 167, 0, 7, 42, 180, 1, 30, 172]
abbrev dktX0_paintingsBy_5 : List UInt8 := dkwX0_paintingsBy_5 ++ []
def dkwX0_paintingsBy_4 : List UInt8 := [21, 5, 21, 7, 96, 54, 5, 132, 6, 1, 167, 255, 167, 29, 154, 0, 8, 21, 4, 167, 0, 17, 29, 4]
abbrev dktX0_paintingsBy_4 : List UInt8 := dkwX0_paintingsBy_4 ++ dktX0_paintingsBy_5
def dkwX0_paintingsBy_3 : List UInt8 := [180, 0, 116, 182, 0, 159, 54, 7, 21, 4, 21, 7, 154, 0, 7, 4, 167, 0, 4, 3, 96, 54, 4]
abbrev dktX0_paintingsBy_3 : List UInt8 := dkwX0_paintingsBy_3 ++ dktX0_paintingsBy_4
def dkwX0_paintingsBy_2 : List UInt8 := [180, 0, 42, 21, 7, 42, 42, 180, 0, 113, 182, 1, 38, 79, 132, 7, 1, 167, 255, 218, 42, 42]
abbrev dktX0_paintingsBy_2 : List UInt8 := dkwX0_paintingsBy_2 ++ dktX0_paintingsBy_3
def dkwX0_paintingsBy_1 : List UInt8 := [4, 54, 7, 21, 7, 42, 180, 0, 116, 163, 0, 35, 42, 180, 0, 42, 21, 7, 46, 2, 160, 0, 18, 42]
abbrev dktX0_paintingsBy_1 : List UInt8 := dkwX0_paintingsBy_1 ++ dktX0_paintingsBy_2
def dkwX0_paintingsBy_0 : List UInt8 := [42, 28, 181, 1, 30, 3, 54, 4, 3, 54, 5, 3, 54, 6, 21, 6, 27, 162, 0, 89, 42, 182, 0, 156]
abbrev dktX0_paintingsBy_0 : List UInt8 := dkwX0_paintingsBy_0 ++ dktX0_paintingsBy_1
theorem dksX0_paintingsBy_0 : cX0_paintingsBy.data.toList.drop 0 = dktX0_paintingsBy_0 := by decide +kernel
theorem dksX0_paintingsBy_1 : cX0_paintingsBy.data.toList.drop 24 = dktX0_paintingsBy_1 := dk_seg dksX0_paintingsBy_0 24 rfl rfl
theorem dksX0_paintingsBy_2 : cX0_paintingsBy.data.toList.drop 48 = dktX0_paintingsBy_2 := dk_seg dksX0_paintingsBy_1 24 rfl rfl
theorem dksX0_paintingsBy_3 : cX0_paintingsBy.data.toList.drop 70 = dktX0_paintingsBy_3 := dk_seg dksX0_paintingsBy_2 22 rfl rfl
theorem dksX0_paintingsBy_4 : cX0_paintingsBy.data.toList.drop 93 = dktX0_paintingsBy_4 := dk_seg dksX0_paintingsBy_3 23 rfl rfl
theorem dksX0_paintingsBy_5 : cX0_paintingsBy.data.toList.drop 117 = dktX0_paintingsBy_5 := dk_seg dksX0_paintingsBy_4 24 rfl rfl
theorem dX0_paintingsBy_0 : decode cX0_paintingsBy 0 = .ok (.aload_n 0, 1) := dk_42 (dk_at dksX0_paintingsBy_0 0 rfl rfl)
theorem dX0_paintingsBy_1 : decode cX0_paintingsBy 1 = .ok (.iload_n 2, 1) := dk_28 (dk_at dksX0_paintingsBy_0 1 rfl rfl)
theorem dX0_paintingsBy_2 : decode cX0_paintingsBy 2 = .ok (.putfield 286, 3) := dk_181 1 30 (dk_at dksX0_paintingsBy_0 2 rfl rfl)
theorem dX0_paintingsBy_5 : decode cX0_paintingsBy 5 = .ok (.iconst 0, 1) := dk_3 (dk_at dksX0_paintingsBy_0 5 rfl rfl)
theorem dX0_paintingsBy_6 : decode cX0_paintingsBy 6 = .ok (.istore 4, 2) := dk_54 4 (dk_at dksX0_paintingsBy_0 6 rfl rfl)
theorem dX0_paintingsBy_8 : decode cX0_paintingsBy 8 = .ok (.iconst 0, 1) := dk_3 (dk_at dksX0_paintingsBy_0 8 rfl rfl)
theorem dX0_paintingsBy_9 : decode cX0_paintingsBy 9 = .ok (.istore 5, 2) := dk_54 5 (dk_at dksX0_paintingsBy_0 9 rfl rfl)
theorem dX0_paintingsBy_11 : decode cX0_paintingsBy 11 = .ok (.iconst 0, 1) := dk_3 (dk_at dksX0_paintingsBy_0 11 rfl rfl)
theorem dX0_paintingsBy_12 : decode cX0_paintingsBy 12 = .ok (.istore 6, 2) := dk_54 6 (dk_at dksX0_paintingsBy_0 12 rfl rfl)
theorem dX0_paintingsBy_14 : decode cX0_paintingsBy 14 = .ok (.iload 6, 2) := dk_21 6 (dk_at dksX0_paintingsBy_0 14 rfl rfl)
theorem dX0_paintingsBy_16 : decode cX0_paintingsBy 16 = .ok (.iload_n 1, 1) := dk_27 (dk_at dksX0_paintingsBy_0 16 rfl rfl)
theorem dX0_paintingsBy_17 : decode cX0_paintingsBy 17 = .ok (.if_icmp .ge 89, 3) := dk_162 0 89 (dk_at dksX0_paintingsBy_0 17 rfl rfl)
theorem dX0_paintingsBy_20 : decode cX0_paintingsBy 20 = .ok (.aload_n 0, 1) := dk_42 (dk_at dksX0_paintingsBy_0 20 rfl rfl)
theorem dX0_paintingsBy_21 : decode cX0_paintingsBy 21 = .ok (.invokevirtual 156, 3) := dk_182 0 156 (dk_at dksX0_paintingsBy_0 21 rfl rfl)
theorem dX0_paintingsBy_24 : decode cX0_paintingsBy 24 = .ok (.iconst 1, 1) := dk_4 (dk_at dksX0_paintingsBy_1 0 rfl rfl)
theorem dX0_paintingsBy_25 : decode cX0_paintingsBy 25 = .ok (.istore 7, 2) := dk_54 7 (dk_at dksX0_paintingsBy_1 1 rfl rfl)
theorem dX0_paintingsBy_27 : decode cX0_paintingsBy 27 = .ok (.iload 7, 2) := dk_21 7 (dk_at dksX0_paintingsBy_1 3 rfl rfl)
theorem dX0_paintingsBy_29 : decode cX0_paintingsBy 29 = .ok (.aload_n 0, 1) := dk_42 (dk_at dksX0_paintingsBy_1 5 rfl rfl)
theorem dX0_paintingsBy_30 : decode cX0_paintingsBy 30 = .ok (.getfield 116, 3) := dk_180 0 116 (dk_at dksX0_paintingsBy_1 6 rfl rfl)
theorem dX0_paintingsBy_33 : decode cX0_paintingsBy 33 = .ok (.if_icmp .gt 35, 3) := dk_163 0 35 (dk_at dksX0_paintingsBy_1 9 rfl rfl)
theorem dX0_paintingsBy_36 : decode cX0_paintingsBy 36 = .ok (.aload_n 0, 1) := dk_42 (dk_at dksX0_paintingsBy_1 12 rfl rfl)
theorem dX0_paintingsBy_37 : decode cX0_paintingsBy 37 = .ok (.getfield 42, 3) := dk_180 0 42 (dk_at dksX0_paintingsBy_1 13 rfl rfl)
theorem dX0_paintingsBy_40 : decode cX0_paintingsBy 40 = .ok (.iload 7, 2) := dk_21 7 (dk_at dksX0_paintingsBy_1 16 rfl rfl)
theorem dX0_paintingsBy_42 : decode cX0_paintingsBy 42 = .ok (.iaload, 1) := dk_46 (dk_at dksX0_paintingsBy_1 18 rfl rfl)
theorem dX0_paintingsBy_43 : decode cX0_paintingsBy 43 = .ok (.iconst (-1), 1) := dk_2 (dk_at dksX0_paintingsBy_1 19 rfl rfl)
theorem dX0_paintingsBy_44 : decode cX0_paintingsBy 44 = .ok (.if_icmp .ne 18, 3) := dk_160 0 18 (dk_at dksX0_paintingsBy_1 20 rfl rfl)
theorem dX0_paintingsBy_47 : decode cX0_paintingsBy 47 = .ok (.aload_n 0, 1) := dk_42 (dk_at dksX0_paintingsBy_1 23 rfl rfl)
theorem dX0_paintingsBy_48 : decode cX0_paintingsBy 48 = .ok (.getfield 42, 3) := dk_180 0 42 (dk_at dksX0_paintingsBy_2 0 rfl rfl)
theorem dX0_paintingsBy_51 : decode cX0_paintingsBy 51 = .ok (.iload 7, 2) := dk_21 7 (dk_at dksX0_paintingsBy_2 3 rfl rfl)
theorem dX0_paintingsBy_53 : decode cX0_paintingsBy 53 = .ok (.aload_n 0, 1) := dk_42 (dk_at dksX0_paintingsBy_2 5 rfl rfl)
theorem dX0_paintingsBy_54 : decode cX0_paintingsBy 54 = .ok (.aload_n 0, 1) := dk_42 (dk_at dksX0_paintingsBy_2 6 rfl rfl)
theorem dX0_paintingsBy_55 : decode cX0_paintingsBy 55 = .ok (.getfield 113, 3) := dk_180 0 113 (dk_at dksX0_paintingsBy_2 7 rfl rfl)
theorem dX0_paintingsBy_58 : decode cX0_paintingsBy 58 = .ok (.invokevirtual 294, 3) := dk_182 1 38 (dk_at dksX0_paintingsBy_2 10 rfl rfl)
theorem dX0_paintingsBy_61 : decode cX0_paintingsBy 61 = .ok (.iastore, 1) := dk_79 (dk_at dksX0_paintingsBy_2 13 rfl rfl)
theorem dX0_paintingsBy_62 : decode cX0_paintingsBy 62 = .ok (.iinc 7 1, 3) := dk_132 7 1 (dk_at dksX0_paintingsBy_2 14 rfl rfl)
theorem dX0_paintingsBy_65 : decode cX0_paintingsBy 65 = .ok (.goto (-38), 3) := dk_167 255 218 (dk_at dksX0_paintingsBy_2 17 rfl rfl)
theorem dX0_paintingsBy_68 : decode cX0_paintingsBy 68 = .ok (.aload_n 0, 1) := dk_42 (dk_at dksX0_paintingsBy_2 20 rfl rfl)
theorem dX0_paintingsBy_69 : decode cX0_paintingsBy 69 = .ok (.aload_n 0, 1) := dk_42 (dk_at dksX0_paintingsBy_2 21 rfl rfl)
theorem dX0_paintingsBy_70 : decode cX0_paintingsBy 70 = .ok (.getfield 116, 3) := dk_180 0 116 (dk_at dksX0_paintingsBy_3 0 rfl rfl)
theorem dX0_paintingsBy_73 : decode cX0_paintingsBy 73 = .ok (.invokevirtual 159, 3) := dk_182 0 159 (dk_at dksX0_paintingsBy_3 3 rfl rfl)
theorem dX0_paintingsBy_76 : decode cX0_paintingsBy 76 = .ok (.istore 7, 2) := dk_54 7 (dk_at dksX0_paintingsBy_3 6 rfl rfl)
theorem dX0_paintingsBy_78 : decode cX0_paintingsBy 78 = .ok (.iload 4, 2) := dk_21 4 (dk_at dksX0_paintingsBy_3 8 rfl rfl)
theorem dX0_paintingsBy_80 : decode cX0_paintingsBy 80 = .ok (.iload 7, 2) := dk_21 7 (dk_at dksX0_paintingsBy_3 10 rfl rfl)
theorem dX0_paintingsBy_82 : decode cX0_paintingsBy 82 = .ok (.ifCond .ne 7, 3) := dk_154 0 7 (dk_at dksX0_paintingsBy_3 12 rfl rfl)
theorem dX0_paintingsBy_85 : decode cX0_paintingsBy 85 = .ok (.iconst 1, 1) := dk_4 (dk_at dksX0_paintingsBy_3 15 rfl rfl)
theorem dX0_paintingsBy_86 : decode cX0_paintingsBy 86 = .ok (.goto 4, 3) := dk_167 0 4 (dk_at dksX0_paintingsBy_3 16 rfl rfl)
theorem dX0_paintingsBy_89 : decode cX0_paintingsBy 89 = .ok (.iconst 0, 1) := dk_3 (dk_at dksX0_paintingsBy_3 19 rfl rfl)
theorem dX0_paintingsBy_90 : decode cX0_paintingsBy 90 = .ok (.iadd, 1) := dk_96 (dk_at dksX0_paintingsBy_3 20 rfl rfl)
theorem dX0_paintingsBy_91 : decode cX0_paintingsBy 91 = .ok (.istore 4, 2) := dk_54 4 (dk_at dksX0_paintingsBy_3 21 rfl rfl)
theorem dX0_paintingsBy_93 : decode cX0_paintingsBy 93 = .ok (.iload 5, 2) := dk_21 5 (dk_at dksX0_paintingsBy_4 0 rfl rfl)
theorem dX0_paintingsBy_95 : decode cX0_paintingsBy 95 = .ok (.iload 7, 2) := dk_21 7 (dk_at dksX0_paintingsBy_4 2 rfl rfl)
theorem dX0_paintingsBy_97 : decode cX0_paintingsBy 97 = .ok (.iadd, 1) := dk_96 (dk_at dksX0_paintingsBy_4 4 rfl rfl)
theorem dX0_paintingsBy_98 : decode cX0_paintingsBy 98 = .ok (.istore 5, 2) := dk_54 5 (dk_at dksX0_paintingsBy_4 5 rfl rfl)
theorem dX0_paintingsBy_100 : decode cX0_paintingsBy 100 = .ok (.iinc 6 1, 3) := dk_132 6 1 (dk_at dksX0_paintingsBy_4 7 rfl rfl)
theorem dX0_paintingsBy_103 : decode cX0_paintingsBy 103 = .ok (.goto (-89), 3) := dk_167 255 167 (dk_at dksX0_paintingsBy_4 10 rfl rfl)
theorem dX0_paintingsBy_106 : decode cX0_paintingsBy 106 = .ok (.iload_n 3, 1) := dk_29 (dk_at dksX0_paintingsBy_4 13 rfl rfl)
theorem dX0_paintingsBy_107 : decode cX0_paintingsBy 107 = .ok (.ifCond .ne 8, 3) := dk_154 0 8 (dk_at dksX0_paintingsBy_4 14 rfl rfl)
theorem dX0_paintingsBy_110 : decode cX0_paintingsBy 110 = .ok (.iload 4, 2) := dk_21 4 (dk_at dksX0_paintingsBy_4 17 rfl rfl)
theorem dX0_paintingsBy_112 : decode cX0_paintingsBy 112 = .ok (.goto 17, 3) := dk_167 0 17 (dk_at dksX0_paintingsBy_4 19 rfl rfl)
theorem dX0_paintingsBy_115 : decode cX0_paintingsBy 115 = .ok (.iload_n 3, 1) := dk_29 (dk_at dksX0_paintingsBy_4 22 rfl rfl)
theorem dX0_paintingsBy_116 : decode cX0_paintingsBy 116 = .ok (.iconst 1, 1) := dk_4 (dk_at dksX0_paintingsBy_4 23 rfl rfl)
theorem dX0_paintingsBy_117 : decode cX0_paintingsBy 117 = .ok (.if_icmp .ne 8, 3) := dk_160 0 8 (dk_at dksX0_paintingsBy_5 0 rfl rfl)
theorem dX0_paintingsBy_120 : decode cX0_paintingsBy 120 = .ok (.iload 5, 2) := dk_21 5 (dk_at dksX0_paintingsBy_5 3 rfl rfl)
theorem dX0_paintingsBy_122 : decode cX0_paintingsBy 122 = .ok (.goto 7, 3) := dk_167 0 7 (dk_at dksX0_paintingsBy_5 5 rfl rfl)
theorem dX0_paintingsBy_125 : decode cX0_paintingsBy 125 = .ok (.aload_n 0, 1) := dk_42 (dk_at dksX0_paintingsBy_5 8 rfl rfl)
theorem dX0_paintingsBy_126 : decode cX0_paintingsBy 126 = .ok (.getfield 286, 3) := dk_180 1 30 (dk_at dksX0_paintingsBy_5 9 rfl rfl)
theorem dX0_paintingsBy_129 : decode cX0_paintingsBy 129 = .ok (.ireturn, 1) := dk_172 (dk_at dksX0_paintingsBy_5 12 rfl rfl)
abbrev cX0_draw : ByteArray := prog_1_method_52_code
def yX0_draw : MethodName := ⟨RX0, "draw", "(I)I"⟩
def dkwX0_draw_1 : List UInt8 := [180, 1, 30, 19, 1, 37, 108, 27, 112, 172]
abbrev dktX0_draw_1 : List UInt8 := dkwX0_draw_1 ++ []
def dkwX0_draw_0 : List UInt8 := [42, 20, 1, 28, 42, 180, 1, 30, 133, 105, 20, 1, 33, 97, 20, 1, 35, 127, 136, 181, 1, 30, 42]
abbrev dktX0_draw_0 : List UInt8 := dkwX0_draw_0 ++ dktX0_draw_1
theorem dksX0_draw_0 : cX0_draw.data.toList.drop 0 = dktX0_draw_0 := by decide +kernel
theorem dksX0_draw_1 : cX0_draw.data.toList.drop 23 = dktX0_draw_1 := dk_seg dksX0_draw_0 23 rfl rfl
theorem dX0_draw_0 : decode cX0_draw 0 = .ok (.aload_n 0, 1) := dk_42 (dk_at dksX0_draw_0 0 rfl rfl)
theorem dX0_draw_1 : decode cX0_draw 1 = .ok (.ldc2_w 284, 3) := dk_20 1 28 (dk_at dksX0_draw_0 1 rfl rfl)
theorem dX0_draw_4 : decode cX0_draw 4 = .ok (.aload_n 0, 1) := dk_42 (dk_at dksX0_draw_0 4 rfl rfl)
theorem dX0_draw_5 : decode cX0_draw 5 = .ok (.getfield 286, 3) := dk_180 1 30 (dk_at dksX0_draw_0 5 rfl rfl)
theorem dX0_draw_8 : decode cX0_draw 8 = .ok (.i2l, 1) := dk_133 (dk_at dksX0_draw_0 8 rfl rfl)
theorem dX0_draw_9 : decode cX0_draw 9 = .ok (.lmul, 1) := dk_105 (dk_at dksX0_draw_0 9 rfl rfl)
theorem dX0_draw_10 : decode cX0_draw 10 = .ok (.ldc2_w 289, 3) := dk_20 1 33 (dk_at dksX0_draw_0 10 rfl rfl)
theorem dX0_draw_13 : decode cX0_draw 13 = .ok (.ladd, 1) := dk_97 (dk_at dksX0_draw_0 13 rfl rfl)
theorem dX0_draw_14 : decode cX0_draw 14 = .ok (.ldc2_w 291, 3) := dk_20 1 35 (dk_at dksX0_draw_0 14 rfl rfl)
theorem dX0_draw_17 : decode cX0_draw 17 = .ok (.land, 1) := dk_127 (dk_at dksX0_draw_0 17 rfl rfl)
theorem dX0_draw_18 : decode cX0_draw 18 = .ok (.l2i, 1) := dk_136 (dk_at dksX0_draw_0 18 rfl rfl)
theorem dX0_draw_19 : decode cX0_draw 19 = .ok (.putfield 286, 3) := dk_181 1 30 (dk_at dksX0_draw_0 19 rfl rfl)
theorem dX0_draw_22 : decode cX0_draw 22 = .ok (.aload_n 0, 1) := dk_42 (dk_at dksX0_draw_0 22 rfl rfl)
theorem dX0_draw_23 : decode cX0_draw 23 = .ok (.getfield 286, 3) := dk_180 1 30 (dk_at dksX0_draw_1 0 rfl rfl)
theorem dX0_draw_26 : decode cX0_draw 26 = .ok (.ldc_w 293, 3) := dk_19 1 37 (dk_at dksX0_draw_1 3 rfl rfl)
theorem dX0_draw_29 : decode cX0_draw 29 = .ok (.idiv, 1) := dk_108 (dk_at dksX0_draw_1 6 rfl rfl)
theorem dX0_draw_30 : decode cX0_draw 30 = .ok (.iload_n 1, 1) := dk_27 (dk_at dksX0_draw_1 7 rfl rfl)
theorem dX0_draw_31 : decode cX0_draw 31 = .ok (.irem, 1) := dk_112 (dk_at dksX0_draw_1 8 rfl rfl)
theorem dX0_draw_32 : decode cX0_draw 32 = .ok (.ireturn, 1) := dk_172 (dk_at dksX0_draw_1 9 rfl rfl)
abbrev cX0_image : ByteArray := prog_1_method_55_code
def yX0_image : MethodName := ⟨RX0, "image", "()I"⟩
def dkwX0_image_5 : List UInt8 := [180, 0, 135, 181, 0, 70, 42, 180, 0, 129, 172]
abbrev dktX0_image_5 : List UInt8 := dkwX0_image_5 ++ []
def dkwX0_image_4 : List UInt8 := [3, 16, 6, 184, 1, 49, 42, 42, 180, 0, 132, 181, 1, 55, 42, 42, 180, 0, 129, 181, 1, 58, 42, 42]
abbrev dktX0_image_4 : List UInt8 := dkwX0_image_4 ++ dktX0_image_5
def dkwX0_image_3 : List UInt8 := [42, 180, 0, 54, 3, 42, 180, 0, 64, 3, 16, 6, 184, 1, 49, 42, 180, 0, 57, 3, 42, 180, 0, 67]
abbrev dktX0_image_3 : List UInt8 := dkwX0_image_3 ++ dktX0_image_4
def dkwX0_image_2 : List UInt8 := [181, 1, 46, 132, 1, 1, 167, 255, 215, 42, 180, 0, 51, 3, 42, 180, 0, 61, 3, 16, 6, 184, 1, 49]
abbrev dktX0_image_2 : List UInt8 := dkwX0_image_2 ++ dktX0_image_3
def dkwX0_image_1 : List UInt8 := [27, 42, 180, 0, 32, 27, 50, 83, 42, 180, 0, 32, 27, 50, 42, 180, 0, 32, 27, 50, 180, 0, 126]
abbrev dktX0_image_1 : List UInt8 := dkwX0_image_1 ++ dktX0_image_2
def dkwX0_image_0 : List UInt8 := [42, 180, 0, 116, 154, 0, 6, 16, 153, 172, 4, 60, 27, 42, 180, 0, 116, 163, 0, 39, 42, 180, 0, 35]
abbrev dktX0_image_0 : List UInt8 := dkwX0_image_0 ++ dktX0_image_1
theorem dksX0_image_0 : cX0_image.data.toList.drop 0 = dktX0_image_0 := by decide +kernel
theorem dksX0_image_1 : cX0_image.data.toList.drop 24 = dktX0_image_1 := dk_seg dksX0_image_0 24 rfl rfl
theorem dksX0_image_2 : cX0_image.data.toList.drop 47 = dktX0_image_2 := dk_seg dksX0_image_1 23 rfl rfl
theorem dksX0_image_3 : cX0_image.data.toList.drop 71 = dktX0_image_3 := dk_seg dksX0_image_2 24 rfl rfl
theorem dksX0_image_4 : cX0_image.data.toList.drop 95 = dktX0_image_4 := dk_seg dksX0_image_3 24 rfl rfl
theorem dksX0_image_5 : cX0_image.data.toList.drop 119 = dktX0_image_5 := dk_seg dksX0_image_4 24 rfl rfl
theorem dX0_image_0 : decode cX0_image 0 = .ok (.aload_n 0, 1) := dk_42 (dk_at dksX0_image_0 0 rfl rfl)
theorem dX0_image_1 : decode cX0_image 1 = .ok (.getfield 116, 3) := dk_180 0 116 (dk_at dksX0_image_0 1 rfl rfl)
theorem dX0_image_4 : decode cX0_image 4 = .ok (.ifCond .ne 6, 3) := dk_154 0 6 (dk_at dksX0_image_0 4 rfl rfl)
theorem dX0_image_7 : decode cX0_image 7 = .ok (.bipush (-103), 2) := dk_16 153 (dk_at dksX0_image_0 7 rfl rfl)
theorem dX0_image_9 : decode cX0_image 9 = .ok (.ireturn, 1) := dk_172 (dk_at dksX0_image_0 9 rfl rfl)
theorem dX0_image_10 : decode cX0_image 10 = .ok (.iconst 1, 1) := dk_4 (dk_at dksX0_image_0 10 rfl rfl)
theorem dX0_image_11 : decode cX0_image 11 = .ok (.istore_n 1, 1) := dk_60 (dk_at dksX0_image_0 11 rfl rfl)
theorem dX0_image_12 : decode cX0_image 12 = .ok (.iload_n 1, 1) := dk_27 (dk_at dksX0_image_0 12 rfl rfl)
theorem dX0_image_13 : decode cX0_image 13 = .ok (.aload_n 0, 1) := dk_42 (dk_at dksX0_image_0 13 rfl rfl)
theorem dX0_image_14 : decode cX0_image 14 = .ok (.getfield 116, 3) := dk_180 0 116 (dk_at dksX0_image_0 14 rfl rfl)
theorem dX0_image_17 : decode cX0_image 17 = .ok (.if_icmp .gt 39, 3) := dk_163 0 39 (dk_at dksX0_image_0 17 rfl rfl)
theorem dX0_image_20 : decode cX0_image 20 = .ok (.aload_n 0, 1) := dk_42 (dk_at dksX0_image_0 20 rfl rfl)
theorem dX0_image_21 : decode cX0_image 21 = .ok (.getfield 35, 3) := dk_180 0 35 (dk_at dksX0_image_0 21 rfl rfl)
theorem dX0_image_24 : decode cX0_image 24 = .ok (.iload_n 1, 1) := dk_27 (dk_at dksX0_image_1 0 rfl rfl)
theorem dX0_image_25 : decode cX0_image 25 = .ok (.aload_n 0, 1) := dk_42 (dk_at dksX0_image_1 1 rfl rfl)
theorem dX0_image_26 : decode cX0_image 26 = .ok (.getfield 32, 3) := dk_180 0 32 (dk_at dksX0_image_1 2 rfl rfl)
theorem dX0_image_29 : decode cX0_image 29 = .ok (.iload_n 1, 1) := dk_27 (dk_at dksX0_image_1 5 rfl rfl)
theorem dX0_image_30 : decode cX0_image 30 = .ok (.aaload, 1) := dk_50 (dk_at dksX0_image_1 6 rfl rfl)
theorem dX0_image_31 : decode cX0_image 31 = .ok (.aastore, 1) := dk_83 (dk_at dksX0_image_1 7 rfl rfl)
theorem dX0_image_32 : decode cX0_image 32 = .ok (.aload_n 0, 1) := dk_42 (dk_at dksX0_image_1 8 rfl rfl)
theorem dX0_image_33 : decode cX0_image 33 = .ok (.getfield 32, 3) := dk_180 0 32 (dk_at dksX0_image_1 9 rfl rfl)
theorem dX0_image_36 : decode cX0_image 36 = .ok (.iload_n 1, 1) := dk_27 (dk_at dksX0_image_1 12 rfl rfl)
theorem dX0_image_37 : decode cX0_image 37 = .ok (.aaload, 1) := dk_50 (dk_at dksX0_image_1 13 rfl rfl)
theorem dX0_image_38 : decode cX0_image 38 = .ok (.aload_n 0, 1) := dk_42 (dk_at dksX0_image_1 14 rfl rfl)
theorem dX0_image_39 : decode cX0_image 39 = .ok (.getfield 32, 3) := dk_180 0 32 (dk_at dksX0_image_1 15 rfl rfl)
theorem dX0_image_42 : decode cX0_image 42 = .ok (.iload_n 1, 1) := dk_27 (dk_at dksX0_image_1 18 rfl rfl)
theorem dX0_image_43 : decode cX0_image 43 = .ok (.aaload, 1) := dk_50 (dk_at dksX0_image_1 19 rfl rfl)
theorem dX0_image_44 : decode cX0_image 44 = .ok (.getfield 126, 3) := dk_180 0 126 (dk_at dksX0_image_1 20 rfl rfl)
theorem dX0_image_47 : decode cX0_image 47 = .ok (.putfield 302, 3) := dk_181 1 46 (dk_at dksX0_image_2 0 rfl rfl)
theorem dX0_image_50 : decode cX0_image 50 = .ok (.iinc 1 1, 3) := dk_132 1 1 (dk_at dksX0_image_2 3 rfl rfl)
theorem dX0_image_53 : decode cX0_image 53 = .ok (.goto (-41), 3) := dk_167 255 215 (dk_at dksX0_image_2 6 rfl rfl)
theorem dX0_image_56 : decode cX0_image 56 = .ok (.aload_n 0, 1) := dk_42 (dk_at dksX0_image_2 9 rfl rfl)
theorem dX0_image_57 : decode cX0_image 57 = .ok (.getfield 51, 3) := dk_180 0 51 (dk_at dksX0_image_2 10 rfl rfl)
theorem dX0_image_60 : decode cX0_image 60 = .ok (.iconst 0, 1) := dk_3 (dk_at dksX0_image_2 13 rfl rfl)
theorem dX0_image_61 : decode cX0_image 61 = .ok (.aload_n 0, 1) := dk_42 (dk_at dksX0_image_2 14 rfl rfl)
theorem dX0_image_62 : decode cX0_image 62 = .ok (.getfield 61, 3) := dk_180 0 61 (dk_at dksX0_image_2 15 rfl rfl)
theorem dX0_image_65 : decode cX0_image 65 = .ok (.iconst 0, 1) := dk_3 (dk_at dksX0_image_2 18 rfl rfl)
theorem dX0_image_66 : decode cX0_image 66 = .ok (.bipush 6, 2) := dk_16 6 (dk_at dksX0_image_2 19 rfl rfl)
theorem dX0_image_68 : decode cX0_image 68 = .ok (.invokestatic 305, 3) := dk_184 1 49 (dk_at dksX0_image_2 21 rfl rfl)
theorem dX0_image_71 : decode cX0_image 71 = .ok (.aload_n 0, 1) := dk_42 (dk_at dksX0_image_3 0 rfl rfl)
theorem dX0_image_72 : decode cX0_image 72 = .ok (.getfield 54, 3) := dk_180 0 54 (dk_at dksX0_image_3 1 rfl rfl)
theorem dX0_image_75 : decode cX0_image 75 = .ok (.iconst 0, 1) := dk_3 (dk_at dksX0_image_3 4 rfl rfl)
theorem dX0_image_76 : decode cX0_image 76 = .ok (.aload_n 0, 1) := dk_42 (dk_at dksX0_image_3 5 rfl rfl)
theorem dX0_image_77 : decode cX0_image 77 = .ok (.getfield 64, 3) := dk_180 0 64 (dk_at dksX0_image_3 6 rfl rfl)
theorem dX0_image_80 : decode cX0_image 80 = .ok (.iconst 0, 1) := dk_3 (dk_at dksX0_image_3 9 rfl rfl)
theorem dX0_image_81 : decode cX0_image 81 = .ok (.bipush 6, 2) := dk_16 6 (dk_at dksX0_image_3 10 rfl rfl)
theorem dX0_image_83 : decode cX0_image 83 = .ok (.invokestatic 305, 3) := dk_184 1 49 (dk_at dksX0_image_3 12 rfl rfl)
theorem dX0_image_86 : decode cX0_image 86 = .ok (.aload_n 0, 1) := dk_42 (dk_at dksX0_image_3 15 rfl rfl)
theorem dX0_image_87 : decode cX0_image 87 = .ok (.getfield 57, 3) := dk_180 0 57 (dk_at dksX0_image_3 16 rfl rfl)
theorem dX0_image_90 : decode cX0_image 90 = .ok (.iconst 0, 1) := dk_3 (dk_at dksX0_image_3 19 rfl rfl)
theorem dX0_image_91 : decode cX0_image 91 = .ok (.aload_n 0, 1) := dk_42 (dk_at dksX0_image_3 20 rfl rfl)
theorem dX0_image_92 : decode cX0_image 92 = .ok (.getfield 67, 3) := dk_180 0 67 (dk_at dksX0_image_3 21 rfl rfl)
theorem dX0_image_95 : decode cX0_image 95 = .ok (.iconst 0, 1) := dk_3 (dk_at dksX0_image_4 0 rfl rfl)
theorem dX0_image_96 : decode cX0_image 96 = .ok (.bipush 6, 2) := dk_16 6 (dk_at dksX0_image_4 1 rfl rfl)
theorem dX0_image_98 : decode cX0_image 98 = .ok (.invokestatic 305, 3) := dk_184 1 49 (dk_at dksX0_image_4 3 rfl rfl)
theorem dX0_image_101 : decode cX0_image 101 = .ok (.aload_n 0, 1) := dk_42 (dk_at dksX0_image_4 6 rfl rfl)
theorem dX0_image_102 : decode cX0_image 102 = .ok (.aload_n 0, 1) := dk_42 (dk_at dksX0_image_4 7 rfl rfl)
theorem dX0_image_103 : decode cX0_image 103 = .ok (.getfield 132, 3) := dk_180 0 132 (dk_at dksX0_image_4 8 rfl rfl)
theorem dX0_image_106 : decode cX0_image 106 = .ok (.putfield 311, 3) := dk_181 1 55 (dk_at dksX0_image_4 11 rfl rfl)
theorem dX0_image_109 : decode cX0_image 109 = .ok (.aload_n 0, 1) := dk_42 (dk_at dksX0_image_4 14 rfl rfl)
theorem dX0_image_110 : decode cX0_image 110 = .ok (.aload_n 0, 1) := dk_42 (dk_at dksX0_image_4 15 rfl rfl)
theorem dX0_image_111 : decode cX0_image 111 = .ok (.getfield 129, 3) := dk_180 0 129 (dk_at dksX0_image_4 16 rfl rfl)
theorem dX0_image_114 : decode cX0_image 114 = .ok (.putfield 314, 3) := dk_181 1 58 (dk_at dksX0_image_4 19 rfl rfl)
theorem dX0_image_117 : decode cX0_image 117 = .ok (.aload_n 0, 1) := dk_42 (dk_at dksX0_image_4 22 rfl rfl)
theorem dX0_image_118 : decode cX0_image 118 = .ok (.aload_n 0, 1) := dk_42 (dk_at dksX0_image_4 23 rfl rfl)
theorem dX0_image_119 : decode cX0_image 119 = .ok (.getfield 135, 3) := dk_180 0 135 (dk_at dksX0_image_5 0 rfl rfl)
theorem dX0_image_122 : decode cX0_image 122 = .ok (.putfield 70, 3) := dk_181 0 70 (dk_at dksX0_image_5 3 rfl rfl)
theorem dX0_image_125 : decode cX0_image 125 = .ok (.aload_n 0, 1) := dk_42 (dk_at dksX0_image_5 6 rfl rfl)
theorem dX0_image_126 : decode cX0_image 126 = .ok (.getfield 129, 3) := dk_180 0 129 (dk_at dksX0_image_5 7 rfl rfl)
theorem dX0_image_129 : decode cX0_image 129 = .ok (.ireturn, 1) := dk_172 (dk_at dksX0_image_5 10 rfl rfl)
abbrev cX0_restore : ByteArray := prog_1_method_56_code
def yX0_restore : MethodName := ⟨RX0, "restore", "()I"⟩
def dkwX0_restore_5 : List UInt8 := [181, 0, 129, 42, 4, 181, 0, 138, 42, 180, 0, 129, 172]
abbrev dktX0_restore_5 : List UInt8 := dkwX0_restore_5 ++ []
def dkwX0_restore_4 : List UInt8 := [180, 0, 57, 3, 16, 6, 184, 1, 49, 42, 42, 180, 1, 55, 181, 0, 132, 42, 42, 180, 1, 58]
abbrev dktX0_restore_4 : List UInt8 := dkwX0_restore_4 ++ dktX0_restore_5
def dkwX0_restore_3 : List UInt8 := [184, 1, 49, 42, 180, 0, 64, 3, 42, 180, 0, 54, 3, 16, 6, 184, 1, 49, 42, 180, 0, 67, 3, 42]
abbrev dktX0_restore_3 : List UInt8 := dkwX0_restore_3 ++ dktX0_restore_4
def dkwX0_restore_2 : List UInt8 := [180, 1, 46, 181, 0, 126, 132, 1, 1, 167, 255, 215, 42, 180, 0, 61, 3, 42, 180, 0, 51, 3, 16, 6]
abbrev dktX0_restore_2 : List UInt8 := dkwX0_restore_2 ++ dktX0_restore_3
def dkwX0_restore_1 : List UInt8 := [42, 180, 0, 32, 27, 42, 180, 0, 35, 27, 50, 83, 42, 180, 0, 32, 27, 50, 42, 180, 0, 32, 27, 50]
abbrev dktX0_restore_1 : List UInt8 := dkwX0_restore_1 ++ dktX0_restore_2
def dkwX0_restore_0 : List UInt8 := [42, 180, 0, 70, 42, 180, 0, 135, 159, 0, 6, 16, 153, 172, 4, 60, 27, 42, 180, 0, 116, 163, 0, 39]
abbrev dktX0_restore_0 : List UInt8 := dkwX0_restore_0 ++ dktX0_restore_1
theorem dksX0_restore_0 : cX0_restore.data.toList.drop 0 = dktX0_restore_0 := by decide +kernel
theorem dksX0_restore_1 : cX0_restore.data.toList.drop 24 = dktX0_restore_1 := dk_seg dksX0_restore_0 24 rfl rfl
theorem dksX0_restore_2 : cX0_restore.data.toList.drop 48 = dktX0_restore_2 := dk_seg dksX0_restore_1 24 rfl rfl
theorem dksX0_restore_3 : cX0_restore.data.toList.drop 72 = dktX0_restore_3 := dk_seg dksX0_restore_2 24 rfl rfl
theorem dksX0_restore_4 : cX0_restore.data.toList.drop 96 = dktX0_restore_4 := dk_seg dksX0_restore_3 24 rfl rfl
theorem dksX0_restore_5 : cX0_restore.data.toList.drop 118 = dktX0_restore_5 := dk_seg dksX0_restore_4 22 rfl rfl
theorem dX0_restore_0 : decode cX0_restore 0 = .ok (.aload_n 0, 1) := dk_42 (dk_at dksX0_restore_0 0 rfl rfl)
theorem dX0_restore_1 : decode cX0_restore 1 = .ok (.getfield 70, 3) := dk_180 0 70 (dk_at dksX0_restore_0 1 rfl rfl)
theorem dX0_restore_4 : decode cX0_restore 4 = .ok (.aload_n 0, 1) := dk_42 (dk_at dksX0_restore_0 4 rfl rfl)
theorem dX0_restore_5 : decode cX0_restore 5 = .ok (.getfield 135, 3) := dk_180 0 135 (dk_at dksX0_restore_0 5 rfl rfl)
theorem dX0_restore_8 : decode cX0_restore 8 = .ok (.if_icmp .eq 6, 3) := dk_159 0 6 (dk_at dksX0_restore_0 8 rfl rfl)
theorem dX0_restore_11 : decode cX0_restore 11 = .ok (.bipush (-103), 2) := dk_16 153 (dk_at dksX0_restore_0 11 rfl rfl)
theorem dX0_restore_13 : decode cX0_restore 13 = .ok (.ireturn, 1) := dk_172 (dk_at dksX0_restore_0 13 rfl rfl)
theorem dX0_restore_14 : decode cX0_restore 14 = .ok (.iconst 1, 1) := dk_4 (dk_at dksX0_restore_0 14 rfl rfl)
theorem dX0_restore_15 : decode cX0_restore 15 = .ok (.istore_n 1, 1) := dk_60 (dk_at dksX0_restore_0 15 rfl rfl)
theorem dX0_restore_16 : decode cX0_restore 16 = .ok (.iload_n 1, 1) := dk_27 (dk_at dksX0_restore_0 16 rfl rfl)
theorem dX0_restore_17 : decode cX0_restore 17 = .ok (.aload_n 0, 1) := dk_42 (dk_at dksX0_restore_0 17 rfl rfl)
theorem dX0_restore_18 : decode cX0_restore 18 = .ok (.getfield 116, 3) := dk_180 0 116 (dk_at dksX0_restore_0 18 rfl rfl)
theorem dX0_restore_21 : decode cX0_restore 21 = .ok (.if_icmp .gt 39, 3) := dk_163 0 39 (dk_at dksX0_restore_0 21 rfl rfl)
theorem dX0_restore_24 : decode cX0_restore 24 = .ok (.aload_n 0, 1) := dk_42 (dk_at dksX0_restore_1 0 rfl rfl)
theorem dX0_restore_25 : decode cX0_restore 25 = .ok (.getfield 32, 3) := dk_180 0 32 (dk_at dksX0_restore_1 1 rfl rfl)
theorem dX0_restore_28 : decode cX0_restore 28 = .ok (.iload_n 1, 1) := dk_27 (dk_at dksX0_restore_1 4 rfl rfl)
theorem dX0_restore_29 : decode cX0_restore 29 = .ok (.aload_n 0, 1) := dk_42 (dk_at dksX0_restore_1 5 rfl rfl)
theorem dX0_restore_30 : decode cX0_restore 30 = .ok (.getfield 35, 3) := dk_180 0 35 (dk_at dksX0_restore_1 6 rfl rfl)
theorem dX0_restore_33 : decode cX0_restore 33 = .ok (.iload_n 1, 1) := dk_27 (dk_at dksX0_restore_1 9 rfl rfl)
theorem dX0_restore_34 : decode cX0_restore 34 = .ok (.aaload, 1) := dk_50 (dk_at dksX0_restore_1 10 rfl rfl)
theorem dX0_restore_35 : decode cX0_restore 35 = .ok (.aastore, 1) := dk_83 (dk_at dksX0_restore_1 11 rfl rfl)
theorem dX0_restore_36 : decode cX0_restore 36 = .ok (.aload_n 0, 1) := dk_42 (dk_at dksX0_restore_1 12 rfl rfl)
theorem dX0_restore_37 : decode cX0_restore 37 = .ok (.getfield 32, 3) := dk_180 0 32 (dk_at dksX0_restore_1 13 rfl rfl)
theorem dX0_restore_40 : decode cX0_restore 40 = .ok (.iload_n 1, 1) := dk_27 (dk_at dksX0_restore_1 16 rfl rfl)
theorem dX0_restore_41 : decode cX0_restore 41 = .ok (.aaload, 1) := dk_50 (dk_at dksX0_restore_1 17 rfl rfl)
theorem dX0_restore_42 : decode cX0_restore 42 = .ok (.aload_n 0, 1) := dk_42 (dk_at dksX0_restore_1 18 rfl rfl)
theorem dX0_restore_43 : decode cX0_restore 43 = .ok (.getfield 32, 3) := dk_180 0 32 (dk_at dksX0_restore_1 19 rfl rfl)
theorem dX0_restore_46 : decode cX0_restore 46 = .ok (.iload_n 1, 1) := dk_27 (dk_at dksX0_restore_1 22 rfl rfl)
theorem dX0_restore_47 : decode cX0_restore 47 = .ok (.aaload, 1) := dk_50 (dk_at dksX0_restore_1 23 rfl rfl)
theorem dX0_restore_48 : decode cX0_restore 48 = .ok (.getfield 302, 3) := dk_180 1 46 (dk_at dksX0_restore_2 0 rfl rfl)
theorem dX0_restore_51 : decode cX0_restore 51 = .ok (.putfield 126, 3) := dk_181 0 126 (dk_at dksX0_restore_2 3 rfl rfl)
theorem dX0_restore_54 : decode cX0_restore 54 = .ok (.iinc 1 1, 3) := dk_132 1 1 (dk_at dksX0_restore_2 6 rfl rfl)
theorem dX0_restore_57 : decode cX0_restore 57 = .ok (.goto (-41), 3) := dk_167 255 215 (dk_at dksX0_restore_2 9 rfl rfl)
theorem dX0_restore_60 : decode cX0_restore 60 = .ok (.aload_n 0, 1) := dk_42 (dk_at dksX0_restore_2 12 rfl rfl)
theorem dX0_restore_61 : decode cX0_restore 61 = .ok (.getfield 61, 3) := dk_180 0 61 (dk_at dksX0_restore_2 13 rfl rfl)
theorem dX0_restore_64 : decode cX0_restore 64 = .ok (.iconst 0, 1) := dk_3 (dk_at dksX0_restore_2 16 rfl rfl)
theorem dX0_restore_65 : decode cX0_restore 65 = .ok (.aload_n 0, 1) := dk_42 (dk_at dksX0_restore_2 17 rfl rfl)
theorem dX0_restore_66 : decode cX0_restore 66 = .ok (.getfield 51, 3) := dk_180 0 51 (dk_at dksX0_restore_2 18 rfl rfl)
theorem dX0_restore_69 : decode cX0_restore 69 = .ok (.iconst 0, 1) := dk_3 (dk_at dksX0_restore_2 21 rfl rfl)
theorem dX0_restore_70 : decode cX0_restore 70 = .ok (.bipush 6, 2) := dk_16 6 (dk_at dksX0_restore_2 22 rfl rfl)
theorem dX0_restore_72 : decode cX0_restore 72 = .ok (.invokestatic 305, 3) := dk_184 1 49 (dk_at dksX0_restore_3 0 rfl rfl)
theorem dX0_restore_75 : decode cX0_restore 75 = .ok (.aload_n 0, 1) := dk_42 (dk_at dksX0_restore_3 3 rfl rfl)
theorem dX0_restore_76 : decode cX0_restore 76 = .ok (.getfield 64, 3) := dk_180 0 64 (dk_at dksX0_restore_3 4 rfl rfl)
theorem dX0_restore_79 : decode cX0_restore 79 = .ok (.iconst 0, 1) := dk_3 (dk_at dksX0_restore_3 7 rfl rfl)
theorem dX0_restore_80 : decode cX0_restore 80 = .ok (.aload_n 0, 1) := dk_42 (dk_at dksX0_restore_3 8 rfl rfl)
theorem dX0_restore_81 : decode cX0_restore 81 = .ok (.getfield 54, 3) := dk_180 0 54 (dk_at dksX0_restore_3 9 rfl rfl)
theorem dX0_restore_84 : decode cX0_restore 84 = .ok (.iconst 0, 1) := dk_3 (dk_at dksX0_restore_3 12 rfl rfl)
theorem dX0_restore_85 : decode cX0_restore 85 = .ok (.bipush 6, 2) := dk_16 6 (dk_at dksX0_restore_3 13 rfl rfl)
theorem dX0_restore_87 : decode cX0_restore 87 = .ok (.invokestatic 305, 3) := dk_184 1 49 (dk_at dksX0_restore_3 15 rfl rfl)
theorem dX0_restore_90 : decode cX0_restore 90 = .ok (.aload_n 0, 1) := dk_42 (dk_at dksX0_restore_3 18 rfl rfl)
theorem dX0_restore_91 : decode cX0_restore 91 = .ok (.getfield 67, 3) := dk_180 0 67 (dk_at dksX0_restore_3 19 rfl rfl)
theorem dX0_restore_94 : decode cX0_restore 94 = .ok (.iconst 0, 1) := dk_3 (dk_at dksX0_restore_3 22 rfl rfl)
theorem dX0_restore_95 : decode cX0_restore 95 = .ok (.aload_n 0, 1) := dk_42 (dk_at dksX0_restore_3 23 rfl rfl)
theorem dX0_restore_96 : decode cX0_restore 96 = .ok (.getfield 57, 3) := dk_180 0 57 (dk_at dksX0_restore_4 0 rfl rfl)
theorem dX0_restore_99 : decode cX0_restore 99 = .ok (.iconst 0, 1) := dk_3 (dk_at dksX0_restore_4 3 rfl rfl)
theorem dX0_restore_100 : decode cX0_restore 100 = .ok (.bipush 6, 2) := dk_16 6 (dk_at dksX0_restore_4 4 rfl rfl)
theorem dX0_restore_102 : decode cX0_restore 102 = .ok (.invokestatic 305, 3) := dk_184 1 49 (dk_at dksX0_restore_4 6 rfl rfl)
theorem dX0_restore_105 : decode cX0_restore 105 = .ok (.aload_n 0, 1) := dk_42 (dk_at dksX0_restore_4 9 rfl rfl)
theorem dX0_restore_106 : decode cX0_restore 106 = .ok (.aload_n 0, 1) := dk_42 (dk_at dksX0_restore_4 10 rfl rfl)
theorem dX0_restore_107 : decode cX0_restore 107 = .ok (.getfield 311, 3) := dk_180 1 55 (dk_at dksX0_restore_4 11 rfl rfl)
theorem dX0_restore_110 : decode cX0_restore 110 = .ok (.putfield 132, 3) := dk_181 0 132 (dk_at dksX0_restore_4 14 rfl rfl)
theorem dX0_restore_113 : decode cX0_restore 113 = .ok (.aload_n 0, 1) := dk_42 (dk_at dksX0_restore_4 17 rfl rfl)
theorem dX0_restore_114 : decode cX0_restore 114 = .ok (.aload_n 0, 1) := dk_42 (dk_at dksX0_restore_4 18 rfl rfl)
theorem dX0_restore_115 : decode cX0_restore 115 = .ok (.getfield 314, 3) := dk_180 1 58 (dk_at dksX0_restore_4 19 rfl rfl)
theorem dX0_restore_118 : decode cX0_restore 118 = .ok (.putfield 129, 3) := dk_181 0 129 (dk_at dksX0_restore_5 0 rfl rfl)
theorem dX0_restore_121 : decode cX0_restore 121 = .ok (.aload_n 0, 1) := dk_42 (dk_at dksX0_restore_5 3 rfl rfl)
theorem dX0_restore_122 : decode cX0_restore 122 = .ok (.iconst 1, 1) := dk_4 (dk_at dksX0_restore_5 4 rfl rfl)
theorem dX0_restore_123 : decode cX0_restore 123 = .ok (.putfield 138, 3) := dk_181 0 138 (dk_at dksX0_restore_5 5 rfl rfl)
theorem dX0_restore_126 : decode cX0_restore 126 = .ok (.aload_n 0, 1) := dk_42 (dk_at dksX0_restore_5 8 rfl rfl)
theorem dX0_restore_127 : decode cX0_restore 127 = .ok (.getfield 129, 3) := dk_180 0 129 (dk_at dksX0_restore_5 9 rfl rfl)
theorem dX0_restore_130 : decode cX0_restore 130 = .ok (.ireturn, 1) := dk_172 (dk_at dksX0_restore_5 12 rfl rfl)
abbrev cX0_count : ByteArray := prog_1_method_59_code
def yX0_count : MethodName := ⟨RX0, "count", "(I)I"⟩
def dkwX0_count_3 : List UInt8 := [172, 42, 180, 0, 129, 172, 42, 180, 0, 132, 172, 42, 180, 0, 82, 172, 42, 180, 0, 135, 172, 16, 154, 172]
abbrev dktX0_count_3 : List UInt8 := dkwX0_count_3 ++ []
def dkwX0_count_2 : List UInt8 := [42, 180, 0, 116, 172, 42, 180, 0, 113, 172, 42, 182, 1, 61, 172, 42, 182, 0, 205, 172, 42, 182, 1, 64]
abbrev dktX0_count_2 : List UInt8 := dkwX0_count_2 ++ dktX0_count_3
def dkwX0_count_1 : List UInt8 := [170, 0, 0, 0, 0, 0, 96, 0, 0, 0, 0, 0, 0, 0, 8, 0, 0, 0, 51, 0, 0, 0, 56, 0, 0, 0, 61, 0, 0, 0, 66, 0, 0, 0, 71, 0, 0, 0, 76, 0, 0, 0, 81, 0, 0, 0, 86, 0, 0, 0, 91]
abbrev dktX0_count_1 : List UInt8 := dkwX0_count_1 ++ dktX0_count_2
def dkwX0_count_0 : List UInt8 := [27]
abbrev dktX0_count_0 : List UInt8 := dkwX0_count_0 ++ dktX0_count_1
theorem dksX0_count_0 : cX0_count.data.toList.drop 0 = dktX0_count_0 := by decide +kernel
theorem dksX0_count_1 : cX0_count.data.toList.drop 1 = dktX0_count_1 := dk_seg dksX0_count_0 1 rfl rfl
theorem dksX0_count_2 : cX0_count.data.toList.drop 52 = dktX0_count_2 := dk_seg dksX0_count_1 51 rfl rfl
theorem dksX0_count_3 : cX0_count.data.toList.drop 76 = dktX0_count_3 := dk_seg dksX0_count_2 24 rfl rfl
theorem dX0_count_0 : decode cX0_count 0 = .ok (.iload_n 1, 1) := dk_27 (dk_at dksX0_count_0 0 rfl rfl)
theorem dX0_count_1 : decode cX0_count 1 = .ok (.tableswitch 96 0 8 #[51, 56, 61, 66, 71, 76, 81, 86, 91], 51) := by decide +kernel
theorem dX0_count_52 : decode cX0_count 52 = .ok (.aload_n 0, 1) := dk_42 (dk_at dksX0_count_2 0 rfl rfl)
theorem dX0_count_53 : decode cX0_count 53 = .ok (.getfield 116, 3) := dk_180 0 116 (dk_at dksX0_count_2 1 rfl rfl)
theorem dX0_count_56 : decode cX0_count 56 = .ok (.ireturn, 1) := dk_172 (dk_at dksX0_count_2 4 rfl rfl)
theorem dX0_count_57 : decode cX0_count 57 = .ok (.aload_n 0, 1) := dk_42 (dk_at dksX0_count_2 5 rfl rfl)
theorem dX0_count_58 : decode cX0_count 58 = .ok (.getfield 113, 3) := dk_180 0 113 (dk_at dksX0_count_2 6 rfl rfl)
theorem dX0_count_61 : decode cX0_count 61 = .ok (.ireturn, 1) := dk_172 (dk_at dksX0_count_2 9 rfl rfl)
theorem dX0_count_62 : decode cX0_count 62 = .ok (.aload_n 0, 1) := dk_42 (dk_at dksX0_count_2 10 rfl rfl)
theorem dX0_count_63 : decode cX0_count 63 = .ok (.invokevirtual 317, 3) := dk_182 1 61 (dk_at dksX0_count_2 11 rfl rfl)
theorem dX0_count_66 : decode cX0_count 66 = .ok (.ireturn, 1) := dk_172 (dk_at dksX0_count_2 14 rfl rfl)
theorem dX0_count_67 : decode cX0_count 67 = .ok (.aload_n 0, 1) := dk_42 (dk_at dksX0_count_2 15 rfl rfl)
theorem dX0_count_68 : decode cX0_count 68 = .ok (.invokevirtual 205, 3) := dk_182 0 205 (dk_at dksX0_count_2 16 rfl rfl)
theorem dX0_count_71 : decode cX0_count 71 = .ok (.ireturn, 1) := dk_172 (dk_at dksX0_count_2 19 rfl rfl)
theorem dX0_count_72 : decode cX0_count 72 = .ok (.aload_n 0, 1) := dk_42 (dk_at dksX0_count_2 20 rfl rfl)
theorem dX0_count_73 : decode cX0_count 73 = .ok (.invokevirtual 320, 3) := dk_182 1 64 (dk_at dksX0_count_2 21 rfl rfl)
theorem dX0_count_76 : decode cX0_count 76 = .ok (.ireturn, 1) := dk_172 (dk_at dksX0_count_3 0 rfl rfl)
theorem dX0_count_77 : decode cX0_count 77 = .ok (.aload_n 0, 1) := dk_42 (dk_at dksX0_count_3 1 rfl rfl)
theorem dX0_count_78 : decode cX0_count 78 = .ok (.getfield 129, 3) := dk_180 0 129 (dk_at dksX0_count_3 2 rfl rfl)
theorem dX0_count_81 : decode cX0_count 81 = .ok (.ireturn, 1) := dk_172 (dk_at dksX0_count_3 5 rfl rfl)
theorem dX0_count_82 : decode cX0_count 82 = .ok (.aload_n 0, 1) := dk_42 (dk_at dksX0_count_3 6 rfl rfl)
theorem dX0_count_83 : decode cX0_count 83 = .ok (.getfield 132, 3) := dk_180 0 132 (dk_at dksX0_count_3 7 rfl rfl)
theorem dX0_count_86 : decode cX0_count 86 = .ok (.ireturn, 1) := dk_172 (dk_at dksX0_count_3 10 rfl rfl)
theorem dX0_count_87 : decode cX0_count 87 = .ok (.aload_n 0, 1) := dk_42 (dk_at dksX0_count_3 11 rfl rfl)
theorem dX0_count_88 : decode cX0_count 88 = .ok (.getfield 82, 3) := dk_180 0 82 (dk_at dksX0_count_3 12 rfl rfl)
theorem dX0_count_91 : decode cX0_count 91 = .ok (.ireturn, 1) := dk_172 (dk_at dksX0_count_3 15 rfl rfl)
theorem dX0_count_92 : decode cX0_count 92 = .ok (.aload_n 0, 1) := dk_42 (dk_at dksX0_count_3 16 rfl rfl)
theorem dX0_count_93 : decode cX0_count 93 = .ok (.getfield 135, 3) := dk_180 0 135 (dk_at dksX0_count_3 17 rfl rfl)
theorem dX0_count_96 : decode cX0_count 96 = .ok (.ireturn, 1) := dk_172 (dk_at dksX0_count_3 20 rfl rfl)
theorem dX0_count_97 : decode cX0_count 97 = .ok (.bipush (-102), 2) := dk_16 154 (dk_at dksX0_count_3 21 rfl rfl)
theorem dX0_count_99 : decode cX0_count 99 = .ok (.ireturn, 1) := dk_172 (dk_at dksX0_count_3 23 rfl rfl)
abbrev cX0_bare : ByteArray := prog_1_method_57_code
def yX0_bare : MethodName := ⟨RX0, "bare", "()I"⟩
def dkwX0_bare_1 : List UInt8 := [160, 0, 7, 4, 167, 0, 4, 3, 96, 60, 132, 2, 1, 167, 255, 224, 27, 172]
abbrev dktX0_bare_1 : List UInt8 := dkwX0_bare_1 ++ []
def dkwX0_bare_0 : List UInt8 := [3, 60, 4, 61, 28, 42, 180, 0, 116, 163, 0, 30, 27, 42, 180, 0, 32, 28, 50, 180, 0, 126, 2]
abbrev dktX0_bare_0 : List UInt8 := dkwX0_bare_0 ++ dktX0_bare_1
theorem dksX0_bare_0 : cX0_bare.data.toList.drop 0 = dktX0_bare_0 := by decide +kernel
theorem dksX0_bare_1 : cX0_bare.data.toList.drop 23 = dktX0_bare_1 := dk_seg dksX0_bare_0 23 rfl rfl
theorem dX0_bare_0 : decode cX0_bare 0 = .ok (.iconst 0, 1) := dk_3 (dk_at dksX0_bare_0 0 rfl rfl)
theorem dX0_bare_1 : decode cX0_bare 1 = .ok (.istore_n 1, 1) := dk_60 (dk_at dksX0_bare_0 1 rfl rfl)
theorem dX0_bare_2 : decode cX0_bare 2 = .ok (.iconst 1, 1) := dk_4 (dk_at dksX0_bare_0 2 rfl rfl)
theorem dX0_bare_3 : decode cX0_bare 3 = .ok (.istore_n 2, 1) := dk_61 (dk_at dksX0_bare_0 3 rfl rfl)
theorem dX0_bare_4 : decode cX0_bare 4 = .ok (.iload_n 2, 1) := dk_28 (dk_at dksX0_bare_0 4 rfl rfl)
theorem dX0_bare_5 : decode cX0_bare 5 = .ok (.aload_n 0, 1) := dk_42 (dk_at dksX0_bare_0 5 rfl rfl)
theorem dX0_bare_6 : decode cX0_bare 6 = .ok (.getfield 116, 3) := dk_180 0 116 (dk_at dksX0_bare_0 6 rfl rfl)
theorem dX0_bare_9 : decode cX0_bare 9 = .ok (.if_icmp .gt 30, 3) := dk_163 0 30 (dk_at dksX0_bare_0 9 rfl rfl)
theorem dX0_bare_12 : decode cX0_bare 12 = .ok (.iload_n 1, 1) := dk_27 (dk_at dksX0_bare_0 12 rfl rfl)
theorem dX0_bare_13 : decode cX0_bare 13 = .ok (.aload_n 0, 1) := dk_42 (dk_at dksX0_bare_0 13 rfl rfl)
theorem dX0_bare_14 : decode cX0_bare 14 = .ok (.getfield 32, 3) := dk_180 0 32 (dk_at dksX0_bare_0 14 rfl rfl)
theorem dX0_bare_17 : decode cX0_bare 17 = .ok (.iload_n 2, 1) := dk_28 (dk_at dksX0_bare_0 17 rfl rfl)
theorem dX0_bare_18 : decode cX0_bare 18 = .ok (.aaload, 1) := dk_50 (dk_at dksX0_bare_0 18 rfl rfl)
theorem dX0_bare_19 : decode cX0_bare 19 = .ok (.getfield 126, 3) := dk_180 0 126 (dk_at dksX0_bare_0 19 rfl rfl)
theorem dX0_bare_22 : decode cX0_bare 22 = .ok (.iconst (-1), 1) := dk_2 (dk_at dksX0_bare_0 22 rfl rfl)
theorem dX0_bare_23 : decode cX0_bare 23 = .ok (.if_icmp .ne 7, 3) := dk_160 0 7 (dk_at dksX0_bare_1 0 rfl rfl)
theorem dX0_bare_26 : decode cX0_bare 26 = .ok (.iconst 1, 1) := dk_4 (dk_at dksX0_bare_1 3 rfl rfl)
theorem dX0_bare_27 : decode cX0_bare 27 = .ok (.goto 4, 3) := dk_167 0 4 (dk_at dksX0_bare_1 4 rfl rfl)
theorem dX0_bare_30 : decode cX0_bare 30 = .ok (.iconst 0, 1) := dk_3 (dk_at dksX0_bare_1 7 rfl rfl)
theorem dX0_bare_31 : decode cX0_bare 31 = .ok (.iadd, 1) := dk_96 (dk_at dksX0_bare_1 8 rfl rfl)
theorem dX0_bare_32 : decode cX0_bare 32 = .ok (.istore_n 1, 1) := dk_60 (dk_at dksX0_bare_1 9 rfl rfl)
theorem dX0_bare_33 : decode cX0_bare 33 = .ok (.iinc 2 1, 3) := dk_132 2 1 (dk_at dksX0_bare_1 10 rfl rfl)
theorem dX0_bare_36 : decode cX0_bare 36 = .ok (.goto (-32), 3) := dk_167 255 224 (dk_at dksX0_bare_1 13 rfl rfl)
theorem dX0_bare_39 : decode cX0_bare 39 = .ok (.iload_n 1, 1) := dk_27 (dk_at dksX0_bare_1 16 rfl rfl)
theorem dX0_bare_40 : decode cX0_bare 40 = .ok (.ireturn, 1) := dk_172 (dk_at dksX0_bare_1 17 rfl rfl)
abbrev cX0_threes : ByteArray := prog_1_method_58_code
def yX0_threes : MethodName := ⟨RX0, "threes", "()I"⟩
def dkwX0_threes_1 : List UInt8 := [27, 172]
abbrev dktX0_threes_1 : List UInt8 := dkwX0_threes_1 ++ []
def dkwX0_threes_0 : List UInt8 := [3, 60, 4, 61, 28, 42, 180, 0, 116, 163, 0, 15, 27, 28, 5, 108, 96, 60, 132, 2, 1, 167, 255, 239]
abbrev dktX0_threes_0 : List UInt8 := dkwX0_threes_0 ++ dktX0_threes_1
theorem dksX0_threes_0 : cX0_threes.data.toList.drop 0 = dktX0_threes_0 := by decide +kernel
theorem dksX0_threes_1 : cX0_threes.data.toList.drop 24 = dktX0_threes_1 := dk_seg dksX0_threes_0 24 rfl rfl
theorem dX0_threes_0 : decode cX0_threes 0 = .ok (.iconst 0, 1) := dk_3 (dk_at dksX0_threes_0 0 rfl rfl)
theorem dX0_threes_1 : decode cX0_threes 1 = .ok (.istore_n 1, 1) := dk_60 (dk_at dksX0_threes_0 1 rfl rfl)
theorem dX0_threes_2 : decode cX0_threes 2 = .ok (.iconst 1, 1) := dk_4 (dk_at dksX0_threes_0 2 rfl rfl)
theorem dX0_threes_3 : decode cX0_threes 3 = .ok (.istore_n 2, 1) := dk_61 (dk_at dksX0_threes_0 3 rfl rfl)
theorem dX0_threes_4 : decode cX0_threes 4 = .ok (.iload_n 2, 1) := dk_28 (dk_at dksX0_threes_0 4 rfl rfl)
theorem dX0_threes_5 : decode cX0_threes 5 = .ok (.aload_n 0, 1) := dk_42 (dk_at dksX0_threes_0 5 rfl rfl)
theorem dX0_threes_6 : decode cX0_threes 6 = .ok (.getfield 116, 3) := dk_180 0 116 (dk_at dksX0_threes_0 6 rfl rfl)
theorem dX0_threes_9 : decode cX0_threes 9 = .ok (.if_icmp .gt 15, 3) := dk_163 0 15 (dk_at dksX0_threes_0 9 rfl rfl)
theorem dX0_threes_12 : decode cX0_threes 12 = .ok (.iload_n 1, 1) := dk_27 (dk_at dksX0_threes_0 12 rfl rfl)
theorem dX0_threes_13 : decode cX0_threes 13 = .ok (.iload_n 2, 1) := dk_28 (dk_at dksX0_threes_0 13 rfl rfl)
theorem dX0_threes_14 : decode cX0_threes 14 = .ok (.iconst 2, 1) := dk_5 (dk_at dksX0_threes_0 14 rfl rfl)
theorem dX0_threes_15 : decode cX0_threes 15 = .ok (.idiv, 1) := dk_108 (dk_at dksX0_threes_0 15 rfl rfl)
theorem dX0_threes_16 : decode cX0_threes 16 = .ok (.iadd, 1) := dk_96 (dk_at dksX0_threes_0 16 rfl rfl)
theorem dX0_threes_17 : decode cX0_threes 17 = .ok (.istore_n 1, 1) := dk_60 (dk_at dksX0_threes_0 17 rfl rfl)
theorem dX0_threes_18 : decode cX0_threes 18 = .ok (.iinc 2 1, 3) := dk_132 2 1 (dk_at dksX0_threes_0 18 rfl rfl)
theorem dX0_threes_21 : decode cX0_threes 21 = .ok (.goto (-17), 3) := dk_167 255 239 (dk_at dksX0_threes_0 21 rfl rfl)
theorem dX0_threes_24 : decode cX0_threes 24 = .ok (.iload_n 1, 1) := dk_27 (dk_at dksX0_threes_1 0 rfl rfl)
theorem dX0_threes_25 : decode cX0_threes 25 = .ok (.ireturn, 1) := dk_172 (dk_at dksX0_threes_1 1 rfl rfl)
abbrev cX0_digest : ByteArray := prog_1_method_63_code
def yX0_digest : MethodName := ⟨RX0, "digest", "()J"⟩
def dkwX0_digest_4 : List UInt8 := [180, 1, 69, 173]
abbrev dktX0_digest_4 : List UInt8 := dkwX0_digest_4 ++ []
def dkwX0_digest_3 : List UInt8 := [60, 27, 16, 9, 162, 0, 19, 42, 42, 27, 182, 1, 85, 133, 182, 1, 73, 132, 1, 1, 167, 255, 237, 42]
abbrev dktX0_digest_3 : List UInt8 := dkwX0_digest_3 ++ dktX0_digest_4
def dkwX0_digest_2 : List UInt8 := [180, 0, 82, 162, 0, 20, 42, 42, 180, 0, 38, 27, 46, 133, 182, 1, 73, 132, 1, 1, 167, 255, 234, 3]
abbrev dktX0_digest_2 : List UInt8 := dkwX0_digest_2 ++ dktX0_digest_3
def dkwX0_digest_1 : List UInt8 := [182, 1, 79, 132, 1, 1, 167, 255, 235, 42, 180, 0, 116, 158, 0, 7, 42, 182, 1, 82, 3, 60, 27, 42]
abbrev dktX0_digest_1 : List UInt8 := dkwX0_digest_1 ++ dktX0_digest_2
def dkwX0_digest_0 : List UInt8 := [42, 20, 1, 77, 181, 1, 69, 4, 60, 27, 42, 180, 0, 116, 163, 0, 19, 42, 42, 180, 0, 32, 27, 50]
abbrev dktX0_digest_0 : List UInt8 := dkwX0_digest_0 ++ dktX0_digest_1
theorem dksX0_digest_0 : cX0_digest.data.toList.drop 0 = dktX0_digest_0 := by decide +kernel
theorem dksX0_digest_1 : cX0_digest.data.toList.drop 24 = dktX0_digest_1 := dk_seg dksX0_digest_0 24 rfl rfl
theorem dksX0_digest_2 : cX0_digest.data.toList.drop 48 = dktX0_digest_2 := dk_seg dksX0_digest_1 24 rfl rfl
theorem dksX0_digest_3 : cX0_digest.data.toList.drop 72 = dktX0_digest_3 := dk_seg dksX0_digest_2 24 rfl rfl
theorem dksX0_digest_4 : cX0_digest.data.toList.drop 96 = dktX0_digest_4 := dk_seg dksX0_digest_3 24 rfl rfl
theorem dX0_digest_0 : decode cX0_digest 0 = .ok (.aload_n 0, 1) := dk_42 (dk_at dksX0_digest_0 0 rfl rfl)
theorem dX0_digest_1 : decode cX0_digest 1 = .ok (.ldc2_w 333, 3) := dk_20 1 77 (dk_at dksX0_digest_0 1 rfl rfl)
theorem dX0_digest_4 : decode cX0_digest 4 = .ok (.putfield 325, 3) := dk_181 1 69 (dk_at dksX0_digest_0 4 rfl rfl)
theorem dX0_digest_7 : decode cX0_digest 7 = .ok (.iconst 1, 1) := dk_4 (dk_at dksX0_digest_0 7 rfl rfl)
theorem dX0_digest_8 : decode cX0_digest 8 = .ok (.istore_n 1, 1) := dk_60 (dk_at dksX0_digest_0 8 rfl rfl)
theorem dX0_digest_9 : decode cX0_digest 9 = .ok (.iload_n 1, 1) := dk_27 (dk_at dksX0_digest_0 9 rfl rfl)
theorem dX0_digest_10 : decode cX0_digest 10 = .ok (.aload_n 0, 1) := dk_42 (dk_at dksX0_digest_0 10 rfl rfl)
theorem dX0_digest_11 : decode cX0_digest 11 = .ok (.getfield 116, 3) := dk_180 0 116 (dk_at dksX0_digest_0 11 rfl rfl)
theorem dX0_digest_14 : decode cX0_digest 14 = .ok (.if_icmp .gt 19, 3) := dk_163 0 19 (dk_at dksX0_digest_0 14 rfl rfl)
theorem dX0_digest_17 : decode cX0_digest 17 = .ok (.aload_n 0, 1) := dk_42 (dk_at dksX0_digest_0 17 rfl rfl)
theorem dX0_digest_18 : decode cX0_digest 18 = .ok (.aload_n 0, 1) := dk_42 (dk_at dksX0_digest_0 18 rfl rfl)
theorem dX0_digest_19 : decode cX0_digest 19 = .ok (.getfield 32, 3) := dk_180 0 32 (dk_at dksX0_digest_0 19 rfl rfl)
theorem dX0_digest_22 : decode cX0_digest 22 = .ok (.iload_n 1, 1) := dk_27 (dk_at dksX0_digest_0 22 rfl rfl)
theorem dX0_digest_23 : decode cX0_digest 23 = .ok (.aaload, 1) := dk_50 (dk_at dksX0_digest_0 23 rfl rfl)
theorem dX0_digest_24 : decode cX0_digest 24 = .ok (.invokevirtual 335, 3) := dk_182 1 79 (dk_at dksX0_digest_1 0 rfl rfl)
theorem dX0_digest_27 : decode cX0_digest 27 = .ok (.iinc 1 1, 3) := dk_132 1 1 (dk_at dksX0_digest_1 3 rfl rfl)
theorem dX0_digest_30 : decode cX0_digest 30 = .ok (.goto (-21), 3) := dk_167 255 235 (dk_at dksX0_digest_1 6 rfl rfl)
theorem dX0_digest_33 : decode cX0_digest 33 = .ok (.aload_n 0, 1) := dk_42 (dk_at dksX0_digest_1 9 rfl rfl)
theorem dX0_digest_34 : decode cX0_digest 34 = .ok (.getfield 116, 3) := dk_180 0 116 (dk_at dksX0_digest_1 10 rfl rfl)
theorem dX0_digest_37 : decode cX0_digest 37 = .ok (.ifCond .le 7, 3) := dk_158 0 7 (dk_at dksX0_digest_1 13 rfl rfl)
theorem dX0_digest_40 : decode cX0_digest 40 = .ok (.aload_n 0, 1) := dk_42 (dk_at dksX0_digest_1 16 rfl rfl)
theorem dX0_digest_41 : decode cX0_digest 41 = .ok (.invokevirtual 338, 3) := dk_182 1 82 (dk_at dksX0_digest_1 17 rfl rfl)
theorem dX0_digest_44 : decode cX0_digest 44 = .ok (.iconst 0, 1) := dk_3 (dk_at dksX0_digest_1 20 rfl rfl)
theorem dX0_digest_45 : decode cX0_digest 45 = .ok (.istore_n 1, 1) := dk_60 (dk_at dksX0_digest_1 21 rfl rfl)
theorem dX0_digest_46 : decode cX0_digest 46 = .ok (.iload_n 1, 1) := dk_27 (dk_at dksX0_digest_1 22 rfl rfl)
theorem dX0_digest_47 : decode cX0_digest 47 = .ok (.aload_n 0, 1) := dk_42 (dk_at dksX0_digest_1 23 rfl rfl)
theorem dX0_digest_48 : decode cX0_digest 48 = .ok (.getfield 82, 3) := dk_180 0 82 (dk_at dksX0_digest_2 0 rfl rfl)
theorem dX0_digest_51 : decode cX0_digest 51 = .ok (.if_icmp .ge 20, 3) := dk_162 0 20 (dk_at dksX0_digest_2 3 rfl rfl)
theorem dX0_digest_54 : decode cX0_digest 54 = .ok (.aload_n 0, 1) := dk_42 (dk_at dksX0_digest_2 6 rfl rfl)
theorem dX0_digest_55 : decode cX0_digest 55 = .ok (.aload_n 0, 1) := dk_42 (dk_at dksX0_digest_2 7 rfl rfl)
theorem dX0_digest_56 : decode cX0_digest 56 = .ok (.getfield 38, 3) := dk_180 0 38 (dk_at dksX0_digest_2 8 rfl rfl)
theorem dX0_digest_59 : decode cX0_digest 59 = .ok (.iload_n 1, 1) := dk_27 (dk_at dksX0_digest_2 11 rfl rfl)
theorem dX0_digest_60 : decode cX0_digest 60 = .ok (.iaload, 1) := dk_46 (dk_at dksX0_digest_2 12 rfl rfl)
theorem dX0_digest_61 : decode cX0_digest 61 = .ok (.i2l, 1) := dk_133 (dk_at dksX0_digest_2 13 rfl rfl)
theorem dX0_digest_62 : decode cX0_digest 62 = .ok (.invokevirtual 329, 3) := dk_182 1 73 (dk_at dksX0_digest_2 14 rfl rfl)
theorem dX0_digest_65 : decode cX0_digest 65 = .ok (.iinc 1 1, 3) := dk_132 1 1 (dk_at dksX0_digest_2 17 rfl rfl)
theorem dX0_digest_68 : decode cX0_digest 68 = .ok (.goto (-22), 3) := dk_167 255 234 (dk_at dksX0_digest_2 20 rfl rfl)
theorem dX0_digest_71 : decode cX0_digest 71 = .ok (.iconst 0, 1) := dk_3 (dk_at dksX0_digest_2 23 rfl rfl)
theorem dX0_digest_72 : decode cX0_digest 72 = .ok (.istore_n 1, 1) := dk_60 (dk_at dksX0_digest_3 0 rfl rfl)
theorem dX0_digest_73 : decode cX0_digest 73 = .ok (.iload_n 1, 1) := dk_27 (dk_at dksX0_digest_3 1 rfl rfl)
theorem dX0_digest_74 : decode cX0_digest 74 = .ok (.bipush 9, 2) := dk_16 9 (dk_at dksX0_digest_3 2 rfl rfl)
theorem dX0_digest_76 : decode cX0_digest 76 = .ok (.if_icmp .ge 19, 3) := dk_162 0 19 (dk_at dksX0_digest_3 4 rfl rfl)
theorem dX0_digest_79 : decode cX0_digest 79 = .ok (.aload_n 0, 1) := dk_42 (dk_at dksX0_digest_3 7 rfl rfl)
theorem dX0_digest_80 : decode cX0_digest 80 = .ok (.aload_n 0, 1) := dk_42 (dk_at dksX0_digest_3 8 rfl rfl)
theorem dX0_digest_81 : decode cX0_digest 81 = .ok (.iload_n 1, 1) := dk_27 (dk_at dksX0_digest_3 9 rfl rfl)
theorem dX0_digest_82 : decode cX0_digest 82 = .ok (.invokevirtual 341, 3) := dk_182 1 85 (dk_at dksX0_digest_3 10 rfl rfl)
theorem dX0_digest_85 : decode cX0_digest 85 = .ok (.i2l, 1) := dk_133 (dk_at dksX0_digest_3 13 rfl rfl)
theorem dX0_digest_86 : decode cX0_digest 86 = .ok (.invokevirtual 329, 3) := dk_182 1 73 (dk_at dksX0_digest_3 14 rfl rfl)
theorem dX0_digest_89 : decode cX0_digest 89 = .ok (.iinc 1 1, 3) := dk_132 1 1 (dk_at dksX0_digest_3 17 rfl rfl)
theorem dX0_digest_92 : decode cX0_digest 92 = .ok (.goto (-19), 3) := dk_167 255 237 (dk_at dksX0_digest_3 20 rfl rfl)
theorem dX0_digest_95 : decode cX0_digest 95 = .ok (.aload_n 0, 1) := dk_42 (dk_at dksX0_digest_3 23 rfl rfl)
theorem dX0_digest_96 : decode cX0_digest 96 = .ok (.getfield 325, 3) := dk_180 1 69 (dk_at dksX0_digest_4 0 rfl rfl)
theorem dX0_digest_99 : decode cX0_digest 99 = .ok (.lreturn, 1) := dk_173 (dk_at dksX0_digest_4 3 rfl rfl)
abbrev cX0_noteNumber : ByteArray := prog_1_method_61_code
def yX0_noteNumber : MethodName := ⟨RX0, "noteNumber", "(LSumColours$Member;)V"⟩
def dkwX0_noteNumber_2 : List UInt8 := [3, 4, 182, 0, 234, 133, 182, 1, 73, 177]
abbrev dktX0_noteNumber_2 : List UInt8 := dkwX0_noteNumber_2 ++ []
def dkwX0_noteNumber_1 : List UInt8 := [167, 255, 236, 42, 42, 43, 180, 0, 123, 3, 3, 182, 0, 234, 133, 182, 1, 73, 42, 42, 43, 180, 0, 123]
abbrev dktX0_noteNumber_1 : List UInt8 := dkwX0_noteNumber_1 ++ dktX0_noteNumber_2
def dkwX0_noteNumber_0 : List UInt8 := [3, 61, 28, 16, 6, 162, 0, 20, 42, 42, 43, 28, 182, 0, 253, 133, 182, 1, 73, 132, 2, 1]
abbrev dktX0_noteNumber_0 : List UInt8 := dkwX0_noteNumber_0 ++ dktX0_noteNumber_1
theorem dksX0_noteNumber_0 : cX0_noteNumber.data.toList.drop 0 = dktX0_noteNumber_0 := by decide +kernel
theorem dksX0_noteNumber_1 : cX0_noteNumber.data.toList.drop 22 = dktX0_noteNumber_1 := dk_seg dksX0_noteNumber_0 22 rfl rfl
theorem dksX0_noteNumber_2 : cX0_noteNumber.data.toList.drop 46 = dktX0_noteNumber_2 := dk_seg dksX0_noteNumber_1 24 rfl rfl
theorem dX0_noteNumber_0 : decode cX0_noteNumber 0 = .ok (.iconst 0, 1) := dk_3 (dk_at dksX0_noteNumber_0 0 rfl rfl)
theorem dX0_noteNumber_1 : decode cX0_noteNumber 1 = .ok (.istore_n 2, 1) := dk_61 (dk_at dksX0_noteNumber_0 1 rfl rfl)
theorem dX0_noteNumber_2 : decode cX0_noteNumber 2 = .ok (.iload_n 2, 1) := dk_28 (dk_at dksX0_noteNumber_0 2 rfl rfl)
theorem dX0_noteNumber_3 : decode cX0_noteNumber 3 = .ok (.bipush 6, 2) := dk_16 6 (dk_at dksX0_noteNumber_0 3 rfl rfl)
theorem dX0_noteNumber_5 : decode cX0_noteNumber 5 = .ok (.if_icmp .ge 20, 3) := dk_162 0 20 (dk_at dksX0_noteNumber_0 5 rfl rfl)
theorem dX0_noteNumber_8 : decode cX0_noteNumber 8 = .ok (.aload_n 0, 1) := dk_42 (dk_at dksX0_noteNumber_0 8 rfl rfl)
theorem dX0_noteNumber_9 : decode cX0_noteNumber 9 = .ok (.aload_n 0, 1) := dk_42 (dk_at dksX0_noteNumber_0 9 rfl rfl)
theorem dX0_noteNumber_10 : decode cX0_noteNumber 10 = .ok (.aload_n 1, 1) := dk_43 (dk_at dksX0_noteNumber_0 10 rfl rfl)
theorem dX0_noteNumber_11 : decode cX0_noteNumber 11 = .ok (.iload_n 2, 1) := dk_28 (dk_at dksX0_noteNumber_0 11 rfl rfl)
theorem dX0_noteNumber_12 : decode cX0_noteNumber 12 = .ok (.invokevirtual 253, 3) := dk_182 0 253 (dk_at dksX0_noteNumber_0 12 rfl rfl)
theorem dX0_noteNumber_15 : decode cX0_noteNumber 15 = .ok (.i2l, 1) := dk_133 (dk_at dksX0_noteNumber_0 15 rfl rfl)
theorem dX0_noteNumber_16 : decode cX0_noteNumber 16 = .ok (.invokevirtual 329, 3) := dk_182 1 73 (dk_at dksX0_noteNumber_0 16 rfl rfl)
theorem dX0_noteNumber_19 : decode cX0_noteNumber 19 = .ok (.iinc 2 1, 3) := dk_132 2 1 (dk_at dksX0_noteNumber_0 19 rfl rfl)
theorem dX0_noteNumber_22 : decode cX0_noteNumber 22 = .ok (.goto (-20), 3) := dk_167 255 236 (dk_at dksX0_noteNumber_1 0 rfl rfl)
theorem dX0_noteNumber_25 : decode cX0_noteNumber 25 = .ok (.aload_n 0, 1) := dk_42 (dk_at dksX0_noteNumber_1 3 rfl rfl)
theorem dX0_noteNumber_26 : decode cX0_noteNumber 26 = .ok (.aload_n 0, 1) := dk_42 (dk_at dksX0_noteNumber_1 4 rfl rfl)
theorem dX0_noteNumber_27 : decode cX0_noteNumber 27 = .ok (.aload_n 1, 1) := dk_43 (dk_at dksX0_noteNumber_1 5 rfl rfl)
theorem dX0_noteNumber_28 : decode cX0_noteNumber 28 = .ok (.getfield 123, 3) := dk_180 0 123 (dk_at dksX0_noteNumber_1 6 rfl rfl)
theorem dX0_noteNumber_31 : decode cX0_noteNumber 31 = .ok (.iconst 0, 1) := dk_3 (dk_at dksX0_noteNumber_1 9 rfl rfl)
theorem dX0_noteNumber_32 : decode cX0_noteNumber 32 = .ok (.iconst 0, 1) := dk_3 (dk_at dksX0_noteNumber_1 10 rfl rfl)
theorem dX0_noteNumber_33 : decode cX0_noteNumber 33 = .ok (.invokevirtual 234, 3) := dk_182 0 234 (dk_at dksX0_noteNumber_1 11 rfl rfl)
theorem dX0_noteNumber_36 : decode cX0_noteNumber 36 = .ok (.i2l, 1) := dk_133 (dk_at dksX0_noteNumber_1 14 rfl rfl)
theorem dX0_noteNumber_37 : decode cX0_noteNumber 37 = .ok (.invokevirtual 329, 3) := dk_182 1 73 (dk_at dksX0_noteNumber_1 15 rfl rfl)
theorem dX0_noteNumber_40 : decode cX0_noteNumber 40 = .ok (.aload_n 0, 1) := dk_42 (dk_at dksX0_noteNumber_1 18 rfl rfl)
theorem dX0_noteNumber_41 : decode cX0_noteNumber 41 = .ok (.aload_n 0, 1) := dk_42 (dk_at dksX0_noteNumber_1 19 rfl rfl)
theorem dX0_noteNumber_42 : decode cX0_noteNumber 42 = .ok (.aload_n 1, 1) := dk_43 (dk_at dksX0_noteNumber_1 20 rfl rfl)
theorem dX0_noteNumber_43 : decode cX0_noteNumber 43 = .ok (.getfield 123, 3) := dk_180 0 123 (dk_at dksX0_noteNumber_1 21 rfl rfl)
theorem dX0_noteNumber_46 : decode cX0_noteNumber 46 = .ok (.iconst 0, 1) := dk_3 (dk_at dksX0_noteNumber_2 0 rfl rfl)
theorem dX0_noteNumber_47 : decode cX0_noteNumber 47 = .ok (.iconst 1, 1) := dk_4 (dk_at dksX0_noteNumber_2 1 rfl rfl)
theorem dX0_noteNumber_48 : decode cX0_noteNumber 48 = .ok (.invokevirtual 234, 3) := dk_182 0 234 (dk_at dksX0_noteNumber_2 2 rfl rfl)
theorem dX0_noteNumber_51 : decode cX0_noteNumber 51 = .ok (.i2l, 1) := dk_133 (dk_at dksX0_noteNumber_2 5 rfl rfl)
theorem dX0_noteNumber_52 : decode cX0_noteNumber 52 = .ok (.invokevirtual 329, 3) := dk_182 1 73 (dk_at dksX0_noteNumber_2 6 rfl rfl)
theorem dX0_noteNumber_55 : decode cX0_noteNumber 55 = .ok (.return_, 1) := dk_177 (dk_at dksX0_noteNumber_2 9 rfl rfl)
abbrev cX0_note : ByteArray := prog_1_method_60_code
def yX0_note : MethodName := ⟨RX0, "note", "(J)V"⟩
def dkwX0_note_0 : List UInt8 := [42, 20, 1, 67, 42, 180, 1, 69, 105, 31, 97, 181, 1, 69, 177]
abbrev dktX0_note_0 : List UInt8 := dkwX0_note_0 ++ []
theorem dksX0_note_0 : cX0_note.data.toList.drop 0 = dktX0_note_0 := by decide +kernel
theorem dX0_note_0 : decode cX0_note 0 = .ok (.aload_n 0, 1) := dk_42 (dk_at dksX0_note_0 0 rfl rfl)
theorem dX0_note_1 : decode cX0_note 1 = .ok (.ldc2_w 323, 3) := dk_20 1 67 (dk_at dksX0_note_0 1 rfl rfl)
theorem dX0_note_4 : decode cX0_note 4 = .ok (.aload_n 0, 1) := dk_42 (dk_at dksX0_note_0 4 rfl rfl)
theorem dX0_note_5 : decode cX0_note 5 = .ok (.getfield 325, 3) := dk_180 1 69 (dk_at dksX0_note_0 5 rfl rfl)
theorem dX0_note_8 : decode cX0_note 8 = .ok (.lmul, 1) := dk_105 (dk_at dksX0_note_0 8 rfl rfl)
theorem dX0_note_9 : decode cX0_note 9 = .ok (.lload_n 1, 1) := dk_31 (dk_at dksX0_note_0 9 rfl rfl)
theorem dX0_note_10 : decode cX0_note 10 = .ok (.ladd, 1) := dk_97 (dk_at dksX0_note_0 10 rfl rfl)
theorem dX0_note_11 : decode cX0_note 11 = .ok (.putfield 325, 3) := dk_181 1 69 (dk_at dksX0_note_0 11 rfl rfl)
theorem dX0_note_14 : decode cX0_note 14 = .ok (.return_, 1) := dk_177 (dk_at dksX0_note_0 14 rfl rfl)
abbrev cX0_noteBoard : ByteArray := prog_1_method_62_code
def yX0_noteBoard : MethodName := ⟨RX0, "noteBoard", "()V"⟩
def dkwX0_noteBoard_2 : List UInt8 := [182, 1, 73, 42, 42, 4, 182, 0, 225, 133, 182, 1, 73, 177]
abbrev dktX0_noteBoard_2 : List UInt8 := dkwX0_noteBoard_2 ++ []
def dkwX0_noteBoard_1 : List UInt8 := [182, 0, 219, 133, 182, 1, 73, 42, 42, 180, 0, 202, 133, 182, 1, 73, 42, 42, 3, 182, 0, 225, 133]
abbrev dktX0_noteBoard_1 : List UInt8 := dkwX0_noteBoard_1 ++ dktX0_noteBoard_2
def dkwX0_noteBoard_0 : List UInt8 := [42, 42, 3, 182, 0, 219, 133, 182, 1, 73, 42, 42, 4, 182, 0, 219, 133, 182, 1, 73, 42, 42, 5]
abbrev dktX0_noteBoard_0 : List UInt8 := dkwX0_noteBoard_0 ++ dktX0_noteBoard_1
theorem dksX0_noteBoard_0 : cX0_noteBoard.data.toList.drop 0 = dktX0_noteBoard_0 := by decide +kernel
theorem dksX0_noteBoard_1 : cX0_noteBoard.data.toList.drop 23 = dktX0_noteBoard_1 := dk_seg dksX0_noteBoard_0 23 rfl rfl
theorem dksX0_noteBoard_2 : cX0_noteBoard.data.toList.drop 46 = dktX0_noteBoard_2 := dk_seg dksX0_noteBoard_1 23 rfl rfl
theorem dX0_noteBoard_0 : decode cX0_noteBoard 0 = .ok (.aload_n 0, 1) := dk_42 (dk_at dksX0_noteBoard_0 0 rfl rfl)
theorem dX0_noteBoard_1 : decode cX0_noteBoard 1 = .ok (.aload_n 0, 1) := dk_42 (dk_at dksX0_noteBoard_0 1 rfl rfl)
theorem dX0_noteBoard_2 : decode cX0_noteBoard 2 = .ok (.iconst 0, 1) := dk_3 (dk_at dksX0_noteBoard_0 2 rfl rfl)
theorem dX0_noteBoard_3 : decode cX0_noteBoard 3 = .ok (.invokevirtual 219, 3) := dk_182 0 219 (dk_at dksX0_noteBoard_0 3 rfl rfl)
theorem dX0_noteBoard_6 : decode cX0_noteBoard 6 = .ok (.i2l, 1) := dk_133 (dk_at dksX0_noteBoard_0 6 rfl rfl)
theorem dX0_noteBoard_7 : decode cX0_noteBoard 7 = .ok (.invokevirtual 329, 3) := dk_182 1 73 (dk_at dksX0_noteBoard_0 7 rfl rfl)
theorem dX0_noteBoard_10 : decode cX0_noteBoard 10 = .ok (.aload_n 0, 1) := dk_42 (dk_at dksX0_noteBoard_0 10 rfl rfl)
theorem dX0_noteBoard_11 : decode cX0_noteBoard 11 = .ok (.aload_n 0, 1) := dk_42 (dk_at dksX0_noteBoard_0 11 rfl rfl)
theorem dX0_noteBoard_12 : decode cX0_noteBoard 12 = .ok (.iconst 1, 1) := dk_4 (dk_at dksX0_noteBoard_0 12 rfl rfl)
theorem dX0_noteBoard_13 : decode cX0_noteBoard 13 = .ok (.invokevirtual 219, 3) := dk_182 0 219 (dk_at dksX0_noteBoard_0 13 rfl rfl)
theorem dX0_noteBoard_16 : decode cX0_noteBoard 16 = .ok (.i2l, 1) := dk_133 (dk_at dksX0_noteBoard_0 16 rfl rfl)
theorem dX0_noteBoard_17 : decode cX0_noteBoard 17 = .ok (.invokevirtual 329, 3) := dk_182 1 73 (dk_at dksX0_noteBoard_0 17 rfl rfl)
theorem dX0_noteBoard_20 : decode cX0_noteBoard 20 = .ok (.aload_n 0, 1) := dk_42 (dk_at dksX0_noteBoard_0 20 rfl rfl)
theorem dX0_noteBoard_21 : decode cX0_noteBoard 21 = .ok (.aload_n 0, 1) := dk_42 (dk_at dksX0_noteBoard_0 21 rfl rfl)
theorem dX0_noteBoard_22 : decode cX0_noteBoard 22 = .ok (.iconst 2, 1) := dk_5 (dk_at dksX0_noteBoard_0 22 rfl rfl)
theorem dX0_noteBoard_23 : decode cX0_noteBoard 23 = .ok (.invokevirtual 219, 3) := dk_182 0 219 (dk_at dksX0_noteBoard_1 0 rfl rfl)
theorem dX0_noteBoard_26 : decode cX0_noteBoard 26 = .ok (.i2l, 1) := dk_133 (dk_at dksX0_noteBoard_1 3 rfl rfl)
theorem dX0_noteBoard_27 : decode cX0_noteBoard 27 = .ok (.invokevirtual 329, 3) := dk_182 1 73 (dk_at dksX0_noteBoard_1 4 rfl rfl)
theorem dX0_noteBoard_30 : decode cX0_noteBoard 30 = .ok (.aload_n 0, 1) := dk_42 (dk_at dksX0_noteBoard_1 7 rfl rfl)
theorem dX0_noteBoard_31 : decode cX0_noteBoard 31 = .ok (.aload_n 0, 1) := dk_42 (dk_at dksX0_noteBoard_1 8 rfl rfl)
theorem dX0_noteBoard_32 : decode cX0_noteBoard 32 = .ok (.getfield 202, 3) := dk_180 0 202 (dk_at dksX0_noteBoard_1 9 rfl rfl)
theorem dX0_noteBoard_35 : decode cX0_noteBoard 35 = .ok (.i2l, 1) := dk_133 (dk_at dksX0_noteBoard_1 12 rfl rfl)
theorem dX0_noteBoard_36 : decode cX0_noteBoard 36 = .ok (.invokevirtual 329, 3) := dk_182 1 73 (dk_at dksX0_noteBoard_1 13 rfl rfl)
theorem dX0_noteBoard_39 : decode cX0_noteBoard 39 = .ok (.aload_n 0, 1) := dk_42 (dk_at dksX0_noteBoard_1 16 rfl rfl)
theorem dX0_noteBoard_40 : decode cX0_noteBoard 40 = .ok (.aload_n 0, 1) := dk_42 (dk_at dksX0_noteBoard_1 17 rfl rfl)
theorem dX0_noteBoard_41 : decode cX0_noteBoard 41 = .ok (.iconst 0, 1) := dk_3 (dk_at dksX0_noteBoard_1 18 rfl rfl)
theorem dX0_noteBoard_42 : decode cX0_noteBoard 42 = .ok (.invokevirtual 225, 3) := dk_182 0 225 (dk_at dksX0_noteBoard_1 19 rfl rfl)
theorem dX0_noteBoard_45 : decode cX0_noteBoard 45 = .ok (.i2l, 1) := dk_133 (dk_at dksX0_noteBoard_1 22 rfl rfl)
theorem dX0_noteBoard_46 : decode cX0_noteBoard 46 = .ok (.invokevirtual 329, 3) := dk_182 1 73 (dk_at dksX0_noteBoard_2 0 rfl rfl)
theorem dX0_noteBoard_49 : decode cX0_noteBoard 49 = .ok (.aload_n 0, 1) := dk_42 (dk_at dksX0_noteBoard_2 3 rfl rfl)
theorem dX0_noteBoard_50 : decode cX0_noteBoard 50 = .ok (.aload_n 0, 1) := dk_42 (dk_at dksX0_noteBoard_2 4 rfl rfl)
theorem dX0_noteBoard_51 : decode cX0_noteBoard 51 = .ok (.iconst 1, 1) := dk_4 (dk_at dksX0_noteBoard_2 5 rfl rfl)
theorem dX0_noteBoard_52 : decode cX0_noteBoard 52 = .ok (.invokevirtual 225, 3) := dk_182 0 225 (dk_at dksX0_noteBoard_2 6 rfl rfl)
theorem dX0_noteBoard_55 : decode cX0_noteBoard 55 = .ok (.i2l, 1) := dk_133 (dk_at dksX0_noteBoard_2 9 rfl rfl)
theorem dX0_noteBoard_56 : decode cX0_noteBoard 56 = .ok (.invokevirtual 329, 3) := dk_182 1 73 (dk_at dksX0_noteBoard_2 10 rfl rfl)
theorem dX0_noteBoard_59 : decode cX0_noteBoard 59 = .ok (.return_, 1) := dk_177 (dk_at dksX0_noteBoard_2 13 rfl rfl)
theorem q72 : (Jvm.Cond.initialized "SumColours") ∈ lw_all := lw_g (lw_at lw_m1 1 rfl) rfl
theorem q88 : (Jvm.Cond.instantiable "SumColours" (32 : Nat)) ∈ lw_all := lw_g (lw_at lw_m1 17 rfl) rfl
theorem q90 : (Jvm.Cond.instanceMethod ({ cls := "SumColours", name := "<init>", desc := "()V" } : Jvm.MethodName)) ∈ lw_all := lw_g (lw_at lw_m1 19 rfl) rfl
theorem q91 : (Jvm.Cond.code ({ cls := "SumColours", name := "<init>", desc := "()V" } : Jvm.MethodName) prog_1_method_5_code (1 : Nat) (Option.none : Option Jvm.ClassFile.FieldType)) ∈ lw_all := lw_g (lw_at lw_m1 20 rfl) rfl
theorem q92 : (Jvm.Cond.methodLink "SumColours" (25 : Nat) ({ cls := "java/lang/Object", name := "<init>", desc := "()V" } : Jvm.MethodName)) ∈ lw_all := lw_g (lw_at lw_m1 21 rfl) rfl
theorem q95 : (Jvm.Cond.classLink "SumColours" (7 : Nat) "SumColours$Member") ∈ lw_all := lw_g (lw_at lw_m1 24 rfl) rfl
theorem q98 : (Jvm.Cond.methodLinkNest "SumColours" (9 : Nat) ({ cls := "SumColours$Member", name := "<init>", desc := "()V" } : Jvm.MethodName) "SumColours") ∈ lw_tbl := lw_at lw_m1 27 rfl
theorem q103 : (Jvm.Cond.fieldLink "SumColours" (123 : Nat) "SumColours$Member" "name" "I") ∈ lw_all := lw_g (lw_at lw_m1 32 rfl) rfl
theorem q104 : (Jvm.Cond.fieldLink "SumColours" (257 : Nat) "SumColours$Loose" "name" "I") ∈ lw_all := lw_g (lw_at lw_m1 33 rfl) rfl
theorem q106 : (Jvm.Cond.fieldLink "SumColours" (258 : Nat) "SumColours$Free" "name" "I") ∈ lw_all := lw_g (lw_at lw_m1 35 rfl) rfl
theorem q108 : (Jvm.Cond.fieldLink "SumColours" (259 : Nat) "SumColours$Shy" "name" "I") ∈ lw_all := lw_g (lw_at lw_m1 37 rfl) rfl
theorem q110 : (Jvm.Cond.fieldLink "SumColours" (260 : Nat) "SumColours$Lone" "name" "I") ∈ lw_all := lw_g (lw_at lw_m1 39 rfl) rfl
theorem q113 : (Jvm.Cond.fieldLink "SumColours" (126 : Nat) "SumColours$Member" "colour" "I") ∈ lw_all := lw_g (lw_at lw_m1 42 rfl) rfl
theorem q114 : (Jvm.Cond.fieldLink "SumColours" (302 : Nat) "SumColours$Member" "keptColour" "I") ∈ lw_all := lw_g (lw_at lw_m1 43 rfl) rfl
theorem q122 : (Jvm.Cond.classLink "SumColours" (13 : Nat) "SumColours$Loose") ∈ lw_all := lw_g (lw_at lw_m1 51 rfl) rfl
theorem q124 : (Jvm.Cond.methodLinkNest "SumColours" (15 : Nat) ({ cls := "SumColours$Loose", name := "<init>", desc := "()V" } : Jvm.MethodName) "SumColours") ∈ lw_tbl := lw_at lw_m1 53 rfl
theorem q132 : (Jvm.Cond.classLink "SumColours" (16 : Nat) "SumColours$Free") ∈ lw_all := lw_g (lw_at lw_m1 61 rfl) rfl
theorem q134 : (Jvm.Cond.methodLinkNest "SumColours" (18 : Nat) ({ cls := "SumColours$Free", name := "<init>", desc := "()V" } : Jvm.MethodName) "SumColours") ∈ lw_tbl := lw_at lw_m1 63 rfl
theorem q142 : (Jvm.Cond.classLink "SumColours" (19 : Nat) "SumColours$Shy") ∈ lw_all := lw_g (lw_at lw_m1 71 rfl) rfl
theorem q144 : (Jvm.Cond.methodLinkNest "SumColours" (21 : Nat) ({ cls := "SumColours$Shy", name := "<init>", desc := "()V" } : Jvm.MethodName) "SumColours") ∈ lw_tbl := lw_at lw_m1 73 rfl
theorem q152 : (Jvm.Cond.classLink "SumColours" (22 : Nat) "SumColours$Lone") ∈ lw_all := lw_g (lw_at lw_m1 81 rfl) rfl
theorem q154 : (Jvm.Cond.methodLinkNest "SumColours" (24 : Nat) ({ cls := "SumColours$Lone", name := "<init>", desc := "()V" } : Jvm.MethodName) "SumColours") ∈ lw_tbl := lw_at lw_m1 83 rfl
theorem q162 : (Jvm.Cond.fieldLink "SumColours" (28 : Nat) "SumColours" "sorts" "[LSumColours$Member;") ∈ lw_all := lw_g (lw_at lw_m1 91 rfl) rfl
theorem q163 : (Jvm.Cond.fieldLink "SumColours" (32 : Nat) "SumColours" "numbers" "[LSumColours$Member;") ∈ lw_all := lw_g (lw_at lw_m1 92 rfl) rfl
theorem q164 : (Jvm.Cond.fieldLink "SumColours" (35 : Nat) "SumColours" "kept" "[LSumColours$Member;") ∈ lw_all := lw_g (lw_at lw_m1 93 rfl) rfl
theorem q165 : (Jvm.Cond.fieldLink "SumColours" (116 : Nat) "SumColours" "many" "I") ∈ lw_all := lw_g (lw_at lw_m1 94 rfl) rfl
theorem q166 : (Jvm.Cond.fieldLink "SumColours" (113 : Nat) "SumColours" "colours" "I") ∈ lw_all := lw_g (lw_at lw_m1 95 rfl) rfl
theorem q167 : (Jvm.Cond.fieldLink "SumColours" (129 : Nat) "SumColours" "changes" "I") ∈ lw_all := lw_g (lw_at lw_m1 96 rfl) rfl
theorem q168 : (Jvm.Cond.fieldLink "SumColours" (135 : Nat) "SumColours" "boardsRead" "I") ∈ lw_all := lw_g (lw_at lw_m1 97 rfl) rfl
theorem q169 : (Jvm.Cond.fieldLink "SumColours" (138 : Nat) "SumColours" "isOld" "Z") ∈ lw_all := lw_g (lw_at lw_m1 98 rfl) rfl
theorem q170 : (Jvm.Cond.fieldLink "SumColours" (38 : Nat) "SumColours" "page" "[I") ∈ lw_all := lw_g (lw_at lw_m1 99 rfl) rfl
theorem q171 : (Jvm.Cond.fieldLink "SumColours" (82 : Nat) "SumColours" "pageMany" "I") ∈ lw_all := lw_g (lw_at lw_m1 100 rfl) rfl
theorem q172 : (Jvm.Cond.fieldLink "SumColours" (85 : Nat) "SumColours" "told" "I") ∈ lw_all := lw_g (lw_at lw_m1 101 rfl) rfl
theorem q173 : (Jvm.Cond.fieldLink "SumColours" (88 : Nat) "SumColours" "end" "I") ∈ lw_all := lw_g (lw_at lw_m1 102 rfl) rfl
theorem q174 : (Jvm.Cond.fieldLink "SumColours" (42 : Nat) "SumColours" "row" "[I") ∈ lw_all := lw_g (lw_at lw_m1 103 rfl) rfl
theorem q175 : (Jvm.Cond.fieldLink "SumColours" (162 : Nat) "SumColours" "ways" "I") ∈ lw_all := lw_g (lw_at lw_m1 104 rfl) rfl
theorem q176 : (Jvm.Cond.fieldLink "SumColours" (168 : Nat) "SumColours" "far" "I") ∈ lw_all := lw_g (lw_at lw_m1 105 rfl) rfl
theorem q177 : (Jvm.Cond.fieldLink "SumColours" (45 : Nat) "SumColours" "having" "[I") ∈ lw_all := lw_g (lw_at lw_m1 106 rfl) rfl
theorem q178 : (Jvm.Cond.fieldLink "SumColours" (165 : Nat) "SumColours" "wanted" "I") ∈ lw_all := lw_g (lw_at lw_m1 107 rfl) rfl
theorem q179 : (Jvm.Cond.fieldLink "SumColours" (48 : Nat) "SumColours" "found" "[I") ∈ lw_all := lw_g (lw_at lw_m1 108 rfl) rfl
theorem q180 : (Jvm.Cond.fieldLink "SumColours" (202 : Nat) "SumColours" "mendTold" "I") ∈ lw_all := lw_g (lw_at lw_m1 109 rfl) rfl
theorem q181 : (Jvm.Cond.fieldLink "SumColours" (208 : Nat) "SumColours" "winTold" "I") ∈ lw_all := lw_g (lw_at lw_m1 110 rfl) rfl
theorem q182 : (Jvm.Cond.fieldLink "SumColours" (51 : Nat) "SumColours" "seenNumber" "[I") ∈ lw_all := lw_g (lw_at lw_m1 111 rfl) rfl
theorem q183 : (Jvm.Cond.fieldLink "SumColours" (54 : Nat) "SumColours" "seenWhat" "[I") ∈ lw_all := lw_g (lw_at lw_m1 112 rfl) rfl
theorem q184 : (Jvm.Cond.fieldLink "SumColours" (57 : Nat) "SumColours" "seenCould" "[Z") ∈ lw_all := lw_g (lw_at lw_m1 113 rfl) rfl
theorem q185 : (Jvm.Cond.fieldLink "SumColours" (132 : Nat) "SumColours" "seenMany" "I") ∈ lw_all := lw_g (lw_at lw_m1 114 rfl) rfl
theorem q186 : (Jvm.Cond.fieldLink "SumColours" (286 : Nat) "SumColours" "drawn" "I") ∈ lw_all := lw_g (lw_at lw_m1 115 rfl) rfl
theorem q187 : (Jvm.Cond.fieldLink "SumColours" (61 : Nat) "SumColours" "keptNumber" "[I") ∈ lw_all := lw_g (lw_at lw_m1 116 rfl) rfl
theorem q188 : (Jvm.Cond.fieldLink "SumColours" (64 : Nat) "SumColours" "keptWhat" "[I") ∈ lw_all := lw_g (lw_at lw_m1 117 rfl) rfl
theorem q189 : (Jvm.Cond.fieldLink "SumColours" (67 : Nat) "SumColours" "keptCould" "[Z") ∈ lw_all := lw_g (lw_at lw_m1 118 rfl) rfl
theorem q190 : (Jvm.Cond.fieldLink "SumColours" (311 : Nat) "SumColours" "keptSeen" "I") ∈ lw_all := lw_g (lw_at lw_m1 119 rfl) rfl
theorem q191 : (Jvm.Cond.fieldLink "SumColours" (314 : Nat) "SumColours" "keptChanges" "I") ∈ lw_all := lw_g (lw_at lw_m1 120 rfl) rfl
theorem q192 : (Jvm.Cond.fieldLink "SumColours" (70 : Nat) "SumColours" "keptBoard" "I") ∈ lw_all := lw_g (lw_at lw_m1 121 rfl) rfl
theorem q193 : (Jvm.Cond.fieldLink "SumColours" (325 : Nat) "SumColours" "h" "J") ∈ lw_all := lw_g (lw_at lw_m1 122 rfl) rfl
theorem q194 : (Jvm.Cond.laysFinal "SumColours" "SumColours" "sorts" "[LSumColours$Member;") ∈ lw_all := lw_g (lw_at lw_m1 123 rfl) rfl
theorem q195 : (Jvm.Cond.soleField "SumColours" "sorts") ∈ lw_all := lw_g (lw_at lw_m1 124 rfl) rfl
theorem q196 : (Jvm.Cond.laysFinal "SumColours" "SumColours" "numbers" "[LSumColours$Member;") ∈ lw_all := lw_g (lw_at lw_m1 125 rfl) rfl
theorem q197 : (Jvm.Cond.soleField "SumColours" "numbers") ∈ lw_all := lw_g (lw_at lw_m1 126 rfl) rfl
theorem q198 : (Jvm.Cond.laysFinal "SumColours" "SumColours" "kept" "[LSumColours$Member;") ∈ lw_all := lw_g (lw_at lw_m1 127 rfl) rfl
theorem q199 : (Jvm.Cond.soleField "SumColours" "kept") ∈ lw_all := lw_g (lw_at lw_m1 128 rfl) rfl
theorem q200 : (Jvm.Cond.lays "SumColours" "SumColours" "many" "I") ∈ lw_all := lw_g (lw_at lw_m1 129 rfl) rfl
theorem q201 : (Jvm.Cond.soleField "SumColours" "many") ∈ lw_all := lw_g (lw_at lw_m1 130 rfl) rfl
theorem q202 : (Jvm.Cond.lays "SumColours" "SumColours" "colours" "I") ∈ lw_all := lw_g (lw_at lw_m1 131 rfl) rfl
theorem q203 : (Jvm.Cond.soleField "SumColours" "colours") ∈ lw_all := lw_g (lw_at lw_m1 132 rfl) rfl
theorem q204 : (Jvm.Cond.lays "SumColours" "SumColours" "changes" "I") ∈ lw_all := lw_g (lw_at lw_m1 133 rfl) rfl
theorem q205 : (Jvm.Cond.soleField "SumColours" "changes") ∈ lw_all := lw_g (lw_at lw_m1 134 rfl) rfl
theorem q206 : (Jvm.Cond.lays "SumColours" "SumColours" "boardsRead" "I") ∈ lw_all := lw_g (lw_at lw_m1 135 rfl) rfl
theorem q207 : (Jvm.Cond.soleField "SumColours" "boardsRead") ∈ lw_all := lw_g (lw_at lw_m1 136 rfl) rfl
theorem q208 : (Jvm.Cond.lays "SumColours" "SumColours" "isOld" "Z") ∈ lw_all := lw_g (lw_at lw_m1 137 rfl) rfl
theorem q209 : (Jvm.Cond.soleField "SumColours" "isOld") ∈ lw_all := lw_g (lw_at lw_m1 138 rfl) rfl
theorem q210 : (Jvm.Cond.laysFinal "SumColours" "SumColours" "page" "[I") ∈ lw_all := lw_g (lw_at lw_m1 139 rfl) rfl
theorem q211 : (Jvm.Cond.soleField "SumColours" "page") ∈ lw_all := lw_g (lw_at lw_m1 140 rfl) rfl
theorem q212 : (Jvm.Cond.lays "SumColours" "SumColours" "pageMany" "I") ∈ lw_all := lw_g (lw_at lw_m1 141 rfl) rfl
theorem q213 : (Jvm.Cond.soleField "SumColours" "pageMany") ∈ lw_all := lw_g (lw_at lw_m1 142 rfl) rfl
theorem q214 : (Jvm.Cond.lays "SumColours" "SumColours" "told" "I") ∈ lw_all := lw_g (lw_at lw_m1 143 rfl) rfl
theorem q215 : (Jvm.Cond.soleField "SumColours" "told") ∈ lw_all := lw_g (lw_at lw_m1 144 rfl) rfl
theorem q216 : (Jvm.Cond.lays "SumColours" "SumColours" "end" "I") ∈ lw_all := lw_g (lw_at lw_m1 145 rfl) rfl
theorem q217 : (Jvm.Cond.soleField "SumColours" "end") ∈ lw_all := lw_g (lw_at lw_m1 146 rfl) rfl
theorem q218 : (Jvm.Cond.laysFinal "SumColours" "SumColours" "row" "[I") ∈ lw_all := lw_g (lw_at lw_m1 147 rfl) rfl
theorem q219 : (Jvm.Cond.soleField "SumColours" "row") ∈ lw_all := lw_g (lw_at lw_m1 148 rfl) rfl
theorem q220 : (Jvm.Cond.lays "SumColours" "SumColours" "ways" "I") ∈ lw_all := lw_g (lw_at lw_m1 149 rfl) rfl
theorem q221 : (Jvm.Cond.soleField "SumColours" "ways") ∈ lw_all := lw_g (lw_at lw_m1 150 rfl) rfl
theorem q222 : (Jvm.Cond.lays "SumColours" "SumColours" "far" "I") ∈ lw_all := lw_g (lw_at lw_m1 151 rfl) rfl
theorem q223 : (Jvm.Cond.soleField "SumColours" "far") ∈ lw_all := lw_g (lw_at lw_m1 152 rfl) rfl
theorem q224 : (Jvm.Cond.laysFinal "SumColours" "SumColours" "having" "[I") ∈ lw_all := lw_g (lw_at lw_m1 153 rfl) rfl
theorem q225 : (Jvm.Cond.soleField "SumColours" "having") ∈ lw_all := lw_g (lw_at lw_m1 154 rfl) rfl
theorem q226 : (Jvm.Cond.lays "SumColours" "SumColours" "wanted" "I") ∈ lw_all := lw_g (lw_at lw_m1 155 rfl) rfl
theorem q227 : (Jvm.Cond.soleField "SumColours" "wanted") ∈ lw_all := lw_g (lw_at lw_m1 156 rfl) rfl
theorem q228 : (Jvm.Cond.laysFinal "SumColours" "SumColours" "found" "[I") ∈ lw_all := lw_g (lw_at lw_m1 157 rfl) rfl
theorem q229 : (Jvm.Cond.soleField "SumColours" "found") ∈ lw_all := lw_g (lw_at lw_m1 158 rfl) rfl
theorem q230 : (Jvm.Cond.lays "SumColours" "SumColours" "mendTold" "I") ∈ lw_all := lw_g (lw_at lw_m1 159 rfl) rfl
theorem q231 : (Jvm.Cond.soleField "SumColours" "mendTold") ∈ lw_all := lw_g (lw_at lw_m1 160 rfl) rfl
theorem q232 : (Jvm.Cond.lays "SumColours" "SumColours" "winTold" "I") ∈ lw_all := lw_g (lw_at lw_m1 161 rfl) rfl
theorem q233 : (Jvm.Cond.soleField "SumColours" "winTold") ∈ lw_all := lw_g (lw_at lw_m1 162 rfl) rfl
theorem q234 : (Jvm.Cond.laysFinal "SumColours" "SumColours" "seenNumber" "[I") ∈ lw_all := lw_g (lw_at lw_m1 163 rfl) rfl
theorem q235 : (Jvm.Cond.soleField "SumColours" "seenNumber") ∈ lw_all := lw_g (lw_at lw_m1 164 rfl) rfl
theorem q236 : (Jvm.Cond.laysFinal "SumColours" "SumColours" "seenWhat" "[I") ∈ lw_all := lw_g (lw_at lw_m1 165 rfl) rfl
theorem q237 : (Jvm.Cond.soleField "SumColours" "seenWhat") ∈ lw_all := lw_g (lw_at lw_m1 166 rfl) rfl
theorem q238 : (Jvm.Cond.laysFinal "SumColours" "SumColours" "seenCould" "[Z") ∈ lw_all := lw_g (lw_at lw_m1 167 rfl) rfl
theorem q239 : (Jvm.Cond.soleField "SumColours" "seenCould") ∈ lw_all := lw_g (lw_at lw_m1 168 rfl) rfl
theorem q240 : (Jvm.Cond.lays "SumColours" "SumColours" "seenMany" "I") ∈ lw_all := lw_g (lw_at lw_m1 169 rfl) rfl
theorem q241 : (Jvm.Cond.soleField "SumColours" "seenMany") ∈ lw_all := lw_g (lw_at lw_m1 170 rfl) rfl
theorem q242 : (Jvm.Cond.lays "SumColours" "SumColours" "drawn" "I") ∈ lw_all := lw_g (lw_at lw_m1 171 rfl) rfl
theorem q243 : (Jvm.Cond.soleField "SumColours" "drawn") ∈ lw_all := lw_g (lw_at lw_m1 172 rfl) rfl
theorem q244 : (Jvm.Cond.laysFinal "SumColours" "SumColours" "keptNumber" "[I") ∈ lw_all := lw_g (lw_at lw_m1 173 rfl) rfl
theorem q245 : (Jvm.Cond.soleField "SumColours" "keptNumber") ∈ lw_all := lw_g (lw_at lw_m1 174 rfl) rfl
theorem q246 : (Jvm.Cond.laysFinal "SumColours" "SumColours" "keptWhat" "[I") ∈ lw_all := lw_g (lw_at lw_m1 175 rfl) rfl
theorem q247 : (Jvm.Cond.soleField "SumColours" "keptWhat") ∈ lw_all := lw_g (lw_at lw_m1 176 rfl) rfl
theorem q248 : (Jvm.Cond.laysFinal "SumColours" "SumColours" "keptCould" "[Z") ∈ lw_all := lw_g (lw_at lw_m1 177 rfl) rfl
theorem q249 : (Jvm.Cond.soleField "SumColours" "keptCould") ∈ lw_all := lw_g (lw_at lw_m1 178 rfl) rfl
theorem q250 : (Jvm.Cond.lays "SumColours" "SumColours" "keptSeen" "I") ∈ lw_all := lw_g (lw_at lw_m1 179 rfl) rfl
theorem q251 : (Jvm.Cond.soleField "SumColours" "keptSeen") ∈ lw_all := lw_g (lw_at lw_m1 180 rfl) rfl
theorem q252 : (Jvm.Cond.lays "SumColours" "SumColours" "keptChanges" "I") ∈ lw_all := lw_g (lw_at lw_m1 181 rfl) rfl
theorem q253 : (Jvm.Cond.soleField "SumColours" "keptChanges") ∈ lw_all := lw_g (lw_at lw_m1 182 rfl) rfl
theorem q254 : (Jvm.Cond.lays "SumColours" "SumColours" "keptBoard" "I") ∈ lw_all := lw_g (lw_at lw_m1 183 rfl) rfl
theorem q255 : (Jvm.Cond.soleField "SumColours" "keptBoard") ∈ lw_all := lw_g (lw_at lw_m1 184 rfl) rfl
theorem q256 : (Jvm.Cond.lays "SumColours" "SumColours" "h" "J") ∈ lw_all := lw_g (lw_at lw_m1 185 rfl) rfl
theorem q257 : (Jvm.Cond.soleField "SumColours" "h") ∈ lw_all := lw_g (lw_at lw_m1 186 rfl) rfl
theorem q258 : (Jvm.Cond.superclass "SumColours" "java/lang/Object") ∈ lw_all := lw_g (lw_at lw_m1 187 rfl) rfl
theorem q262 : (Jvm.Cond.instanceMethod ({ cls := "SumColours", name := "letter", desc := "(I)I" } : Jvm.MethodName)) ∈ lw_all := lw_g (lw_at lw_m1 191 rfl) rfl
theorem q263 : (Jvm.Cond.selects "SumColours" ({ cls := "SumColours", name := "letter", desc := "(I)I" } : Jvm.MethodName) ({ cls := "SumColours", name := "letter", desc := "(I)I" } : Jvm.MethodName)) ∈ lw_all := lw_g (lw_at lw_m1 192 rfl) rfl
theorem q264 : (Jvm.Cond.code ({ cls := "SumColours", name := "letter", desc := "(I)I" } : Jvm.MethodName) prog_1_method_6_code (2 : Nat) (Option.some Jvm.ClassFile.FieldType.int)) ∈ lw_all := lw_g (lw_at lw_m1 193 rfl) rfl
theorem q265 : (Jvm.Cond.constantLong "SumColours" (74 : Nat) (32 : Int64)) ∈ lw_all := lw_g (lw_at lw_m1 194 rfl) rfl
theorem q266 : (Jvm.Cond.constantLong "SumColours" (76 : Nat) (126 : Int64)) ∈ lw_all := lw_g (lw_at lw_m1 195 rfl) rfl
theorem q267 : (Jvm.Cond.methodLink "SumColours" (78 : Nat) ({ cls := "SumColours", name := "isIn", desc := "(JJJ)Z" } : Jvm.MethodName)) ∈ lw_all := lw_g (lw_at lw_m1 196 rfl) rfl
theorem q268 : (Jvm.Cond.static ({ cls := "SumColours", name := "isIn", desc := "(JJJ)Z" } : Jvm.MethodName)) ∈ lw_all := lw_g (lw_at lw_m1 197 rfl) rfl
theorem q269 : (Jvm.Cond.code ({ cls := "SumColours", name := "isIn", desc := "(JJJ)Z" } : Jvm.MethodName) prog_1_method_1_code (6 : Nat) (Option.some Jvm.ClassFile.FieldType.boolean)) ∈ lw_all := lw_g (lw_at lw_m1 198 rfl) rfl
theorem q271 : (Jvm.Cond.instanceMethod ({ cls := "SumColours", name := "blank", desc := "()I" } : Jvm.MethodName)) ∈ lw_all := lw_g (lw_at lw_m1 200 rfl) rfl
theorem q272 : (Jvm.Cond.selects "SumColours" ({ cls := "SumColours", name := "blank", desc := "()I" } : Jvm.MethodName) ({ cls := "SumColours", name := "blank", desc := "()I" } : Jvm.MethodName)) ∈ lw_all := lw_g (lw_at lw_m1 201 rfl) rfl
theorem q273 : (Jvm.Cond.code ({ cls := "SumColours", name := "blank", desc := "()I" } : Jvm.MethodName) prog_1_method_7_code (2 : Nat) (Option.some Jvm.ClassFile.FieldType.int)) ∈ lw_all := lw_g (lw_at lw_m1 202 rfl) rfl
theorem q275 : (Jvm.Cond.instanceMethod ({ cls := "SumColours", name := "fault", desc := "()I" } : Jvm.MethodName)) ∈ lw_all := lw_g (lw_at lw_m1 204 rfl) rfl
theorem q276 : (Jvm.Cond.selects "SumColours" ({ cls := "SumColours", name := "fault", desc := "()I" } : Jvm.MethodName) ({ cls := "SumColours", name := "fault", desc := "()I" } : Jvm.MethodName)) ∈ lw_all := lw_g (lw_at lw_m1 205 rfl) rfl
theorem q277 : (Jvm.Cond.code ({ cls := "SumColours", name := "fault", desc := "()I" } : Jvm.MethodName) prog_1_method_11_code (2 : Nat) (Option.some Jvm.ClassFile.FieldType.int)) ∈ lw_all := lw_g (lw_at lw_m1 206 rfl) rfl
theorem q278 : (Jvm.Cond.methodLink "SumColours" (105 : Nat) ({ cls := "SumColours", name := "isGood", desc := "(I)Z" } : Jvm.MethodName)) ∈ lw_all := lw_g (lw_at lw_m1 207 rfl) rfl
theorem q279 : (Jvm.Cond.privateMethod ({ cls := "SumColours", name := "isGood", desc := "(I)Z" } : Jvm.MethodName)) ∈ lw_tbl := lw_at lw_m1 208 rfl
theorem q280 : (Jvm.Cond.instanceMethod ({ cls := "SumColours", name := "isGood", desc := "(I)Z" } : Jvm.MethodName)) ∈ lw_all := lw_g (lw_at lw_m1 209 rfl) rfl
theorem q281 : (Jvm.Cond.code ({ cls := "SumColours", name := "isGood", desc := "(I)Z" } : Jvm.MethodName) prog_1_method_10_code (3 : Nat) (Option.some Jvm.ClassFile.FieldType.boolean)) ∈ lw_all := lw_g (lw_at lw_m1 210 rfl) rfl
theorem q282 : (Jvm.Cond.constantLong "SumColours" (95 : Nat) (50 : Int64)) ∈ lw_all := lw_g (lw_at lw_m1 211 rfl) rfl
theorem q283 : (Jvm.Cond.constantLong "SumColours" (97 : Nat) (51 : Int64)) ∈ lw_all := lw_g (lw_at lw_m1 212 rfl) rfl
theorem q284 : (Jvm.Cond.methodLink "SumColours" (99 : Nat) ({ cls := "SumColours", name := "isKindSign", desc := "(II)Z" } : Jvm.MethodName)) ∈ lw_all := lw_g (lw_at lw_m1 213 rfl) rfl
theorem q285 : (Jvm.Cond.privateMethod ({ cls := "SumColours", name := "isKindSign", desc := "(II)Z" } : Jvm.MethodName)) ∈ lw_tbl := lw_at lw_m1 214 rfl
theorem q286 : (Jvm.Cond.instanceMethod ({ cls := "SumColours", name := "isKindSign", desc := "(II)Z" } : Jvm.MethodName)) ∈ lw_all := lw_g (lw_at lw_m1 215 rfl) rfl
theorem q287 : (Jvm.Cond.code ({ cls := "SumColours", name := "isKindSign", desc := "(II)Z" } : Jvm.MethodName) prog_1_method_9_code (3 : Nat) (Option.some Jvm.ClassFile.FieldType.boolean)) ∈ lw_all := lw_g (lw_at lw_m1 216 rfl) rfl
theorem q288 : (Jvm.Cond.methodLink "SumColours" (91 : Nat) ({ cls := "SumColours", name := "kindOf", desc := "(I)I" } : Jvm.MethodName)) ∈ lw_all := lw_g (lw_at lw_m1 217 rfl) rfl
theorem q289 : (Jvm.Cond.static ({ cls := "SumColours", name := "kindOf", desc := "(I)I" } : Jvm.MethodName)) ∈ lw_all := lw_g (lw_at lw_m1 218 rfl) rfl
theorem q290 : (Jvm.Cond.code ({ cls := "SumColours", name := "kindOf", desc := "(I)I" } : Jvm.MethodName) prog_1_method_8_code (1 : Nat) (Option.some Jvm.ClassFile.FieldType.int)) ∈ lw_all := lw_g (lw_at lw_m1 219 rfl) rfl
theorem q291 : (Jvm.Cond.constantLong "SumColours" (103 : Nat) (97 : Int64)) ∈ lw_all := lw_g (lw_at lw_m1 220 rfl) rfl
theorem q293 : (Jvm.Cond.instanceMethod ({ cls := "SumColours", name := "board", desc := "()I" } : Jvm.MethodName)) ∈ lw_all := lw_g (lw_at lw_m1 222 rfl) rfl
theorem q294 : (Jvm.Cond.selects "SumColours" ({ cls := "SumColours", name := "board", desc := "()I" } : Jvm.MethodName) ({ cls := "SumColours", name := "board", desc := "()I" } : Jvm.MethodName)) ∈ lw_all := lw_g (lw_at lw_m1 223 rfl) rfl
theorem q295 : (Jvm.Cond.code ({ cls := "SumColours", name := "board", desc := "()I" } : Jvm.MethodName) prog_1_method_12_code (3 : Nat) (Option.some Jvm.ClassFile.FieldType.int)) ∈ lw_all := lw_g (lw_at lw_m1 224 rfl) rfl
theorem q296 : (Jvm.Cond.methodLink "SumColours" (109 : Nat) ({ cls := "SumColours", name := "fault", desc := "()I" } : Jvm.MethodName)) ∈ lw_all := lw_g (lw_at lw_m1 225 rfl) rfl
theorem q297 : (Jvm.Cond.methodLink "SumColours" (119 : Nat) ({ cls := "SumColours", name := "made", desc := "(I)LSumColours$Member;" } : Jvm.MethodName)) ∈ lw_all := lw_g (lw_at lw_m1 226 rfl) rfl
theorem q298 : (Jvm.Cond.static ({ cls := "SumColours", name := "made", desc := "(I)LSumColours$Member;" } : Jvm.MethodName)) ∈ lw_all := lw_g (lw_at lw_m1 227 rfl) rfl
theorem q299 : (Jvm.Cond.code ({ cls := "SumColours", name := "made", desc := "(I)LSumColours$Member;" } : Jvm.MethodName) prog_1_method_4_code (1 : Nat) (Option.some (Jvm.ClassFile.FieldType.object "SumColours$Member"))) ∈ lw_all := lw_g (lw_at lw_m1 228 rfl) rfl
theorem q301 : (Jvm.Cond.instanceMethod ({ cls := "SumColours", name := "ways", desc := "(I)I" } : Jvm.MethodName)) ∈ lw_all := lw_g (lw_at lw_m1 230 rfl) rfl
theorem q302 : (Jvm.Cond.selects "SumColours" ({ cls := "SumColours", name := "ways", desc := "(I)I" } : Jvm.MethodName) ({ cls := "SumColours", name := "ways", desc := "(I)I" } : Jvm.MethodName)) ∈ lw_all := lw_g (lw_at lw_m1 231 rfl) rfl
theorem q303 : (Jvm.Cond.code ({ cls := "SumColours", name := "ways", desc := "(I)I" } : Jvm.MethodName) prog_1_method_31_code (2 : Nat) (Option.some Jvm.ClassFile.FieldType.int)) ∈ lw_all := lw_g (lw_at lw_m1 232 rfl) rfl
theorem q304 : (Jvm.Cond.constantLong "SumColours" (217 : Nat) (2 : Int64)) ∈ lw_all := lw_g (lw_at lw_m1 233 rfl) rfl
theorem q305 : (Jvm.Cond.methodLink "SumColours" (219 : Nat) ({ cls := "SumColours", name := "tellWays", desc := "(I)I" } : Jvm.MethodName)) ∈ lw_all := lw_g (lw_at lw_m1 234 rfl) rfl
theorem q306 : (Jvm.Cond.privateMethod ({ cls := "SumColours", name := "tellWays", desc := "(I)I" } : Jvm.MethodName)) ∈ lw_tbl := lw_at lw_m1 235 rfl
theorem q307 : (Jvm.Cond.instanceMethod ({ cls := "SumColours", name := "tellWays", desc := "(I)I" } : Jvm.MethodName)) ∈ lw_all := lw_g (lw_at lw_m1 236 rfl) rfl
theorem q308 : (Jvm.Cond.code ({ cls := "SumColours", name := "tellWays", desc := "(I)I" } : Jvm.MethodName) prog_1_method_30_code (2 : Nat) (Option.some Jvm.ClassFile.FieldType.int)) ∈ lw_all := lw_g (lw_at lw_m1 237 rfl) rfl
theorem q309 : (Jvm.Cond.methodLink "SumColours" (211 : Nat) ({ cls := "SumColours", name := "freshen", desc := "()V" } : Jvm.MethodName)) ∈ lw_all := lw_g (lw_at lw_m1 238 rfl) rfl
theorem q310 : (Jvm.Cond.privateMethod ({ cls := "SumColours", name := "freshen", desc := "()V" } : Jvm.MethodName)) ∈ lw_tbl := lw_at lw_m1 239 rfl
theorem q311 : (Jvm.Cond.instanceMethod ({ cls := "SumColours", name := "freshen", desc := "()V" } : Jvm.MethodName)) ∈ lw_all := lw_g (lw_at lw_m2 0 rfl) rfl
theorem q312 : (Jvm.Cond.code ({ cls := "SumColours", name := "freshen", desc := "()V" } : Jvm.MethodName) prog_1_method_28_code (2 : Nat) (Option.none : Option Jvm.ClassFile.FieldType)) ∈ lw_all := lw_g (lw_at lw_m2 1 rfl) rfl
theorem q313 : (Jvm.Cond.methodLink "SumColours" (199 : Nat) ({ cls := "SumColours", name := "layWays", desc := "(I)V" } : Jvm.MethodName)) ∈ lw_all := lw_g (lw_at lw_m2 2 rfl) rfl
theorem q314 : (Jvm.Cond.privateMethod ({ cls := "SumColours", name := "layWays", desc := "(I)V" } : Jvm.MethodName)) ∈ lw_tbl := lw_at lw_m2 3 rfl
theorem q315 : (Jvm.Cond.instanceMethod ({ cls := "SumColours", name := "layWays", desc := "(I)V" } : Jvm.MethodName)) ∈ lw_all := lw_g (lw_at lw_m2 4 rfl) rfl
theorem q316 : (Jvm.Cond.code ({ cls := "SumColours", name := "layWays", desc := "(I)V" } : Jvm.MethodName) prog_1_method_24_code (3 : Nat) (Option.none : Option Jvm.ClassFile.FieldType)) ∈ lw_all := lw_g (lw_at lw_m2 5 rfl) rfl
theorem q317 : (Jvm.Cond.methodLink "SumColours" (176 : Nat) ({ cls := "SumColours", name := "goThrough", desc := "(I)V" } : Jvm.MethodName)) ∈ lw_all := lw_g (lw_at lw_m2 6 rfl) rfl
theorem q318 : (Jvm.Cond.privateMethod ({ cls := "SumColours", name := "goThrough", desc := "(I)V" } : Jvm.MethodName)) ∈ lw_tbl := lw_at lw_m2 7 rfl
theorem q319 : (Jvm.Cond.instanceMethod ({ cls := "SumColours", name := "goThrough", desc := "(I)V" } : Jvm.MethodName)) ∈ lw_all := lw_g (lw_at lw_m2 8 rfl) rfl
theorem q320 : (Jvm.Cond.code ({ cls := "SumColours", name := "goThrough", desc := "(I)V" } : Jvm.MethodName) prog_1_method_23_code (3 : Nat) (Option.none : Option Jvm.ClassFile.FieldType)) ∈ lw_all := lw_g (lw_at lw_m2 9 rfl) rfl
theorem q321 : (Jvm.Cond.methodLink "SumColours" (180 : Nat) ({ cls := "SumColours", name := "keepWay", desc := "()V" } : Jvm.MethodName)) ∈ lw_all := lw_g (lw_at lw_m2 10 rfl) rfl
theorem q322 : (Jvm.Cond.privateMethod ({ cls := "SumColours", name := "keepWay", desc := "()V" } : Jvm.MethodName)) ∈ lw_tbl := lw_at lw_m2 11 rfl
theorem q323 : (Jvm.Cond.instanceMethod ({ cls := "SumColours", name := "keepWay", desc := "()V" } : Jvm.MethodName)) ∈ lw_all := lw_g (lw_at lw_m2 12 rfl) rfl
theorem q324 : (Jvm.Cond.code ({ cls := "SumColours", name := "keepWay", desc := "()V" } : Jvm.MethodName) prog_1_method_21_code (2 : Nat) (Option.none : Option Jvm.ClassFile.FieldType)) ∈ lw_all := lw_g (lw_at lw_m2 13 rfl) rfl
theorem q325 : (Jvm.Cond.methodLink "SumColours" (183 : Nat) ({ cls := "SumColours", name := "goOn", desc := "(I)V" } : Jvm.MethodName)) ∈ lw_all := lw_g (lw_at lw_m2 14 rfl) rfl
theorem q326 : (Jvm.Cond.privateMethod ({ cls := "SumColours", name := "goOn", desc := "(I)V" } : Jvm.MethodName)) ∈ lw_tbl := lw_at lw_m2 15 rfl
theorem q327 : (Jvm.Cond.instanceMethod ({ cls := "SumColours", name := "goOn", desc := "(I)V" } : Jvm.MethodName)) ∈ lw_all := lw_g (lw_at lw_m2 16 rfl) rfl
theorem q328 : (Jvm.Cond.code ({ cls := "SumColours", name := "goOn", desc := "(I)V" } : Jvm.MethodName) prog_1_method_22_code (2 : Nat) (Option.none : Option Jvm.ClassFile.FieldType)) ∈ lw_all := lw_g (lw_at lw_m2 17 rfl) rfl
theorem q329 : (Jvm.Cond.methodLink "SumColours" (153 : Nat) ({ cls := "SumColours", name := "badAt", desc := "(I)I" } : Jvm.MethodName)) ∈ lw_all := lw_g (lw_at lw_m2 18 rfl) rfl
theorem q330 : (Jvm.Cond.privateMethod ({ cls := "SumColours", name := "badAt", desc := "(I)I" } : Jvm.MethodName)) ∈ lw_tbl := lw_at lw_m2 19 rfl
theorem q331 : (Jvm.Cond.instanceMethod ({ cls := "SumColours", name := "badAt", desc := "(I)I" } : Jvm.MethodName)) ∈ lw_all := lw_g (lw_at lw_m2 20 rfl) rfl
theorem q332 : (Jvm.Cond.code ({ cls := "SumColours", name := "badAt", desc := "(I)I" } : Jvm.MethodName) prog_1_method_17_code (4 : Nat) (Option.some Jvm.ClassFile.FieldType.int)) ∈ lw_all := lw_g (lw_at lw_m2 21 rfl) rfl
theorem q333 : (Jvm.Cond.methodLink "SumColours" (150 : Nat) ({ cls := "SumColours", name := "isBad", desc := "(II)Z" } : Jvm.MethodName)) ∈ lw_all := lw_g (lw_at lw_m2 22 rfl) rfl
theorem q334 : (Jvm.Cond.privateMethod ({ cls := "SumColours", name := "isBad", desc := "(II)Z" } : Jvm.MethodName)) ∈ lw_tbl := lw_at lw_m2 23 rfl
theorem q335 : (Jvm.Cond.instanceMethod ({ cls := "SumColours", name := "isBad", desc := "(II)Z" } : Jvm.MethodName)) ∈ lw_all := lw_g (lw_at lw_m2 24 rfl) rfl
theorem q336 : (Jvm.Cond.code ({ cls := "SumColours", name := "isBad", desc := "(II)Z" } : Jvm.MethodName) prog_1_method_16_code (5 : Nat) (Option.some Jvm.ClassFile.FieldType.boolean)) ∈ lw_all := lw_g (lw_at lw_m2 25 rfl) rfl
theorem q337 : (Jvm.Cond.methodLink "SumColours" (142 : Nat) ({ cls := "SumColours$Member", name := "isPart", desc := "()Z" } : Jvm.MethodName)) ∈ lw_all := lw_g (lw_at lw_m2 26 rfl) rfl
theorem q349 : (Jvm.Cond.methodLink "SumColours" (146 : Nat) ({ cls := "SumColours$Member", name := "isMinding", desc := "(Z)Z" } : Jvm.MethodName)) ∈ lw_all := lw_g (lw_at lw_m2 38 rfl) rfl
theorem q373 : (Jvm.Cond.methodLink "SumColours" (171 : Nat) ({ cls := "java/lang/Math", name := "max", desc := "(II)I" } : Jvm.MethodName)) ∈ lw_all := lw_g (lw_at lw_m2 62 rfl) rfl
theorem q376 : (Jvm.Cond.methodLink "SumColours" (190 : Nat) ({ cls := "SumColours", name := "leastFrom", desc := "(II)I" } : Jvm.MethodName)) ∈ lw_all := lw_g (lw_at lw_m2 65 rfl) rfl
theorem q377 : (Jvm.Cond.privateMethod ({ cls := "SumColours", name := "leastFrom", desc := "(II)I" } : Jvm.MethodName)) ∈ lw_tbl := lw_at lw_m2 66 rfl
theorem q378 : (Jvm.Cond.instanceMethod ({ cls := "SumColours", name := "leastFrom", desc := "(II)I" } : Jvm.MethodName)) ∈ lw_all := lw_g (lw_at lw_m2 67 rfl) rfl
theorem q379 : (Jvm.Cond.code ({ cls := "SumColours", name := "leastFrom", desc := "(II)I" } : Jvm.MethodName) prog_1_method_25_code (6 : Nat) (Option.some Jvm.ClassFile.FieldType.int)) ∈ lw_all := lw_g (lw_at lw_m2 68 rfl) rfl
theorem q380 : (Jvm.Cond.constant "SumColours" (186 : Nat) (99999 : Int32)) ∈ lw_all := lw_g (lw_at lw_m2 69 rfl) rfl
theorem q381 : (Jvm.Cond.methodLink "SumColours" (187 : Nat) ({ cls := "java/lang/Math", name := "min", desc := "(II)I" } : Jvm.MethodName)) ∈ lw_all := lw_g (lw_at lw_m2 70 rfl) rfl
theorem q384 : (Jvm.Cond.methodLink "SumColours" (205 : Nat) ({ cls := "SumColours", name := "badNow", desc := "()I" } : Jvm.MethodName)) ∈ lw_all := lw_g (lw_at lw_m2 73 rfl) rfl
theorem q385 : (Jvm.Cond.privateMethod ({ cls := "SumColours", name := "badNow", desc := "()I" } : Jvm.MethodName)) ∈ lw_tbl := lw_at lw_m2 74 rfl
theorem q386 : (Jvm.Cond.instanceMethod ({ cls := "SumColours", name := "badNow", desc := "()I" } : Jvm.MethodName)) ∈ lw_all := lw_g (lw_at lw_m2 75 rfl) rfl
theorem q387 : (Jvm.Cond.code ({ cls := "SumColours", name := "badNow", desc := "()I" } : Jvm.MethodName) prog_1_method_19_code (1 : Nat) (Option.some Jvm.ClassFile.FieldType.int)) ∈ lw_all := lw_g (lw_at lw_m2 76 rfl) rfl
theorem q388 : (Jvm.Cond.methodLink "SumColours" (156 : Nat) ({ cls := "SumColours", name := "layRow", desc := "()V" } : Jvm.MethodName)) ∈ lw_all := lw_g (lw_at lw_m2 77 rfl) rfl
theorem q389 : (Jvm.Cond.privateMethod ({ cls := "SumColours", name := "layRow", desc := "()V" } : Jvm.MethodName)) ∈ lw_tbl := lw_at lw_m2 78 rfl
theorem q390 : (Jvm.Cond.instanceMethod ({ cls := "SumColours", name := "layRow", desc := "()V" } : Jvm.MethodName)) ∈ lw_all := lw_g (lw_at lw_m2 79 rfl) rfl
theorem q391 : (Jvm.Cond.code ({ cls := "SumColours", name := "layRow", desc := "()V" } : Jvm.MethodName) prog_1_method_15_code (2 : Nat) (Option.none : Option Jvm.ClassFile.FieldType)) ∈ lw_all := lw_g (lw_at lw_m2 80 rfl) rfl
theorem q392 : (Jvm.Cond.methodLink "SumColours" (159 : Nat) ({ cls := "SumColours", name := "badUpTo", desc := "(I)I" } : Jvm.MethodName)) ∈ lw_all := lw_g (lw_at lw_m2 81 rfl) rfl
theorem q393 : (Jvm.Cond.privateMethod ({ cls := "SumColours", name := "badUpTo", desc := "(I)I" } : Jvm.MethodName)) ∈ lw_tbl := lw_at lw_m2 82 rfl
theorem q394 : (Jvm.Cond.instanceMethod ({ cls := "SumColours", name := "badUpTo", desc := "(I)I" } : Jvm.MethodName)) ∈ lw_all := lw_g (lw_at lw_m2 83 rfl) rfl
theorem q395 : (Jvm.Cond.code ({ cls := "SumColours", name := "badUpTo", desc := "(I)I" } : Jvm.MethodName) prog_1_method_18_code (4 : Nat) (Option.some Jvm.ClassFile.FieldType.int)) ∈ lw_all := lw_g (lw_at lw_m2 84 rfl) rfl
theorem q396 : (Jvm.Cond.methodLink "SumColours" (196 : Nat) ({ cls := "SumColours", name := "winning", desc := "()I" } : Jvm.MethodName)) ∈ lw_all := lw_g (lw_at lw_m2 85 rfl) rfl
theorem q397 : (Jvm.Cond.privateMethod ({ cls := "SumColours", name := "winning", desc := "()I" } : Jvm.MethodName)) ∈ lw_tbl := lw_at lw_m2 86 rfl
theorem q398 : (Jvm.Cond.instanceMethod ({ cls := "SumColours", name := "winning", desc := "()I" } : Jvm.MethodName)) ∈ lw_all := lw_g (lw_at lw_m2 87 rfl) rfl
theorem q399 : (Jvm.Cond.code ({ cls := "SumColours", name := "winning", desc := "()I" } : Jvm.MethodName) prog_1_method_27_code (4 : Nat) (Option.some Jvm.ClassFile.FieldType.int)) ∈ lw_all := lw_g (lw_at lw_m2 88 rfl) rfl
theorem q400 : (Jvm.Cond.methodLink "SumColours" (193 : Nat) ({ cls := "SumColours", name := "barest", desc := "()I" } : Jvm.MethodName)) ∈ lw_all := lw_g (lw_at lw_m2 89 rfl) rfl
theorem q401 : (Jvm.Cond.privateMethod ({ cls := "SumColours", name := "barest", desc := "()I" } : Jvm.MethodName)) ∈ lw_tbl := lw_at lw_m2 90 rfl
theorem q402 : (Jvm.Cond.instanceMethod ({ cls := "SumColours", name := "barest", desc := "()I" } : Jvm.MethodName)) ∈ lw_all := lw_g (lw_at lw_m2 91 rfl) rfl
theorem q403 : (Jvm.Cond.code ({ cls := "SumColours", name := "barest", desc := "()I" } : Jvm.MethodName) prog_1_method_26_code (2 : Nat) (Option.some Jvm.ClassFile.FieldType.int)) ∈ lw_all := lw_g (lw_at lw_m2 92 rfl) rfl
theorem q404 : (Jvm.Cond.methodLink "SumColours" (214 : Nat) ({ cls := "SumColours", name := "nextOf", desc := "()I" } : Jvm.MethodName)) ∈ lw_all := lw_g (lw_at lw_m2 93 rfl) rfl
theorem q405 : (Jvm.Cond.privateMethod ({ cls := "SumColours", name := "nextOf", desc := "()I" } : Jvm.MethodName)) ∈ lw_tbl := lw_at lw_m2 94 rfl
theorem q406 : (Jvm.Cond.instanceMethod ({ cls := "SumColours", name := "nextOf", desc := "()I" } : Jvm.MethodName)) ∈ lw_all := lw_g (lw_at lw_m2 95 rfl) rfl
theorem q407 : (Jvm.Cond.code ({ cls := "SumColours", name := "nextOf", desc := "()I" } : Jvm.MethodName) prog_1_method_29_code (6 : Nat) (Option.some Jvm.ClassFile.FieldType.int)) ∈ lw_all := lw_g (lw_at lw_m2 96 rfl) rfl
theorem q409 : (Jvm.Cond.instanceMethod ({ cls := "SumColours", name := "mend", desc := "()I" } : Jvm.MethodName)) ∈ lw_all := lw_g (lw_at lw_m2 98 rfl) rfl
theorem q410 : (Jvm.Cond.selects "SumColours" ({ cls := "SumColours", name := "mend", desc := "()I" } : Jvm.MethodName) ({ cls := "SumColours", name := "mend", desc := "()I" } : Jvm.MethodName)) ∈ lw_all := lw_g (lw_at lw_m2 99 rfl) rfl
theorem q411 : (Jvm.Cond.code ({ cls := "SumColours", name := "mend", desc := "()I" } : Jvm.MethodName) prog_1_method_33_code (1 : Nat) (Option.some Jvm.ClassFile.FieldType.int)) ∈ lw_all := lw_g (lw_at lw_m2 100 rfl) rfl
theorem q412 : (Jvm.Cond.methodLink "SumColours" (222 : Nat) ({ cls := "SumColours", name := "tellMend", desc := "()I" } : Jvm.MethodName)) ∈ lw_all := lw_g (lw_at lw_m2 101 rfl) rfl
theorem q413 : (Jvm.Cond.privateMethod ({ cls := "SumColours", name := "tellMend", desc := "()I" } : Jvm.MethodName)) ∈ lw_tbl := lw_at lw_m2 102 rfl
theorem q414 : (Jvm.Cond.instanceMethod ({ cls := "SumColours", name := "tellMend", desc := "()I" } : Jvm.MethodName)) ∈ lw_all := lw_g (lw_at lw_m2 103 rfl) rfl
theorem q415 : (Jvm.Cond.code ({ cls := "SumColours", name := "tellMend", desc := "()I" } : Jvm.MethodName) prog_1_method_32_code (1 : Nat) (Option.some Jvm.ClassFile.FieldType.int)) ∈ lw_all := lw_g (lw_at lw_m2 104 rfl) rfl
theorem q417 : (Jvm.Cond.instanceMethod ({ cls := "SumColours", name := "wins", desc := "(I)I" } : Jvm.MethodName)) ∈ lw_all := lw_g (lw_at lw_m2 106 rfl) rfl
theorem q418 : (Jvm.Cond.selects "SumColours" ({ cls := "SumColours", name := "wins", desc := "(I)I" } : Jvm.MethodName) ({ cls := "SumColours", name := "wins", desc := "(I)I" } : Jvm.MethodName)) ∈ lw_all := lw_g (lw_at lw_m2 107 rfl) rfl
theorem q419 : (Jvm.Cond.code ({ cls := "SumColours", name := "wins", desc := "(I)I" } : Jvm.MethodName) prog_1_method_35_code (2 : Nat) (Option.some Jvm.ClassFile.FieldType.int)) ∈ lw_all := lw_g (lw_at lw_m2 108 rfl) rfl
theorem q420 : (Jvm.Cond.methodLink "SumColours" (225 : Nat) ({ cls := "SumColours", name := "tellWins", desc := "(I)I" } : Jvm.MethodName)) ∈ lw_all := lw_g (lw_at lw_m2 109 rfl) rfl
theorem q421 : (Jvm.Cond.privateMethod ({ cls := "SumColours", name := "tellWins", desc := "(I)I" } : Jvm.MethodName)) ∈ lw_tbl := lw_at lw_m2 110 rfl
theorem q422 : (Jvm.Cond.instanceMethod ({ cls := "SumColours", name := "tellWins", desc := "(I)I" } : Jvm.MethodName)) ∈ lw_all := lw_g (lw_at lw_m2 111 rfl) rfl
theorem q423 : (Jvm.Cond.code ({ cls := "SumColours", name := "tellWins", desc := "(I)I" } : Jvm.MethodName) prog_1_method_34_code (2 : Nat) (Option.some Jvm.ClassFile.FieldType.int)) ∈ lw_all := lw_g (lw_at lw_m2 112 rfl) rfl
theorem q425 : (Jvm.Cond.instanceMethod ({ cls := "SumColours", name := "odds", desc := "(III)I" } : Jvm.MethodName)) ∈ lw_all := lw_g (lw_at lw_m2 114 rfl) rfl
theorem q426 : (Jvm.Cond.selects "SumColours" ({ cls := "SumColours", name := "odds", desc := "(III)I" } : Jvm.MethodName) ({ cls := "SumColours", name := "odds", desc := "(III)I" } : Jvm.MethodName)) ∈ lw_all := lw_g (lw_at lw_m2 115 rfl) rfl
theorem q427 : (Jvm.Cond.code ({ cls := "SumColours", name := "odds", desc := "(III)I" } : Jvm.MethodName) prog_1_method_37_code (4 : Nat) (Option.some Jvm.ClassFile.FieldType.int)) ∈ lw_all := lw_g (lw_at lw_m2 116 rfl) rfl
theorem q428 : (Jvm.Cond.methodLink "SumColours" (228 : Nat) ({ cls := "SumColours", name := "isNumber", desc := "(I)Z" } : Jvm.MethodName)) ∈ lw_all := lw_g (lw_at lw_m2 117 rfl) rfl
theorem q429 : (Jvm.Cond.privateMethod ({ cls := "SumColours", name := "isNumber", desc := "(I)Z" } : Jvm.MethodName)) ∈ lw_tbl := lw_at lw_m2 118 rfl
theorem q430 : (Jvm.Cond.instanceMethod ({ cls := "SumColours", name := "isNumber", desc := "(I)Z" } : Jvm.MethodName)) ∈ lw_all := lw_g (lw_at lw_m2 119 rfl) rfl
theorem q431 : (Jvm.Cond.code ({ cls := "SumColours", name := "isNumber", desc := "(I)Z" } : Jvm.MethodName) prog_1_method_13_code (2 : Nat) (Option.some Jvm.ClassFile.FieldType.boolean)) ∈ lw_all := lw_g (lw_at lw_m2 120 rfl) rfl
theorem q432 : (Jvm.Cond.methodLink "SumColours" (231 : Nat) ({ cls := "SumColours", name := "isColour", desc := "(I)Z" } : Jvm.MethodName)) ∈ lw_all := lw_g (lw_at lw_m2 121 rfl) rfl
theorem q433 : (Jvm.Cond.privateMethod ({ cls := "SumColours", name := "isColour", desc := "(I)Z" } : Jvm.MethodName)) ∈ lw_tbl := lw_at lw_m2 122 rfl
theorem q434 : (Jvm.Cond.instanceMethod ({ cls := "SumColours", name := "isColour", desc := "(I)Z" } : Jvm.MethodName)) ∈ lw_all := lw_g (lw_at lw_m2 123 rfl) rfl
theorem q435 : (Jvm.Cond.code ({ cls := "SumColours", name := "isColour", desc := "(I)Z" } : Jvm.MethodName) prog_1_method_14_code (2 : Nat) (Option.some Jvm.ClassFile.FieldType.boolean)) ∈ lw_all := lw_g (lw_at lw_m2 124 rfl) rfl
theorem q436 : (Jvm.Cond.methodLink "SumColours" (234 : Nat) ({ cls := "SumColours", name := "tellOdds", desc := "(III)I" } : Jvm.MethodName)) ∈ lw_all := lw_g (lw_at lw_m2 125 rfl) rfl
theorem q437 : (Jvm.Cond.privateMethod ({ cls := "SumColours", name := "tellOdds", desc := "(III)I" } : Jvm.MethodName)) ∈ lw_tbl := lw_at lw_m2 126 rfl
theorem q438 : (Jvm.Cond.instanceMethod ({ cls := "SumColours", name := "tellOdds", desc := "(III)I" } : Jvm.MethodName)) ∈ lw_all := lw_g (lw_at lw_m2 127 rfl) rfl
theorem q439 : (Jvm.Cond.code ({ cls := "SumColours", name := "tellOdds", desc := "(III)I" } : Jvm.MethodName) prog_1_method_36_code (6 : Nat) (Option.some Jvm.ClassFile.FieldType.int)) ∈ lw_all := lw_g (lw_at lw_m2 128 rfl) rfl
theorem q440 : (Jvm.Cond.methodLink "SumColours" (1 : Nat) ({ cls := "SumColours", name := "common", desc := "(II)I" } : Jvm.MethodName)) ∈ lw_all := lw_g (lw_at lw_m2 129 rfl) rfl
theorem q441 : (Jvm.Cond.static ({ cls := "SumColours", name := "common", desc := "(II)I" } : Jvm.MethodName)) ∈ lw_all := lw_g (lw_at lw_m2 130 rfl) rfl
theorem q442 : (Jvm.Cond.code ({ cls := "SumColours", name := "common", desc := "(II)I" } : Jvm.MethodName) prog_1_method_3_code (2 : Nat) (Option.some Jvm.ClassFile.FieldType.int)) ∈ lw_all := lw_g (lw_at lw_m2 131 rfl) rfl
theorem q444 : (Jvm.Cond.instanceMethod ({ cls := "SumColours", name := "way", desc := "(II)I" } : Jvm.MethodName)) ∈ lw_all := lw_g (lw_at lw_m2 133 rfl) rfl
theorem q445 : (Jvm.Cond.selects "SumColours" ({ cls := "SumColours", name := "way", desc := "(II)I" } : Jvm.MethodName) ({ cls := "SumColours", name := "way", desc := "(II)I" } : Jvm.MethodName)) ∈ lw_all := lw_g (lw_at lw_m2 134 rfl) rfl
theorem q446 : (Jvm.Cond.code ({ cls := "SumColours", name := "way", desc := "(II)I" } : Jvm.MethodName) prog_1_method_38_code (3 : Nat) (Option.some Jvm.ClassFile.FieldType.int)) ∈ lw_all := lw_g (lw_at lw_m2 135 rfl) rfl
theorem q448 : (Jvm.Cond.instanceMethod ({ cls := "SumColours", name := "number", desc := "(II)I" } : Jvm.MethodName)) ∈ lw_all := lw_g (lw_at lw_m2 137 rfl) rfl
theorem q449 : (Jvm.Cond.selects "SumColours" ({ cls := "SumColours", name := "number", desc := "(II)I" } : Jvm.MethodName) ({ cls := "SumColours", name := "number", desc := "(II)I" } : Jvm.MethodName)) ∈ lw_all := lw_g (lw_at lw_m2 138 rfl) rfl
theorem q450 : (Jvm.Cond.code ({ cls := "SumColours", name := "number", desc := "(II)I" } : Jvm.MethodName) prog_1_method_41_code (3 : Nat) (Option.some Jvm.ClassFile.FieldType.int)) ∈ lw_all := lw_g (lw_at lw_m2 139 rfl) rfl
theorem q451 : (Jvm.Cond.methodLink "SumColours" (253 : Nat) ({ cls := "SumColours", name := "tellNumber", desc := "(LSumColours$Member;I)I" } : Jvm.MethodName)) ∈ lw_all := lw_g (lw_at lw_m2 140 rfl) rfl
theorem q452 : (Jvm.Cond.privateMethod ({ cls := "SumColours", name := "tellNumber", desc := "(LSumColours$Member;I)I" } : Jvm.MethodName)) ∈ lw_tbl := lw_at lw_m2 141 rfl
theorem q453 : (Jvm.Cond.instanceMethod ({ cls := "SumColours", name := "tellNumber", desc := "(LSumColours$Member;I)I" } : Jvm.MethodName)) ∈ lw_all := lw_g (lw_at lw_m2 142 rfl) rfl
theorem q454 : (Jvm.Cond.code ({ cls := "SumColours", name := "tellNumber", desc := "(LSumColours$Member;I)I" } : Jvm.MethodName) prog_1_method_40_code (3 : Nat) (Option.some Jvm.ClassFile.FieldType.int)) ∈ lw_all := lw_g (lw_at lw_m2 143 rfl) rfl
theorem q455 : (Jvm.Cond.methodLink "SumColours" (238 : Nat) ({ cls := "SumColours$Member", name := "kind", desc := "()I" } : Jvm.MethodName)) ∈ lw_all := lw_g (lw_at lw_m2 144 rfl) rfl
theorem q473 : (Jvm.Cond.methodLink "SumColours" (241 : Nat) ({ cls := "SumColours", name := "sureOf", desc := "(I)I" } : Jvm.MethodName)) ∈ lw_all := lw_g (lw_at lw_m2 162 rfl) rfl
theorem q474 : (Jvm.Cond.privateMethod ({ cls := "SumColours", name := "sureOf", desc := "(I)I" } : Jvm.MethodName)) ∈ lw_tbl := lw_at lw_m2 163 rfl
theorem q475 : (Jvm.Cond.instanceMethod ({ cls := "SumColours", name := "sureOf", desc := "(I)I" } : Jvm.MethodName)) ∈ lw_all := lw_g (lw_at lw_m2 164 rfl) rfl
theorem q476 : (Jvm.Cond.code ({ cls := "SumColours", name := "sureOf", desc := "(I)I" } : Jvm.MethodName) prog_1_method_39_code (4 : Nat) (Option.some Jvm.ClassFile.FieldType.int)) ∈ lw_all := lw_g (lw_at lw_m2 165 rfl) rfl
theorem q477 : (Jvm.Cond.methodLink "SumColours" (244 : Nat) ({ cls := "SumColours", name := "sortsOf", desc := "(I)I" } : Jvm.MethodName)) ∈ lw_all := lw_g (lw_at lw_m2 166 rfl) rfl
theorem q478 : (Jvm.Cond.privateMethod ({ cls := "SumColours", name := "sortsOf", desc := "(I)I" } : Jvm.MethodName)) ∈ lw_tbl := lw_at lw_m2 167 rfl
theorem q479 : (Jvm.Cond.instanceMethod ({ cls := "SumColours", name := "sortsOf", desc := "(I)I" } : Jvm.MethodName)) ∈ lw_all := lw_g (lw_at lw_m2 168 rfl) rfl
theorem q480 : (Jvm.Cond.code ({ cls := "SumColours", name := "sortsOf", desc := "(I)I" } : Jvm.MethodName) prog_1_method_50_code (5 : Nat) (Option.some Jvm.ClassFile.FieldType.int)) ∈ lw_all := lw_g (lw_at lw_m2 169 rfl) rfl
theorem q481 : (Jvm.Cond.methodLink "SumColours" (276 : Nat) ({ cls := "SumColours", name := "sortsBy", desc := "(I)I" } : Jvm.MethodName)) ∈ lw_all := lw_g (lw_at lw_m2 170 rfl) rfl
theorem q482 : (Jvm.Cond.privateMethod ({ cls := "SumColours", name := "sortsBy", desc := "(I)I" } : Jvm.MethodName)) ∈ lw_tbl := lw_at lw_m2 171 rfl
theorem q483 : (Jvm.Cond.instanceMethod ({ cls := "SumColours", name := "sortsBy", desc := "(I)I" } : Jvm.MethodName)) ∈ lw_all := lw_g (lw_at lw_m2 172 rfl) rfl
theorem q484 : (Jvm.Cond.code ({ cls := "SumColours", name := "sortsBy", desc := "(I)I" } : Jvm.MethodName) prog_1_method_49_code (4 : Nat) (Option.some Jvm.ClassFile.FieldType.int)) ∈ lw_all := lw_g (lw_at lw_m2 173 rfl) rfl
theorem q533 : (Jvm.Cond.methodLink "SumColours" (247 : Nat) ({ cls := "SumColours", name := "toAsk", desc := "(I)I" } : Jvm.MethodName)) ∈ lw_all := lw_g (lw_at lw_m2 222 rfl) rfl
theorem q534 : (Jvm.Cond.privateMethod ({ cls := "SumColours", name := "toAsk", desc := "(I)I" } : Jvm.MethodName)) ∈ lw_tbl := lw_at lw_m2 223 rfl
theorem q535 : (Jvm.Cond.instanceMethod ({ cls := "SumColours", name := "toAsk", desc := "(I)I" } : Jvm.MethodName)) ∈ lw_all := lw_g (lw_at lw_m2 224 rfl) rfl
theorem q536 : (Jvm.Cond.code ({ cls := "SumColours", name := "toAsk", desc := "(I)I" } : Jvm.MethodName) prog_1_method_51_code (9 : Nat) (Option.some Jvm.ClassFile.FieldType.int)) ∈ lw_all := lw_g (lw_at lw_m2 225 rfl) rfl
theorem q537 : (Jvm.Cond.methodLink "SumColours" (279 : Nat) ({ cls := "java/lang/Integer", name := "bitCount", desc := "(I)I" } : Jvm.MethodName)) ∈ lw_all := lw_g (lw_at lw_m2 226 rfl) rfl
theorem q543 : (Jvm.Cond.methodLink "SumColours" (250 : Nat) ({ cls := "SumColours", name := "badWith", desc := "(I)I" } : Jvm.MethodName)) ∈ lw_all := lw_g (lw_at lw_m2 232 rfl) rfl
theorem q544 : (Jvm.Cond.privateMethod ({ cls := "SumColours", name := "badWith", desc := "(I)I" } : Jvm.MethodName)) ∈ lw_tbl := lw_at lw_m2 233 rfl
theorem q545 : (Jvm.Cond.instanceMethod ({ cls := "SumColours", name := "badWith", desc := "(I)I" } : Jvm.MethodName)) ∈ lw_all := lw_g (lw_at lw_m2 234 rfl) rfl
theorem q546 : (Jvm.Cond.code ({ cls := "SumColours", name := "badWith", desc := "(I)I" } : Jvm.MethodName) prog_1_method_20_code (6 : Nat) (Option.some Jvm.ClassFile.FieldType.int)) ∈ lw_all := lw_g (lw_at lw_m2 235 rfl) rfl
theorem q548 : (Jvm.Cond.instanceMethod ({ cls := "SumColours", name := "as", desc := "(II)I" } : Jvm.MethodName)) ∈ lw_all := lw_g (lw_at lw_m2 237 rfl) rfl
theorem q549 : (Jvm.Cond.selects "SumColours" ({ cls := "SumColours", name := "as", desc := "(II)I" } : Jvm.MethodName) ({ cls := "SumColours", name := "as", desc := "(II)I" } : Jvm.MethodName)) ∈ lw_all := lw_g (lw_at lw_m2 238 rfl) rfl
theorem q550 : (Jvm.Cond.codeWith ({ cls := "SumColours", name := "as", desc := "(II)I" } : Jvm.MethodName) prog_1_method_43_code (4 : Nat) (Option.some Jvm.ClassFile.FieldType.int) [((26 : Nat), (36 : Nat), (37 : Nat), (267 : Nat))]) ∈ lw_all := lw_g (lw_at lw_m2 239 rfl) rfl
theorem q551 : (Jvm.Cond.classLink "SumColours" (267 : Nat) "java/lang/ClassCastException") ∈ lw_all := lw_g (lw_at lw_m3 0 rfl) rfl
theorem q620 : (Jvm.Cond.constantLong "SumColours" (261 : Nat) (4 : Int64)) ∈ lw_all := lw_g (lw_at lw_m3 69 rfl) rfl
theorem q621 : (Jvm.Cond.methodLink "SumColours" (263 : Nat) ({ cls := "SumColours", name := "castTo", desc := "(Ljava/lang/Object;I)I" } : Jvm.MethodName)) ∈ lw_all := lw_g (lw_at lw_m3 70 rfl) rfl
theorem q622 : (Jvm.Cond.static ({ cls := "SumColours", name := "castTo", desc := "(Ljava/lang/Object;I)I" } : Jvm.MethodName)) ∈ lw_all := lw_g (lw_at lw_m3 71 rfl) rfl
theorem q623 : (Jvm.Cond.code ({ cls := "SumColours", name := "castTo", desc := "(Ljava/lang/Object;I)I" } : Jvm.MethodName) prog_1_method_42_code (2 : Nat) (Option.some Jvm.ClassFile.FieldType.int)) ∈ lw_all := lw_g (lw_at lw_m3 72 rfl) rfl
theorem q625 : (Jvm.Cond.instanceMethod ({ cls := "SumColours", name := "paint", desc := "(II)I" } : Jvm.MethodName)) ∈ lw_all := lw_g (lw_at lw_m3 74 rfl) rfl
theorem q626 : (Jvm.Cond.selects "SumColours" ({ cls := "SumColours", name := "paint", desc := "(II)I" } : Jvm.MethodName) ({ cls := "SumColours", name := "paint", desc := "(II)I" } : Jvm.MethodName)) ∈ lw_all := lw_g (lw_at lw_m3 75 rfl) rfl
theorem q627 : (Jvm.Cond.code ({ cls := "SumColours", name := "paint", desc := "(II)I" } : Jvm.MethodName) prog_1_method_44_code (3 : Nat) (Option.some Jvm.ClassFile.FieldType.int)) ∈ lw_all := lw_g (lw_at lw_m3 76 rfl) rfl
theorem q629 : (Jvm.Cond.instanceMethod ({ cls := "SumColours", name := "wipe", desc := "(I)I" } : Jvm.MethodName)) ∈ lw_all := lw_g (lw_at lw_m3 78 rfl) rfl
theorem q630 : (Jvm.Cond.selects "SumColours" ({ cls := "SumColours", name := "wipe", desc := "(I)I" } : Jvm.MethodName) ({ cls := "SumColours", name := "wipe", desc := "(I)I" } : Jvm.MethodName)) ∈ lw_all := lw_g (lw_at lw_m3 79 rfl) rfl
theorem q631 : (Jvm.Cond.code ({ cls := "SumColours", name := "wipe", desc := "(I)I" } : Jvm.MethodName) prog_1_method_45_code (3 : Nat) (Option.some Jvm.ClassFile.FieldType.int)) ∈ lw_all := lw_g (lw_at lw_m3 80 rfl) rfl
theorem q633 : (Jvm.Cond.instanceMethod ({ cls := "SumColours", name := "be", desc := "(II)I" } : Jvm.MethodName)) ∈ lw_all := lw_g (lw_at lw_m3 82 rfl) rfl
theorem q634 : (Jvm.Cond.selects "SumColours" ({ cls := "SumColours", name := "be", desc := "(II)I" } : Jvm.MethodName) ({ cls := "SumColours", name := "be", desc := "(II)I" } : Jvm.MethodName)) ∈ lw_all := lw_g (lw_at lw_m3 83 rfl) rfl
theorem q635 : (Jvm.Cond.code ({ cls := "SumColours", name := "be", desc := "(II)I" } : Jvm.MethodName) prog_1_method_46_code (5 : Nat) (Option.some Jvm.ClassFile.FieldType.int)) ∈ lw_all := lw_g (lw_at lw_m3 84 rfl) rfl
theorem q636 : (Jvm.Cond.methodLink "SumColours" (269 : Nat) ({ cls := "SumColours$Member", name := "be", desc := "(LSumColours$Member;)V" } : Jvm.MethodName)) ∈ lw_all := lw_g (lw_at lw_m3 85 rfl) rfl
theorem q646 : (Jvm.Cond.instanceMethod ({ cls := "SumColours", name := "see", desc := "(IIZ)I" } : Jvm.MethodName)) ∈ lw_all := lw_g (lw_at lw_m3 95 rfl) rfl
theorem q647 : (Jvm.Cond.selects "SumColours" ({ cls := "SumColours", name := "see", desc := "(IIZ)I" } : Jvm.MethodName) ({ cls := "SumColours", name := "see", desc := "(IIZ)I" } : Jvm.MethodName)) ∈ lw_all := lw_g (lw_at lw_m3 96 rfl) rfl
theorem q648 : (Jvm.Cond.code ({ cls := "SumColours", name := "see", desc := "(IIZ)I" } : Jvm.MethodName) prog_1_method_47_code (4 : Nat) (Option.some Jvm.ClassFile.FieldType.int)) ∈ lw_all := lw_g (lw_at lw_m3 97 rfl) rfl
theorem q650 : (Jvm.Cond.instanceMethod ({ cls := "SumColours", name := "forget", desc := "()I" } : Jvm.MethodName)) ∈ lw_all := lw_g (lw_at lw_m3 99 rfl) rfl
theorem q651 : (Jvm.Cond.selects "SumColours" ({ cls := "SumColours", name := "forget", desc := "()I" } : Jvm.MethodName) ({ cls := "SumColours", name := "forget", desc := "()I" } : Jvm.MethodName)) ∈ lw_all := lw_g (lw_at lw_m3 100 rfl) rfl
theorem q652 : (Jvm.Cond.code ({ cls := "SumColours", name := "forget", desc := "()I" } : Jvm.MethodName) prog_1_method_48_code (2 : Nat) (Option.some Jvm.ClassFile.FieldType.int)) ∈ lw_all := lw_g (lw_at lw_m3 101 rfl) rfl
theorem q654 : (Jvm.Cond.instanceMethod ({ cls := "SumColours", name := "paintings", desc := "(III)I" } : Jvm.MethodName)) ∈ lw_all := lw_g (lw_at lw_m3 103 rfl) rfl
theorem q655 : (Jvm.Cond.selects "SumColours" ({ cls := "SumColours", name := "paintings", desc := "(III)I" } : Jvm.MethodName) ({ cls := "SumColours", name := "paintings", desc := "(III)I" } : Jvm.MethodName)) ∈ lw_all := lw_g (lw_at lw_m3 104 rfl) rfl
theorem q656 : (Jvm.Cond.code ({ cls := "SumColours", name := "paintings", desc := "(III)I" } : Jvm.MethodName) prog_1_method_54_code (4 : Nat) (Option.some Jvm.ClassFile.FieldType.int)) ∈ lw_all := lw_g (lw_at lw_m3 105 rfl) rfl
theorem q657 : (Jvm.Cond.constantLong "SumColours" (297 : Nat) (40 : Int64)) ∈ lw_all := lw_g (lw_at lw_m3 106 rfl) rfl
theorem q658 : (Jvm.Cond.methodLink "SumColours" (299 : Nat) ({ cls := "SumColours", name := "paintingsBy", desc := "(III)I" } : Jvm.MethodName)) ∈ lw_all := lw_g (lw_at lw_m3 107 rfl) rfl
theorem q659 : (Jvm.Cond.privateMethod ({ cls := "SumColours", name := "paintingsBy", desc := "(III)I" } : Jvm.MethodName)) ∈ lw_tbl := lw_at lw_m3 108 rfl
theorem q660 : (Jvm.Cond.instanceMethod ({ cls := "SumColours", name := "paintingsBy", desc := "(III)I" } : Jvm.MethodName)) ∈ lw_all := lw_g (lw_at lw_m3 109 rfl) rfl
theorem q661 : (Jvm.Cond.code ({ cls := "SumColours", name := "paintingsBy", desc := "(III)I" } : Jvm.MethodName) prog_1_method_53_code (8 : Nat) (Option.some Jvm.ClassFile.FieldType.int)) ∈ lw_all := lw_g (lw_at lw_m3 110 rfl) rfl
theorem q662 : (Jvm.Cond.methodLink "SumColours" (294 : Nat) ({ cls := "SumColours", name := "draw", desc := "(I)I" } : Jvm.MethodName)) ∈ lw_all := lw_g (lw_at lw_m3 111 rfl) rfl
theorem q663 : (Jvm.Cond.privateMethod ({ cls := "SumColours", name := "draw", desc := "(I)I" } : Jvm.MethodName)) ∈ lw_tbl := lw_at lw_m3 112 rfl
theorem q664 : (Jvm.Cond.instanceMethod ({ cls := "SumColours", name := "draw", desc := "(I)I" } : Jvm.MethodName)) ∈ lw_all := lw_g (lw_at lw_m3 113 rfl) rfl
theorem q665 : (Jvm.Cond.code ({ cls := "SumColours", name := "draw", desc := "(I)I" } : Jvm.MethodName) prog_1_method_52_code (2 : Nat) (Option.some Jvm.ClassFile.FieldType.int)) ∈ lw_all := lw_g (lw_at lw_m3 114 rfl) rfl
theorem q666 : (Jvm.Cond.constantLong "SumColours" (284 : Nat) (1103515245 : Int64)) ∈ lw_all := lw_g (lw_at lw_m3 115 rfl) rfl
theorem q667 : (Jvm.Cond.constantLong "SumColours" (289 : Nat) (12345 : Int64)) ∈ lw_all := lw_g (lw_at lw_m3 116 rfl) rfl
theorem q668 : (Jvm.Cond.constantLong "SumColours" (291 : Nat) (2147483647 : Int64)) ∈ lw_all := lw_g (lw_at lw_m3 117 rfl) rfl
theorem q669 : (Jvm.Cond.constant "SumColours" (293 : Nat) (65536 : Int32)) ∈ lw_all := lw_g (lw_at lw_m3 118 rfl) rfl
theorem q671 : (Jvm.Cond.instanceMethod ({ cls := "SumColours", name := "image", desc := "()I" } : Jvm.MethodName)) ∈ lw_all := lw_g (lw_at lw_m3 120 rfl) rfl
theorem q672 : (Jvm.Cond.selects "SumColours" ({ cls := "SumColours", name := "image", desc := "()I" } : Jvm.MethodName) ({ cls := "SumColours", name := "image", desc := "()I" } : Jvm.MethodName)) ∈ lw_all := lw_g (lw_at lw_m3 121 rfl) rfl
theorem q673 : (Jvm.Cond.code ({ cls := "SumColours", name := "image", desc := "()I" } : Jvm.MethodName) prog_1_method_55_code (2 : Nat) (Option.some Jvm.ClassFile.FieldType.int)) ∈ lw_all := lw_g (lw_at lw_m3 122 rfl) rfl
theorem q674 : (Jvm.Cond.methodLink "SumColours" (305 : Nat) ({ cls := "java/lang/System", name := "arraycopy", desc := "(Ljava/lang/Object;ILjava/lang/Object;II)V" } : Jvm.MethodName)) ∈ lw_all := lw_g (lw_at lw_m3 123 rfl) rfl
theorem q678 : (Jvm.Cond.instanceMethod ({ cls := "SumColours", name := "restore", desc := "()I" } : Jvm.MethodName)) ∈ lw_all := lw_g (lw_at lw_m3 127 rfl) rfl
theorem q679 : (Jvm.Cond.selects "SumColours" ({ cls := "SumColours", name := "restore", desc := "()I" } : Jvm.MethodName) ({ cls := "SumColours", name := "restore", desc := "()I" } : Jvm.MethodName)) ∈ lw_all := lw_g (lw_at lw_m3 128 rfl) rfl
theorem q680 : (Jvm.Cond.code ({ cls := "SumColours", name := "restore", desc := "()I" } : Jvm.MethodName) prog_1_method_56_code (2 : Nat) (Option.some Jvm.ClassFile.FieldType.int)) ∈ lw_all := lw_g (lw_at lw_m3 129 rfl) rfl
theorem q682 : (Jvm.Cond.instanceMethod ({ cls := "SumColours", name := "count", desc := "(I)I" } : Jvm.MethodName)) ∈ lw_all := lw_g (lw_at lw_m3 131 rfl) rfl
theorem q683 : (Jvm.Cond.selects "SumColours" ({ cls := "SumColours", name := "count", desc := "(I)I" } : Jvm.MethodName) ({ cls := "SumColours", name := "count", desc := "(I)I" } : Jvm.MethodName)) ∈ lw_all := lw_g (lw_at lw_m3 132 rfl) rfl
theorem q684 : (Jvm.Cond.code ({ cls := "SumColours", name := "count", desc := "(I)I" } : Jvm.MethodName) prog_1_method_59_code (2 : Nat) (Option.some Jvm.ClassFile.FieldType.int)) ∈ lw_all := lw_g (lw_at lw_m3 133 rfl) rfl
theorem q685 : (Jvm.Cond.methodLink "SumColours" (317 : Nat) ({ cls := "SumColours", name := "bare", desc := "()I" } : Jvm.MethodName)) ∈ lw_all := lw_g (lw_at lw_m3 134 rfl) rfl
theorem q686 : (Jvm.Cond.privateMethod ({ cls := "SumColours", name := "bare", desc := "()I" } : Jvm.MethodName)) ∈ lw_tbl := lw_at lw_m3 135 rfl
theorem q687 : (Jvm.Cond.instanceMethod ({ cls := "SumColours", name := "bare", desc := "()I" } : Jvm.MethodName)) ∈ lw_all := lw_g (lw_at lw_m3 136 rfl) rfl
theorem q688 : (Jvm.Cond.code ({ cls := "SumColours", name := "bare", desc := "()I" } : Jvm.MethodName) prog_1_method_57_code (3 : Nat) (Option.some Jvm.ClassFile.FieldType.int)) ∈ lw_all := lw_g (lw_at lw_m3 137 rfl) rfl
theorem q689 : (Jvm.Cond.methodLink "SumColours" (320 : Nat) ({ cls := "SumColours", name := "threes", desc := "()I" } : Jvm.MethodName)) ∈ lw_all := lw_g (lw_at lw_m3 138 rfl) rfl
theorem q690 : (Jvm.Cond.privateMethod ({ cls := "SumColours", name := "threes", desc := "()I" } : Jvm.MethodName)) ∈ lw_tbl := lw_at lw_m3 139 rfl
theorem q691 : (Jvm.Cond.instanceMethod ({ cls := "SumColours", name := "threes", desc := "()I" } : Jvm.MethodName)) ∈ lw_all := lw_g (lw_at lw_m3 140 rfl) rfl
theorem q692 : (Jvm.Cond.code ({ cls := "SumColours", name := "threes", desc := "()I" } : Jvm.MethodName) prog_1_method_58_code (3 : Nat) (Option.some Jvm.ClassFile.FieldType.int)) ∈ lw_all := lw_g (lw_at lw_m3 141 rfl) rfl
theorem q694 : (Jvm.Cond.instanceMethod ({ cls := "SumColours", name := "digest", desc := "()J" } : Jvm.MethodName)) ∈ lw_all := lw_g (lw_at lw_m3 143 rfl) rfl
theorem q695 : (Jvm.Cond.selects "SumColours" ({ cls := "SumColours", name := "digest", desc := "()J" } : Jvm.MethodName) ({ cls := "SumColours", name := "digest", desc := "()J" } : Jvm.MethodName)) ∈ lw_all := lw_g (lw_at lw_m3 144 rfl) rfl
theorem q696 : (Jvm.Cond.code ({ cls := "SumColours", name := "digest", desc := "()J" } : Jvm.MethodName) prog_1_method_63_code (2 : Nat) (Option.some Jvm.ClassFile.FieldType.long)) ∈ lw_all := lw_g (lw_at lw_m3 145 rfl) rfl
theorem q697 : (Jvm.Cond.constantLong "SumColours" (333 : Nat) (1321 : Int64)) ∈ lw_all := lw_g (lw_at lw_m3 146 rfl) rfl
theorem q698 : (Jvm.Cond.methodLink "SumColours" (335 : Nat) ({ cls := "SumColours", name := "noteNumber", desc := "(LSumColours$Member;)V" } : Jvm.MethodName)) ∈ lw_all := lw_g (lw_at lw_m3 147 rfl) rfl
theorem q699 : (Jvm.Cond.privateMethod ({ cls := "SumColours", name := "noteNumber", desc := "(LSumColours$Member;)V" } : Jvm.MethodName)) ∈ lw_tbl := lw_at lw_m3 148 rfl
theorem q700 : (Jvm.Cond.instanceMethod ({ cls := "SumColours", name := "noteNumber", desc := "(LSumColours$Member;)V" } : Jvm.MethodName)) ∈ lw_all := lw_g (lw_at lw_m3 149 rfl) rfl
theorem q701 : (Jvm.Cond.code ({ cls := "SumColours", name := "noteNumber", desc := "(LSumColours$Member;)V" } : Jvm.MethodName) prog_1_method_61_code (3 : Nat) (Option.none : Option Jvm.ClassFile.FieldType)) ∈ lw_all := lw_g (lw_at lw_m3 150 rfl) rfl
theorem q702 : (Jvm.Cond.methodLink "SumColours" (329 : Nat) ({ cls := "SumColours", name := "note", desc := "(J)V" } : Jvm.MethodName)) ∈ lw_all := lw_g (lw_at lw_m3 151 rfl) rfl
theorem q703 : (Jvm.Cond.privateMethod ({ cls := "SumColours", name := "note", desc := "(J)V" } : Jvm.MethodName)) ∈ lw_tbl := lw_at lw_m3 152 rfl
theorem q704 : (Jvm.Cond.instanceMethod ({ cls := "SumColours", name := "note", desc := "(J)V" } : Jvm.MethodName)) ∈ lw_all := lw_g (lw_at lw_m3 153 rfl) rfl
theorem q705 : (Jvm.Cond.code ({ cls := "SumColours", name := "note", desc := "(J)V" } : Jvm.MethodName) prog_1_method_60_code (3 : Nat) (Option.none : Option Jvm.ClassFile.FieldType)) ∈ lw_all := lw_g (lw_at lw_m3 154 rfl) rfl
theorem q706 : (Jvm.Cond.constantLong "SumColours" (323 : Nat) (31 : Int64)) ∈ lw_all := lw_g (lw_at lw_m3 155 rfl) rfl
theorem q707 : (Jvm.Cond.methodLink "SumColours" (338 : Nat) ({ cls := "SumColours", name := "noteBoard", desc := "()V" } : Jvm.MethodName)) ∈ lw_all := lw_g (lw_at lw_m3 156 rfl) rfl
theorem q708 : (Jvm.Cond.privateMethod ({ cls := "SumColours", name := "noteBoard", desc := "()V" } : Jvm.MethodName)) ∈ lw_tbl := lw_at lw_m3 157 rfl
theorem q709 : (Jvm.Cond.instanceMethod ({ cls := "SumColours", name := "noteBoard", desc := "()V" } : Jvm.MethodName)) ∈ lw_all := lw_g (lw_at lw_m3 158 rfl) rfl
theorem q710 : (Jvm.Cond.code ({ cls := "SumColours", name := "noteBoard", desc := "()V" } : Jvm.MethodName) prog_1_method_62_code (1 : Nat) (Option.none : Option Jvm.ClassFile.FieldType)) ∈ lw_all := lw_g (lw_at lw_m3 159 rfl) rfl
theorem q711 : (Jvm.Cond.methodLink "SumColours" (341 : Nat) ({ cls := "SumColours", name := "count", desc := "(I)I" } : Jvm.MethodName)) ∈ lw_all := lw_g (lw_at lw_m3 160 rfl) rfl
theorem in_X0 : ∀ w ∈ wsX00, w ∈ lw_all := lw_in wsX00 [194, 196, 198, 200, 202, 204, 206, 208, 210, 212, 214, 216, 218, 220, 222, 224, 226, 228, 230, 232, 234, 236, 238, 240, 242, 244, 246, 248, 250, 252, 254, 256] (by decide +kernel) (by decide +kernel)
