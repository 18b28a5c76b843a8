/-! SmokedLetters -/
set_option maxRecDepth 100000
def RX0 : String := "SmokedLetters"
def TX0 : u_T := fun k => match k with
  | 0 => ("SmokedLetters", "book", "LSmokedLetters$Book;", false)
  | 1 => ("SmokedLetters", "now", "LSmokedLetters$Island;", true)
  | 2 => ("SmokedLetters", "tried", "LSmokedLetters$Island;", true)
  | 3 => ("SmokedLetters", "before", "[LSmokedLetters$Island;", true)
  | 4 => ("SmokedLetters", "deeds", "I", false)
  | 5 => ("SmokedLetters", "images", "[LSmokedLetters$Island;", true)
  | 6 => ("SmokedLetters", "isKept", "[Z", true)
  | 7 => ("SmokedLetters", "text", "[B", true)
  | 8 => ("SmokedLetters", "typed", "I", false)
  | 9 => ("SmokedLetters", "sailsOn", "[I", true)
  | 10 => ("SmokedLetters", "brown", "[[I", true)
  | 11 => ("SmokedLetters", "brownBy", "[I", true)
  | 12 => ("SmokedLetters", "browns", "I", false)
  | 13 => ("SmokedLetters", "brownLong", "I", false)
  | 14 => ("SmokedLetters", "told", "[I", true)
  | 15 => ("SmokedLetters", "toldLong", "I", false)
  | 16 => ("SmokedLetters", "row", "[I", true)
  | 17 => ("SmokedLetters", "bestRow", "[I", true)
  | 18 => ("SmokedLetters", "trace", "J", false)
  | _ => ("SmokedLetters", "kinds", "[LSmokedLetters$Clerk;", true)
def tyX0 : Nat → FieldType := fun k => match k with
  | 0 => .object "SmokedLetters$Book"
  | 1 => .object "SmokedLetters$Island"
  | 2 => .object "SmokedLetters$Island"
  | 3 => .array (.object "SmokedLetters$Island")
  | 4 => .int
  | 5 => .array (.object "SmokedLetters$Island")
  | 6 => .array .boolean
  | 7 => .array .byte
  | 8 => .int
  | 9 => .array .int
  | 10 => .array (.array .int)
  | 11 => .array .int
  | 12 => .int
  | 13 => .int
  | 14 => .array .int
  | 15 => .int
  | 16 => .array .int
  | 17 => .array .int
  | 18 => .long
  | _ => .array (.object "SmokedLetters$Clerk")
abbrev wsX00 : List Cond := u_ws RX0 TX0 20
set_option maxRecDepth 100000 in
theorem nmX0 : ∀ a, a < 20 → ∀ b, b < 20 → a ≠ b → (TX0 a).2.1 ≠ (TX0 b).2.1 := by decide +kernel
set_option maxRecDepth 100000 in
theorem tyX0_ok : ∀ k, k < 20 → parseFieldDescriptor (TX0 k).2.2.1 = some (tyX0 k) := by decide +kernel
abbrev cX0_init : ByteArray := prog_1_method_3_code
def yX0_init : MethodName := ⟨RX0, "<init>", "()V"⟩
def dkwX0_init_8 : List UInt8 := [177]
abbrev dktX0_init_8 : List UInt8 := dkwX0_init_8 ++ []
def dkwX0_init_7 : List UInt8 := [7, 187, 0, 80, 89, 42, 183, 0, 82, 83, 89, 8, 187, 0, 83, 89, 42, 183, 0, 85, 83, 181, 0, 86]
abbrev dktX0_init_7 : List UInt8 := dkwX0_init_7 ++ dktX0_init_8
def dkwX0_init_6 : List UInt8 := [83, 89, 5, 187, 0, 74, 89, 42, 183, 0, 76, 83, 89, 6, 187, 0, 77, 89, 42, 183, 0, 79, 83, 89]
abbrev dktX0_init_6 : List UInt8 := dkwX0_init_6 ++ dktX0_init_7
def dkwX0_init_5 : List UInt8 := [189, 0, 66, 89, 3, 187, 0, 66, 89, 42, 183, 0, 68, 83, 89, 4, 187, 0, 71, 89, 42, 183, 0, 73]
abbrev dktX0_init_5 : List UInt8 := dkwX0_init_5 ++ dktX0_init_6
def dkwX0_init_4 : List UInt8 := [42, 8, 188, 10, 181, 0, 57, 42, 7, 188, 10, 181, 0, 60, 42, 7, 188, 10, 181, 0, 63, 42, 16, 6]
abbrev dktX0_init_4 : List UInt8 := dkwX0_init_4 ++ dktX0_init_5
def dkwX0_init_3 : List UInt8 := [16, 6, 188, 10, 181, 0, 45, 42, 7, 8, 197, 0, 49, 2, 181, 0, 51, 42, 7, 188, 10, 181, 0, 54]
abbrev dktX0_init_3 : List UInt8 := dkwX0_init_3 ++ dktX0_init_4
def dkwX0_init_2 : List UInt8 := [5, 184, 0, 26, 181, 0, 34, 42, 5, 188, 4, 181, 0, 37, 42, 17, 0, 200, 188, 8, 181, 0, 41, 42]
abbrev dktX0_init_2 : List UInt8 := dkwX0_init_2 ++ dktX0_init_3
def dkwX0_init_1 : List UInt8 := [181, 0, 19, 42, 187, 0, 1, 89, 183, 0, 3, 181, 0, 23, 42, 16, 10, 184, 0, 26, 181, 0, 30, 42]
abbrev dktX0_init_1 : List UInt8 := dkwX0_init_1 ++ dktX0_init_2
def dkwX0_init_0 : List UInt8 := [42, 183, 0, 7, 42, 187, 0, 10, 89, 183, 0, 12, 181, 0, 13, 42, 187, 0, 1, 89, 183, 0, 3]
abbrev dktX0_init_0 : List UInt8 := dkwX0_init_0 ++ dktX0_init_1
theorem dksX0_init_0 : cX0_init.data.toList.drop 0 = dktX0_init_0 := by decide +kernel
theorem dksX0_init_1 : cX0_init.data.toList.drop 23 = dktX0_init_1 := dk_seg dksX0_init_0 23 rfl rfl
theorem dksX0_init_2 : cX0_init.data.toList.drop 47 = dktX0_init_2 := dk_seg dksX0_init_1 24 rfl rfl
theorem dksX0_init_3 : cX0_init.data.toList.drop 71 = dktX0_init_3 := dk_seg dksX0_init_2 24 rfl rfl
theorem dksX0_init_4 : cX0_init.data.toList.drop 95 = dktX0_init_4 := dk_seg dksX0_init_3 24 rfl rfl
theorem dksX0_init_5 : cX0_init.data.toList.drop 119 = dktX0_init_5 := dk_seg dksX0_init_4 24 rfl rfl
theorem dksX0_init_6 : cX0_init.data.toList.drop 143 = dktX0_init_6 := dk_seg dksX0_init_5 24 rfl rfl
theorem dksX0_init_7 : cX0_init.data.toList.drop 167 = dktX0_init_7 := dk_seg dksX0_init_6 24 rfl rfl
theorem dksX0_init_8 : cX0_init.data.toList.drop 191 = dktX0_init_8 := dk_seg dksX0_init_7 24 rfl rfl
theorem dX0_init_0 : decode cX0_init 0 = .ok (.aload_n 0, 1) := dk_42 (dk_at dksX0_init_0 0 rfl rfl)
theorem dX0_init_1 : decode cX0_init 1 = .ok (.invokespecial 7, 3) := dk_183 0 7 (dk_at dksX0_init_0 1 rfl rfl)
theorem dX0_init_4 : decode cX0_init 4 = .ok (.aload_n 0, 1) := dk_42 (dk_at dksX0_init_0 4 rfl rfl)
theorem dX0_init_5 : decode cX0_init 5 = .ok (.new 10, 3) := dk_187 0 10 (dk_at dksX0_init_0 5 rfl rfl)
theorem dX0_init_8 : decode cX0_init 8 = .ok (.dup, 1) := dk_89 (dk_at dksX0_init_0 8 rfl rfl)
theorem dX0_init_9 : decode cX0_init 9 = .ok (.invokespecial 12, 3) := dk_183 0 12 (dk_at dksX0_init_0 9 rfl rfl)
theorem dX0_init_12 : decode cX0_init 12 = .ok (.putfield 13, 3) := dk_181 0 13 (dk_at dksX0_init_0 12 rfl rfl)
theorem dX0_init_15 : decode cX0_init 15 = .ok (.aload_n 0, 1) := dk_42 (dk_at dksX0_init_0 15 rfl rfl)
theorem dX0_init_16 : decode cX0_init 16 = .ok (.new 1, 3) := dk_187 0 1 (dk_at dksX0_init_0 16 rfl rfl)
theorem dX0_init_19 : decode cX0_init 19 = .ok (.dup, 1) := dk_89 (dk_at dksX0_init_0 19 rfl rfl)
theorem dX0_init_20 : decode cX0_init 20 = .ok (.invokespecial 3, 3) := dk_183 0 3 (dk_at dksX0_init_0 20 rfl rfl)
theorem dX0_init_23 : decode cX0_init 23 = .ok (.putfield 19, 3) := dk_181 0 19 (dk_at dksX0_init_1 0 rfl rfl)
theorem dX0_init_26 : decode cX0_init 26 = .ok (.aload_n 0, 1) := dk_42 (dk_at dksX0_init_1 3 rfl rfl)
theorem dX0_init_27 : decode cX0_init 27 = .ok (.new 1, 3) := dk_187 0 1 (dk_at dksX0_init_1 4 rfl rfl)
theorem dX0_init_30 : decode cX0_init 30 = .ok (.dup, 1) := dk_89 (dk_at dksX0_init_1 7 rfl rfl)
theorem dX0_init_31 : decode cX0_init 31 = .ok (.invokespecial 3, 3) := dk_183 0 3 (dk_at dksX0_init_1 8 rfl rfl)
theorem dX0_init_34 : decode cX0_init 34 = .ok (.putfield 23, 3) := dk_181 0 23 (dk_at dksX0_init_1 11 rfl rfl)
theorem dX0_init_37 : decode cX0_init 37 = .ok (.aload_n 0, 1) := dk_42 (dk_at dksX0_init_1 14 rfl rfl)
theorem dX0_init_38 : decode cX0_init 38 = .ok (.bipush 10, 2) := dk_16 10 (dk_at dksX0_init_1 15 rfl rfl)
theorem dX0_init_40 : decode cX0_init 40 = .ok (.invokestatic 26, 3) := dk_184 0 26 (dk_at dksX0_init_1 17 rfl rfl)
theorem dX0_init_43 : decode cX0_init 43 = .ok (.putfield 30, 3) := dk_181 0 30 (dk_at dksX0_init_1 20 rfl rfl)
theorem dX0_init_46 : decode cX0_init 46 = .ok (.aload_n 0, 1) := dk_42 (dk_at dksX0_init_1 23 rfl rfl)
theorem dX0_init_47 : decode cX0_init 47 = .ok (.iconst 2, 1) := dk_5 (dk_at dksX0_init_2 0 rfl rfl)
theorem dX0_init_48 : decode cX0_init 48 = .ok (.invokestatic 26, 3) := dk_184 0 26 (dk_at dksX0_init_2 1 rfl rfl)
theorem dX0_init_51 : decode cX0_init 51 = .ok (.putfield 34, 3) := dk_181 0 34 (dk_at dksX0_init_2 4 rfl rfl)
theorem dX0_init_54 : decode cX0_init 54 = .ok (.aload_n 0, 1) := dk_42 (dk_at dksX0_init_2 7 rfl rfl)
theorem dX0_init_55 : decode cX0_init 55 = .ok (.iconst 2, 1) := dk_5 (dk_at dksX0_init_2 8 rfl rfl)
theorem dX0_init_56 : decode cX0_init 56 = .ok (.newarray .boolean, 2) := dk_188_4 (dk_at dksX0_init_2 9 rfl rfl)
theorem dX0_init_58 : decode cX0_init 58 = .ok (.putfield 37, 3) := dk_181 0 37 (dk_at dksX0_init_2 11 rfl rfl)
theorem dX0_init_61 : decode cX0_init 61 = .ok (.aload_n 0, 1) := dk_42 (dk_at dksX0_init_2 14 rfl rfl)
theorem dX0_init_62 : decode cX0_init 62 = .ok (.sipush 200, 3) := dk_17 0 200 (dk_at dksX0_init_2 15 rfl rfl)
theorem dX0_init_65 : decode cX0_init 65 = .ok (.newarray .byte, 2) := dk_188_8 (dk_at dksX0_init_2 18 rfl rfl)
theorem dX0_init_67 : decode cX0_init 67 = .ok (.putfield 41, 3) := dk_181 0 41 (dk_at dksX0_init_2 20 rfl rfl)
theorem dX0_init_70 : decode cX0_init 70 = .ok (.aload_n 0, 1) := dk_42 (dk_at dksX0_init_2 23 rfl rfl)
theorem dX0_init_71 : decode cX0_init 71 = .ok (.bipush 6, 2) := dk_16 6 (dk_at dksX0_init_3 0 rfl rfl)
theorem dX0_init_73 : decode cX0_init 73 = .ok (.newarray .int, 2) := dk_188_10 (dk_at dksX0_init_3 2 rfl rfl)
theorem dX0_init_75 : decode cX0_init 75 = .ok (.putfield 45, 3) := dk_181 0 45 (dk_at dksX0_init_3 4 rfl rfl)
theorem dX0_init_78 : decode cX0_init 78 = .ok (.aload_n 0, 1) := dk_42 (dk_at dksX0_init_3 7 rfl rfl)
theorem dX0_init_79 : decode cX0_init 79 = .ok (.iconst 4, 1) := dk_7 (dk_at dksX0_init_3 8 rfl rfl)
theorem dX0_init_80 : decode cX0_init 80 = .ok (.iconst 5, 1) := dk_8 (dk_at dksX0_init_3 9 rfl rfl)
theorem dX0_init_81 : decode cX0_init 81 = .ok (.multianewarray 49 2, 4) := by decide +kernel
theorem dX0_init_85 : decode cX0_init 85 = .ok (.putfield 51, 3) := dk_181 0 51 (dk_at dksX0_init_3 14 rfl rfl)
theorem dX0_init_88 : decode cX0_init 88 = .ok (.aload_n 0, 1) := dk_42 (dk_at dksX0_init_3 17 rfl rfl)
theorem dX0_init_89 : decode cX0_init 89 = .ok (.iconst 4, 1) := dk_7 (dk_at dksX0_init_3 18 rfl rfl)
theorem dX0_init_90 : decode cX0_init 90 = .ok (.newarray .int, 2) := dk_188_10 (dk_at dksX0_init_3 19 rfl rfl)
theorem dX0_init_92 : decode cX0_init 92 = .ok (.putfield 54, 3) := dk_181 0 54 (dk_at dksX0_init_3 21 rfl rfl)
theorem dX0_init_95 : decode cX0_init 95 = .ok (.aload_n 0, 1) := dk_42 (dk_at dksX0_init_4 0 rfl rfl)
theorem dX0_init_96 : decode cX0_init 96 = .ok (.iconst 5, 1) := dk_8 (dk_at dksX0_init_4 1 rfl rfl)
theorem dX0_init_97 : decode cX0_init 97 = .ok (.newarray .int, 2) := dk_188_10 (dk_at dksX0_init_4 2 rfl rfl)
theorem dX0_init_99 : decode cX0_init 99 = .ok (.putfield 57, 3) := dk_181 0 57 (dk_at dksX0_init_4 4 rfl rfl)
theorem dX0_init_102 : decode cX0_init 102 = .ok (.aload_n 0, 1) := dk_42 (dk_at dksX0_init_4 7 rfl rfl)
theorem dX0_init_103 : decode cX0_init 103 = .ok (.iconst 4, 1) := dk_7 (dk_at dksX0_init_4 8 rfl rfl)
theorem dX0_init_104 : decode cX0_init 104 = .ok (.newarray .int, 2) := dk_188_10 (dk_at dksX0_init_4 9 rfl rfl)
theorem dX0_init_106 : decode cX0_init 106 = .ok (.putfield 60, 3) := dk_181 0 60 (dk_at dksX0_init_4 11 rfl rfl)
theorem dX0_init_109 : decode cX0_init 109 = .ok (.aload_n 0, 1) := dk_42 (dk_at dksX0_init_4 14 rfl rfl)
theorem dX0_init_110 : decode cX0_init 110 = .ok (.iconst 4, 1) := dk_7 (dk_at dksX0_init_4 15 rfl rfl)
theorem dX0_init_111 : decode cX0_init 111 = .ok (.newarray .int, 2) := dk_188_10 (dk_at dksX0_init_4 16 rfl rfl)
theorem dX0_init_113 : decode cX0_init 113 = .ok (.putfield 63, 3) := dk_181 0 63 (dk_at dksX0_init_4 18 rfl rfl)
theorem dX0_init_116 : decode cX0_init 116 = .ok (.aload_n 0, 1) := dk_42 (dk_at dksX0_init_4 21 rfl rfl)
theorem dX0_init_117 : decode cX0_init 117 = .ok (.bipush 6, 2) := dk_16 6 (dk_at dksX0_init_4 22 rfl rfl)
theorem dX0_init_119 : decode cX0_init 119 = .ok (.anewarray 66, 3) := dk_189 0 66 (dk_at dksX0_init_5 0 rfl rfl)
theorem dX0_init_122 : decode cX0_init 122 = .ok (.dup, 1) := dk_89 (dk_at dksX0_init_5 3 rfl rfl)
theorem dX0_init_123 : decode cX0_init 123 = .ok (.iconst 0, 1) := dk_3 (dk_at dksX0_init_5 4 rfl rfl)
theorem dX0_init_124 : decode cX0_init 124 = .ok (.new 66, 3) := dk_187 0 66 (dk_at dksX0_init_5 5 rfl rfl)
theorem dX0_init_127 : decode cX0_init 127 = .ok (.dup, 1) := dk_89 (dk_at dksX0_init_5 8 rfl rfl)
theorem dX0_init_128 : decode cX0_init 128 = .ok (.aload_n 0, 1) := dk_42 (dk_at dksX0_init_5 9 rfl rfl)
theorem dX0_init_129 : decode cX0_init 129 = .ok (.invokespecial 68, 3) := dk_183 0 68 (dk_at dksX0_init_5 10 rfl rfl)
theorem dX0_init_132 : decode cX0_init 132 = .ok (.aastore, 1) := dk_83 (dk_at dksX0_init_5 13 rfl rfl)
theorem dX0_init_133 : decode cX0_init 133 = .ok (.dup, 1) := dk_89 (dk_at dksX0_init_5 14 rfl rfl)
theorem dX0_init_134 : decode cX0_init 134 = .ok (.iconst 1, 1) := dk_4 (dk_at dksX0_init_5 15 rfl rfl)
theorem dX0_init_135 : decode cX0_init 135 = .ok (.new 71, 3) := dk_187 0 71 (dk_at dksX0_init_5 16 rfl rfl)
theorem dX0_init_138 : decode cX0_init 138 = .ok (.dup, 1) := dk_89 (dk_at dksX0_init_5 19 rfl rfl)
theorem dX0_init_139 : decode cX0_init 139 = .ok (.aload_n 0, 1) := dk_42 (dk_at dksX0_init_5 20 rfl rfl)
theorem dX0_init_140 : decode cX0_init 140 = .ok (.invokespecial 73, 3) := dk_183 0 73 (dk_at dksX0_init_5 21 rfl rfl)
theorem dX0_init_143 : decode cX0_init 143 = .ok (.aastore, 1) := dk_83 (dk_at dksX0_init_6 0 rfl rfl)
theorem dX0_init_144 : decode cX0_init 144 = .ok (.dup, 1) := dk_89 (dk_at dksX0_init_6 1 rfl rfl)
theorem dX0_init_145 : decode cX0_init 145 = .ok (.iconst 2, 1) := dk_5 (dk_at dksX0_init_6 2 rfl rfl)
theorem dX0_init_146 : decode cX0_init 146 = .ok (.new 74, 3) := dk_187 0 74 (dk_at dksX0_init_6 3 rfl rfl)
theorem dX0_init_149 : decode cX0_init 149 = .ok (.dup, 1) := dk_89 (dk_at dksX0_init_6 6 rfl rfl)
theorem dX0_init_150 : decode cX0_init 150 = .ok (.aload_n 0, 1) := dk_42 (dk_at dksX0_init_6 7 rfl rfl)
theorem dX0_init_151 : decode cX0_init 151 = .ok (.invokespecial 76, 3) := dk_183 0 76 (dk_at dksX0_init_6 8 rfl rfl)
theorem dX0_init_154 : decode cX0_init 154 = .ok (.aastore, 1) := dk_83 (dk_at dksX0_init_6 11 rfl rfl)
theorem dX0_init_155 : decode cX0_init 155 = .ok (.dup, 1) := dk_89 (dk_at dksX0_init_6 12 rfl rfl)
theorem dX0_init_156 : decode cX0_init 156 = .ok (.iconst 3, 1) := dk_6 (dk_at dksX0_init_6 13 rfl rfl)
theorem dX0_init_157 : decode cX0_init 157 = .ok (.new 77, 3) := dk_187 0 77 (dk_at dksX0_init_6 14 rfl rfl)
theorem dX0_init_160 : decode cX0_init 160 = .ok (.dup, 1) := dk_89 (dk_at dksX0_init_6 17 rfl rfl)
theorem dX0_init_161 : decode cX0_init 161 = .ok (.aload_n 0, 1) := dk_42 (dk_at dksX0_init_6 18 rfl rfl)
theorem dX0_init_162 : decode cX0_init 162 = .ok (.invokespecial 79, 3) := dk_183 0 79 (dk_at dksX0_init_6 19 rfl rfl)
theorem dX0_init_165 : decode cX0_init 165 = .ok (.aastore, 1) := dk_83 (dk_at dksX0_init_6 22 rfl rfl)
theorem dX0_init_166 : decode cX0_init 166 = .ok (.dup, 1) := dk_89 (dk_at dksX0_init_6 23 rfl rfl)
theorem dX0_init_167 : decode cX0_init 167 = .ok (.iconst 4, 1) := dk_7 (dk_at dksX0_init_7 0 rfl rfl)
theorem dX0_init_168 : decode cX0_init 168 = .ok (.new 80, 3) := dk_187 0 80 (dk_at dksX0_init_7 1 rfl rfl)
theorem dX0_init_171 : decode cX0_init 171 = .ok (.dup, 1) := dk_89 (dk_at dksX0_init_7 4 rfl rfl)
theorem dX0_init_172 : decode cX0_init 172 = .ok (.aload_n 0, 1) := dk_42 (dk_at dksX0_init_7 5 rfl rfl)
theorem dX0_init_173 : decode cX0_init 173 = .ok (.invokespecial 82, 3) := dk_183 0 82 (dk_at dksX0_init_7 6 rfl rfl)
theorem dX0_init_176 : decode cX0_init 176 = .ok (.aastore, 1) := dk_83 (dk_at dksX0_init_7 9 rfl rfl)
theorem dX0_init_177 : decode cX0_init 177 = .ok (.dup, 1) := dk_89 (dk_at dksX0_init_7 10 rfl rfl)
theorem dX0_init_178 : decode cX0_init 178 = .ok (.iconst 5, 1) := dk_8 (dk_at dksX0_init_7 11 rfl rfl)
theorem dX0_init_179 : decode cX0_init 179 = .ok (.new 83, 3) := dk_187 0 83 (dk_at dksX0_init_7 12 rfl rfl)
theorem dX0_init_182 : decode cX0_init 182 = .ok (.dup, 1) := dk_89 (dk_at dksX0_init_7 15 rfl rfl)
theorem dX0_init_183 : decode cX0_init 183 = .ok (.aload_n 0, 1) := dk_42 (dk_at dksX0_init_7 16 rfl rfl)
theorem dX0_init_184 : decode cX0_init 184 = .ok (.invokespecial 85, 3) := dk_183 0 85 (dk_at dksX0_init_7 17 rfl rfl)
theorem dX0_init_187 : decode cX0_init 187 = .ok (.aastore, 1) := dk_83 (dk_at dksX0_init_7 20 rfl rfl)
theorem dX0_init_188 : decode cX0_init 188 = .ok (.putfield 86, 3) := dk_181 0 86 (dk_at dksX0_init_7 21 rfl rfl)
theorem dX0_init_191 : decode cX0_init 191 = .ok (.return_, 1) := dk_177 (dk_at dksX0_init_8 0 rfl rfl)
abbrev cX0_islands : ByteArray := prog_1_method_2_code
def yX0_islands : MethodName := ⟨RX0, "islands", "(I)[LSmokedLetters$Island;"⟩
def dkwX0_islands_1 : List UInt8 := [132, 2, 1, 167, 255, 238, 43, 176]
abbrev dktX0_islands_1 : List UInt8 := dkwX0_islands_1 ++ []
def dkwX0_islands_0 : List UInt8 := [26, 189, 0, 1, 76, 3, 61, 28, 26, 162, 0, 19, 43, 28, 187, 0, 1, 89, 183, 0, 3, 83]
abbrev dktX0_islands_0 : List UInt8 := dkwX0_islands_0 ++ dktX0_islands_1
theorem dksX0_islands_0 : cX0_islands.data.toList.drop 0 = dktX0_islands_0 := by decide +kernel
theorem dksX0_islands_1 : cX0_islands.data.toList.drop 22 = dktX0_islands_1 := dk_seg dksX0_islands_0 22 rfl rfl
theorem dX0_islands_0 : decode cX0_islands 0 = .ok (.iload_n 0, 1) := dk_26 (dk_at dksX0_islands_0 0 rfl rfl)
theorem dX0_islands_1 : decode cX0_islands 1 = .ok (.anewarray 1, 3) := dk_189 0 1 (dk_at dksX0_islands_0 1 rfl rfl)
theorem dX0_islands_4 : decode cX0_islands 4 = .ok (.astore_n 1, 1) := dk_76 (dk_at dksX0_islands_0 4 rfl rfl)
theorem dX0_islands_5 : decode cX0_islands 5 = .ok (.iconst 0, 1) := dk_3 (dk_at dksX0_islands_0 5 rfl rfl)
theorem dX0_islands_6 : decode cX0_islands 6 = .ok (.istore_n 2, 1) := dk_61 (dk_at dksX0_islands_0 6 rfl rfl)
theorem dX0_islands_7 : decode cX0_islands 7 = .ok (.iload_n 2, 1) := dk_28 (dk_at dksX0_islands_0 7 rfl rfl)
theorem dX0_islands_8 : decode cX0_islands 8 = .ok (.iload_n 0, 1) := dk_26 (dk_at dksX0_islands_0 8 rfl rfl)
theorem dX0_islands_9 : decode cX0_islands 9 = .ok (.if_icmp .ge 19, 3) := dk_162 0 19 (dk_at dksX0_islands_0 9 rfl rfl)
theorem dX0_islands_12 : decode cX0_islands 12 = .ok (.aload_n 1, 1) := dk_43 (dk_at dksX0_islands_0 12 rfl rfl)
theorem dX0_islands_13 : decode cX0_islands 13 = .ok (.iload_n 2, 1) := dk_28 (dk_at dksX0_islands_0 13 rfl rfl)
theorem dX0_islands_14 : decode cX0_islands 14 = .ok (.new 1, 3) := dk_187 0 1 (dk_at dksX0_islands_0 14 rfl rfl)
theorem dX0_islands_17 : decode cX0_islands 17 = .ok (.dup, 1) := dk_89 (dk_at dksX0_islands_0 17 rfl rfl)
theorem dX0_islands_18 : decode cX0_islands 18 = .ok (.invokespecial 3, 3) := dk_183 0 3 (dk_at dksX0_islands_0 18 rfl rfl)
theorem dX0_islands_21 : decode cX0_islands 21 = .ok (.aastore, 1) := dk_83 (dk_at dksX0_islands_0 21 rfl rfl)
theorem dX0_islands_22 : decode cX0_islands 22 = .ok (.iinc 2 1, 3) := dk_132 2 1 (dk_at dksX0_islands_1 0 rfl rfl)
theorem dX0_islands_25 : decode cX0_islands 25 = .ok (.goto (-18), 3) := dk_167 255 238 (dk_at dksX0_islands_1 3 rfl rfl)
theorem dX0_islands_28 : decode cX0_islands 28 = .ok (.aload_n 1, 1) := dk_43 (dk_at dksX0_islands_1 6 rfl rfl)
theorem dX0_islands_29 : decode cX0_islands 29 = .ok (.areturn, 1) := dk_176 (dk_at dksX0_islands_1 7 rfl rfl)
abbrev cX0_type : ByteArray := prog_1_method_4_code
def yX0_type : MethodName := ⟨RX0, "type", "(I)I"⟩
def dkwX0_type_2 : List UInt8 := [42, 180, 0, 94, 172]
abbrev dktX0_type_2 : List UInt8 := dkwX0_type_2 ++ []
def dkwX0_type_1 : List UInt8 := [16, 253, 172, 42, 180, 0, 41, 42, 180, 0, 94, 27, 145, 84, 42, 89, 180, 0, 94, 4, 96, 181, 0, 94]
abbrev dktX0_type_1 : List UInt8 := dkwX0_type_1 ++ dktX0_type_2
def dkwX0_type_0 : List UInt8 := [27, 3, 17, 0, 255, 184, 0, 90, 154, 0, 5, 2, 172, 42, 180, 0, 94, 17, 0, 200, 160, 0, 6]
abbrev dktX0_type_0 : List UInt8 := dkwX0_type_0 ++ dktX0_type_1
theorem dksX0_type_0 : cX0_type.data.toList.drop 0 = dktX0_type_0 := by decide +kernel
theorem dksX0_type_1 : cX0_type.data.toList.drop 23 = dktX0_type_1 := dk_seg dksX0_type_0 23 rfl rfl
theorem dksX0_type_2 : cX0_type.data.toList.drop 47 = dktX0_type_2 := dk_seg dksX0_type_1 24 rfl rfl
theorem dX0_type_0 : decode cX0_type 0 = .ok (.iload_n 1, 1) := dk_27 (dk_at dksX0_type_0 0 rfl rfl)
theorem dX0_type_1 : decode cX0_type 1 = .ok (.iconst 0, 1) := dk_3 (dk_at dksX0_type_0 1 rfl rfl)
theorem dX0_type_2 : decode cX0_type 2 = .ok (.sipush 255, 3) := dk_17 0 255 (dk_at dksX0_type_0 2 rfl rfl)
theorem dX0_type_5 : decode cX0_type 5 = .ok (.invokestatic 90, 3) := dk_184 0 90 (dk_at dksX0_type_0 5 rfl rfl)
theorem dX0_type_8 : decode cX0_type 8 = .ok (.ifCond .ne 5, 3) := dk_154 0 5 (dk_at dksX0_type_0 8 rfl rfl)
theorem dX0_type_11 : decode cX0_type 11 = .ok (.iconst (-1), 1) := dk_2 (dk_at dksX0_type_0 11 rfl rfl)
theorem dX0_type_12 : decode cX0_type 12 = .ok (.ireturn, 1) := dk_172 (dk_at dksX0_type_0 12 rfl rfl)
theorem dX0_type_13 : decode cX0_type 13 = .ok (.aload_n 0, 1) := dk_42 (dk_at dksX0_type_0 13 rfl rfl)
theorem dX0_type_14 : decode cX0_type 14 = .ok (.getfield 94, 3) := dk_180 0 94 (dk_at dksX0_type_0 14 rfl rfl)
theorem dX0_type_17 : decode cX0_type 17 = .ok (.sipush 200, 3) := dk_17 0 200 (dk_at dksX0_type_0 17 rfl rfl)
theorem dX0_type_20 : decode cX0_type 20 = .ok (.if_icmp .ne 6, 3) := dk_160 0 6 (dk_at dksX0_type_0 20 rfl rfl)
theorem dX0_type_23 : decode cX0_type 23 = .ok (.bipush (-3), 2) := dk_16 253 (dk_at dksX0_type_1 0 rfl rfl)
theorem dX0_type_25 : decode cX0_type 25 = .ok (.ireturn, 1) := dk_172 (dk_at dksX0_type_1 2 rfl rfl)
theorem dX0_type_26 : decode cX0_type 26 = .ok (.aload_n 0, 1) := dk_42 (dk_at dksX0_type_1 3 rfl rfl)
theorem dX0_type_27 : decode cX0_type 27 = .ok (.getfield 41, 3) := dk_180 0 41 (dk_at dksX0_type_1 4 rfl rfl)
theorem dX0_type_30 : decode cX0_type 30 = .ok (.aload_n 0, 1) := dk_42 (dk_at dksX0_type_1 7 rfl rfl)
theorem dX0_type_31 : decode cX0_type 31 = .ok (.getfield 94, 3) := dk_180 0 94 (dk_at dksX0_type_1 8 rfl rfl)
theorem dX0_type_34 : decode cX0_type 34 = .ok (.iload_n 1, 1) := dk_27 (dk_at dksX0_type_1 11 rfl rfl)
theorem dX0_type_35 : decode cX0_type 35 = .ok (.i2b, 1) := dk_145 (dk_at dksX0_type_1 12 rfl rfl)
theorem dX0_type_36 : decode cX0_type 36 = .ok (.bastore, 1) := dk_84 (dk_at dksX0_type_1 13 rfl rfl)
theorem dX0_type_37 : decode cX0_type 37 = .ok (.aload_n 0, 1) := dk_42 (dk_at dksX0_type_1 14 rfl rfl)
theorem dX0_type_38 : decode cX0_type 38 = .ok (.dup, 1) := dk_89 (dk_at dksX0_type_1 15 rfl rfl)
theorem dX0_type_39 : decode cX0_type 39 = .ok (.getfield 94, 3) := dk_180 0 94 (dk_at dksX0_type_1 16 rfl rfl)
theorem dX0_type_42 : decode cX0_type 42 = .ok (.iconst 1, 1) := dk_4 (dk_at dksX0_type_1 19 rfl rfl)
theorem dX0_type_43 : decode cX0_type 43 = .ok (.iadd, 1) := dk_96 (dk_at dksX0_type_1 20 rfl rfl)
theorem dX0_type_44 : decode cX0_type 44 = .ok (.putfield 94, 3) := dk_181 0 94 (dk_at dksX0_type_1 21 rfl rfl)
theorem dX0_type_47 : decode cX0_type 47 = .ok (.aload_n 0, 1) := dk_42 (dk_at dksX0_type_2 0 rfl rfl)
theorem dX0_type_48 : decode cX0_type 48 = .ok (.getfield 94, 3) := dk_180 0 94 (dk_at dksX0_type_2 1 rfl rfl)
theorem dX0_type_51 : decode cX0_type 51 = .ok (.ireturn, 1) := dk_172 (dk_at dksX0_type_2 4 rfl rfl)
abbrev cX0_in : ByteArray := prog_1_method_1_code
def yX0_in : MethodName := ⟨RX0, "in", "(III)Z"⟩
def dkwX0_in_0 : List UInt8 := [26, 27, 161, 0, 12, 26, 28, 163, 0, 7, 4, 167, 0, 4, 3, 172]
abbrev dktX0_in_0 : List UInt8 := dkwX0_in_0 ++ []
theorem dksX0_in_0 : cX0_in.data.toList.drop 0 = dktX0_in_0 := by decide +kernel
theorem dX0_in_0 : decode cX0_in 0 = .ok (.iload_n 0, 1) := dk_26 (dk_at dksX0_in_0 0 rfl rfl)
theorem dX0_in_1 : decode cX0_in 1 = .ok (.iload_n 1, 1) := dk_27 (dk_at dksX0_in_0 1 rfl rfl)
theorem dX0_in_2 : decode cX0_in 2 = .ok (.if_icmp .lt 12, 3) := dk_161 0 12 (dk_at dksX0_in_0 2 rfl rfl)
theorem dX0_in_5 : decode cX0_in 5 = .ok (.iload_n 0, 1) := dk_26 (dk_at dksX0_in_0 5 rfl rfl)
theorem dX0_in_6 : decode cX0_in 6 = .ok (.iload_n 2, 1) := dk_28 (dk_at dksX0_in_0 6 rfl rfl)
theorem dX0_in_7 : decode cX0_in 7 = .ok (.if_icmp .gt 7, 3) := dk_163 0 7 (dk_at dksX0_in_0 7 rfl rfl)
theorem dX0_in_10 : decode cX0_in 10 = .ok (.iconst 1, 1) := dk_4 (dk_at dksX0_in_0 10 rfl rfl)
theorem dX0_in_11 : decode cX0_in 11 = .ok (.goto 4, 3) := dk_167 0 4 (dk_at dksX0_in_0 11 rfl rfl)
theorem dX0_in_14 : decode cX0_in 14 = .ok (.iconst 0, 1) := dk_3 (dk_at dksX0_in_0 14 rfl rfl)
theorem dX0_in_15 : decode cX0_in 15 = .ok (.ireturn, 1) := dk_172 (dk_at dksX0_in_0 15 rfl rfl)
abbrev cX0_clear : ByteArray := prog_1_method_5_code
def yX0_clear : MethodName := ⟨RX0, "clear", "()I"⟩
def dkwX0_clear_0 : List UInt8 := [42, 180, 0, 94, 60, 42, 3, 181, 0, 94, 27, 172]
abbrev dktX0_clear_0 : List UInt8 := dkwX0_clear_0 ++ []
theorem dksX0_clear_0 : cX0_clear.data.toList.drop 0 = dktX0_clear_0 := by decide +kernel
theorem dX0_clear_0 : decode cX0_clear 0 = .ok (.aload_n 0, 1) := dk_42 (dk_at dksX0_clear_0 0 rfl rfl)
theorem dX0_clear_1 : decode cX0_clear 1 = .ok (.getfield 94, 3) := dk_180 0 94 (dk_at dksX0_clear_0 1 rfl rfl)
theorem dX0_clear_4 : decode cX0_clear 4 = .ok (.istore_n 1, 1) := dk_60 (dk_at dksX0_clear_0 4 rfl rfl)
theorem dX0_clear_5 : decode cX0_clear 5 = .ok (.aload_n 0, 1) := dk_42 (dk_at dksX0_clear_0 5 rfl rfl)
theorem dX0_clear_6 : decode cX0_clear 6 = .ok (.iconst 0, 1) := dk_3 (dk_at dksX0_clear_0 6 rfl rfl)
theorem dX0_clear_7 : decode cX0_clear 7 = .ok (.putfield 94, 3) := dk_181 0 94 (dk_at dksX0_clear_0 7 rfl rfl)
theorem dX0_clear_10 : decode cX0_clear 10 = .ok (.iload_n 1, 1) := dk_27 (dk_at dksX0_clear_0 10 rfl rfl)
theorem dX0_clear_11 : decode cX0_clear 11 = .ok (.ireturn, 1) := dk_172 (dk_at dksX0_clear_0 11 rfl rfl)
abbrev cX0_island : ByteArray := prog_1_method_6_code
def yX0_island : MethodName := ⟨RX0, "island", "()I"⟩
def dkwX0_island_2 : List UInt8 := [180, 0, 37, 3, 184, 0, 119, 42, 3, 181, 0, 94, 43, 180, 0, 125, 172]
abbrev dktX0_island_2 : List UInt8 := dkwX0_island_2 ++ []
def dkwX0_island_1 : List UInt8 := [42, 43, 181, 0, 13, 42, 180, 0, 19, 182, 0, 110, 42, 3, 181, 0, 113, 42, 3, 181, 0, 116, 42]
abbrev dktX0_island_1 : List UInt8 := dkwX0_island_1 ++ dktX0_island_2
def dkwX0_island_0 : List UInt8 := [187, 0, 98, 89, 42, 183, 0, 100, 182, 0, 101, 76, 167, 0, 12, 77, 16, 246, 44, 180, 0, 107, 100, 172]
abbrev dktX0_island_0 : List UInt8 := dkwX0_island_0 ++ dktX0_island_1
theorem dksX0_island_0 : cX0_island.data.toList.drop 0 = dktX0_island_0 := by decide +kernel
theorem dksX0_island_1 : cX0_island.data.toList.drop 24 = dktX0_island_1 := dk_seg dksX0_island_0 24 rfl rfl
theorem dksX0_island_2 : cX0_island.data.toList.drop 47 = dktX0_island_2 := dk_seg dksX0_island_1 23 rfl rfl
theorem dX0_island_0 : decode cX0_island 0 = .ok (.new 98, 3) := dk_187 0 98 (dk_at dksX0_island_0 0 rfl rfl)
theorem dX0_island_3 : decode cX0_island 3 = .ok (.dup, 1) := dk_89 (dk_at dksX0_island_0 3 rfl rfl)
theorem dX0_island_4 : decode cX0_island 4 = .ok (.aload_n 0, 1) := dk_42 (dk_at dksX0_island_0 4 rfl rfl)
theorem dX0_island_5 : decode cX0_island 5 = .ok (.invokespecial 100, 3) := dk_183 0 100 (dk_at dksX0_island_0 5 rfl rfl)
theorem dX0_island_8 : decode cX0_island 8 = .ok (.invokevirtual 101, 3) := dk_182 0 101 (dk_at dksX0_island_0 8 rfl rfl)
theorem dX0_island_11 : decode cX0_island 11 = .ok (.astore_n 1, 1) := dk_76 (dk_at dksX0_island_0 11 rfl rfl)
theorem dX0_island_12 : decode cX0_island 12 = .ok (.goto 12, 3) := dk_167 0 12 (dk_at dksX0_island_0 12 rfl rfl)
theorem dX0_island_15 : decode cX0_island 15 = .ok (.astore_n 2, 1) := dk_77 (dk_at dksX0_island_0 15 rfl rfl)
theorem dX0_island_16 : decode cX0_island 16 = .ok (.bipush (-10), 2) := dk_16 246 (dk_at dksX0_island_0 16 rfl rfl)
theorem dX0_island_18 : decode cX0_island 18 = .ok (.aload_n 2, 1) := dk_44 (dk_at dksX0_island_0 18 rfl rfl)
theorem dX0_island_19 : decode cX0_island 19 = .ok (.getfield 107, 3) := dk_180 0 107 (dk_at dksX0_island_0 19 rfl rfl)
theorem dX0_island_22 : decode cX0_island 22 = .ok (.isub, 1) := dk_100 (dk_at dksX0_island_0 22 rfl rfl)
theorem dX0_island_23 : decode cX0_island 23 = .ok (.ireturn, 1) := dk_172 (dk_at dksX0_island_0 23 rfl rfl)
theorem dX0_island_24 : decode cX0_island 24 = .ok (.aload_n 0, 1) := dk_42 (dk_at dksX0_island_1 0 rfl rfl)
theorem dX0_island_25 : decode cX0_island 25 = .ok (.aload_n 1, 1) := dk_43 (dk_at dksX0_island_1 1 rfl rfl)
theorem dX0_island_26 : decode cX0_island 26 = .ok (.putfield 13, 3) := dk_181 0 13 (dk_at dksX0_island_1 2 rfl rfl)
theorem dX0_island_29 : decode cX0_island 29 = .ok (.aload_n 0, 1) := dk_42 (dk_at dksX0_island_1 5 rfl rfl)
theorem dX0_island_30 : decode cX0_island 30 = .ok (.getfield 19, 3) := dk_180 0 19 (dk_at dksX0_island_1 6 rfl rfl)
theorem dX0_island_33 : decode cX0_island 33 = .ok (.invokevirtual 110, 3) := dk_182 0 110 (dk_at dksX0_island_1 9 rfl rfl)
theorem dX0_island_36 : decode cX0_island 36 = .ok (.aload_n 0, 1) := dk_42 (dk_at dksX0_island_1 12 rfl rfl)
theorem dX0_island_37 : decode cX0_island 37 = .ok (.iconst 0, 1) := dk_3 (dk_at dksX0_island_1 13 rfl rfl)
theorem dX0_island_38 : decode cX0_island 38 = .ok (.putfield 113, 3) := dk_181 0 113 (dk_at dksX0_island_1 14 rfl rfl)
theorem dX0_island_41 : decode cX0_island 41 = .ok (.aload_n 0, 1) := dk_42 (dk_at dksX0_island_1 17 rfl rfl)
theorem dX0_island_42 : decode cX0_island 42 = .ok (.iconst 0, 1) := dk_3 (dk_at dksX0_island_1 18 rfl rfl)
theorem dX0_island_43 : decode cX0_island 43 = .ok (.putfield 116, 3) := dk_181 0 116 (dk_at dksX0_island_1 19 rfl rfl)
theorem dX0_island_46 : decode cX0_island 46 = .ok (.aload_n 0, 1) := dk_42 (dk_at dksX0_island_1 22 rfl rfl)
theorem dX0_island_47 : decode cX0_island 47 = .ok (.getfield 37, 3) := dk_180 0 37 (dk_at dksX0_island_2 0 rfl rfl)
theorem dX0_island_50 : decode cX0_island 50 = .ok (.iconst 0, 1) := dk_3 (dk_at dksX0_island_2 3 rfl rfl)
theorem dX0_island_51 : decode cX0_island 51 = .ok (.invokestatic 119, 3) := dk_184 0 119 (dk_at dksX0_island_2 4 rfl rfl)
theorem dX0_island_54 : decode cX0_island 54 = .ok (.aload_n 0, 1) := dk_42 (dk_at dksX0_island_2 7 rfl rfl)
theorem dX0_island_55 : decode cX0_island 55 = .ok (.iconst 0, 1) := dk_3 (dk_at dksX0_island_2 8 rfl rfl)
theorem dX0_island_56 : decode cX0_island 56 = .ok (.putfield 94, 3) := dk_181 0 94 (dk_at dksX0_island_2 9 rfl rfl)
theorem dX0_island_59 : decode cX0_island 59 = .ok (.aload_n 1, 1) := dk_43 (dk_at dksX0_island_2 12 rfl rfl)
theorem dX0_island_60 : decode cX0_island 60 = .ok (.getfield 125, 3) := dk_180 0 125 (dk_at dksX0_island_2 13 rfl rfl)
theorem dX0_island_63 : decode cX0_island 63 = .ok (.ireturn, 1) := dk_172 (dk_at dksX0_island_2 16 rfl rfl)
abbrev cX0_traveller : ByteArray := prog_1_method_10_code
def yX0_traveller : MethodName := ⟨RX0, "traveller", "(II)I"⟩
def dkwX0_traveller_4 : List UInt8 := [42, 180, 0, 19, 180, 0, 148, 27, 46, 172, 42, 180, 0, 19, 180, 0, 151, 27, 122, 4, 126, 172, 2, 172]
abbrev dktX0_traveller_4 : List UInt8 := dkwX0_traveller_4 ++ []
def dkwX0_traveller_3 : List UInt8 := [180, 0, 147, 27, 46, 172, 42, 180, 0, 19, 180, 0, 147, 27, 46, 16, 247, 160, 0, 7, 3, 167, 0, 12]
abbrev dktX0_traveller_3 : List UInt8 := dkwX0_traveller_3 ++ dktX0_traveller_4
def dkwX0_traveller_2 : List UInt8 := [42, 180, 0, 13, 180, 0, 141, 27, 46, 172, 42, 180, 0, 13, 180, 0, 144, 27, 46, 172, 42, 180, 0, 19]
abbrev dktX0_traveller_2 : List UInt8 := dkwX0_traveller_2 ++ dktX0_traveller_3
def dkwX0_traveller_1 : List UInt8 := [170, 0, 0, 0, 103, 0, 0, 0, 0, 0, 0, 0, 4, 0, 0, 0, 33, 0, 0, 0, 43, 0, 0, 0, 53, 0, 0, 0, 63, 0, 0, 0, 91]
abbrev dktX0_traveller_1 : List UInt8 := dkwX0_traveller_1 ++ dktX0_traveller_2
def dkwX0_traveller_0 : List UInt8 := [42, 27, 182, 0, 137, 154, 0, 5, 2, 172, 28]
abbrev dktX0_traveller_0 : List UInt8 := dkwX0_traveller_0 ++ dktX0_traveller_1
theorem dksX0_traveller_0 : cX0_traveller.data.toList.drop 0 = dktX0_traveller_0 := by decide +kernel
theorem dksX0_traveller_1 : cX0_traveller.data.toList.drop 11 = dktX0_traveller_1 := dk_seg dksX0_traveller_0 11 rfl rfl
theorem dksX0_traveller_2 : cX0_traveller.data.toList.drop 44 = dktX0_traveller_2 := dk_seg dksX0_traveller_1 33 rfl rfl
theorem dksX0_traveller_3 : cX0_traveller.data.toList.drop 68 = dktX0_traveller_3 := dk_seg dksX0_traveller_2 24 rfl rfl
theorem dksX0_traveller_4 : cX0_traveller.data.toList.drop 92 = dktX0_traveller_4 := dk_seg dksX0_traveller_3 24 rfl rfl
theorem dX0_traveller_0 : decode cX0_traveller 0 = .ok (.aload_n 0, 1) := dk_42 (dk_at dksX0_traveller_0 0 rfl rfl)
theorem dX0_traveller_1 : decode cX0_traveller 1 = .ok (.iload_n 1, 1) := dk_27 (dk_at dksX0_traveller_0 1 rfl rfl)
theorem dX0_traveller_2 : decode cX0_traveller 2 = .ok (.invokevirtual 137, 3) := dk_182 0 137 (dk_at dksX0_traveller_0 2 rfl rfl)
theorem dX0_traveller_5 : decode cX0_traveller 5 = .ok (.ifCond .ne 5, 3) := dk_154 0 5 (dk_at dksX0_traveller_0 5 rfl rfl)
theorem dX0_traveller_8 : decode cX0_traveller 8 = .ok (.iconst (-1), 1) := dk_2 (dk_at dksX0_traveller_0 8 rfl rfl)
theorem dX0_traveller_9 : decode cX0_traveller 9 = .ok (.ireturn, 1) := dk_172 (dk_at dksX0_traveller_0 9 rfl rfl)
theorem dX0_traveller_10 : decode cX0_traveller 10 = .ok (.iload_n 2, 1) := dk_28 (dk_at dksX0_traveller_0 10 rfl rfl)
theorem dX0_traveller_11 : decode cX0_traveller 11 = .ok (.tableswitch 103 0 4 #[33, 43, 53, 63, 91], 33) := by decide +kernel
theorem dX0_traveller_44 : decode cX0_traveller 44 = .ok (.aload_n 0, 1) := dk_42 (dk_at dksX0_traveller_2 0 rfl rfl)
theorem dX0_traveller_45 : decode cX0_traveller 45 = .ok (.getfield 13, 3) := dk_180 0 13 (dk_at dksX0_traveller_2 1 rfl rfl)
theorem dX0_traveller_48 : decode cX0_traveller 48 = .ok (.getfield 141, 3) := dk_180 0 141 (dk_at dksX0_traveller_2 4 rfl rfl)
theorem dX0_traveller_51 : decode cX0_traveller 51 = .ok (.iload_n 1, 1) := dk_27 (dk_at dksX0_traveller_2 7 rfl rfl)
theorem dX0_traveller_52 : decode cX0_traveller 52 = .ok (.iaload, 1) := dk_46 (dk_at dksX0_traveller_2 8 rfl rfl)
theorem dX0_traveller_53 : decode cX0_traveller 53 = .ok (.ireturn, 1) := dk_172 (dk_at dksX0_traveller_2 9 rfl rfl)
theorem dX0_traveller_54 : decode cX0_traveller 54 = .ok (.aload_n 0, 1) := dk_42 (dk_at dksX0_traveller_2 10 rfl rfl)
theorem dX0_traveller_55 : decode cX0_traveller 55 = .ok (.getfield 13, 3) := dk_180 0 13 (dk_at dksX0_traveller_2 11 rfl rfl)
theorem dX0_traveller_58 : decode cX0_traveller 58 = .ok (.getfield 144, 3) := dk_180 0 144 (dk_at dksX0_traveller_2 14 rfl rfl)
theorem dX0_traveller_61 : decode cX0_traveller 61 = .ok (.iload_n 1, 1) := dk_27 (dk_at dksX0_traveller_2 17 rfl rfl)
theorem dX0_traveller_62 : decode cX0_traveller 62 = .ok (.iaload, 1) := dk_46 (dk_at dksX0_traveller_2 18 rfl rfl)
theorem dX0_traveller_63 : decode cX0_traveller 63 = .ok (.ireturn, 1) := dk_172 (dk_at dksX0_traveller_2 19 rfl rfl)
theorem dX0_traveller_64 : decode cX0_traveller 64 = .ok (.aload_n 0, 1) := dk_42 (dk_at dksX0_traveller_2 20 rfl rfl)
theorem dX0_traveller_65 : decode cX0_traveller 65 = .ok (.getfield 19, 3) := dk_180 0 19 (dk_at dksX0_traveller_2 21 rfl rfl)
theorem dX0_traveller_68 : decode cX0_traveller 68 = .ok (.getfield 147, 3) := dk_180 0 147 (dk_at dksX0_traveller_3 0 rfl rfl)
theorem dX0_traveller_71 : decode cX0_traveller 71 = .ok (.iload_n 1, 1) := dk_27 (dk_at dksX0_traveller_3 3 rfl rfl)
theorem dX0_traveller_72 : decode cX0_traveller 72 = .ok (.iaload, 1) := dk_46 (dk_at dksX0_traveller_3 4 rfl rfl)
theorem dX0_traveller_73 : decode cX0_traveller 73 = .ok (.ireturn, 1) := dk_172 (dk_at dksX0_traveller_3 5 rfl rfl)
theorem dX0_traveller_74 : decode cX0_traveller 74 = .ok (.aload_n 0, 1) := dk_42 (dk_at dksX0_traveller_3 6 rfl rfl)
theorem dX0_traveller_75 : decode cX0_traveller 75 = .ok (.getfield 19, 3) := dk_180 0 19 (dk_at dksX0_traveller_3 7 rfl rfl)
theorem dX0_traveller_78 : decode cX0_traveller 78 = .ok (.getfield 147, 3) := dk_180 0 147 (dk_at dksX0_traveller_3 10 rfl rfl)
theorem dX0_traveller_81 : decode cX0_traveller 81 = .ok (.iload_n 1, 1) := dk_27 (dk_at dksX0_traveller_3 13 rfl rfl)
theorem dX0_traveller_82 : decode cX0_traveller 82 = .ok (.iaload, 1) := dk_46 (dk_at dksX0_traveller_3 14 rfl rfl)
theorem dX0_traveller_83 : decode cX0_traveller 83 = .ok (.bipush (-9), 2) := dk_16 247 (dk_at dksX0_traveller_3 15 rfl rfl)
theorem dX0_traveller_85 : decode cX0_traveller 85 = .ok (.if_icmp .ne 7, 3) := dk_160 0 7 (dk_at dksX0_traveller_3 17 rfl rfl)
theorem dX0_traveller_88 : decode cX0_traveller 88 = .ok (.iconst 0, 1) := dk_3 (dk_at dksX0_traveller_3 20 rfl rfl)
theorem dX0_traveller_89 : decode cX0_traveller 89 = .ok (.goto 12, 3) := dk_167 0 12 (dk_at dksX0_traveller_3 21 rfl rfl)
theorem dX0_traveller_92 : decode cX0_traveller 92 = .ok (.aload_n 0, 1) := dk_42 (dk_at dksX0_traveller_4 0 rfl rfl)
theorem dX0_traveller_93 : decode cX0_traveller 93 = .ok (.getfield 19, 3) := dk_180 0 19 (dk_at dksX0_traveller_4 1 rfl rfl)
theorem dX0_traveller_96 : decode cX0_traveller 96 = .ok (.getfield 148, 3) := dk_180 0 148 (dk_at dksX0_traveller_4 4 rfl rfl)
theorem dX0_traveller_99 : decode cX0_traveller 99 = .ok (.iload_n 1, 1) := dk_27 (dk_at dksX0_traveller_4 7 rfl rfl)
theorem dX0_traveller_100 : decode cX0_traveller 100 = .ok (.iaload, 1) := dk_46 (dk_at dksX0_traveller_4 8 rfl rfl)
theorem dX0_traveller_101 : decode cX0_traveller 101 = .ok (.ireturn, 1) := dk_172 (dk_at dksX0_traveller_4 9 rfl rfl)
theorem dX0_traveller_102 : decode cX0_traveller 102 = .ok (.aload_n 0, 1) := dk_42 (dk_at dksX0_traveller_4 10 rfl rfl)
theorem dX0_traveller_103 : decode cX0_traveller 103 = .ok (.getfield 19, 3) := dk_180 0 19 (dk_at dksX0_traveller_4 11 rfl rfl)
theorem dX0_traveller_106 : decode cX0_traveller 106 = .ok (.getfield 151, 3) := dk_180 0 151 (dk_at dksX0_traveller_4 14 rfl rfl)
theorem dX0_traveller_109 : decode cX0_traveller 109 = .ok (.iload_n 1, 1) := dk_27 (dk_at dksX0_traveller_4 17 rfl rfl)
theorem dX0_traveller_110 : decode cX0_traveller 110 = .ok (.ishr, 1) := dk_122 (dk_at dksX0_traveller_4 18 rfl rfl)
theorem dX0_traveller_111 : decode cX0_traveller 111 = .ok (.iconst 1, 1) := dk_4 (dk_at dksX0_traveller_4 19 rfl rfl)
theorem dX0_traveller_112 : decode cX0_traveller 112 = .ok (.iand, 1) := dk_126 (dk_at dksX0_traveller_4 20 rfl rfl)
theorem dX0_traveller_113 : decode cX0_traveller 113 = .ok (.ireturn, 1) := dk_172 (dk_at dksX0_traveller_4 21 rfl rfl)
theorem dX0_traveller_114 : decode cX0_traveller 114 = .ok (.iconst (-1), 1) := dk_2 (dk_at dksX0_traveller_4 22 rfl rfl)
theorem dX0_traveller_115 : decode cX0_traveller 115 = .ok (.ireturn, 1) := dk_172 (dk_at dksX0_traveller_4 23 rfl rfl)
abbrev cX0_isTraveller : ByteArray := prog_1_method_7_code
def yX0_isTraveller : MethodName := ⟨RX0, "isTraveller", "(I)Z"⟩
def dkwX0_isTraveller_0 : List UInt8 := [27, 3, 42, 180, 0, 13, 180, 0, 128, 4, 100, 184, 0, 90, 172]
abbrev dktX0_isTraveller_0 : List UInt8 := dkwX0_isTraveller_0 ++ []
theorem dksX0_isTraveller_0 : cX0_isTraveller.data.toList.drop 0 = dktX0_isTraveller_0 := by decide +kernel
theorem dX0_isTraveller_0 : decode cX0_isTraveller 0 = .ok (.iload_n 1, 1) := dk_27 (dk_at dksX0_isTraveller_0 0 rfl rfl)
theorem dX0_isTraveller_1 : decode cX0_isTraveller 1 = .ok (.iconst 0, 1) := dk_3 (dk_at dksX0_isTraveller_0 1 rfl rfl)
theorem dX0_isTraveller_2 : decode cX0_isTraveller 2 = .ok (.aload_n 0, 1) := dk_42 (dk_at dksX0_isTraveller_0 2 rfl rfl)
theorem dX0_isTraveller_3 : decode cX0_isTraveller 3 = .ok (.getfield 13, 3) := dk_180 0 13 (dk_at dksX0_isTraveller_0 3 rfl rfl)
theorem dX0_isTraveller_6 : decode cX0_isTraveller 6 = .ok (.getfield 128, 3) := dk_180 0 128 (dk_at dksX0_isTraveller_0 6 rfl rfl)
theorem dX0_isTraveller_9 : decode cX0_isTraveller 9 = .ok (.iconst 1, 1) := dk_4 (dk_at dksX0_isTraveller_0 9 rfl rfl)
theorem dX0_isTraveller_10 : decode cX0_isTraveller 10 = .ok (.isub, 1) := dk_100 (dk_at dksX0_isTraveller_0 10 rfl rfl)
theorem dX0_isTraveller_11 : decode cX0_isTraveller 11 = .ok (.invokestatic 90, 3) := dk_184 0 90 (dk_at dksX0_isTraveller_0 11 rfl rfl)
theorem dX0_isTraveller_14 : decode cX0_isTraveller 14 = .ok (.ireturn, 1) := dk_172 (dk_at dksX0_isTraveller_0 14 rfl rfl)
abbrev cX0_clerk : ByteArray := prog_1_method_11_code
def yX0_clerk : MethodName := ⟨RX0, "clerk", "(II)I"⟩
def dkwX0_clerk_2 : List UInt8 := [46, 167, 0, 12, 42, 180, 0, 13, 180, 0, 163, 27, 46, 172]
abbrev dktX0_clerk_2 : List UInt8 := dkwX0_clerk_2 ++ []
def dkwX0_clerk_1 : List UInt8 := [180, 0, 13, 180, 0, 157, 27, 46, 167, 0, 29, 28, 4, 160, 0, 15, 42, 180, 0, 13, 180, 0, 160, 27]
abbrev dktX0_clerk_1 : List UInt8 := dkwX0_clerk_1 ++ dktX0_clerk_2
def dkwX0_clerk_0 : List UInt8 := [42, 27, 182, 0, 154, 153, 0, 12, 28, 3, 5, 184, 0, 90, 154, 0, 5, 2, 172, 28, 154, 0, 15, 42]
abbrev dktX0_clerk_0 : List UInt8 := dkwX0_clerk_0 ++ dktX0_clerk_1
theorem dksX0_clerk_0 : cX0_clerk.data.toList.drop 0 = dktX0_clerk_0 := by decide +kernel
theorem dksX0_clerk_1 : cX0_clerk.data.toList.drop 24 = dktX0_clerk_1 := dk_seg dksX0_clerk_0 24 rfl rfl
theorem dksX0_clerk_2 : cX0_clerk.data.toList.drop 48 = dktX0_clerk_2 := dk_seg dksX0_clerk_1 24 rfl rfl
theorem dX0_clerk_0 : decode cX0_clerk 0 = .ok (.aload_n 0, 1) := dk_42 (dk_at dksX0_clerk_0 0 rfl rfl)
theorem dX0_clerk_1 : decode cX0_clerk 1 = .ok (.iload_n 1, 1) := dk_27 (dk_at dksX0_clerk_0 1 rfl rfl)
theorem dX0_clerk_2 : decode cX0_clerk 2 = .ok (.invokevirtual 154, 3) := dk_182 0 154 (dk_at dksX0_clerk_0 2 rfl rfl)
theorem dX0_clerk_5 : decode cX0_clerk 5 = .ok (.ifCond .eq 12, 3) := dk_153 0 12 (dk_at dksX0_clerk_0 5 rfl rfl)
theorem dX0_clerk_8 : decode cX0_clerk 8 = .ok (.iload_n 2, 1) := dk_28 (dk_at dksX0_clerk_0 8 rfl rfl)
theorem dX0_clerk_9 : decode cX0_clerk 9 = .ok (.iconst 0, 1) := dk_3 (dk_at dksX0_clerk_0 9 rfl rfl)
theorem dX0_clerk_10 : decode cX0_clerk 10 = .ok (.iconst 2, 1) := dk_5 (dk_at dksX0_clerk_0 10 rfl rfl)
theorem dX0_clerk_11 : decode cX0_clerk 11 = .ok (.invokestatic 90, 3) := dk_184 0 90 (dk_at dksX0_clerk_0 11 rfl rfl)
theorem dX0_clerk_14 : decode cX0_clerk 14 = .ok (.ifCond .ne 5, 3) := dk_154 0 5 (dk_at dksX0_clerk_0 14 rfl rfl)
theorem dX0_clerk_17 : decode cX0_clerk 17 = .ok (.iconst (-1), 1) := dk_2 (dk_at dksX0_clerk_0 17 rfl rfl)
theorem dX0_clerk_18 : decode cX0_clerk 18 = .ok (.ireturn, 1) := dk_172 (dk_at dksX0_clerk_0 18 rfl rfl)
theorem dX0_clerk_19 : decode cX0_clerk 19 = .ok (.iload_n 2, 1) := dk_28 (dk_at dksX0_clerk_0 19 rfl rfl)
theorem dX0_clerk_20 : decode cX0_clerk 20 = .ok (.ifCond .ne 15, 3) := dk_154 0 15 (dk_at dksX0_clerk_0 20 rfl rfl)
theorem dX0_clerk_23 : decode cX0_clerk 23 = .ok (.aload_n 0, 1) := dk_42 (dk_at dksX0_clerk_0 23 rfl rfl)
theorem dX0_clerk_24 : decode cX0_clerk 24 = .ok (.getfield 13, 3) := dk_180 0 13 (dk_at dksX0_clerk_1 0 rfl rfl)
theorem dX0_clerk_27 : decode cX0_clerk 27 = .ok (.getfield 157, 3) := dk_180 0 157 (dk_at dksX0_clerk_1 3 rfl rfl)
theorem dX0_clerk_30 : decode cX0_clerk 30 = .ok (.iload_n 1, 1) := dk_27 (dk_at dksX0_clerk_1 6 rfl rfl)
theorem dX0_clerk_31 : decode cX0_clerk 31 = .ok (.iaload, 1) := dk_46 (dk_at dksX0_clerk_1 7 rfl rfl)
theorem dX0_clerk_32 : decode cX0_clerk 32 = .ok (.goto 29, 3) := dk_167 0 29 (dk_at dksX0_clerk_1 8 rfl rfl)
theorem dX0_clerk_35 : decode cX0_clerk 35 = .ok (.iload_n 2, 1) := dk_28 (dk_at dksX0_clerk_1 11 rfl rfl)
theorem dX0_clerk_36 : decode cX0_clerk 36 = .ok (.iconst 1, 1) := dk_4 (dk_at dksX0_clerk_1 12 rfl rfl)
theorem dX0_clerk_37 : decode cX0_clerk 37 = .ok (.if_icmp .ne 15, 3) := dk_160 0 15 (dk_at dksX0_clerk_1 13 rfl rfl)
theorem dX0_clerk_40 : decode cX0_clerk 40 = .ok (.aload_n 0, 1) := dk_42 (dk_at dksX0_clerk_1 16 rfl rfl)
theorem dX0_clerk_41 : decode cX0_clerk 41 = .ok (.getfield 13, 3) := dk_180 0 13 (dk_at dksX0_clerk_1 17 rfl rfl)
theorem dX0_clerk_44 : decode cX0_clerk 44 = .ok (.getfield 160, 3) := dk_180 0 160 (dk_at dksX0_clerk_1 20 rfl rfl)
theorem dX0_clerk_47 : decode cX0_clerk 47 = .ok (.iload_n 1, 1) := dk_27 (dk_at dksX0_clerk_1 23 rfl rfl)
theorem dX0_clerk_48 : decode cX0_clerk 48 = .ok (.iaload, 1) := dk_46 (dk_at dksX0_clerk_2 0 rfl rfl)
theorem dX0_clerk_49 : decode cX0_clerk 49 = .ok (.goto 12, 3) := dk_167 0 12 (dk_at dksX0_clerk_2 1 rfl rfl)
theorem dX0_clerk_52 : decode cX0_clerk 52 = .ok (.aload_n 0, 1) := dk_42 (dk_at dksX0_clerk_2 4 rfl rfl)
theorem dX0_clerk_53 : decode cX0_clerk 53 = .ok (.getfield 13, 3) := dk_180 0 13 (dk_at dksX0_clerk_2 5 rfl rfl)
theorem dX0_clerk_56 : decode cX0_clerk 56 = .ok (.getfield 163, 3) := dk_180 0 163 (dk_at dksX0_clerk_2 8 rfl rfl)
theorem dX0_clerk_59 : decode cX0_clerk 59 = .ok (.iload_n 1, 1) := dk_27 (dk_at dksX0_clerk_2 11 rfl rfl)
theorem dX0_clerk_60 : decode cX0_clerk 60 = .ok (.iaload, 1) := dk_46 (dk_at dksX0_clerk_2 12 rfl rfl)
theorem dX0_clerk_61 : decode cX0_clerk 61 = .ok (.ireturn, 1) := dk_172 (dk_at dksX0_clerk_2 13 rfl rfl)
abbrev cX0_isClerk : ByteArray := prog_1_method_9_code
def yX0_isClerk : MethodName := ⟨RX0, "isClerk", "(I)Z"⟩
def dkwX0_isClerk_0 : List UInt8 := [27, 3, 42, 180, 0, 13, 180, 0, 134, 4, 100, 184, 0, 90, 172]
abbrev dktX0_isClerk_0 : List UInt8 := dkwX0_isClerk_0 ++ []
theorem dksX0_isClerk_0 : cX0_isClerk.data.toList.drop 0 = dktX0_isClerk_0 := by decide +kernel
theorem dX0_isClerk_0 : decode cX0_isClerk 0 = .ok (.iload_n 1, 1) := dk_27 (dk_at dksX0_isClerk_0 0 rfl rfl)
theorem dX0_isClerk_1 : decode cX0_isClerk 1 = .ok (.iconst 0, 1) := dk_3 (dk_at dksX0_isClerk_0 1 rfl rfl)
theorem dX0_isClerk_2 : decode cX0_isClerk 2 = .ok (.aload_n 0, 1) := dk_42 (dk_at dksX0_isClerk_0 2 rfl rfl)
theorem dX0_isClerk_3 : decode cX0_isClerk 3 = .ok (.getfield 13, 3) := dk_180 0 13 (dk_at dksX0_isClerk_0 3 rfl rfl)
theorem dX0_isClerk_6 : decode cX0_isClerk 6 = .ok (.getfield 134, 3) := dk_180 0 134 (dk_at dksX0_isClerk_0 6 rfl rfl)
theorem dX0_isClerk_9 : decode cX0_isClerk 9 = .ok (.iconst 1, 1) := dk_4 (dk_at dksX0_isClerk_0 9 rfl rfl)
theorem dX0_isClerk_10 : decode cX0_isClerk 10 = .ok (.isub, 1) := dk_100 (dk_at dksX0_isClerk_0 10 rfl rfl)
theorem dX0_isClerk_11 : decode cX0_isClerk 11 = .ok (.invokestatic 90, 3) := dk_184 0 90 (dk_at dksX0_isClerk_0 11 rfl rfl)
theorem dX0_isClerk_14 : decode cX0_isClerk 14 = .ok (.ireturn, 1) := dk_172 (dk_at dksX0_isClerk_0 14 rfl rfl)
abbrev cX0_now : ByteArray := prog_1_method_12_code
def yX0_now : MethodName := ⟨RX0, "now", "(I)I"⟩
def dkwX0_now_4 : List UInt8 := [182, 0, 176, 153, 0, 7, 4, 167, 0, 4, 3, 172, 42, 180, 0, 113, 172, 2, 172]
abbrev dktX0_now_4 : List UInt8 := dkwX0_now_4 ++ []
def dkwX0_now_3 : List UInt8 := [182, 0, 172, 172, 42, 180, 0, 19, 180, 0, 151, 172, 42, 180, 0, 13, 42, 180, 0, 19, 180, 0, 166]
abbrev dktX0_now_3 : List UInt8 := dkwX0_now_3 ++ dktX0_now_4
def dkwX0_now_2 : List UInt8 := [42, 180, 0, 19, 180, 0, 166, 172, 42, 180, 0, 19, 180, 0, 169, 172, 42, 180, 0, 19, 42, 180, 0, 13]
abbrev dktX0_now_2 : List UInt8 := dkwX0_now_2 ++ dktX0_now_3
def dkwX0_now_1 : List UInt8 := [170, 0, 0, 0, 0, 0, 103, 0, 0, 0, 0, 0, 0, 0, 5, 0, 0, 0, 39, 0, 0, 0, 47, 0, 0, 0, 55, 0, 0, 0, 67, 0, 0, 0, 75, 0, 0, 0, 98]
abbrev dktX0_now_1 : List UInt8 := dkwX0_now_1 ++ dktX0_now_2
def dkwX0_now_0 : List UInt8 := [27]
abbrev dktX0_now_0 : List UInt8 := dkwX0_now_0 ++ dktX0_now_1
theorem dksX0_now_0 : cX0_now.data.toList.drop 0 = dktX0_now_0 := by decide +kernel
theorem dksX0_now_1 : cX0_now.data.toList.drop 1 = dktX0_now_1 := dk_seg dksX0_now_0 1 rfl rfl
theorem dksX0_now_2 : cX0_now.data.toList.drop 40 = dktX0_now_2 := dk_seg dksX0_now_1 39 rfl rfl
theorem dksX0_now_3 : cX0_now.data.toList.drop 64 = dktX0_now_3 := dk_seg dksX0_now_2 24 rfl rfl
theorem dksX0_now_4 : cX0_now.data.toList.drop 87 = dktX0_now_4 := dk_seg dksX0_now_3 23 rfl rfl
theorem dX0_now_0 : decode cX0_now 0 = .ok (.iload_n 1, 1) := dk_27 (dk_at dksX0_now_0 0 rfl rfl)
theorem dX0_now_1 : decode cX0_now 1 = .ok (.tableswitch 103 0 5 #[39, 47, 55, 67, 75, 98], 39) := by decide +kernel
theorem dX0_now_40 : decode cX0_now 40 = .ok (.aload_n 0, 1) := dk_42 (dk_at dksX0_now_2 0 rfl rfl)
theorem dX0_now_41 : decode cX0_now 41 = .ok (.getfield 19, 3) := dk_180 0 19 (dk_at dksX0_now_2 1 rfl rfl)
theorem dX0_now_44 : decode cX0_now 44 = .ok (.getfield 166, 3) := dk_180 0 166 (dk_at dksX0_now_2 4 rfl rfl)
theorem dX0_now_47 : decode cX0_now 47 = .ok (.ireturn, 1) := dk_172 (dk_at dksX0_now_2 7 rfl rfl)
theorem dX0_now_48 : decode cX0_now 48 = .ok (.aload_n 0, 1) := dk_42 (dk_at dksX0_now_2 8 rfl rfl)
theorem dX0_now_49 : decode cX0_now 49 = .ok (.getfield 19, 3) := dk_180 0 19 (dk_at dksX0_now_2 9 rfl rfl)
theorem dX0_now_52 : decode cX0_now 52 = .ok (.getfield 169, 3) := dk_180 0 169 (dk_at dksX0_now_2 12 rfl rfl)
theorem dX0_now_55 : decode cX0_now 55 = .ok (.ireturn, 1) := dk_172 (dk_at dksX0_now_2 15 rfl rfl)
theorem dX0_now_56 : decode cX0_now 56 = .ok (.aload_n 0, 1) := dk_42 (dk_at dksX0_now_2 16 rfl rfl)
theorem dX0_now_57 : decode cX0_now 57 = .ok (.getfield 19, 3) := dk_180 0 19 (dk_at dksX0_now_2 17 rfl rfl)
theorem dX0_now_60 : decode cX0_now 60 = .ok (.aload_n 0, 1) := dk_42 (dk_at dksX0_now_2 20 rfl rfl)
theorem dX0_now_61 : decode cX0_now 61 = .ok (.getfield 13, 3) := dk_180 0 13 (dk_at dksX0_now_2 21 rfl rfl)
theorem dX0_now_64 : decode cX0_now 64 = .ok (.invokevirtual 172, 3) := dk_182 0 172 (dk_at dksX0_now_3 0 rfl rfl)
theorem dX0_now_67 : decode cX0_now 67 = .ok (.ireturn, 1) := dk_172 (dk_at dksX0_now_3 3 rfl rfl)
theorem dX0_now_68 : decode cX0_now 68 = .ok (.aload_n 0, 1) := dk_42 (dk_at dksX0_now_3 4 rfl rfl)
theorem dX0_now_69 : decode cX0_now 69 = .ok (.getfield 19, 3) := dk_180 0 19 (dk_at dksX0_now_3 5 rfl rfl)
theorem dX0_now_72 : decode cX0_now 72 = .ok (.getfield 151, 3) := dk_180 0 151 (dk_at dksX0_now_3 8 rfl rfl)
theorem dX0_now_75 : decode cX0_now 75 = .ok (.ireturn, 1) := dk_172 (dk_at dksX0_now_3 11 rfl rfl)
theorem dX0_now_76 : decode cX0_now 76 = .ok (.aload_n 0, 1) := dk_42 (dk_at dksX0_now_3 12 rfl rfl)
theorem dX0_now_77 : decode cX0_now 77 = .ok (.getfield 13, 3) := dk_180 0 13 (dk_at dksX0_now_3 13 rfl rfl)
theorem dX0_now_80 : decode cX0_now 80 = .ok (.aload_n 0, 1) := dk_42 (dk_at dksX0_now_3 16 rfl rfl)
theorem dX0_now_81 : decode cX0_now 81 = .ok (.getfield 19, 3) := dk_180 0 19 (dk_at dksX0_now_3 17 rfl rfl)
theorem dX0_now_84 : decode cX0_now 84 = .ok (.getfield 166, 3) := dk_180 0 166 (dk_at dksX0_now_3 20 rfl rfl)
theorem dX0_now_87 : decode cX0_now 87 = .ok (.invokevirtual 176, 3) := dk_182 0 176 (dk_at dksX0_now_4 0 rfl rfl)
theorem dX0_now_90 : decode cX0_now 90 = .ok (.ifCond .eq 7, 3) := dk_153 0 7 (dk_at dksX0_now_4 3 rfl rfl)
theorem dX0_now_93 : decode cX0_now 93 = .ok (.iconst 1, 1) := dk_4 (dk_at dksX0_now_4 6 rfl rfl)
theorem dX0_now_94 : decode cX0_now 94 = .ok (.goto 4, 3) := dk_167 0 4 (dk_at dksX0_now_4 7 rfl rfl)
theorem dX0_now_97 : decode cX0_now 97 = .ok (.iconst 0, 1) := dk_3 (dk_at dksX0_now_4 10 rfl rfl)
theorem dX0_now_98 : decode cX0_now 98 = .ok (.ireturn, 1) := dk_172 (dk_at dksX0_now_4 11 rfl rfl)
theorem dX0_now_99 : decode cX0_now 99 = .ok (.aload_n 0, 1) := dk_42 (dk_at dksX0_now_4 12 rfl rfl)
theorem dX0_now_100 : decode cX0_now 100 = .ok (.getfield 113, 3) := dk_180 0 113 (dk_at dksX0_now_4 13 rfl rfl)
theorem dX0_now_103 : decode cX0_now 103 = .ok (.ireturn, 1) := dk_172 (dk_at dksX0_now_4 16 rfl rfl)
theorem dX0_now_104 : decode cX0_now 104 = .ok (.iconst (-1), 1) := dk_2 (dk_at dksX0_now_4 17 rfl rfl)
theorem dX0_now_105 : decode cX0_now 105 = .ok (.ireturn, 1) := dk_172 (dk_at dksX0_now_4 18 rfl rfl)
abbrev cX0_puts : ByteArray := prog_1_method_14_code
def yX0_puts : MethodName := ⟨RX0, "puts", "(II)I"⟩
def dkwX0_puts_3 : List UInt8 := [182, 0, 192, 42, 180, 0, 19, 27, 28, 182, 0, 195, 172]
abbrev dktX0_puts_3 : List UInt8 := dkwX0_puts_3 ++ []
def dkwX0_puts_2 : List UInt8 := [16, 247, 160, 0, 18, 42, 180, 0, 19, 180, 0, 151, 27, 122, 4, 126, 4, 160, 0, 6, 16, 254, 172, 42]
abbrev dktX0_puts_2 : List UInt8 := dkwX0_puts_2 ++ dktX0_puts_3
def dkwX0_puts_1 : List UInt8 := [180, 0, 166, 42, 180, 0, 13, 180, 0, 141, 27, 46, 161, 0, 32, 42, 180, 0, 19, 180, 0, 147, 27, 46]
abbrev dktX0_puts_1 : List UInt8 := dkwX0_puts_1 ++ dktX0_puts_2
def dkwX0_puts_0 : List UInt8 := [42, 27, 182, 0, 137, 153, 0, 11, 42, 28, 182, 0, 189, 154, 0, 5, 2, 172, 42, 180, 0, 19]
abbrev dktX0_puts_0 : List UInt8 := dkwX0_puts_0 ++ dktX0_puts_1
theorem dksX0_puts_0 : cX0_puts.data.toList.drop 0 = dktX0_puts_0 := by decide +kernel
theorem dksX0_puts_1 : cX0_puts.data.toList.drop 22 = dktX0_puts_1 := dk_seg dksX0_puts_0 22 rfl rfl
theorem dksX0_puts_2 : cX0_puts.data.toList.drop 46 = dktX0_puts_2 := dk_seg dksX0_puts_1 24 rfl rfl
theorem dksX0_puts_3 : cX0_puts.data.toList.drop 70 = dktX0_puts_3 := dk_seg dksX0_puts_2 24 rfl rfl
theorem dX0_puts_0 : decode cX0_puts 0 = .ok (.aload_n 0, 1) := dk_42 (dk_at dksX0_puts_0 0 rfl rfl)
theorem dX0_puts_1 : decode cX0_puts 1 = .ok (.iload_n 1, 1) := dk_27 (dk_at dksX0_puts_0 1 rfl rfl)
theorem dX0_puts_2 : decode cX0_puts 2 = .ok (.invokevirtual 137, 3) := dk_182 0 137 (dk_at dksX0_puts_0 2 rfl rfl)
theorem dX0_puts_5 : decode cX0_puts 5 = .ok (.ifCond .eq 11, 3) := dk_153 0 11 (dk_at dksX0_puts_0 5 rfl rfl)
theorem dX0_puts_8 : decode cX0_puts 8 = .ok (.aload_n 0, 1) := dk_42 (dk_at dksX0_puts_0 8 rfl rfl)
theorem dX0_puts_9 : decode cX0_puts 9 = .ok (.iload_n 2, 1) := dk_28 (dk_at dksX0_puts_0 9 rfl rfl)
theorem dX0_puts_10 : decode cX0_puts 10 = .ok (.invokevirtual 189, 3) := dk_182 0 189 (dk_at dksX0_puts_0 10 rfl rfl)
theorem dX0_puts_13 : decode cX0_puts 13 = .ok (.ifCond .ne 5, 3) := dk_154 0 5 (dk_at dksX0_puts_0 13 rfl rfl)
theorem dX0_puts_16 : decode cX0_puts 16 = .ok (.iconst (-1), 1) := dk_2 (dk_at dksX0_puts_0 16 rfl rfl)
theorem dX0_puts_17 : decode cX0_puts 17 = .ok (.ireturn, 1) := dk_172 (dk_at dksX0_puts_0 17 rfl rfl)
theorem dX0_puts_18 : decode cX0_puts 18 = .ok (.aload_n 0, 1) := dk_42 (dk_at dksX0_puts_0 18 rfl rfl)
theorem dX0_puts_19 : decode cX0_puts 19 = .ok (.getfield 19, 3) := dk_180 0 19 (dk_at dksX0_puts_0 19 rfl rfl)
theorem dX0_puts_22 : decode cX0_puts 22 = .ok (.getfield 166, 3) := dk_180 0 166 (dk_at dksX0_puts_1 0 rfl rfl)
theorem dX0_puts_25 : decode cX0_puts 25 = .ok (.aload_n 0, 1) := dk_42 (dk_at dksX0_puts_1 3 rfl rfl)
theorem dX0_puts_26 : decode cX0_puts 26 = .ok (.getfield 13, 3) := dk_180 0 13 (dk_at dksX0_puts_1 4 rfl rfl)
theorem dX0_puts_29 : decode cX0_puts 29 = .ok (.getfield 141, 3) := dk_180 0 141 (dk_at dksX0_puts_1 7 rfl rfl)
theorem dX0_puts_32 : decode cX0_puts 32 = .ok (.iload_n 1, 1) := dk_27 (dk_at dksX0_puts_1 10 rfl rfl)
theorem dX0_puts_33 : decode cX0_puts 33 = .ok (.iaload, 1) := dk_46 (dk_at dksX0_puts_1 11 rfl rfl)
theorem dX0_puts_34 : decode cX0_puts 34 = .ok (.if_icmp .lt 32, 3) := dk_161 0 32 (dk_at dksX0_puts_1 12 rfl rfl)
theorem dX0_puts_37 : decode cX0_puts 37 = .ok (.aload_n 0, 1) := dk_42 (dk_at dksX0_puts_1 15 rfl rfl)
theorem dX0_puts_38 : decode cX0_puts 38 = .ok (.getfield 19, 3) := dk_180 0 19 (dk_at dksX0_puts_1 16 rfl rfl)
theorem dX0_puts_41 : decode cX0_puts 41 = .ok (.getfield 147, 3) := dk_180 0 147 (dk_at dksX0_puts_1 19 rfl rfl)
theorem dX0_puts_44 : decode cX0_puts 44 = .ok (.iload_n 1, 1) := dk_27 (dk_at dksX0_puts_1 22 rfl rfl)
theorem dX0_puts_45 : decode cX0_puts 45 = .ok (.iaload, 1) := dk_46 (dk_at dksX0_puts_1 23 rfl rfl)
theorem dX0_puts_46 : decode cX0_puts 46 = .ok (.bipush (-9), 2) := dk_16 247 (dk_at dksX0_puts_2 0 rfl rfl)
theorem dX0_puts_48 : decode cX0_puts 48 = .ok (.if_icmp .ne 18, 3) := dk_160 0 18 (dk_at dksX0_puts_2 2 rfl rfl)
theorem dX0_puts_51 : decode cX0_puts 51 = .ok (.aload_n 0, 1) := dk_42 (dk_at dksX0_puts_2 5 rfl rfl)
theorem dX0_puts_52 : decode cX0_puts 52 = .ok (.getfield 19, 3) := dk_180 0 19 (dk_at dksX0_puts_2 6 rfl rfl)
theorem dX0_puts_55 : decode cX0_puts 55 = .ok (.getfield 151, 3) := dk_180 0 151 (dk_at dksX0_puts_2 9 rfl rfl)
theorem dX0_puts_58 : decode cX0_puts 58 = .ok (.iload_n 1, 1) := dk_27 (dk_at dksX0_puts_2 12 rfl rfl)
theorem dX0_puts_59 : decode cX0_puts 59 = .ok (.ishr, 1) := dk_122 (dk_at dksX0_puts_2 13 rfl rfl)
theorem dX0_puts_60 : decode cX0_puts 60 = .ok (.iconst 1, 1) := dk_4 (dk_at dksX0_puts_2 14 rfl rfl)
theorem dX0_puts_61 : decode cX0_puts 61 = .ok (.iand, 1) := dk_126 (dk_at dksX0_puts_2 15 rfl rfl)
theorem dX0_puts_62 : decode cX0_puts 62 = .ok (.iconst 1, 1) := dk_4 (dk_at dksX0_puts_2 16 rfl rfl)
theorem dX0_puts_63 : decode cX0_puts 63 = .ok (.if_icmp .ne 6, 3) := dk_160 0 6 (dk_at dksX0_puts_2 17 rfl rfl)
theorem dX0_puts_66 : decode cX0_puts 66 = .ok (.bipush (-2), 2) := dk_16 254 (dk_at dksX0_puts_2 20 rfl rfl)
theorem dX0_puts_68 : decode cX0_puts 68 = .ok (.ireturn, 1) := dk_172 (dk_at dksX0_puts_2 22 rfl rfl)
theorem dX0_puts_69 : decode cX0_puts 69 = .ok (.aload_n 0, 1) := dk_42 (dk_at dksX0_puts_2 23 rfl rfl)
theorem dX0_puts_70 : decode cX0_puts 70 = .ok (.invokevirtual 192, 3) := dk_182 0 192 (dk_at dksX0_puts_3 0 rfl rfl)
theorem dX0_puts_73 : decode cX0_puts 73 = .ok (.aload_n 0, 1) := dk_42 (dk_at dksX0_puts_3 3 rfl rfl)
theorem dX0_puts_74 : decode cX0_puts 74 = .ok (.getfield 19, 3) := dk_180 0 19 (dk_at dksX0_puts_3 4 rfl rfl)
theorem dX0_puts_77 : decode cX0_puts 77 = .ok (.iload_n 1, 1) := dk_27 (dk_at dksX0_puts_3 7 rfl rfl)
theorem dX0_puts_78 : decode cX0_puts 78 = .ok (.iload_n 2, 1) := dk_28 (dk_at dksX0_puts_3 8 rfl rfl)
theorem dX0_puts_79 : decode cX0_puts 79 = .ok (.invokevirtual 195, 3) := dk_182 0 195 (dk_at dksX0_puts_3 9 rfl rfl)
theorem dX0_puts_82 : decode cX0_puts 82 = .ok (.ireturn, 1) := dk_172 (dk_at dksX0_puts_3 12 rfl rfl)
abbrev cX0_isRow : ByteArray := prog_1_method_8_code
def yX0_isRow : MethodName := ⟨RX0, "isRow", "(I)Z"⟩
def dkwX0_isRow_0 : List UInt8 := [27, 3, 42, 180, 0, 13, 180, 0, 131, 4, 46, 4, 100, 184, 0, 90, 172]
abbrev dktX0_isRow_0 : List UInt8 := dkwX0_isRow_0 ++ []
theorem dksX0_isRow_0 : cX0_isRow.data.toList.drop 0 = dktX0_isRow_0 := by decide +kernel
theorem dX0_isRow_0 : decode cX0_isRow 0 = .ok (.iload_n 1, 1) := dk_27 (dk_at dksX0_isRow_0 0 rfl rfl)
theorem dX0_isRow_1 : decode cX0_isRow 1 = .ok (.iconst 0, 1) := dk_3 (dk_at dksX0_isRow_0 1 rfl rfl)
theorem dX0_isRow_2 : decode cX0_isRow 2 = .ok (.aload_n 0, 1) := dk_42 (dk_at dksX0_isRow_0 2 rfl rfl)
theorem dX0_isRow_3 : decode cX0_isRow 3 = .ok (.getfield 13, 3) := dk_180 0 13 (dk_at dksX0_isRow_0 3 rfl rfl)
theorem dX0_isRow_6 : decode cX0_isRow 6 = .ok (.getfield 131, 3) := dk_180 0 131 (dk_at dksX0_isRow_0 6 rfl rfl)
theorem dX0_isRow_9 : decode cX0_isRow 9 = .ok (.iconst 1, 1) := dk_4 (dk_at dksX0_isRow_0 9 rfl rfl)
theorem dX0_isRow_10 : decode cX0_isRow 10 = .ok (.iaload, 1) := dk_46 (dk_at dksX0_isRow_0 10 rfl rfl)
theorem dX0_isRow_11 : decode cX0_isRow 11 = .ok (.iconst 1, 1) := dk_4 (dk_at dksX0_isRow_0 11 rfl rfl)
theorem dX0_isRow_12 : decode cX0_isRow 12 = .ok (.isub, 1) := dk_100 (dk_at dksX0_isRow_0 12 rfl rfl)
theorem dX0_isRow_13 : decode cX0_isRow 13 = .ok (.invokestatic 90, 3) := dk_184 0 90 (dk_at dksX0_isRow_0 13 rfl rfl)
theorem dX0_isRow_16 : decode cX0_isRow 16 = .ok (.ireturn, 1) := dk_172 (dk_at dksX0_isRow_0 16 rfl rfl)
abbrev cX0_know : ByteArray := prog_1_method_13_code
def yX0_know : MethodName := ⟨RX0, "know", "()V"⟩
def dkwX0_know_3 : List UInt8 := [4, 96, 181, 0, 113, 177]
abbrev dktX0_know_3 : List UInt8 := dkwX0_know_3 ++ []
def dkwX0_know_2 : List UInt8 := [181, 0, 113, 42, 180, 0, 30, 42, 180, 0, 113, 50, 42, 180, 0, 19, 182, 0, 185, 42, 89, 180, 0, 113]
abbrev dktX0_know_2 : List UInt8 := dkwX0_know_2 ++ dktX0_know_3
def dkwX0_know_1 : List UInt8 := [180, 0, 30, 3, 16, 9, 184, 0, 179, 42, 180, 0, 30, 16, 9, 43, 83, 42, 89, 180, 0, 113, 4, 100]
abbrev dktX0_know_1 : List UInt8 := dkwX0_know_1 ++ dktX0_know_2
def dkwX0_know_0 : List UInt8 := [42, 180, 0, 113, 16, 10, 160, 0, 43, 42, 180, 0, 30, 3, 50, 76, 42, 180, 0, 30, 4, 42]
abbrev dktX0_know_0 : List UInt8 := dkwX0_know_0 ++ dktX0_know_1
theorem dksX0_know_0 : cX0_know.data.toList.drop 0 = dktX0_know_0 := by decide +kernel
theorem dksX0_know_1 : cX0_know.data.toList.drop 22 = dktX0_know_1 := dk_seg dksX0_know_0 22 rfl rfl
theorem dksX0_know_2 : cX0_know.data.toList.drop 46 = dktX0_know_2 := dk_seg dksX0_know_1 24 rfl rfl
theorem dksX0_know_3 : cX0_know.data.toList.drop 70 = dktX0_know_3 := dk_seg dksX0_know_2 24 rfl rfl
theorem dX0_know_0 : decode cX0_know 0 = .ok (.aload_n 0, 1) := dk_42 (dk_at dksX0_know_0 0 rfl rfl)
theorem dX0_know_1 : decode cX0_know 1 = .ok (.getfield 113, 3) := dk_180 0 113 (dk_at dksX0_know_0 1 rfl rfl)
theorem dX0_know_4 : decode cX0_know 4 = .ok (.bipush 10, 2) := dk_16 10 (dk_at dksX0_know_0 4 rfl rfl)
theorem dX0_know_6 : decode cX0_know 6 = .ok (.if_icmp .ne 43, 3) := dk_160 0 43 (dk_at dksX0_know_0 6 rfl rfl)
theorem dX0_know_9 : decode cX0_know 9 = .ok (.aload_n 0, 1) := dk_42 (dk_at dksX0_know_0 9 rfl rfl)
theorem dX0_know_10 : decode cX0_know 10 = .ok (.getfield 30, 3) := dk_180 0 30 (dk_at dksX0_know_0 10 rfl rfl)
theorem dX0_know_13 : decode cX0_know 13 = .ok (.iconst 0, 1) := dk_3 (dk_at dksX0_know_0 13 rfl rfl)
theorem dX0_know_14 : decode cX0_know 14 = .ok (.aaload, 1) := dk_50 (dk_at dksX0_know_0 14 rfl rfl)
theorem dX0_know_15 : decode cX0_know 15 = .ok (.astore_n 1, 1) := dk_76 (dk_at dksX0_know_0 15 rfl rfl)
theorem dX0_know_16 : decode cX0_know 16 = .ok (.aload_n 0, 1) := dk_42 (dk_at dksX0_know_0 16 rfl rfl)
theorem dX0_know_17 : decode cX0_know 17 = .ok (.getfield 30, 3) := dk_180 0 30 (dk_at dksX0_know_0 17 rfl rfl)
theorem dX0_know_20 : decode cX0_know 20 = .ok (.iconst 1, 1) := dk_4 (dk_at dksX0_know_0 20 rfl rfl)
theorem dX0_know_21 : decode cX0_know 21 = .ok (.aload_n 0, 1) := dk_42 (dk_at dksX0_know_0 21 rfl rfl)
theorem dX0_know_22 : decode cX0_know 22 = .ok (.getfield 30, 3) := dk_180 0 30 (dk_at dksX0_know_1 0 rfl rfl)
theorem dX0_know_25 : decode cX0_know 25 = .ok (.iconst 0, 1) := dk_3 (dk_at dksX0_know_1 3 rfl rfl)
theorem dX0_know_26 : decode cX0_know 26 = .ok (.bipush 9, 2) := dk_16 9 (dk_at dksX0_know_1 4 rfl rfl)
theorem dX0_know_28 : decode cX0_know 28 = .ok (.invokestatic 179, 3) := dk_184 0 179 (dk_at dksX0_know_1 6 rfl rfl)
theorem dX0_know_31 : decode cX0_know 31 = .ok (.aload_n 0, 1) := dk_42 (dk_at dksX0_know_1 9 rfl rfl)
theorem dX0_know_32 : decode cX0_know 32 = .ok (.getfield 30, 3) := dk_180 0 30 (dk_at dksX0_know_1 10 rfl rfl)
theorem dX0_know_35 : decode cX0_know 35 = .ok (.bipush 9, 2) := dk_16 9 (dk_at dksX0_know_1 13 rfl rfl)
theorem dX0_know_37 : decode cX0_know 37 = .ok (.aload_n 1, 1) := dk_43 (dk_at dksX0_know_1 15 rfl rfl)
theorem dX0_know_38 : decode cX0_know 38 = .ok (.aastore, 1) := dk_83 (dk_at dksX0_know_1 16 rfl rfl)
theorem dX0_know_39 : decode cX0_know 39 = .ok (.aload_n 0, 1) := dk_42 (dk_at dksX0_know_1 17 rfl rfl)
theorem dX0_know_40 : decode cX0_know 40 = .ok (.dup, 1) := dk_89 (dk_at dksX0_know_1 18 rfl rfl)
theorem dX0_know_41 : decode cX0_know 41 = .ok (.getfield 113, 3) := dk_180 0 113 (dk_at dksX0_know_1 19 rfl rfl)
theorem dX0_know_44 : decode cX0_know 44 = .ok (.iconst 1, 1) := dk_4 (dk_at dksX0_know_1 22 rfl rfl)
theorem dX0_know_45 : decode cX0_know 45 = .ok (.isub, 1) := dk_100 (dk_at dksX0_know_1 23 rfl rfl)
theorem dX0_know_46 : decode cX0_know 46 = .ok (.putfield 113, 3) := dk_181 0 113 (dk_at dksX0_know_2 0 rfl rfl)
theorem dX0_know_49 : decode cX0_know 49 = .ok (.aload_n 0, 1) := dk_42 (dk_at dksX0_know_2 3 rfl rfl)
theorem dX0_know_50 : decode cX0_know 50 = .ok (.getfield 30, 3) := dk_180 0 30 (dk_at dksX0_know_2 4 rfl rfl)
theorem dX0_know_53 : decode cX0_know 53 = .ok (.aload_n 0, 1) := dk_42 (dk_at dksX0_know_2 7 rfl rfl)
theorem dX0_know_54 : decode cX0_know 54 = .ok (.getfield 113, 3) := dk_180 0 113 (dk_at dksX0_know_2 8 rfl rfl)
theorem dX0_know_57 : decode cX0_know 57 = .ok (.aaload, 1) := dk_50 (dk_at dksX0_know_2 11 rfl rfl)
theorem dX0_know_58 : decode cX0_know 58 = .ok (.aload_n 0, 1) := dk_42 (dk_at dksX0_know_2 12 rfl rfl)
theorem dX0_know_59 : decode cX0_know 59 = .ok (.getfield 19, 3) := dk_180 0 19 (dk_at dksX0_know_2 13 rfl rfl)
theorem dX0_know_62 : decode cX0_know 62 = .ok (.invokevirtual 185, 3) := dk_182 0 185 (dk_at dksX0_know_2 16 rfl rfl)
theorem dX0_know_65 : decode cX0_know 65 = .ok (.aload_n 0, 1) := dk_42 (dk_at dksX0_know_2 19 rfl rfl)
theorem dX0_know_66 : decode cX0_know 66 = .ok (.dup, 1) := dk_89 (dk_at dksX0_know_2 20 rfl rfl)
theorem dX0_know_67 : decode cX0_know 67 = .ok (.getfield 113, 3) := dk_180 0 113 (dk_at dksX0_know_2 21 rfl rfl)
theorem dX0_know_70 : decode cX0_know 70 = .ok (.iconst 1, 1) := dk_4 (dk_at dksX0_know_3 0 rfl rfl)
theorem dX0_know_71 : decode cX0_know 71 = .ok (.iadd, 1) := dk_96 (dk_at dksX0_know_3 1 rfl rfl)
theorem dX0_know_72 : decode cX0_know 72 = .ok (.putfield 113, 3) := dk_181 0 113 (dk_at dksX0_know_3 2 rfl rfl)
theorem dX0_know_75 : decode cX0_know 75 = .ok (.return_, 1) := dk_177 (dk_at dksX0_know_3 5 rfl rfl)
abbrev cX0_day : ByteArray := prog_1_method_15_code
def yX0_day : MethodName := ⟨RX0, "day", "()I"⟩
def dkwX0_day_1 : List UInt8 := [42, 180, 0, 13, 182, 0, 199, 42, 180, 0, 19, 42, 180, 0, 13, 182, 0, 172, 172]
abbrev dktX0_day_1 : List UInt8 := dkwX0_day_1 ++ []
def dkwX0_day_0 : List UInt8 := [42, 180, 0, 19, 180, 0, 166, 17, 0, 200, 160, 0, 6, 16, 254, 172, 42, 182, 0, 192, 42, 180, 0, 19]
abbrev dktX0_day_0 : List UInt8 := dkwX0_day_0 ++ dktX0_day_1
theorem dksX0_day_0 : cX0_day.data.toList.drop 0 = dktX0_day_0 := by decide +kernel
theorem dksX0_day_1 : cX0_day.data.toList.drop 24 = dktX0_day_1 := dk_seg dksX0_day_0 24 rfl rfl
theorem dX0_day_0 : decode cX0_day 0 = .ok (.aload_n 0, 1) := dk_42 (dk_at dksX0_day_0 0 rfl rfl)
theorem dX0_day_1 : decode cX0_day 1 = .ok (.getfield 19, 3) := dk_180 0 19 (dk_at dksX0_day_0 1 rfl rfl)
theorem dX0_day_4 : decode cX0_day 4 = .ok (.getfield 166, 3) := dk_180 0 166 (dk_at dksX0_day_0 4 rfl rfl)
theorem dX0_day_7 : decode cX0_day 7 = .ok (.sipush 200, 3) := dk_17 0 200 (dk_at dksX0_day_0 7 rfl rfl)
theorem dX0_day_10 : decode cX0_day 10 = .ok (.if_icmp .ne 6, 3) := dk_160 0 6 (dk_at dksX0_day_0 10 rfl rfl)
theorem dX0_day_13 : decode cX0_day 13 = .ok (.bipush (-2), 2) := dk_16 254 (dk_at dksX0_day_0 13 rfl rfl)
theorem dX0_day_15 : decode cX0_day 15 = .ok (.ireturn, 1) := dk_172 (dk_at dksX0_day_0 15 rfl rfl)
theorem dX0_day_16 : decode cX0_day 16 = .ok (.aload_n 0, 1) := dk_42 (dk_at dksX0_day_0 16 rfl rfl)
theorem dX0_day_17 : decode cX0_day 17 = .ok (.invokevirtual 192, 3) := dk_182 0 192 (dk_at dksX0_day_0 17 rfl rfl)
theorem dX0_day_20 : decode cX0_day 20 = .ok (.aload_n 0, 1) := dk_42 (dk_at dksX0_day_0 20 rfl rfl)
theorem dX0_day_21 : decode cX0_day 21 = .ok (.getfield 19, 3) := dk_180 0 19 (dk_at dksX0_day_0 21 rfl rfl)
theorem dX0_day_24 : decode cX0_day 24 = .ok (.aload_n 0, 1) := dk_42 (dk_at dksX0_day_1 0 rfl rfl)
theorem dX0_day_25 : decode cX0_day 25 = .ok (.getfield 13, 3) := dk_180 0 13 (dk_at dksX0_day_1 1 rfl rfl)
theorem dX0_day_28 : decode cX0_day 28 = .ok (.invokevirtual 199, 3) := dk_182 0 199 (dk_at dksX0_day_1 4 rfl rfl)
theorem dX0_day_31 : decode cX0_day 31 = .ok (.aload_n 0, 1) := dk_42 (dk_at dksX0_day_1 7 rfl rfl)
theorem dX0_day_32 : decode cX0_day 32 = .ok (.getfield 19, 3) := dk_180 0 19 (dk_at dksX0_day_1 8 rfl rfl)
theorem dX0_day_35 : decode cX0_day 35 = .ok (.aload_n 0, 1) := dk_42 (dk_at dksX0_day_1 11 rfl rfl)
theorem dX0_day_36 : decode cX0_day 36 = .ok (.getfield 13, 3) := dk_180 0 13 (dk_at dksX0_day_1 12 rfl rfl)
theorem dX0_day_39 : decode cX0_day 39 = .ok (.invokevirtual 172, 3) := dk_182 0 172 (dk_at dksX0_day_1 15 rfl rfl)
theorem dX0_day_42 : decode cX0_day 42 = .ok (.ireturn, 1) := dk_172 (dk_at dksX0_day_1 18 rfl rfl)
abbrev cX0_sails : ByteArray := prog_1_method_16_code
def yX0_sails : MethodName := ⟨RX0, "sails", "(I)I"⟩
def dkwX0_sails_2 : List UInt8 := [182, 0, 192, 42, 180, 0, 19, 27, 182, 0, 207, 42, 180, 0, 19, 180, 0, 151, 184, 0, 211, 172]
abbrev dktX0_sails_2 : List UInt8 := dkwX0_sails_2 ++ []
def dkwX0_sails_1 : List UInt8 := [153, 0, 20, 42, 180, 0, 13, 42, 180, 0, 19, 180, 0, 166, 182, 0, 176, 154, 0, 6, 16, 254, 172, 42]
abbrev dktX0_sails_1 : List UInt8 := dkwX0_sails_1 ++ dktX0_sails_2
def dkwX0_sails_0 : List UInt8 := [42, 27, 182, 0, 137, 154, 0, 5, 2, 172, 42, 180, 0, 19, 42, 180, 0, 13, 27, 182, 0, 203]
abbrev dktX0_sails_0 : List UInt8 := dkwX0_sails_0 ++ dktX0_sails_1
theorem dksX0_sails_0 : cX0_sails.data.toList.drop 0 = dktX0_sails_0 := by decide +kernel
theorem dksX0_sails_1 : cX0_sails.data.toList.drop 22 = dktX0_sails_1 := dk_seg dksX0_sails_0 22 rfl rfl
theorem dksX0_sails_2 : cX0_sails.data.toList.drop 46 = dktX0_sails_2 := dk_seg dksX0_sails_1 24 rfl rfl
theorem dX0_sails_0 : decode cX0_sails 0 = .ok (.aload_n 0, 1) := dk_42 (dk_at dksX0_sails_0 0 rfl rfl)
theorem dX0_sails_1 : decode cX0_sails 1 = .ok (.iload_n 1, 1) := dk_27 (dk_at dksX0_sails_0 1 rfl rfl)
theorem dX0_sails_2 : decode cX0_sails 2 = .ok (.invokevirtual 137, 3) := dk_182 0 137 (dk_at dksX0_sails_0 2 rfl rfl)
theorem dX0_sails_5 : decode cX0_sails 5 = .ok (.ifCond .ne 5, 3) := dk_154 0 5 (dk_at dksX0_sails_0 5 rfl rfl)
theorem dX0_sails_8 : decode cX0_sails 8 = .ok (.iconst (-1), 1) := dk_2 (dk_at dksX0_sails_0 8 rfl rfl)
theorem dX0_sails_9 : decode cX0_sails 9 = .ok (.ireturn, 1) := dk_172 (dk_at dksX0_sails_0 9 rfl rfl)
theorem dX0_sails_10 : decode cX0_sails 10 = .ok (.aload_n 0, 1) := dk_42 (dk_at dksX0_sails_0 10 rfl rfl)
theorem dX0_sails_11 : decode cX0_sails 11 = .ok (.getfield 19, 3) := dk_180 0 19 (dk_at dksX0_sails_0 11 rfl rfl)
theorem dX0_sails_14 : decode cX0_sails 14 = .ok (.aload_n 0, 1) := dk_42 (dk_at dksX0_sails_0 14 rfl rfl)
theorem dX0_sails_15 : decode cX0_sails 15 = .ok (.getfield 13, 3) := dk_180 0 13 (dk_at dksX0_sails_0 15 rfl rfl)
theorem dX0_sails_18 : decode cX0_sails 18 = .ok (.iload_n 1, 1) := dk_27 (dk_at dksX0_sails_0 18 rfl rfl)
theorem dX0_sails_19 : decode cX0_sails 19 = .ok (.invokevirtual 203, 3) := dk_182 0 203 (dk_at dksX0_sails_0 19 rfl rfl)
theorem dX0_sails_22 : decode cX0_sails 22 = .ok (.ifCond .eq 20, 3) := dk_153 0 20 (dk_at dksX0_sails_1 0 rfl rfl)
theorem dX0_sails_25 : decode cX0_sails 25 = .ok (.aload_n 0, 1) := dk_42 (dk_at dksX0_sails_1 3 rfl rfl)
theorem dX0_sails_26 : decode cX0_sails 26 = .ok (.getfield 13, 3) := dk_180 0 13 (dk_at dksX0_sails_1 4 rfl rfl)
theorem dX0_sails_29 : decode cX0_sails 29 = .ok (.aload_n 0, 1) := dk_42 (dk_at dksX0_sails_1 7 rfl rfl)
theorem dX0_sails_30 : decode cX0_sails 30 = .ok (.getfield 19, 3) := dk_180 0 19 (dk_at dksX0_sails_1 8 rfl rfl)
theorem dX0_sails_33 : decode cX0_sails 33 = .ok (.getfield 166, 3) := dk_180 0 166 (dk_at dksX0_sails_1 11 rfl rfl)
theorem dX0_sails_36 : decode cX0_sails 36 = .ok (.invokevirtual 176, 3) := dk_182 0 176 (dk_at dksX0_sails_1 14 rfl rfl)
theorem dX0_sails_39 : decode cX0_sails 39 = .ok (.ifCond .ne 6, 3) := dk_154 0 6 (dk_at dksX0_sails_1 17 rfl rfl)
theorem dX0_sails_42 : decode cX0_sails 42 = .ok (.bipush (-2), 2) := dk_16 254 (dk_at dksX0_sails_1 20 rfl rfl)
theorem dX0_sails_44 : decode cX0_sails 44 = .ok (.ireturn, 1) := dk_172 (dk_at dksX0_sails_1 22 rfl rfl)
theorem dX0_sails_45 : decode cX0_sails 45 = .ok (.aload_n 0, 1) := dk_42 (dk_at dksX0_sails_1 23 rfl rfl)
theorem dX0_sails_46 : decode cX0_sails 46 = .ok (.invokevirtual 192, 3) := dk_182 0 192 (dk_at dksX0_sails_2 0 rfl rfl)
theorem dX0_sails_49 : decode cX0_sails 49 = .ok (.aload_n 0, 1) := dk_42 (dk_at dksX0_sails_2 3 rfl rfl)
theorem dX0_sails_50 : decode cX0_sails 50 = .ok (.getfield 19, 3) := dk_180 0 19 (dk_at dksX0_sails_2 4 rfl rfl)
theorem dX0_sails_53 : decode cX0_sails 53 = .ok (.iload_n 1, 1) := dk_27 (dk_at dksX0_sails_2 7 rfl rfl)
theorem dX0_sails_54 : decode cX0_sails 54 = .ok (.invokevirtual 207, 3) := dk_182 0 207 (dk_at dksX0_sails_2 8 rfl rfl)
theorem dX0_sails_57 : decode cX0_sails 57 = .ok (.aload_n 0, 1) := dk_42 (dk_at dksX0_sails_2 11 rfl rfl)
theorem dX0_sails_58 : decode cX0_sails 58 = .ok (.getfield 19, 3) := dk_180 0 19 (dk_at dksX0_sails_2 12 rfl rfl)
theorem dX0_sails_61 : decode cX0_sails 61 = .ok (.getfield 151, 3) := dk_180 0 151 (dk_at dksX0_sails_2 15 rfl rfl)
theorem dX0_sails_64 : decode cX0_sails 64 = .ok (.invokestatic 211, 3) := dk_184 0 211 (dk_at dksX0_sails_2 18 rfl rfl)
theorem dX0_sails_67 : decode cX0_sails 67 = .ok (.ireturn, 1) := dk_172 (dk_at dksX0_sails_2 21 rfl rfl)
abbrev cX0_undo : ByteArray := prog_1_method_17_code
def yX0_undo : MethodName := ⟨RX0, "undo", "()I"⟩
def dkwX0_undo_1 : List UInt8 := [42, 180, 0, 30, 42, 180, 0, 113, 50, 182, 0, 185, 42, 180, 0, 113, 172]
abbrev dktX0_undo_1 : List UInt8 := dkwX0_undo_1 ++ []
def dkwX0_undo_0 : List UInt8 := [42, 180, 0, 113, 154, 0, 6, 16, 254, 172, 42, 89, 180, 0, 113, 4, 100, 181, 0, 113, 42, 180, 0, 19]
abbrev dktX0_undo_0 : List UInt8 := dkwX0_undo_0 ++ dktX0_undo_1
theorem dksX0_undo_0 : cX0_undo.data.toList.drop 0 = dktX0_undo_0 := by decide +kernel
theorem dksX0_undo_1 : cX0_undo.data.toList.drop 24 = dktX0_undo_1 := dk_seg dksX0_undo_0 24 rfl rfl
theorem dX0_undo_0 : decode cX0_undo 0 = .ok (.aload_n 0, 1) := dk_42 (dk_at dksX0_undo_0 0 rfl rfl)
theorem dX0_undo_1 : decode cX0_undo 1 = .ok (.getfield 113, 3) := dk_180 0 113 (dk_at dksX0_undo_0 1 rfl rfl)
theorem dX0_undo_4 : decode cX0_undo 4 = .ok (.ifCond .ne 6, 3) := dk_154 0 6 (dk_at dksX0_undo_0 4 rfl rfl)
theorem dX0_undo_7 : decode cX0_undo 7 = .ok (.bipush (-2), 2) := dk_16 254 (dk_at dksX0_undo_0 7 rfl rfl)
theorem dX0_undo_9 : decode cX0_undo 9 = .ok (.ireturn, 1) := dk_172 (dk_at dksX0_undo_0 9 rfl rfl)
theorem dX0_undo_10 : decode cX0_undo 10 = .ok (.aload_n 0, 1) := dk_42 (dk_at dksX0_undo_0 10 rfl rfl)
theorem dX0_undo_11 : decode cX0_undo 11 = .ok (.dup, 1) := dk_89 (dk_at dksX0_undo_0 11 rfl rfl)
theorem dX0_undo_12 : decode cX0_undo 12 = .ok (.getfield 113, 3) := dk_180 0 113 (dk_at dksX0_undo_0 12 rfl rfl)
theorem dX0_undo_15 : decode cX0_undo 15 = .ok (.iconst 1, 1) := dk_4 (dk_at dksX0_undo_0 15 rfl rfl)
theorem dX0_undo_16 : decode cX0_undo 16 = .ok (.isub, 1) := dk_100 (dk_at dksX0_undo_0 16 rfl rfl)
theorem dX0_undo_17 : decode cX0_undo 17 = .ok (.putfield 113, 3) := dk_181 0 113 (dk_at dksX0_undo_0 17 rfl rfl)
theorem dX0_undo_20 : decode cX0_undo 20 = .ok (.aload_n 0, 1) := dk_42 (dk_at dksX0_undo_0 20 rfl rfl)
theorem dX0_undo_21 : decode cX0_undo 21 = .ok (.getfield 19, 3) := dk_180 0 19 (dk_at dksX0_undo_0 21 rfl rfl)
theorem dX0_undo_24 : decode cX0_undo 24 = .ok (.aload_n 0, 1) := dk_42 (dk_at dksX0_undo_1 0 rfl rfl)
theorem dX0_undo_25 : decode cX0_undo 25 = .ok (.getfield 30, 3) := dk_180 0 30 (dk_at dksX0_undo_1 1 rfl rfl)
theorem dX0_undo_28 : decode cX0_undo 28 = .ok (.aload_n 0, 1) := dk_42 (dk_at dksX0_undo_1 4 rfl rfl)
theorem dX0_undo_29 : decode cX0_undo 29 = .ok (.getfield 113, 3) := dk_180 0 113 (dk_at dksX0_undo_1 5 rfl rfl)
theorem dX0_undo_32 : decode cX0_undo 32 = .ok (.aaload, 1) := dk_50 (dk_at dksX0_undo_1 8 rfl rfl)
theorem dX0_undo_33 : decode cX0_undo 33 = .ok (.invokevirtual 185, 3) := dk_182 0 185 (dk_at dksX0_undo_1 9 rfl rfl)
theorem dX0_undo_36 : decode cX0_undo 36 = .ok (.aload_n 0, 1) := dk_42 (dk_at dksX0_undo_1 12 rfl rfl)
theorem dX0_undo_37 : decode cX0_undo 37 = .ok (.getfield 113, 3) := dk_180 0 113 (dk_at dksX0_undo_1 13 rfl rfl)
theorem dX0_undo_40 : decode cX0_undo 40 = .ok (.ireturn, 1) := dk_172 (dk_at dksX0_undo_1 16 rfl rfl)
abbrev cX0_most : ByteArray := prog_1_method_23_code
def yX0_most : MethodName := ⟨RX0, "most", "(II)I"⟩
def dkwX0_most_4 : List UInt8 := [29, 28, 184, 0, 217, 172]
abbrev dktX0_most_4 : List UInt8 := dkwX0_most_4 ++ []
def dkwX0_most_3 : List UInt8 := [54, 4, 42, 21, 5, 182, 0, 234, 54, 5, 167, 255, 205, 28, 16, 247, 160, 0, 8, 21, 4, 167, 0, 8]
abbrev dktX0_most_3 : List UInt8 := dkwX0_most_3 ++ dktX0_most_4
def dkwX0_most_2 : List UInt8 := [54, 6, 21, 6, 21, 4, 164, 0, 8, 21, 5, 167, 0, 4, 29, 62, 21, 4, 21, 6, 184, 0, 229]
abbrev dktX0_most_2 : List UInt8 := dkwX0_most_2 ++ dktX0_most_3
def dkwX0_most_1 : List UInt8 := [54, 4, 3, 54, 5, 21, 5, 16, 247, 159, 0, 50, 42, 21, 5, 182, 0, 223, 42, 27, 182, 0, 226]
abbrev dktX0_most_1 : List UInt8 := dkwX0_most_1 ++ dktX0_most_2
def dkwX0_most_0 : List UInt8 := [27, 3, 17, 0, 200, 184, 0, 90, 153, 0, 11, 42, 28, 182, 0, 220, 154, 0, 5, 2, 172, 3, 62, 2]
abbrev dktX0_most_0 : List UInt8 := dkwX0_most_0 ++ dktX0_most_1
theorem dksX0_most_0 : cX0_most.data.toList.drop 0 = dktX0_most_0 := by decide +kernel
theorem dksX0_most_1 : cX0_most.data.toList.drop 24 = dktX0_most_1 := dk_seg dksX0_most_0 24 rfl rfl
theorem dksX0_most_2 : cX0_most.data.toList.drop 47 = dktX0_most_2 := dk_seg dksX0_most_1 23 rfl rfl
theorem dksX0_most_3 : cX0_most.data.toList.drop 70 = dktX0_most_3 := dk_seg dksX0_most_2 23 rfl rfl
theorem dksX0_most_4 : cX0_most.data.toList.drop 94 = dktX0_most_4 := dk_seg dksX0_most_3 24 rfl rfl
theorem dX0_most_0 : decode cX0_most 0 = .ok (.iload_n 1, 1) := dk_27 (dk_at dksX0_most_0 0 rfl rfl)
theorem dX0_most_1 : decode cX0_most 1 = .ok (.iconst 0, 1) := dk_3 (dk_at dksX0_most_0 1 rfl rfl)
theorem dX0_most_2 : decode cX0_most 2 = .ok (.sipush 200, 3) := dk_17 0 200 (dk_at dksX0_most_0 2 rfl rfl)
theorem dX0_most_5 : decode cX0_most 5 = .ok (.invokestatic 90, 3) := dk_184 0 90 (dk_at dksX0_most_0 5 rfl rfl)
theorem dX0_most_8 : decode cX0_most 8 = .ok (.ifCond .eq 11, 3) := dk_153 0 11 (dk_at dksX0_most_0 8 rfl rfl)
theorem dX0_most_11 : decode cX0_most 11 = .ok (.aload_n 0, 1) := dk_42 (dk_at dksX0_most_0 11 rfl rfl)
theorem dX0_most_12 : decode cX0_most 12 = .ok (.iload_n 2, 1) := dk_28 (dk_at dksX0_most_0 12 rfl rfl)
theorem dX0_most_13 : decode cX0_most 13 = .ok (.invokevirtual 220, 3) := dk_182 0 220 (dk_at dksX0_most_0 13 rfl rfl)
theorem dX0_most_16 : decode cX0_most 16 = .ok (.ifCond .ne 5, 3) := dk_154 0 5 (dk_at dksX0_most_0 16 rfl rfl)
theorem dX0_most_19 : decode cX0_most 19 = .ok (.iconst (-1), 1) := dk_2 (dk_at dksX0_most_0 19 rfl rfl)
theorem dX0_most_20 : decode cX0_most 20 = .ok (.ireturn, 1) := dk_172 (dk_at dksX0_most_0 20 rfl rfl)
theorem dX0_most_21 : decode cX0_most 21 = .ok (.iconst 0, 1) := dk_3 (dk_at dksX0_most_0 21 rfl rfl)
theorem dX0_most_22 : decode cX0_most 22 = .ok (.istore_n 3, 1) := dk_62 (dk_at dksX0_most_0 22 rfl rfl)
theorem dX0_most_23 : decode cX0_most 23 = .ok (.iconst (-1), 1) := dk_2 (dk_at dksX0_most_0 23 rfl rfl)
theorem dX0_most_24 : decode cX0_most 24 = .ok (.istore 4, 2) := dk_54 4 (dk_at dksX0_most_1 0 rfl rfl)
theorem dX0_most_26 : decode cX0_most 26 = .ok (.iconst 0, 1) := dk_3 (dk_at dksX0_most_1 2 rfl rfl)
theorem dX0_most_27 : decode cX0_most 27 = .ok (.istore 5, 2) := dk_54 5 (dk_at dksX0_most_1 3 rfl rfl)
theorem dX0_most_29 : decode cX0_most 29 = .ok (.iload 5, 2) := dk_21 5 (dk_at dksX0_most_1 5 rfl rfl)
theorem dX0_most_31 : decode cX0_most 31 = .ok (.bipush (-9), 2) := dk_16 247 (dk_at dksX0_most_1 7 rfl rfl)
theorem dX0_most_33 : decode cX0_most 33 = .ok (.if_icmp .eq 50, 3) := dk_159 0 50 (dk_at dksX0_most_1 9 rfl rfl)
theorem dX0_most_36 : decode cX0_most 36 = .ok (.aload_n 0, 1) := dk_42 (dk_at dksX0_most_1 12 rfl rfl)
theorem dX0_most_37 : decode cX0_most 37 = .ok (.iload 5, 2) := dk_21 5 (dk_at dksX0_most_1 13 rfl rfl)
theorem dX0_most_39 : decode cX0_most 39 = .ok (.invokevirtual 223, 3) := dk_182 0 223 (dk_at dksX0_most_1 15 rfl rfl)
theorem dX0_most_42 : decode cX0_most 42 = .ok (.aload_n 0, 1) := dk_42 (dk_at dksX0_most_1 18 rfl rfl)
theorem dX0_most_43 : decode cX0_most 43 = .ok (.iload_n 1, 1) := dk_27 (dk_at dksX0_most_1 19 rfl rfl)
theorem dX0_most_44 : decode cX0_most 44 = .ok (.invokevirtual 226, 3) := dk_182 0 226 (dk_at dksX0_most_1 20 rfl rfl)
theorem dX0_most_47 : decode cX0_most 47 = .ok (.istore 6, 2) := dk_54 6 (dk_at dksX0_most_2 0 rfl rfl)
theorem dX0_most_49 : decode cX0_most 49 = .ok (.iload 6, 2) := dk_21 6 (dk_at dksX0_most_2 2 rfl rfl)
theorem dX0_most_51 : decode cX0_most 51 = .ok (.iload 4, 2) := dk_21 4 (dk_at dksX0_most_2 4 rfl rfl)
theorem dX0_most_53 : decode cX0_most 53 = .ok (.if_icmp .le 8, 3) := dk_164 0 8 (dk_at dksX0_most_2 6 rfl rfl)
theorem dX0_most_56 : decode cX0_most 56 = .ok (.iload 5, 2) := dk_21 5 (dk_at dksX0_most_2 9 rfl rfl)
theorem dX0_most_58 : decode cX0_most 58 = .ok (.goto 4, 3) := dk_167 0 4 (dk_at dksX0_most_2 11 rfl rfl)
theorem dX0_most_61 : decode cX0_most 61 = .ok (.iload_n 3, 1) := dk_29 (dk_at dksX0_most_2 14 rfl rfl)
theorem dX0_most_62 : decode cX0_most 62 = .ok (.istore_n 3, 1) := dk_62 (dk_at dksX0_most_2 15 rfl rfl)
theorem dX0_most_63 : decode cX0_most 63 = .ok (.iload 4, 2) := dk_21 4 (dk_at dksX0_most_2 16 rfl rfl)
theorem dX0_most_65 : decode cX0_most 65 = .ok (.iload 6, 2) := dk_21 6 (dk_at dksX0_most_2 18 rfl rfl)
theorem dX0_most_67 : decode cX0_most 67 = .ok (.invokestatic 229, 3) := dk_184 0 229 (dk_at dksX0_most_2 20 rfl rfl)
theorem dX0_most_70 : decode cX0_most 70 = .ok (.istore 4, 2) := dk_54 4 (dk_at dksX0_most_3 0 rfl rfl)
theorem dX0_most_72 : decode cX0_most 72 = .ok (.aload_n 0, 1) := dk_42 (dk_at dksX0_most_3 2 rfl rfl)
theorem dX0_most_73 : decode cX0_most 73 = .ok (.iload 5, 2) := dk_21 5 (dk_at dksX0_most_3 3 rfl rfl)
theorem dX0_most_75 : decode cX0_most 75 = .ok (.invokevirtual 234, 3) := dk_182 0 234 (dk_at dksX0_most_3 5 rfl rfl)
theorem dX0_most_78 : decode cX0_most 78 = .ok (.istore 5, 2) := dk_54 5 (dk_at dksX0_most_3 8 rfl rfl)
theorem dX0_most_80 : decode cX0_most 80 = .ok (.goto (-51), 3) := dk_167 255 205 (dk_at dksX0_most_3 10 rfl rfl)
theorem dX0_most_83 : decode cX0_most 83 = .ok (.iload_n 2, 1) := dk_28 (dk_at dksX0_most_3 13 rfl rfl)
theorem dX0_most_84 : decode cX0_most 84 = .ok (.bipush (-9), 2) := dk_16 247 (dk_at dksX0_most_3 14 rfl rfl)
theorem dX0_most_86 : decode cX0_most 86 = .ok (.if_icmp .ne 8, 3) := dk_160 0 8 (dk_at dksX0_most_3 16 rfl rfl)
theorem dX0_most_89 : decode cX0_most 89 = .ok (.iload 4, 2) := dk_21 4 (dk_at dksX0_most_3 19 rfl rfl)
theorem dX0_most_91 : decode cX0_most 91 = .ok (.goto 8, 3) := dk_167 0 8 (dk_at dksX0_most_3 21 rfl rfl)
theorem dX0_most_94 : decode cX0_most 94 = .ok (.iload_n 3, 1) := dk_29 (dk_at dksX0_most_4 0 rfl rfl)
theorem dX0_most_95 : decode cX0_most 95 = .ok (.iload_n 2, 1) := dk_28 (dk_at dksX0_most_4 1 rfl rfl)
theorem dX0_most_96 : decode cX0_most 96 = .ok (.invokestatic 217, 3) := dk_184 0 217 (dk_at dksX0_most_4 2 rfl rfl)
theorem dX0_most_99 : decode cX0_most 99 = .ok (.ireturn, 1) := dk_172 (dk_at dksX0_most_4 5 rfl rfl)
abbrev cX0_isTravellerOrNone : ByteArray := prog_1_method_22_code
def yX0_isTravellerOrNone : MethodName := ⟨RX0, "isTravellerOrNone", "(I)Z"⟩
def dkwX0_isTravellerOrNone_0 : List UInt8 := [27, 16, 247, 159, 0, 11, 42, 27, 182, 0, 137, 153, 0, 7, 4, 167, 0, 4, 3, 172]
abbrev dktX0_isTravellerOrNone_0 : List UInt8 := dkwX0_isTravellerOrNone_0 ++ []
theorem dksX0_isTravellerOrNone_0 : cX0_isTravellerOrNone.data.toList.drop 0 = dktX0_isTravellerOrNone_0 := by decide +kernel
theorem dX0_isTravellerOrNone_0 : decode cX0_isTravellerOrNone 0 = .ok (.iload_n 1, 1) := dk_27 (dk_at dksX0_isTravellerOrNone_0 0 rfl rfl)
theorem dX0_isTravellerOrNone_1 : decode cX0_isTravellerOrNone 1 = .ok (.bipush (-9), 2) := dk_16 247 (dk_at dksX0_isTravellerOrNone_0 1 rfl rfl)
theorem dX0_isTravellerOrNone_3 : decode cX0_isTravellerOrNone 3 = .ok (.if_icmp .eq 11, 3) := dk_159 0 11 (dk_at dksX0_isTravellerOrNone_0 3 rfl rfl)
theorem dX0_isTravellerOrNone_6 : decode cX0_isTravellerOrNone 6 = .ok (.aload_n 0, 1) := dk_42 (dk_at dksX0_isTravellerOrNone_0 6 rfl rfl)
theorem dX0_isTravellerOrNone_7 : decode cX0_isTravellerOrNone 7 = .ok (.iload_n 1, 1) := dk_27 (dk_at dksX0_isTravellerOrNone_0 7 rfl rfl)
theorem dX0_isTravellerOrNone_8 : decode cX0_isTravellerOrNone 8 = .ok (.invokevirtual 137, 3) := dk_182 0 137 (dk_at dksX0_isTravellerOrNone_0 8 rfl rfl)
theorem dX0_isTravellerOrNone_11 : decode cX0_isTravellerOrNone 11 = .ok (.ifCond .eq 7, 3) := dk_153 0 7 (dk_at dksX0_isTravellerOrNone_0 11 rfl rfl)
theorem dX0_isTravellerOrNone_14 : decode cX0_isTravellerOrNone 14 = .ok (.iconst 1, 1) := dk_4 (dk_at dksX0_isTravellerOrNone_0 14 rfl rfl)
theorem dX0_isTravellerOrNone_15 : decode cX0_isTravellerOrNone 15 = .ok (.goto 4, 3) := dk_167 0 4 (dk_at dksX0_isTravellerOrNone_0 15 rfl rfl)
theorem dX0_isTravellerOrNone_18 : decode cX0_isTravellerOrNone 18 = .ok (.iconst 0, 1) := dk_3 (dk_at dksX0_isTravellerOrNone_0 18 rfl rfl)
theorem dX0_isTravellerOrNone_19 : decode cX0_isTravellerOrNone 19 = .ok (.ireturn, 1) := dk_172 (dk_at dksX0_isTravellerOrNone_0 19 rfl rfl)
abbrev cX0_go : ByteArray := prog_1_method_19_code
def yX0_go : MethodName := ⟨RX0, "go", "(I)V"⟩
def dkwX0_go_8 : List UInt8 := [42, 180, 0, 23, 42, 180, 0, 13, 182, 0, 199, 167, 255, 86, 177]
abbrev dktX0_go_8 : List UInt8 := dkwX0_go_8 ++ []
def dkwX0_go_7 : List UInt8 := [167, 255, 205, 42, 180, 0, 23, 180, 0, 151, 28, 159, 0, 7, 4, 167, 0, 4, 3, 62, 29, 153, 255, 100]
abbrev dktX0_go_7 : List UInt8 := dkwX0_go_7 ++ dktX0_go_8
def dkwX0_go_6 : List UInt8 := [160, 0, 19, 42, 180, 0, 23, 21, 4, 27, 21, 4, 184, 0, 217, 182, 0, 195, 87, 132, 4, 1]
abbrev dktX0_go_6 : List UInt8 := dkwX0_go_6 ++ dktX0_go_7
def dkwX0_go_5 : List UInt8 := [180, 0, 128, 162, 0, 45, 42, 180, 0, 13, 180, 0, 141, 21, 4, 46, 42, 180, 0, 23, 180, 0, 166]
abbrev dktX0_go_5 : List UInt8 := dkwX0_go_5 ++ dktX0_go_6
def dkwX0_go_4 : List UInt8 := [42, 180, 0, 23, 180, 0, 166, 79, 132, 4, 1, 167, 255, 185, 3, 54, 4, 21, 4, 42, 180, 0, 13]
abbrev dktX0_go_4 : List UInt8 := dkwX0_go_4 ++ dktX0_go_5
def dkwX0_go_3 : List UInt8 := [180, 0, 166, 182, 0, 176, 153, 0, 26, 42, 180, 0, 23, 21, 4, 182, 0, 207, 42, 180, 0, 45, 21, 4]
abbrev dktX0_go_3 : List UInt8 := dkwX0_go_3 ++ dktX0_go_4
def dkwX0_go_2 : List UInt8 := [42, 180, 0, 23, 42, 180, 0, 13, 21, 4, 182, 0, 203, 153, 0, 43, 42, 180, 0, 13, 42, 180, 0, 23]
abbrev dktX0_go_2 : List UInt8 := dkwX0_go_2 ++ dktX0_go_3
def dkwX0_go_1 : List UInt8 := [167, 0, 4, 3, 62, 29, 153, 0, 172, 3, 54, 4, 21, 4, 42, 180, 0, 13, 180, 0, 128, 162, 0, 65]
abbrev dktX0_go_1 : List UInt8 := dkwX0_go_1 ++ dktX0_go_2
def dkwX0_go_0 : List UInt8 := [42, 180, 0, 23, 182, 0, 110, 4, 42, 180, 0, 13, 180, 0, 128, 120, 4, 100, 61, 28, 153, 0, 7, 4]
abbrev dktX0_go_0 : List UInt8 := dkwX0_go_0 ++ dktX0_go_1
theorem dksX0_go_0 : cX0_go.data.toList.drop 0 = dktX0_go_0 := by decide +kernel
theorem dksX0_go_1 : cX0_go.data.toList.drop 24 = dktX0_go_1 := dk_seg dksX0_go_0 24 rfl rfl
theorem dksX0_go_2 : cX0_go.data.toList.drop 48 = dktX0_go_2 := dk_seg dksX0_go_1 24 rfl rfl
theorem dksX0_go_3 : cX0_go.data.toList.drop 72 = dktX0_go_3 := dk_seg dksX0_go_2 24 rfl rfl
theorem dksX0_go_4 : cX0_go.data.toList.drop 96 = dktX0_go_4 := dk_seg dksX0_go_3 24 rfl rfl
theorem dksX0_go_5 : cX0_go.data.toList.drop 119 = dktX0_go_5 := dk_seg dksX0_go_4 23 rfl rfl
theorem dksX0_go_6 : cX0_go.data.toList.drop 142 = dktX0_go_6 := dk_seg dksX0_go_5 23 rfl rfl
theorem dksX0_go_7 : cX0_go.data.toList.drop 164 = dktX0_go_7 := dk_seg dksX0_go_6 22 rfl rfl
theorem dksX0_go_8 : cX0_go.data.toList.drop 188 = dktX0_go_8 := dk_seg dksX0_go_7 24 rfl rfl
theorem dX0_go_0 : decode cX0_go 0 = .ok (.aload_n 0, 1) := dk_42 (dk_at dksX0_go_0 0 rfl rfl)
theorem dX0_go_1 : decode cX0_go 1 = .ok (.getfield 23, 3) := dk_180 0 23 (dk_at dksX0_go_0 1 rfl rfl)
theorem dX0_go_4 : decode cX0_go 4 = .ok (.invokevirtual 110, 3) := dk_182 0 110 (dk_at dksX0_go_0 4 rfl rfl)
theorem dX0_go_7 : decode cX0_go 7 = .ok (.iconst 1, 1) := dk_4 (dk_at dksX0_go_0 7 rfl rfl)
theorem dX0_go_8 : decode cX0_go 8 = .ok (.aload_n 0, 1) := dk_42 (dk_at dksX0_go_0 8 rfl rfl)
theorem dX0_go_9 : decode cX0_go 9 = .ok (.getfield 13, 3) := dk_180 0 13 (dk_at dksX0_go_0 9 rfl rfl)
theorem dX0_go_12 : decode cX0_go 12 = .ok (.getfield 128, 3) := dk_180 0 128 (dk_at dksX0_go_0 12 rfl rfl)
theorem dX0_go_15 : decode cX0_go 15 = .ok (.ishl, 1) := dk_120 (dk_at dksX0_go_0 15 rfl rfl)
theorem dX0_go_16 : decode cX0_go 16 = .ok (.iconst 1, 1) := dk_4 (dk_at dksX0_go_0 16 rfl rfl)
theorem dX0_go_17 : decode cX0_go 17 = .ok (.isub, 1) := dk_100 (dk_at dksX0_go_0 17 rfl rfl)
theorem dX0_go_18 : decode cX0_go 18 = .ok (.istore_n 2, 1) := dk_61 (dk_at dksX0_go_0 18 rfl rfl)
theorem dX0_go_19 : decode cX0_go 19 = .ok (.iload_n 2, 1) := dk_28 (dk_at dksX0_go_0 19 rfl rfl)
theorem dX0_go_20 : decode cX0_go 20 = .ok (.ifCond .eq 7, 3) := dk_153 0 7 (dk_at dksX0_go_0 20 rfl rfl)
theorem dX0_go_23 : decode cX0_go 23 = .ok (.iconst 1, 1) := dk_4 (dk_at dksX0_go_0 23 rfl rfl)
theorem dX0_go_24 : decode cX0_go 24 = .ok (.goto 4, 3) := dk_167 0 4 (dk_at dksX0_go_1 0 rfl rfl)
theorem dX0_go_27 : decode cX0_go 27 = .ok (.iconst 0, 1) := dk_3 (dk_at dksX0_go_1 3 rfl rfl)
theorem dX0_go_28 : decode cX0_go 28 = .ok (.istore_n 3, 1) := dk_62 (dk_at dksX0_go_1 4 rfl rfl)
theorem dX0_go_29 : decode cX0_go 29 = .ok (.iload_n 3, 1) := dk_29 (dk_at dksX0_go_1 5 rfl rfl)
theorem dX0_go_30 : decode cX0_go 30 = .ok (.ifCond .eq 172, 3) := dk_153 0 172 (dk_at dksX0_go_1 6 rfl rfl)
theorem dX0_go_33 : decode cX0_go 33 = .ok (.iconst 0, 1) := dk_3 (dk_at dksX0_go_1 9 rfl rfl)
theorem dX0_go_34 : decode cX0_go 34 = .ok (.istore 4, 2) := dk_54 4 (dk_at dksX0_go_1 10 rfl rfl)
theorem dX0_go_36 : decode cX0_go 36 = .ok (.iload 4, 2) := dk_21 4 (dk_at dksX0_go_1 12 rfl rfl)
theorem dX0_go_38 : decode cX0_go 38 = .ok (.aload_n 0, 1) := dk_42 (dk_at dksX0_go_1 14 rfl rfl)
theorem dX0_go_39 : decode cX0_go 39 = .ok (.getfield 13, 3) := dk_180 0 13 (dk_at dksX0_go_1 15 rfl rfl)
theorem dX0_go_42 : decode cX0_go 42 = .ok (.getfield 128, 3) := dk_180 0 128 (dk_at dksX0_go_1 18 rfl rfl)
theorem dX0_go_45 : decode cX0_go 45 = .ok (.if_icmp .ge 65, 3) := dk_162 0 65 (dk_at dksX0_go_1 21 rfl rfl)
theorem dX0_go_48 : decode cX0_go 48 = .ok (.aload_n 0, 1) := dk_42 (dk_at dksX0_go_2 0 rfl rfl)
theorem dX0_go_49 : decode cX0_go 49 = .ok (.getfield 23, 3) := dk_180 0 23 (dk_at dksX0_go_2 1 rfl rfl)
theorem dX0_go_52 : decode cX0_go 52 = .ok (.aload_n 0, 1) := dk_42 (dk_at dksX0_go_2 4 rfl rfl)
theorem dX0_go_53 : decode cX0_go 53 = .ok (.getfield 13, 3) := dk_180 0 13 (dk_at dksX0_go_2 5 rfl rfl)
theorem dX0_go_56 : decode cX0_go 56 = .ok (.iload 4, 2) := dk_21 4 (dk_at dksX0_go_2 8 rfl rfl)
theorem dX0_go_58 : decode cX0_go 58 = .ok (.invokevirtual 203, 3) := dk_182 0 203 (dk_at dksX0_go_2 10 rfl rfl)
theorem dX0_go_61 : decode cX0_go 61 = .ok (.ifCond .eq 43, 3) := dk_153 0 43 (dk_at dksX0_go_2 13 rfl rfl)
theorem dX0_go_64 : decode cX0_go 64 = .ok (.aload_n 0, 1) := dk_42 (dk_at dksX0_go_2 16 rfl rfl)
theorem dX0_go_65 : decode cX0_go 65 = .ok (.getfield 13, 3) := dk_180 0 13 (dk_at dksX0_go_2 17 rfl rfl)
theorem dX0_go_68 : decode cX0_go 68 = .ok (.aload_n 0, 1) := dk_42 (dk_at dksX0_go_2 20 rfl rfl)
theorem dX0_go_69 : decode cX0_go 69 = .ok (.getfield 23, 3) := dk_180 0 23 (dk_at dksX0_go_2 21 rfl rfl)
theorem dX0_go_72 : decode cX0_go 72 = .ok (.getfield 166, 3) := dk_180 0 166 (dk_at dksX0_go_3 0 rfl rfl)
theorem dX0_go_75 : decode cX0_go 75 = .ok (.invokevirtual 176, 3) := dk_182 0 176 (dk_at dksX0_go_3 3 rfl rfl)
theorem dX0_go_78 : decode cX0_go 78 = .ok (.ifCond .eq 26, 3) := dk_153 0 26 (dk_at dksX0_go_3 6 rfl rfl)
theorem dX0_go_81 : decode cX0_go 81 = .ok (.aload_n 0, 1) := dk_42 (dk_at dksX0_go_3 9 rfl rfl)
theorem dX0_go_82 : decode cX0_go 82 = .ok (.getfield 23, 3) := dk_180 0 23 (dk_at dksX0_go_3 10 rfl rfl)
theorem dX0_go_85 : decode cX0_go 85 = .ok (.iload 4, 2) := dk_21 4 (dk_at dksX0_go_3 13 rfl rfl)
theorem dX0_go_87 : decode cX0_go 87 = .ok (.invokevirtual 207, 3) := dk_182 0 207 (dk_at dksX0_go_3 15 rfl rfl)
theorem dX0_go_90 : decode cX0_go 90 = .ok (.aload_n 0, 1) := dk_42 (dk_at dksX0_go_3 18 rfl rfl)
theorem dX0_go_91 : decode cX0_go 91 = .ok (.getfield 45, 3) := dk_180 0 45 (dk_at dksX0_go_3 19 rfl rfl)
theorem dX0_go_94 : decode cX0_go 94 = .ok (.iload 4, 2) := dk_21 4 (dk_at dksX0_go_3 22 rfl rfl)
theorem dX0_go_96 : decode cX0_go 96 = .ok (.aload_n 0, 1) := dk_42 (dk_at dksX0_go_4 0 rfl rfl)
theorem dX0_go_97 : decode cX0_go 97 = .ok (.getfield 23, 3) := dk_180 0 23 (dk_at dksX0_go_4 1 rfl rfl)
theorem dX0_go_100 : decode cX0_go 100 = .ok (.getfield 166, 3) := dk_180 0 166 (dk_at dksX0_go_4 4 rfl rfl)
theorem dX0_go_103 : decode cX0_go 103 = .ok (.iastore, 1) := dk_79 (dk_at dksX0_go_4 7 rfl rfl)
theorem dX0_go_104 : decode cX0_go 104 = .ok (.iinc 4 1, 3) := dk_132 4 1 (dk_at dksX0_go_4 8 rfl rfl)
theorem dX0_go_107 : decode cX0_go 107 = .ok (.goto (-71), 3) := dk_167 255 185 (dk_at dksX0_go_4 11 rfl rfl)
theorem dX0_go_110 : decode cX0_go 110 = .ok (.iconst 0, 1) := dk_3 (dk_at dksX0_go_4 14 rfl rfl)
theorem dX0_go_111 : decode cX0_go 111 = .ok (.istore 4, 2) := dk_54 4 (dk_at dksX0_go_4 15 rfl rfl)
theorem dX0_go_113 : decode cX0_go 113 = .ok (.iload 4, 2) := dk_21 4 (dk_at dksX0_go_4 17 rfl rfl)
theorem dX0_go_115 : decode cX0_go 115 = .ok (.aload_n 0, 1) := dk_42 (dk_at dksX0_go_4 19 rfl rfl)
theorem dX0_go_116 : decode cX0_go 116 = .ok (.getfield 13, 3) := dk_180 0 13 (dk_at dksX0_go_4 20 rfl rfl)
theorem dX0_go_119 : decode cX0_go 119 = .ok (.getfield 128, 3) := dk_180 0 128 (dk_at dksX0_go_5 0 rfl rfl)
theorem dX0_go_122 : decode cX0_go 122 = .ok (.if_icmp .ge 45, 3) := dk_162 0 45 (dk_at dksX0_go_5 3 rfl rfl)
theorem dX0_go_125 : decode cX0_go 125 = .ok (.aload_n 0, 1) := dk_42 (dk_at dksX0_go_5 6 rfl rfl)
theorem dX0_go_126 : decode cX0_go 126 = .ok (.getfield 13, 3) := dk_180 0 13 (dk_at dksX0_go_5 7 rfl rfl)
theorem dX0_go_129 : decode cX0_go 129 = .ok (.getfield 141, 3) := dk_180 0 141 (dk_at dksX0_go_5 10 rfl rfl)
theorem dX0_go_132 : decode cX0_go 132 = .ok (.iload 4, 2) := dk_21 4 (dk_at dksX0_go_5 13 rfl rfl)
theorem dX0_go_134 : decode cX0_go 134 = .ok (.iaload, 1) := dk_46 (dk_at dksX0_go_5 15 rfl rfl)
theorem dX0_go_135 : decode cX0_go 135 = .ok (.aload_n 0, 1) := dk_42 (dk_at dksX0_go_5 16 rfl rfl)
theorem dX0_go_136 : decode cX0_go 136 = .ok (.getfield 23, 3) := dk_180 0 23 (dk_at dksX0_go_5 17 rfl rfl)
theorem dX0_go_139 : decode cX0_go 139 = .ok (.getfield 166, 3) := dk_180 0 166 (dk_at dksX0_go_5 20 rfl rfl)
theorem dX0_go_142 : decode cX0_go 142 = .ok (.if_icmp .ne 19, 3) := dk_160 0 19 (dk_at dksX0_go_6 0 rfl rfl)
theorem dX0_go_145 : decode cX0_go 145 = .ok (.aload_n 0, 1) := dk_42 (dk_at dksX0_go_6 3 rfl rfl)
theorem dX0_go_146 : decode cX0_go 146 = .ok (.getfield 23, 3) := dk_180 0 23 (dk_at dksX0_go_6 4 rfl rfl)
theorem dX0_go_149 : decode cX0_go 149 = .ok (.iload 4, 2) := dk_21 4 (dk_at dksX0_go_6 7 rfl rfl)
theorem dX0_go_151 : decode cX0_go 151 = .ok (.iload_n 1, 1) := dk_27 (dk_at dksX0_go_6 9 rfl rfl)
theorem dX0_go_152 : decode cX0_go 152 = .ok (.iload 4, 2) := dk_21 4 (dk_at dksX0_go_6 10 rfl rfl)
theorem dX0_go_154 : decode cX0_go 154 = .ok (.invokestatic 217, 3) := dk_184 0 217 (dk_at dksX0_go_6 12 rfl rfl)
theorem dX0_go_157 : decode cX0_go 157 = .ok (.invokevirtual 195, 3) := dk_182 0 195 (dk_at dksX0_go_6 15 rfl rfl)
theorem dX0_go_160 : decode cX0_go 160 = .ok (.pop, 1) := dk_87 (dk_at dksX0_go_6 18 rfl rfl)
theorem dX0_go_161 : decode cX0_go 161 = .ok (.iinc 4 1, 3) := dk_132 4 1 (dk_at dksX0_go_6 19 rfl rfl)
theorem dX0_go_164 : decode cX0_go 164 = .ok (.goto (-51), 3) := dk_167 255 205 (dk_at dksX0_go_7 0 rfl rfl)
theorem dX0_go_167 : decode cX0_go 167 = .ok (.aload_n 0, 1) := dk_42 (dk_at dksX0_go_7 3 rfl rfl)
theorem dX0_go_168 : decode cX0_go 168 = .ok (.getfield 23, 3) := dk_180 0 23 (dk_at dksX0_go_7 4 rfl rfl)
theorem dX0_go_171 : decode cX0_go 171 = .ok (.getfield 151, 3) := dk_180 0 151 (dk_at dksX0_go_7 7 rfl rfl)
theorem dX0_go_174 : decode cX0_go 174 = .ok (.iload_n 2, 1) := dk_28 (dk_at dksX0_go_7 10 rfl rfl)
theorem dX0_go_175 : decode cX0_go 175 = .ok (.if_icmp .eq 7, 3) := dk_159 0 7 (dk_at dksX0_go_7 11 rfl rfl)
theorem dX0_go_178 : decode cX0_go 178 = .ok (.iconst 1, 1) := dk_4 (dk_at dksX0_go_7 14 rfl rfl)
theorem dX0_go_179 : decode cX0_go 179 = .ok (.goto 4, 3) := dk_167 0 4 (dk_at dksX0_go_7 15 rfl rfl)
theorem dX0_go_182 : decode cX0_go 182 = .ok (.iconst 0, 1) := dk_3 (dk_at dksX0_go_7 18 rfl rfl)
theorem dX0_go_183 : decode cX0_go 183 = .ok (.istore_n 3, 1) := dk_62 (dk_at dksX0_go_7 19 rfl rfl)
theorem dX0_go_184 : decode cX0_go 184 = .ok (.iload_n 3, 1) := dk_29 (dk_at dksX0_go_7 20 rfl rfl)
theorem dX0_go_185 : decode cX0_go 185 = .ok (.ifCond .eq (-156), 3) := dk_153 255 100 (dk_at dksX0_go_7 21 rfl rfl)
theorem dX0_go_188 : decode cX0_go 188 = .ok (.aload_n 0, 1) := dk_42 (dk_at dksX0_go_8 0 rfl rfl)
theorem dX0_go_189 : decode cX0_go 189 = .ok (.getfield 23, 3) := dk_180 0 23 (dk_at dksX0_go_8 1 rfl rfl)
theorem dX0_go_192 : decode cX0_go 192 = .ok (.aload_n 0, 1) := dk_42 (dk_at dksX0_go_8 4 rfl rfl)
theorem dX0_go_193 : decode cX0_go 193 = .ok (.getfield 13, 3) := dk_180 0 13 (dk_at dksX0_go_8 5 rfl rfl)
theorem dX0_go_196 : decode cX0_go 196 = .ok (.invokevirtual 199, 3) := dk_182 0 199 (dk_at dksX0_go_8 8 rfl rfl)
theorem dX0_go_199 : decode cX0_go 199 = .ok (.goto (-170), 3) := dk_167 255 86 (dk_at dksX0_go_8 11 rfl rfl)
theorem dX0_go_202 : decode cX0_go 202 = .ok (.return_, 1) := dk_177 (dk_at dksX0_go_8 14 rfl rfl)
abbrev cX0_rowIn : ByteArray := prog_1_method_18_code
def yX0_rowIn : MethodName := ⟨RX0, "rowIn", "(II)I"⟩
def dkwX0_rowIn_1 : List UInt8 := [172]
abbrev dktX0_rowIn_1 : List UInt8 := dkwX0_rowIn_1 ++ []
def dkwX0_rowIn_0 : List UInt8 := [26, 61, 3, 62, 29, 27, 162, 0, 14, 28, 16, 10, 108, 61, 132, 3, 1, 167, 255, 243, 28, 16, 10, 112]
abbrev dktX0_rowIn_0 : List UInt8 := dkwX0_rowIn_0 ++ dktX0_rowIn_1
theorem dksX0_rowIn_0 : cX0_rowIn.data.toList.drop 0 = dktX0_rowIn_0 := by decide +kernel
theorem dksX0_rowIn_1 : cX0_rowIn.data.toList.drop 24 = dktX0_rowIn_1 := dk_seg dksX0_rowIn_0 24 rfl rfl
theorem dX0_rowIn_0 : decode cX0_rowIn 0 = .ok (.iload_n 0, 1) := dk_26 (dk_at dksX0_rowIn_0 0 rfl rfl)
theorem dX0_rowIn_1 : decode cX0_rowIn 1 = .ok (.istore_n 2, 1) := dk_61 (dk_at dksX0_rowIn_0 1 rfl rfl)
theorem dX0_rowIn_2 : decode cX0_rowIn 2 = .ok (.iconst 0, 1) := dk_3 (dk_at dksX0_rowIn_0 2 rfl rfl)
theorem dX0_rowIn_3 : decode cX0_rowIn 3 = .ok (.istore_n 3, 1) := dk_62 (dk_at dksX0_rowIn_0 3 rfl rfl)
theorem dX0_rowIn_4 : decode cX0_rowIn 4 = .ok (.iload_n 3, 1) := dk_29 (dk_at dksX0_rowIn_0 4 rfl rfl)
theorem dX0_rowIn_5 : decode cX0_rowIn 5 = .ok (.iload_n 1, 1) := dk_27 (dk_at dksX0_rowIn_0 5 rfl rfl)
theorem dX0_rowIn_6 : decode cX0_rowIn 6 = .ok (.if_icmp .ge 14, 3) := dk_162 0 14 (dk_at dksX0_rowIn_0 6 rfl rfl)
theorem dX0_rowIn_9 : decode cX0_rowIn 9 = .ok (.iload_n 2, 1) := dk_28 (dk_at dksX0_rowIn_0 9 rfl rfl)
theorem dX0_rowIn_10 : decode cX0_rowIn 10 = .ok (.bipush 10, 2) := dk_16 10 (dk_at dksX0_rowIn_0 10 rfl rfl)
theorem dX0_rowIn_12 : decode cX0_rowIn 12 = .ok (.idiv, 1) := dk_108 (dk_at dksX0_rowIn_0 12 rfl rfl)
theorem dX0_rowIn_13 : decode cX0_rowIn 13 = .ok (.istore_n 2, 1) := dk_61 (dk_at dksX0_rowIn_0 13 rfl rfl)
theorem dX0_rowIn_14 : decode cX0_rowIn 14 = .ok (.iinc 3 1, 3) := dk_132 3 1 (dk_at dksX0_rowIn_0 14 rfl rfl)
theorem dX0_rowIn_17 : decode cX0_rowIn 17 = .ok (.goto (-13), 3) := dk_167 255 243 (dk_at dksX0_rowIn_0 17 rfl rfl)
theorem dX0_rowIn_20 : decode cX0_rowIn 20 = .ok (.iload_n 2, 1) := dk_28 (dk_at dksX0_rowIn_0 20 rfl rfl)
theorem dX0_rowIn_21 : decode cX0_rowIn 21 = .ok (.bipush 10, 2) := dk_16 10 (dk_at dksX0_rowIn_0 21 rfl rfl)
theorem dX0_rowIn_23 : decode cX0_rowIn 23 = .ok (.irem, 1) := dk_112 (dk_at dksX0_rowIn_0 23 rfl rfl)
theorem dX0_rowIn_24 : decode cX0_rowIn 24 = .ok (.ireturn, 1) := dk_172 (dk_at dksX0_rowIn_1 0 rfl rfl)
abbrev cX0_sailedBy : ByteArray := prog_1_method_21_code
def yX0_sailedBy : MethodName := ⟨RX0, "sailedBy", "(I)I"⟩
def dkwX0_sailedBy_1 : List UInt8 := [163, 0, 7, 4, 167, 0, 4, 3, 96, 61, 132, 3, 1, 167, 255, 224, 28, 172]
abbrev dktX0_sailedBy_1 : List UInt8 := dkwX0_sailedBy_1 ++ []
def dkwX0_sailedBy_0 : List UInt8 := [3, 61, 3, 62, 29, 42, 180, 0, 13, 180, 0, 128, 162, 0, 27, 28, 42, 180, 0, 45, 29, 46, 27]
abbrev dktX0_sailedBy_0 : List UInt8 := dkwX0_sailedBy_0 ++ dktX0_sailedBy_1
theorem dksX0_sailedBy_0 : cX0_sailedBy.data.toList.drop 0 = dktX0_sailedBy_0 := by decide +kernel
theorem dksX0_sailedBy_1 : cX0_sailedBy.data.toList.drop 23 = dktX0_sailedBy_1 := dk_seg dksX0_sailedBy_0 23 rfl rfl
theorem dX0_sailedBy_0 : decode cX0_sailedBy 0 = .ok (.iconst 0, 1) := dk_3 (dk_at dksX0_sailedBy_0 0 rfl rfl)
theorem dX0_sailedBy_1 : decode cX0_sailedBy 1 = .ok (.istore_n 2, 1) := dk_61 (dk_at dksX0_sailedBy_0 1 rfl rfl)
theorem dX0_sailedBy_2 : decode cX0_sailedBy 2 = .ok (.iconst 0, 1) := dk_3 (dk_at dksX0_sailedBy_0 2 rfl rfl)
theorem dX0_sailedBy_3 : decode cX0_sailedBy 3 = .ok (.istore_n 3, 1) := dk_62 (dk_at dksX0_sailedBy_0 3 rfl rfl)
theorem dX0_sailedBy_4 : decode cX0_sailedBy 4 = .ok (.iload_n 3, 1) := dk_29 (dk_at dksX0_sailedBy_0 4 rfl rfl)
theorem dX0_sailedBy_5 : decode cX0_sailedBy 5 = .ok (.aload_n 0, 1) := dk_42 (dk_at dksX0_sailedBy_0 5 rfl rfl)
theorem dX0_sailedBy_6 : decode cX0_sailedBy 6 = .ok (.getfield 13, 3) := dk_180 0 13 (dk_at dksX0_sailedBy_0 6 rfl rfl)
theorem dX0_sailedBy_9 : decode cX0_sailedBy 9 = .ok (.getfield 128, 3) := dk_180 0 128 (dk_at dksX0_sailedBy_0 9 rfl rfl)
theorem dX0_sailedBy_12 : decode cX0_sailedBy 12 = .ok (.if_icmp .ge 27, 3) := dk_162 0 27 (dk_at dksX0_sailedBy_0 12 rfl rfl)
theorem dX0_sailedBy_15 : decode cX0_sailedBy 15 = .ok (.iload_n 2, 1) := dk_28 (dk_at dksX0_sailedBy_0 15 rfl rfl)
theorem dX0_sailedBy_16 : decode cX0_sailedBy 16 = .ok (.aload_n 0, 1) := dk_42 (dk_at dksX0_sailedBy_0 16 rfl rfl)
theorem dX0_sailedBy_17 : decode cX0_sailedBy 17 = .ok (.getfield 45, 3) := dk_180 0 45 (dk_at dksX0_sailedBy_0 17 rfl rfl)
theorem dX0_sailedBy_20 : decode cX0_sailedBy 20 = .ok (.iload_n 3, 1) := dk_29 (dk_at dksX0_sailedBy_0 20 rfl rfl)
theorem dX0_sailedBy_21 : decode cX0_sailedBy 21 = .ok (.iaload, 1) := dk_46 (dk_at dksX0_sailedBy_0 21 rfl rfl)
theorem dX0_sailedBy_22 : decode cX0_sailedBy 22 = .ok (.iload_n 1, 1) := dk_27 (dk_at dksX0_sailedBy_0 22 rfl rfl)
theorem dX0_sailedBy_23 : decode cX0_sailedBy 23 = .ok (.if_icmp .gt 7, 3) := dk_163 0 7 (dk_at dksX0_sailedBy_1 0 rfl rfl)
theorem dX0_sailedBy_26 : decode cX0_sailedBy 26 = .ok (.iconst 1, 1) := dk_4 (dk_at dksX0_sailedBy_1 3 rfl rfl)
theorem dX0_sailedBy_27 : decode cX0_sailedBy 27 = .ok (.goto 4, 3) := dk_167 0 4 (dk_at dksX0_sailedBy_1 4 rfl rfl)
theorem dX0_sailedBy_30 : decode cX0_sailedBy 30 = .ok (.iconst 0, 1) := dk_3 (dk_at dksX0_sailedBy_1 7 rfl rfl)
theorem dX0_sailedBy_31 : decode cX0_sailedBy 31 = .ok (.iadd, 1) := dk_96 (dk_at dksX0_sailedBy_1 8 rfl rfl)
theorem dX0_sailedBy_32 : decode cX0_sailedBy 32 = .ok (.istore_n 2, 1) := dk_61 (dk_at dksX0_sailedBy_1 9 rfl rfl)
theorem dX0_sailedBy_33 : decode cX0_sailedBy 33 = .ok (.iinc 3 1, 3) := dk_132 3 1 (dk_at dksX0_sailedBy_1 10 rfl rfl)
theorem dX0_sailedBy_36 : decode cX0_sailedBy 36 = .ok (.goto (-32), 3) := dk_167 255 224 (dk_at dksX0_sailedBy_1 13 rfl rfl)
theorem dX0_sailedBy_39 : decode cX0_sailedBy 39 = .ok (.iload_n 2, 1) := dk_28 (dk_at dksX0_sailedBy_1 16 rfl rfl)
theorem dX0_sailedBy_40 : decode cX0_sailedBy 40 = .ok (.ireturn, 1) := dk_172 (dk_at dksX0_sailedBy_1 17 rfl rfl)
abbrev cX0_nextOf : ByteArray := prog_1_method_20_code
def yX0_nextOf : MethodName := ⟨RX0, "nextOf", "(I)I"⟩
def dkwX0_nextOf_3 : List UInt8 := [16, 10, 108, 61, 167, 255, 212, 16, 247, 172]
abbrev dktX0_nextOf_3 : List UInt8 := dkwX0_nextOf_3 ++ []
def dkwX0_nextOf_2 : List UInt8 := [180, 0, 13, 180, 0, 131, 4, 46, 162, 0, 7, 29, 28, 96, 172, 29, 21, 4, 28, 104, 100, 62, 28]
abbrev dktX0_nextOf_2 : List UInt8 := dkwX0_nextOf_2 ++ dktX0_nextOf_3
def dkwX0_nextOf_1 : List UInt8 := [167, 255, 237, 27, 62, 28, 158, 0, 46, 29, 28, 108, 16, 10, 112, 54, 4, 21, 4, 4, 96, 42]
abbrev dktX0_nextOf_1 : List UInt8 := dkwX0_nextOf_1 ++ dktX0_nextOf_2
def dkwX0_nextOf_0 : List UInt8 := [4, 61, 4, 62, 29, 42, 180, 0, 13, 180, 0, 128, 162, 0, 14, 28, 16, 10, 104, 61, 132, 3, 1]
abbrev dktX0_nextOf_0 : List UInt8 := dkwX0_nextOf_0 ++ dktX0_nextOf_1
theorem dksX0_nextOf_0 : cX0_nextOf.data.toList.drop 0 = dktX0_nextOf_0 := by decide +kernel
theorem dksX0_nextOf_1 : cX0_nextOf.data.toList.drop 23 = dktX0_nextOf_1 := dk_seg dksX0_nextOf_0 23 rfl rfl
theorem dksX0_nextOf_2 : cX0_nextOf.data.toList.drop 45 = dktX0_nextOf_2 := dk_seg dksX0_nextOf_1 22 rfl rfl
theorem dksX0_nextOf_3 : cX0_nextOf.data.toList.drop 68 = dktX0_nextOf_3 := dk_seg dksX0_nextOf_2 23 rfl rfl
theorem dX0_nextOf_0 : decode cX0_nextOf 0 = .ok (.iconst 1, 1) := dk_4 (dk_at dksX0_nextOf_0 0 rfl rfl)
theorem dX0_nextOf_1 : decode cX0_nextOf 1 = .ok (.istore_n 2, 1) := dk_61 (dk_at dksX0_nextOf_0 1 rfl rfl)
theorem dX0_nextOf_2 : decode cX0_nextOf 2 = .ok (.iconst 1, 1) := dk_4 (dk_at dksX0_nextOf_0 2 rfl rfl)
theorem dX0_nextOf_3 : decode cX0_nextOf 3 = .ok (.istore_n 3, 1) := dk_62 (dk_at dksX0_nextOf_0 3 rfl rfl)
theorem dX0_nextOf_4 : decode cX0_nextOf 4 = .ok (.iload_n 3, 1) := dk_29 (dk_at dksX0_nextOf_0 4 rfl rfl)
theorem dX0_nextOf_5 : decode cX0_nextOf 5 = .ok (.aload_n 0, 1) := dk_42 (dk_at dksX0_nextOf_0 5 rfl rfl)
theorem dX0_nextOf_6 : decode cX0_nextOf 6 = .ok (.getfield 13, 3) := dk_180 0 13 (dk_at dksX0_nextOf_0 6 rfl rfl)
theorem dX0_nextOf_9 : decode cX0_nextOf 9 = .ok (.getfield 128, 3) := dk_180 0 128 (dk_at dksX0_nextOf_0 9 rfl rfl)
theorem dX0_nextOf_12 : decode cX0_nextOf 12 = .ok (.if_icmp .ge 14, 3) := dk_162 0 14 (dk_at dksX0_nextOf_0 12 rfl rfl)
theorem dX0_nextOf_15 : decode cX0_nextOf 15 = .ok (.iload_n 2, 1) := dk_28 (dk_at dksX0_nextOf_0 15 rfl rfl)
theorem dX0_nextOf_16 : decode cX0_nextOf 16 = .ok (.bipush 10, 2) := dk_16 10 (dk_at dksX0_nextOf_0 16 rfl rfl)
theorem dX0_nextOf_18 : decode cX0_nextOf 18 = .ok (.imul, 1) := dk_104 (dk_at dksX0_nextOf_0 18 rfl rfl)
theorem dX0_nextOf_19 : decode cX0_nextOf 19 = .ok (.istore_n 2, 1) := dk_61 (dk_at dksX0_nextOf_0 19 rfl rfl)
theorem dX0_nextOf_20 : decode cX0_nextOf 20 = .ok (.iinc 3 1, 3) := dk_132 3 1 (dk_at dksX0_nextOf_0 20 rfl rfl)
theorem dX0_nextOf_23 : decode cX0_nextOf 23 = .ok (.goto (-19), 3) := dk_167 255 237 (dk_at dksX0_nextOf_1 0 rfl rfl)
theorem dX0_nextOf_26 : decode cX0_nextOf 26 = .ok (.iload_n 1, 1) := dk_27 (dk_at dksX0_nextOf_1 3 rfl rfl)
theorem dX0_nextOf_27 : decode cX0_nextOf 27 = .ok (.istore_n 3, 1) := dk_62 (dk_at dksX0_nextOf_1 4 rfl rfl)
theorem dX0_nextOf_28 : decode cX0_nextOf 28 = .ok (.iload_n 2, 1) := dk_28 (dk_at dksX0_nextOf_1 5 rfl rfl)
theorem dX0_nextOf_29 : decode cX0_nextOf 29 = .ok (.ifCond .le 46, 3) := dk_158 0 46 (dk_at dksX0_nextOf_1 6 rfl rfl)
theorem dX0_nextOf_32 : decode cX0_nextOf 32 = .ok (.iload_n 3, 1) := dk_29 (dk_at dksX0_nextOf_1 9 rfl rfl)
theorem dX0_nextOf_33 : decode cX0_nextOf 33 = .ok (.iload_n 2, 1) := dk_28 (dk_at dksX0_nextOf_1 10 rfl rfl)
theorem dX0_nextOf_34 : decode cX0_nextOf 34 = .ok (.idiv, 1) := dk_108 (dk_at dksX0_nextOf_1 11 rfl rfl)
theorem dX0_nextOf_35 : decode cX0_nextOf 35 = .ok (.bipush 10, 2) := dk_16 10 (dk_at dksX0_nextOf_1 12 rfl rfl)
theorem dX0_nextOf_37 : decode cX0_nextOf 37 = .ok (.irem, 1) := dk_112 (dk_at dksX0_nextOf_1 14 rfl rfl)
theorem dX0_nextOf_38 : decode cX0_nextOf 38 = .ok (.istore 4, 2) := dk_54 4 (dk_at dksX0_nextOf_1 15 rfl rfl)
theorem dX0_nextOf_40 : decode cX0_nextOf 40 = .ok (.iload 4, 2) := dk_21 4 (dk_at dksX0_nextOf_1 17 rfl rfl)
theorem dX0_nextOf_42 : decode cX0_nextOf 42 = .ok (.iconst 1, 1) := dk_4 (dk_at dksX0_nextOf_1 19 rfl rfl)
theorem dX0_nextOf_43 : decode cX0_nextOf 43 = .ok (.iadd, 1) := dk_96 (dk_at dksX0_nextOf_1 20 rfl rfl)
theorem dX0_nextOf_44 : decode cX0_nextOf 44 = .ok (.aload_n 0, 1) := dk_42 (dk_at dksX0_nextOf_1 21 rfl rfl)
theorem dX0_nextOf_45 : decode cX0_nextOf 45 = .ok (.getfield 13, 3) := dk_180 0 13 (dk_at dksX0_nextOf_2 0 rfl rfl)
theorem dX0_nextOf_48 : decode cX0_nextOf 48 = .ok (.getfield 131, 3) := dk_180 0 131 (dk_at dksX0_nextOf_2 3 rfl rfl)
theorem dX0_nextOf_51 : decode cX0_nextOf 51 = .ok (.iconst 1, 1) := dk_4 (dk_at dksX0_nextOf_2 6 rfl rfl)
theorem dX0_nextOf_52 : decode cX0_nextOf 52 = .ok (.iaload, 1) := dk_46 (dk_at dksX0_nextOf_2 7 rfl rfl)
theorem dX0_nextOf_53 : decode cX0_nextOf 53 = .ok (.if_icmp .ge 7, 3) := dk_162 0 7 (dk_at dksX0_nextOf_2 8 rfl rfl)
theorem dX0_nextOf_56 : decode cX0_nextOf 56 = .ok (.iload_n 3, 1) := dk_29 (dk_at dksX0_nextOf_2 11 rfl rfl)
theorem dX0_nextOf_57 : decode cX0_nextOf 57 = .ok (.iload_n 2, 1) := dk_28 (dk_at dksX0_nextOf_2 12 rfl rfl)
theorem dX0_nextOf_58 : decode cX0_nextOf 58 = .ok (.iadd, 1) := dk_96 (dk_at dksX0_nextOf_2 13 rfl rfl)
theorem dX0_nextOf_59 : decode cX0_nextOf 59 = .ok (.ireturn, 1) := dk_172 (dk_at dksX0_nextOf_2 14 rfl rfl)
theorem dX0_nextOf_60 : decode cX0_nextOf 60 = .ok (.iload_n 3, 1) := dk_29 (dk_at dksX0_nextOf_2 15 rfl rfl)
theorem dX0_nextOf_61 : decode cX0_nextOf 61 = .ok (.iload 4, 2) := dk_21 4 (dk_at dksX0_nextOf_2 16 rfl rfl)
theorem dX0_nextOf_63 : decode cX0_nextOf 63 = .ok (.iload_n 2, 1) := dk_28 (dk_at dksX0_nextOf_2 18 rfl rfl)
theorem dX0_nextOf_64 : decode cX0_nextOf 64 = .ok (.imul, 1) := dk_104 (dk_at dksX0_nextOf_2 19 rfl rfl)
theorem dX0_nextOf_65 : decode cX0_nextOf 65 = .ok (.isub, 1) := dk_100 (dk_at dksX0_nextOf_2 20 rfl rfl)
theorem dX0_nextOf_66 : decode cX0_nextOf 66 = .ok (.istore_n 3, 1) := dk_62 (dk_at dksX0_nextOf_2 21 rfl rfl)
theorem dX0_nextOf_67 : decode cX0_nextOf 67 = .ok (.iload_n 2, 1) := dk_28 (dk_at dksX0_nextOf_2 22 rfl rfl)
theorem dX0_nextOf_68 : decode cX0_nextOf 68 = .ok (.bipush 10, 2) := dk_16 10 (dk_at dksX0_nextOf_3 0 rfl rfl)
theorem dX0_nextOf_70 : decode cX0_nextOf 70 = .ok (.idiv, 1) := dk_108 (dk_at dksX0_nextOf_3 2 rfl rfl)
theorem dX0_nextOf_71 : decode cX0_nextOf 71 = .ok (.istore_n 2, 1) := dk_61 (dk_at dksX0_nextOf_3 3 rfl rfl)
theorem dX0_nextOf_72 : decode cX0_nextOf 72 = .ok (.goto (-44), 3) := dk_167 255 212 (dk_at dksX0_nextOf_3 4 rfl rfl)
theorem dX0_nextOf_75 : decode cX0_nextOf 75 = .ok (.bipush (-9), 2) := dk_16 247 (dk_at dksX0_nextOf_3 7 rfl rfl)
theorem dX0_nextOf_77 : decode cX0_nextOf 77 = .ok (.ireturn, 1) := dk_172 (dk_at dksX0_nextOf_3 9 rfl rfl)
abbrev cX0_soonest : ByteArray := prog_1_method_24_code
def yX0_soonest : MethodName := ⟨RX0, "soonest", "(I)I"⟩
def dkwX0_soonest_6 : List UInt8 := [184, 0, 217, 172]
abbrev dktX0_soonest_6 : List UInt8 := dkwX0_soonest_6 ++ []
def dkwX0_soonest_5 : List UInt8 := [21, 5, 182, 0, 234, 54, 5, 167, 255, 153, 27, 16, 247, 160, 0, 7, 29, 167, 0, 8, 28, 27]
abbrev dktX0_soonest_5 : List UInt8 := dkwX0_soonest_5 ++ dktX0_soonest_6
def dkwX0_soonest_4 : List UInt8 := [21, 6, 29, 160, 0, 20, 21, 7, 21, 4, 162, 0, 13, 21, 5, 61, 21, 6, 62, 21, 7, 54, 4, 42]
abbrev dktX0_soonest_4 : List UInt8 := dkwX0_soonest_4 ++ dktX0_soonest_5
def dkwX0_soonest_3 : List UInt8 := [21, 7, 42, 180, 0, 45, 21, 8, 46, 96, 54, 7, 132, 8, 1, 167, 255, 215, 21, 6, 29, 161, 0, 16]
abbrev dktX0_soonest_3 : List UInt8 := dkwX0_soonest_3 ++ dktX0_soonest_4
def dkwX0_soonest_2 : List UInt8 := [180, 0, 13, 180, 0, 128, 162, 0, 35, 21, 6, 42, 180, 0, 45, 21, 8, 46, 184, 0, 229, 54, 6]
abbrev dktX0_soonest_2 : List UInt8 := dkwX0_soonest_2 ++ dktX0_soonest_3
def dkwX0_soonest_1 : List UInt8 := [16, 247, 159, 0, 102, 42, 21, 5, 182, 0, 223, 3, 54, 6, 3, 54, 7, 3, 54, 8, 21, 8, 42]
abbrev dktX0_soonest_1 : List UInt8 := dkwX0_soonest_1 ++ dktX0_soonest_2
def dkwX0_soonest_0 : List UInt8 := [42, 27, 182, 0, 220, 154, 0, 5, 2, 172, 3, 61, 18, 237, 62, 3, 54, 4, 3, 54, 5, 21, 5]
abbrev dktX0_soonest_0 : List UInt8 := dkwX0_soonest_0 ++ dktX0_soonest_1
theorem dksX0_soonest_0 : cX0_soonest.data.toList.drop 0 = dktX0_soonest_0 := by decide +kernel
theorem dksX0_soonest_1 : cX0_soonest.data.toList.drop 23 = dktX0_soonest_1 := dk_seg dksX0_soonest_0 23 rfl rfl
theorem dksX0_soonest_2 : cX0_soonest.data.toList.drop 46 = dktX0_soonest_2 := dk_seg dksX0_soonest_1 23 rfl rfl
theorem dksX0_soonest_3 : cX0_soonest.data.toList.drop 69 = dktX0_soonest_3 := dk_seg dksX0_soonest_2 23 rfl rfl
theorem dksX0_soonest_4 : cX0_soonest.data.toList.drop 93 = dktX0_soonest_4 := dk_seg dksX0_soonest_3 24 rfl rfl
theorem dksX0_soonest_5 : cX0_soonest.data.toList.drop 117 = dktX0_soonest_5 := dk_seg dksX0_soonest_4 24 rfl rfl
theorem dksX0_soonest_6 : cX0_soonest.data.toList.drop 139 = dktX0_soonest_6 := dk_seg dksX0_soonest_5 22 rfl rfl
theorem dX0_soonest_0 : decode cX0_soonest 0 = .ok (.aload_n 0, 1) := dk_42 (dk_at dksX0_soonest_0 0 rfl rfl)
theorem dX0_soonest_1 : decode cX0_soonest 1 = .ok (.iload_n 1, 1) := dk_27 (dk_at dksX0_soonest_0 1 rfl rfl)
theorem dX0_soonest_2 : decode cX0_soonest 2 = .ok (.invokevirtual 220, 3) := dk_182 0 220 (dk_at dksX0_soonest_0 2 rfl rfl)
theorem dX0_soonest_5 : decode cX0_soonest 5 = .ok (.ifCond .ne 5, 3) := dk_154 0 5 (dk_at dksX0_soonest_0 5 rfl rfl)
theorem dX0_soonest_8 : decode cX0_soonest 8 = .ok (.iconst (-1), 1) := dk_2 (dk_at dksX0_soonest_0 8 rfl rfl)
theorem dX0_soonest_9 : decode cX0_soonest 9 = .ok (.ireturn, 1) := dk_172 (dk_at dksX0_soonest_0 9 rfl rfl)
theorem dX0_soonest_10 : decode cX0_soonest 10 = .ok (.iconst 0, 1) := dk_3 (dk_at dksX0_soonest_0 10 rfl rfl)
theorem dX0_soonest_11 : decode cX0_soonest 11 = .ok (.istore_n 2, 1) := dk_61 (dk_at dksX0_soonest_0 11 rfl rfl)
theorem dX0_soonest_12 : decode cX0_soonest 12 = .ok (.ldc 237, 2) := dk_18 237 (dk_at dksX0_soonest_0 12 rfl rfl)
theorem dX0_soonest_14 : decode cX0_soonest 14 = .ok (.istore_n 3, 1) := dk_62 (dk_at dksX0_soonest_0 14 rfl rfl)
theorem dX0_soonest_15 : decode cX0_soonest 15 = .ok (.iconst 0, 1) := dk_3 (dk_at dksX0_soonest_0 15 rfl rfl)
theorem dX0_soonest_16 : decode cX0_soonest 16 = .ok (.istore 4, 2) := dk_54 4 (dk_at dksX0_soonest_0 16 rfl rfl)
theorem dX0_soonest_18 : decode cX0_soonest 18 = .ok (.iconst 0, 1) := dk_3 (dk_at dksX0_soonest_0 18 rfl rfl)
theorem dX0_soonest_19 : decode cX0_soonest 19 = .ok (.istore 5, 2) := dk_54 5 (dk_at dksX0_soonest_0 19 rfl rfl)
theorem dX0_soonest_21 : decode cX0_soonest 21 = .ok (.iload 5, 2) := dk_21 5 (dk_at dksX0_soonest_0 21 rfl rfl)
theorem dX0_soonest_23 : decode cX0_soonest 23 = .ok (.bipush (-9), 2) := dk_16 247 (dk_at dksX0_soonest_1 0 rfl rfl)
theorem dX0_soonest_25 : decode cX0_soonest 25 = .ok (.if_icmp .eq 102, 3) := dk_159 0 102 (dk_at dksX0_soonest_1 2 rfl rfl)
theorem dX0_soonest_28 : decode cX0_soonest 28 = .ok (.aload_n 0, 1) := dk_42 (dk_at dksX0_soonest_1 5 rfl rfl)
theorem dX0_soonest_29 : decode cX0_soonest 29 = .ok (.iload 5, 2) := dk_21 5 (dk_at dksX0_soonest_1 6 rfl rfl)
theorem dX0_soonest_31 : decode cX0_soonest 31 = .ok (.invokevirtual 223, 3) := dk_182 0 223 (dk_at dksX0_soonest_1 8 rfl rfl)
theorem dX0_soonest_34 : decode cX0_soonest 34 = .ok (.iconst 0, 1) := dk_3 (dk_at dksX0_soonest_1 11 rfl rfl)
theorem dX0_soonest_35 : decode cX0_soonest 35 = .ok (.istore 6, 2) := dk_54 6 (dk_at dksX0_soonest_1 12 rfl rfl)
theorem dX0_soonest_37 : decode cX0_soonest 37 = .ok (.iconst 0, 1) := dk_3 (dk_at dksX0_soonest_1 14 rfl rfl)
theorem dX0_soonest_38 : decode cX0_soonest 38 = .ok (.istore 7, 2) := dk_54 7 (dk_at dksX0_soonest_1 15 rfl rfl)
theorem dX0_soonest_40 : decode cX0_soonest 40 = .ok (.iconst 0, 1) := dk_3 (dk_at dksX0_soonest_1 17 rfl rfl)
theorem dX0_soonest_41 : decode cX0_soonest 41 = .ok (.istore 8, 2) := dk_54 8 (dk_at dksX0_soonest_1 18 rfl rfl)
theorem dX0_soonest_43 : decode cX0_soonest 43 = .ok (.iload 8, 2) := dk_21 8 (dk_at dksX0_soonest_1 20 rfl rfl)
theorem dX0_soonest_45 : decode cX0_soonest 45 = .ok (.aload_n 0, 1) := dk_42 (dk_at dksX0_soonest_1 22 rfl rfl)
theorem dX0_soonest_46 : decode cX0_soonest 46 = .ok (.getfield 13, 3) := dk_180 0 13 (dk_at dksX0_soonest_2 0 rfl rfl)
theorem dX0_soonest_49 : decode cX0_soonest 49 = .ok (.getfield 128, 3) := dk_180 0 128 (dk_at dksX0_soonest_2 3 rfl rfl)
theorem dX0_soonest_52 : decode cX0_soonest 52 = .ok (.if_icmp .ge 35, 3) := dk_162 0 35 (dk_at dksX0_soonest_2 6 rfl rfl)
theorem dX0_soonest_55 : decode cX0_soonest 55 = .ok (.iload 6, 2) := dk_21 6 (dk_at dksX0_soonest_2 9 rfl rfl)
theorem dX0_soonest_57 : decode cX0_soonest 57 = .ok (.aload_n 0, 1) := dk_42 (dk_at dksX0_soonest_2 11 rfl rfl)
theorem dX0_soonest_58 : decode cX0_soonest 58 = .ok (.getfield 45, 3) := dk_180 0 45 (dk_at dksX0_soonest_2 12 rfl rfl)
theorem dX0_soonest_61 : decode cX0_soonest 61 = .ok (.iload 8, 2) := dk_21 8 (dk_at dksX0_soonest_2 15 rfl rfl)
theorem dX0_soonest_63 : decode cX0_soonest 63 = .ok (.iaload, 1) := dk_46 (dk_at dksX0_soonest_2 17 rfl rfl)
theorem dX0_soonest_64 : decode cX0_soonest 64 = .ok (.invokestatic 229, 3) := dk_184 0 229 (dk_at dksX0_soonest_2 18 rfl rfl)
theorem dX0_soonest_67 : decode cX0_soonest 67 = .ok (.istore 6, 2) := dk_54 6 (dk_at dksX0_soonest_2 21 rfl rfl)
theorem dX0_soonest_69 : decode cX0_soonest 69 = .ok (.iload 7, 2) := dk_21 7 (dk_at dksX0_soonest_3 0 rfl rfl)
theorem dX0_soonest_71 : decode cX0_soonest 71 = .ok (.aload_n 0, 1) := dk_42 (dk_at dksX0_soonest_3 2 rfl rfl)
theorem dX0_soonest_72 : decode cX0_soonest 72 = .ok (.getfield 45, 3) := dk_180 0 45 (dk_at dksX0_soonest_3 3 rfl rfl)
theorem dX0_soonest_75 : decode cX0_soonest 75 = .ok (.iload 8, 2) := dk_21 8 (dk_at dksX0_soonest_3 6 rfl rfl)
theorem dX0_soonest_77 : decode cX0_soonest 77 = .ok (.iaload, 1) := dk_46 (dk_at dksX0_soonest_3 8 rfl rfl)
theorem dX0_soonest_78 : decode cX0_soonest 78 = .ok (.iadd, 1) := dk_96 (dk_at dksX0_soonest_3 9 rfl rfl)
theorem dX0_soonest_79 : decode cX0_soonest 79 = .ok (.istore 7, 2) := dk_54 7 (dk_at dksX0_soonest_3 10 rfl rfl)
theorem dX0_soonest_81 : decode cX0_soonest 81 = .ok (.iinc 8 1, 3) := dk_132 8 1 (dk_at dksX0_soonest_3 12 rfl rfl)
theorem dX0_soonest_84 : decode cX0_soonest 84 = .ok (.goto (-41), 3) := dk_167 255 215 (dk_at dksX0_soonest_3 15 rfl rfl)
theorem dX0_soonest_87 : decode cX0_soonest 87 = .ok (.iload 6, 2) := dk_21 6 (dk_at dksX0_soonest_3 18 rfl rfl)
theorem dX0_soonest_89 : decode cX0_soonest 89 = .ok (.iload_n 3, 1) := dk_29 (dk_at dksX0_soonest_3 20 rfl rfl)
theorem dX0_soonest_90 : decode cX0_soonest 90 = .ok (.if_icmp .lt 16, 3) := dk_161 0 16 (dk_at dksX0_soonest_3 21 rfl rfl)
theorem dX0_soonest_93 : decode cX0_soonest 93 = .ok (.iload 6, 2) := dk_21 6 (dk_at dksX0_soonest_4 0 rfl rfl)
theorem dX0_soonest_95 : decode cX0_soonest 95 = .ok (.iload_n 3, 1) := dk_29 (dk_at dksX0_soonest_4 2 rfl rfl)
theorem dX0_soonest_96 : decode cX0_soonest 96 = .ok (.if_icmp .ne 20, 3) := dk_160 0 20 (dk_at dksX0_soonest_4 3 rfl rfl)
theorem dX0_soonest_99 : decode cX0_soonest 99 = .ok (.iload 7, 2) := dk_21 7 (dk_at dksX0_soonest_4 6 rfl rfl)
theorem dX0_soonest_101 : decode cX0_soonest 101 = .ok (.iload 4, 2) := dk_21 4 (dk_at dksX0_soonest_4 8 rfl rfl)
theorem dX0_soonest_103 : decode cX0_soonest 103 = .ok (.if_icmp .ge 13, 3) := dk_162 0 13 (dk_at dksX0_soonest_4 10 rfl rfl)
theorem dX0_soonest_106 : decode cX0_soonest 106 = .ok (.iload 5, 2) := dk_21 5 (dk_at dksX0_soonest_4 13 rfl rfl)
theorem dX0_soonest_108 : decode cX0_soonest 108 = .ok (.istore_n 2, 1) := dk_61 (dk_at dksX0_soonest_4 15 rfl rfl)
theorem dX0_soonest_109 : decode cX0_soonest 109 = .ok (.iload 6, 2) := dk_21 6 (dk_at dksX0_soonest_4 16 rfl rfl)
theorem dX0_soonest_111 : decode cX0_soonest 111 = .ok (.istore_n 3, 1) := dk_62 (dk_at dksX0_soonest_4 18 rfl rfl)
theorem dX0_soonest_112 : decode cX0_soonest 112 = .ok (.iload 7, 2) := dk_21 7 (dk_at dksX0_soonest_4 19 rfl rfl)
theorem dX0_soonest_114 : decode cX0_soonest 114 = .ok (.istore 4, 2) := dk_54 4 (dk_at dksX0_soonest_4 21 rfl rfl)
theorem dX0_soonest_116 : decode cX0_soonest 116 = .ok (.aload_n 0, 1) := dk_42 (dk_at dksX0_soonest_4 23 rfl rfl)
theorem dX0_soonest_117 : decode cX0_soonest 117 = .ok (.iload 5, 2) := dk_21 5 (dk_at dksX0_soonest_5 0 rfl rfl)
theorem dX0_soonest_119 : decode cX0_soonest 119 = .ok (.invokevirtual 234, 3) := dk_182 0 234 (dk_at dksX0_soonest_5 2 rfl rfl)
theorem dX0_soonest_122 : decode cX0_soonest 122 = .ok (.istore 5, 2) := dk_54 5 (dk_at dksX0_soonest_5 5 rfl rfl)
theorem dX0_soonest_124 : decode cX0_soonest 124 = .ok (.goto (-103), 3) := dk_167 255 153 (dk_at dksX0_soonest_5 7 rfl rfl)
theorem dX0_soonest_127 : decode cX0_soonest 127 = .ok (.iload_n 1, 1) := dk_27 (dk_at dksX0_soonest_5 10 rfl rfl)
theorem dX0_soonest_128 : decode cX0_soonest 128 = .ok (.bipush (-9), 2) := dk_16 247 (dk_at dksX0_soonest_5 11 rfl rfl)
theorem dX0_soonest_130 : decode cX0_soonest 130 = .ok (.if_icmp .ne 7, 3) := dk_160 0 7 (dk_at dksX0_soonest_5 13 rfl rfl)
theorem dX0_soonest_133 : decode cX0_soonest 133 = .ok (.iload_n 3, 1) := dk_29 (dk_at dksX0_soonest_5 16 rfl rfl)
theorem dX0_soonest_134 : decode cX0_soonest 134 = .ok (.goto 8, 3) := dk_167 0 8 (dk_at dksX0_soonest_5 17 rfl rfl)
theorem dX0_soonest_137 : decode cX0_soonest 137 = .ok (.iload_n 2, 1) := dk_28 (dk_at dksX0_soonest_5 20 rfl rfl)
theorem dX0_soonest_138 : decode cX0_soonest 138 = .ok (.iload_n 1, 1) := dk_27 (dk_at dksX0_soonest_5 21 rfl rfl)
theorem dX0_soonest_139 : decode cX0_soonest 139 = .ok (.invokestatic 217, 3) := dk_184 0 217 (dk_at dksX0_soonest_6 0 rfl rfl)
theorem dX0_soonest_142 : decode cX0_soonest 142 = .ok (.ireturn, 1) := dk_172 (dk_at dksX0_soonest_6 3 rfl rfl)
abbrev cX0_plan : ByteArray := prog_1_method_26_code
def yX0_plan : MethodName := ⟨RX0, "plan", "(II)I"⟩
def dkwX0_plan_1 : List UInt8 := [16, 247, 160, 0, 13, 42, 180, 0, 23, 180, 0, 169, 167, 0, 9, 42, 180, 0, 45, 28, 46, 172]
abbrev dktX0_plan_1 : List UInt8 := dkwX0_plan_1 ++ []
def dkwX0_plan_0 : List UInt8 := [42, 27, 182, 0, 238, 153, 0, 11, 42, 28, 182, 0, 220, 154, 0, 5, 2, 172, 42, 27, 182, 0, 223, 28]
abbrev dktX0_plan_0 : List UInt8 := dkwX0_plan_0 ++ dktX0_plan_1
theorem dksX0_plan_0 : cX0_plan.data.toList.drop 0 = dktX0_plan_0 := by decide +kernel
theorem dksX0_plan_1 : cX0_plan.data.toList.drop 24 = dktX0_plan_1 := dk_seg dksX0_plan_0 24 rfl rfl
theorem dX0_plan_0 : decode cX0_plan 0 = .ok (.aload_n 0, 1) := dk_42 (dk_at dksX0_plan_0 0 rfl rfl)
theorem dX0_plan_1 : decode cX0_plan 1 = .ok (.iload_n 1, 1) := dk_27 (dk_at dksX0_plan_0 1 rfl rfl)
theorem dX0_plan_2 : decode cX0_plan 2 = .ok (.invokevirtual 238, 3) := dk_182 0 238 (dk_at dksX0_plan_0 2 rfl rfl)
theorem dX0_plan_5 : decode cX0_plan 5 = .ok (.ifCond .eq 11, 3) := dk_153 0 11 (dk_at dksX0_plan_0 5 rfl rfl)
theorem dX0_plan_8 : decode cX0_plan 8 = .ok (.aload_n 0, 1) := dk_42 (dk_at dksX0_plan_0 8 rfl rfl)
theorem dX0_plan_9 : decode cX0_plan 9 = .ok (.iload_n 2, 1) := dk_28 (dk_at dksX0_plan_0 9 rfl rfl)
theorem dX0_plan_10 : decode cX0_plan 10 = .ok (.invokevirtual 220, 3) := dk_182 0 220 (dk_at dksX0_plan_0 10 rfl rfl)
theorem dX0_plan_13 : decode cX0_plan 13 = .ok (.ifCond .ne 5, 3) := dk_154 0 5 (dk_at dksX0_plan_0 13 rfl rfl)
theorem dX0_plan_16 : decode cX0_plan 16 = .ok (.iconst (-1), 1) := dk_2 (dk_at dksX0_plan_0 16 rfl rfl)
theorem dX0_plan_17 : decode cX0_plan 17 = .ok (.ireturn, 1) := dk_172 (dk_at dksX0_plan_0 17 rfl rfl)
theorem dX0_plan_18 : decode cX0_plan 18 = .ok (.aload_n 0, 1) := dk_42 (dk_at dksX0_plan_0 18 rfl rfl)
theorem dX0_plan_19 : decode cX0_plan 19 = .ok (.iload_n 1, 1) := dk_27 (dk_at dksX0_plan_0 19 rfl rfl)
theorem dX0_plan_20 : decode cX0_plan 20 = .ok (.invokevirtual 223, 3) := dk_182 0 223 (dk_at dksX0_plan_0 20 rfl rfl)
theorem dX0_plan_23 : decode cX0_plan 23 = .ok (.iload_n 2, 1) := dk_28 (dk_at dksX0_plan_0 23 rfl rfl)
theorem dX0_plan_24 : decode cX0_plan 24 = .ok (.bipush (-9), 2) := dk_16 247 (dk_at dksX0_plan_1 0 rfl rfl)
theorem dX0_plan_26 : decode cX0_plan 26 = .ok (.if_icmp .ne 13, 3) := dk_160 0 13 (dk_at dksX0_plan_1 2 rfl rfl)
theorem dX0_plan_29 : decode cX0_plan 29 = .ok (.aload_n 0, 1) := dk_42 (dk_at dksX0_plan_1 5 rfl rfl)
theorem dX0_plan_30 : decode cX0_plan 30 = .ok (.getfield 23, 3) := dk_180 0 23 (dk_at dksX0_plan_1 6 rfl rfl)
theorem dX0_plan_33 : decode cX0_plan 33 = .ok (.getfield 169, 3) := dk_180 0 169 (dk_at dksX0_plan_1 9 rfl rfl)
theorem dX0_plan_36 : decode cX0_plan 36 = .ok (.goto 9, 3) := dk_167 0 9 (dk_at dksX0_plan_1 12 rfl rfl)
theorem dX0_plan_39 : decode cX0_plan 39 = .ok (.aload_n 0, 1) := dk_42 (dk_at dksX0_plan_1 15 rfl rfl)
theorem dX0_plan_40 : decode cX0_plan 40 = .ok (.getfield 45, 3) := dk_180 0 45 (dk_at dksX0_plan_1 16 rfl rfl)
theorem dX0_plan_43 : decode cX0_plan 43 = .ok (.iload_n 2, 1) := dk_28 (dk_at dksX0_plan_1 19 rfl rfl)
theorem dX0_plan_44 : decode cX0_plan 44 = .ok (.iaload, 1) := dk_46 (dk_at dksX0_plan_1 20 rfl rfl)
theorem dX0_plan_45 : decode cX0_plan 45 = .ok (.ireturn, 1) := dk_172 (dk_at dksX0_plan_1 21 rfl rfl)
abbrev cX0_isPlan : ByteArray := prog_1_method_25_code
def yX0_isPlan : MethodName := ⟨RX0, "isPlan", "(I)Z"⟩
def dkwX0_isPlan_3 : List UInt8 := [172]
abbrev dktX0_isPlan_3 : List UInt8 := dkwX0_isPlan_3 ++ []
def dkwX0_isPlan_2 : List UInt8 := [28, 16, 10, 108, 61, 132, 4, 1, 167, 255, 215, 29, 153, 0, 11, 28, 154, 0, 7, 4, 167, 0, 4, 3]
abbrev dktX0_isPlan_2 : List UInt8 := dkwX0_isPlan_2 ++ dktX0_isPlan_3
def dkwX0_isPlan_1 : List UInt8 := [162, 0, 35, 29, 153, 0, 18, 42, 28, 16, 10, 112, 182, 0, 189, 153, 0, 7, 4, 167, 0, 4, 3, 62]
abbrev dktX0_isPlan_1 : List UInt8 := dkwX0_isPlan_1 ++ dktX0_isPlan_2
def dkwX0_isPlan_0 : List UInt8 := [27, 61, 27, 155, 0, 7, 4, 167, 0, 4, 3, 62, 3, 54, 4, 21, 4, 42, 180, 0, 13, 180, 0, 128]
abbrev dktX0_isPlan_0 : List UInt8 := dkwX0_isPlan_0 ++ dktX0_isPlan_1
theorem dksX0_isPlan_0 : cX0_isPlan.data.toList.drop 0 = dktX0_isPlan_0 := by decide +kernel
theorem dksX0_isPlan_1 : cX0_isPlan.data.toList.drop 24 = dktX0_isPlan_1 := dk_seg dksX0_isPlan_0 24 rfl rfl
theorem dksX0_isPlan_2 : cX0_isPlan.data.toList.drop 48 = dktX0_isPlan_2 := dk_seg dksX0_isPlan_1 24 rfl rfl
theorem dksX0_isPlan_3 : cX0_isPlan.data.toList.drop 72 = dktX0_isPlan_3 := dk_seg dksX0_isPlan_2 24 rfl rfl
theorem dX0_isPlan_0 : decode cX0_isPlan 0 = .ok (.iload_n 1, 1) := dk_27 (dk_at dksX0_isPlan_0 0 rfl rfl)
theorem dX0_isPlan_1 : decode cX0_isPlan 1 = .ok (.istore_n 2, 1) := dk_61 (dk_at dksX0_isPlan_0 1 rfl rfl)
theorem dX0_isPlan_2 : decode cX0_isPlan 2 = .ok (.iload_n 1, 1) := dk_27 (dk_at dksX0_isPlan_0 2 rfl rfl)
theorem dX0_isPlan_3 : decode cX0_isPlan 3 = .ok (.ifCond .lt 7, 3) := dk_155 0 7 (dk_at dksX0_isPlan_0 3 rfl rfl)
theorem dX0_isPlan_6 : decode cX0_isPlan 6 = .ok (.iconst 1, 1) := dk_4 (dk_at dksX0_isPlan_0 6 rfl rfl)
theorem dX0_isPlan_7 : decode cX0_isPlan 7 = .ok (.goto 4, 3) := dk_167 0 4 (dk_at dksX0_isPlan_0 7 rfl rfl)
theorem dX0_isPlan_10 : decode cX0_isPlan 10 = .ok (.iconst 0, 1) := dk_3 (dk_at dksX0_isPlan_0 10 rfl rfl)
theorem dX0_isPlan_11 : decode cX0_isPlan 11 = .ok (.istore_n 3, 1) := dk_62 (dk_at dksX0_isPlan_0 11 rfl rfl)
theorem dX0_isPlan_12 : decode cX0_isPlan 12 = .ok (.iconst 0, 1) := dk_3 (dk_at dksX0_isPlan_0 12 rfl rfl)
theorem dX0_isPlan_13 : decode cX0_isPlan 13 = .ok (.istore 4, 2) := dk_54 4 (dk_at dksX0_isPlan_0 13 rfl rfl)
theorem dX0_isPlan_15 : decode cX0_isPlan 15 = .ok (.iload 4, 2) := dk_21 4 (dk_at dksX0_isPlan_0 15 rfl rfl)
theorem dX0_isPlan_17 : decode cX0_isPlan 17 = .ok (.aload_n 0, 1) := dk_42 (dk_at dksX0_isPlan_0 17 rfl rfl)
theorem dX0_isPlan_18 : decode cX0_isPlan 18 = .ok (.getfield 13, 3) := dk_180 0 13 (dk_at dksX0_isPlan_0 18 rfl rfl)
theorem dX0_isPlan_21 : decode cX0_isPlan 21 = .ok (.getfield 128, 3) := dk_180 0 128 (dk_at dksX0_isPlan_0 21 rfl rfl)
theorem dX0_isPlan_24 : decode cX0_isPlan 24 = .ok (.if_icmp .ge 35, 3) := dk_162 0 35 (dk_at dksX0_isPlan_1 0 rfl rfl)
theorem dX0_isPlan_27 : decode cX0_isPlan 27 = .ok (.iload_n 3, 1) := dk_29 (dk_at dksX0_isPlan_1 3 rfl rfl)
theorem dX0_isPlan_28 : decode cX0_isPlan 28 = .ok (.ifCond .eq 18, 3) := dk_153 0 18 (dk_at dksX0_isPlan_1 4 rfl rfl)
theorem dX0_isPlan_31 : decode cX0_isPlan 31 = .ok (.aload_n 0, 1) := dk_42 (dk_at dksX0_isPlan_1 7 rfl rfl)
theorem dX0_isPlan_32 : decode cX0_isPlan 32 = .ok (.iload_n 2, 1) := dk_28 (dk_at dksX0_isPlan_1 8 rfl rfl)
theorem dX0_isPlan_33 : decode cX0_isPlan 33 = .ok (.bipush 10, 2) := dk_16 10 (dk_at dksX0_isPlan_1 9 rfl rfl)
theorem dX0_isPlan_35 : decode cX0_isPlan 35 = .ok (.irem, 1) := dk_112 (dk_at dksX0_isPlan_1 11 rfl rfl)
theorem dX0_isPlan_36 : decode cX0_isPlan 36 = .ok (.invokevirtual 189, 3) := dk_182 0 189 (dk_at dksX0_isPlan_1 12 rfl rfl)
theorem dX0_isPlan_39 : decode cX0_isPlan 39 = .ok (.ifCond .eq 7, 3) := dk_153 0 7 (dk_at dksX0_isPlan_1 15 rfl rfl)
theorem dX0_isPlan_42 : decode cX0_isPlan 42 = .ok (.iconst 1, 1) := dk_4 (dk_at dksX0_isPlan_1 18 rfl rfl)
theorem dX0_isPlan_43 : decode cX0_isPlan 43 = .ok (.goto 4, 3) := dk_167 0 4 (dk_at dksX0_isPlan_1 19 rfl rfl)
theorem dX0_isPlan_46 : decode cX0_isPlan 46 = .ok (.iconst 0, 1) := dk_3 (dk_at dksX0_isPlan_1 22 rfl rfl)
theorem dX0_isPlan_47 : decode cX0_isPlan 47 = .ok (.istore_n 3, 1) := dk_62 (dk_at dksX0_isPlan_1 23 rfl rfl)
theorem dX0_isPlan_48 : decode cX0_isPlan 48 = .ok (.iload_n 2, 1) := dk_28 (dk_at dksX0_isPlan_2 0 rfl rfl)
theorem dX0_isPlan_49 : decode cX0_isPlan 49 = .ok (.bipush 10, 2) := dk_16 10 (dk_at dksX0_isPlan_2 1 rfl rfl)
theorem dX0_isPlan_51 : decode cX0_isPlan 51 = .ok (.idiv, 1) := dk_108 (dk_at dksX0_isPlan_2 3 rfl rfl)
theorem dX0_isPlan_52 : decode cX0_isPlan 52 = .ok (.istore_n 2, 1) := dk_61 (dk_at dksX0_isPlan_2 4 rfl rfl)
theorem dX0_isPlan_53 : decode cX0_isPlan 53 = .ok (.iinc 4 1, 3) := dk_132 4 1 (dk_at dksX0_isPlan_2 5 rfl rfl)
theorem dX0_isPlan_56 : decode cX0_isPlan 56 = .ok (.goto (-41), 3) := dk_167 255 215 (dk_at dksX0_isPlan_2 8 rfl rfl)
theorem dX0_isPlan_59 : decode cX0_isPlan 59 = .ok (.iload_n 3, 1) := dk_29 (dk_at dksX0_isPlan_2 11 rfl rfl)
theorem dX0_isPlan_60 : decode cX0_isPlan 60 = .ok (.ifCond .eq 11, 3) := dk_153 0 11 (dk_at dksX0_isPlan_2 12 rfl rfl)
theorem dX0_isPlan_63 : decode cX0_isPlan 63 = .ok (.iload_n 2, 1) := dk_28 (dk_at dksX0_isPlan_2 15 rfl rfl)
theorem dX0_isPlan_64 : decode cX0_isPlan 64 = .ok (.ifCond .ne 7, 3) := dk_154 0 7 (dk_at dksX0_isPlan_2 16 rfl rfl)
theorem dX0_isPlan_67 : decode cX0_isPlan 67 = .ok (.iconst 1, 1) := dk_4 (dk_at dksX0_isPlan_2 19 rfl rfl)
theorem dX0_isPlan_68 : decode cX0_isPlan 68 = .ok (.goto 4, 3) := dk_167 0 4 (dk_at dksX0_isPlan_2 20 rfl rfl)
theorem dX0_isPlan_71 : decode cX0_isPlan 71 = .ok (.iconst 0, 1) := dk_3 (dk_at dksX0_isPlan_2 23 rfl rfl)
theorem dX0_isPlan_72 : decode cX0_isPlan 72 = .ok (.ireturn, 1) := dk_172 (dk_at dksX0_isPlan_3 0 rfl rfl)
abbrev cX0_waits : ByteArray := prog_1_method_27_code
def yX0_waits : MethodName := ⟨RX0, "waits", "(I)I"⟩
def dkwX0_waits_2 : List UInt8 := [100, 184, 0, 229, 172]
abbrev dktX0_waits_2 : List UInt8 := dkwX0_waits_2 ++ []
def dkwX0_waits_1 : List UInt8 := [16, 254, 167, 0, 26, 3, 42, 180, 0, 13, 180, 0, 131, 3, 46, 42, 180, 0, 19, 180, 0, 148, 27, 46]
abbrev dktX0_waits_1 : List UInt8 := dkwX0_waits_1 ++ dktX0_waits_2
def dkwX0_waits_0 : List UInt8 := [42, 27, 182, 0, 137, 154, 0, 5, 2, 172, 42, 180, 0, 19, 180, 0, 147, 27, 46, 16, 247, 160, 0, 8]
abbrev dktX0_waits_0 : List UInt8 := dkwX0_waits_0 ++ dktX0_waits_1
theorem dksX0_waits_0 : cX0_waits.data.toList.drop 0 = dktX0_waits_0 := by decide +kernel
theorem dksX0_waits_1 : cX0_waits.data.toList.drop 24 = dktX0_waits_1 := dk_seg dksX0_waits_0 24 rfl rfl
theorem dksX0_waits_2 : cX0_waits.data.toList.drop 48 = dktX0_waits_2 := dk_seg dksX0_waits_1 24 rfl rfl
theorem dX0_waits_0 : decode cX0_waits 0 = .ok (.aload_n 0, 1) := dk_42 (dk_at dksX0_waits_0 0 rfl rfl)
theorem dX0_waits_1 : decode cX0_waits 1 = .ok (.iload_n 1, 1) := dk_27 (dk_at dksX0_waits_0 1 rfl rfl)
theorem dX0_waits_2 : decode cX0_waits 2 = .ok (.invokevirtual 137, 3) := dk_182 0 137 (dk_at dksX0_waits_0 2 rfl rfl)
theorem dX0_waits_5 : decode cX0_waits 5 = .ok (.ifCond .ne 5, 3) := dk_154 0 5 (dk_at dksX0_waits_0 5 rfl rfl)
theorem dX0_waits_8 : decode cX0_waits 8 = .ok (.iconst (-1), 1) := dk_2 (dk_at dksX0_waits_0 8 rfl rfl)
theorem dX0_waits_9 : decode cX0_waits 9 = .ok (.ireturn, 1) := dk_172 (dk_at dksX0_waits_0 9 rfl rfl)
theorem dX0_waits_10 : decode cX0_waits 10 = .ok (.aload_n 0, 1) := dk_42 (dk_at dksX0_waits_0 10 rfl rfl)
theorem dX0_waits_11 : decode cX0_waits 11 = .ok (.getfield 19, 3) := dk_180 0 19 (dk_at dksX0_waits_0 11 rfl rfl)
theorem dX0_waits_14 : decode cX0_waits 14 = .ok (.getfield 147, 3) := dk_180 0 147 (dk_at dksX0_waits_0 14 rfl rfl)
theorem dX0_waits_17 : decode cX0_waits 17 = .ok (.iload_n 1, 1) := dk_27 (dk_at dksX0_waits_0 17 rfl rfl)
theorem dX0_waits_18 : decode cX0_waits 18 = .ok (.iaload, 1) := dk_46 (dk_at dksX0_waits_0 18 rfl rfl)
theorem dX0_waits_19 : decode cX0_waits 19 = .ok (.bipush (-9), 2) := dk_16 247 (dk_at dksX0_waits_0 19 rfl rfl)
theorem dX0_waits_21 : decode cX0_waits 21 = .ok (.if_icmp .ne 8, 3) := dk_160 0 8 (dk_at dksX0_waits_0 21 rfl rfl)
theorem dX0_waits_24 : decode cX0_waits 24 = .ok (.bipush (-2), 2) := dk_16 254 (dk_at dksX0_waits_1 0 rfl rfl)
theorem dX0_waits_26 : decode cX0_waits 26 = .ok (.goto 26, 3) := dk_167 0 26 (dk_at dksX0_waits_1 2 rfl rfl)
theorem dX0_waits_29 : decode cX0_waits 29 = .ok (.iconst 0, 1) := dk_3 (dk_at dksX0_waits_1 5 rfl rfl)
theorem dX0_waits_30 : decode cX0_waits 30 = .ok (.aload_n 0, 1) := dk_42 (dk_at dksX0_waits_1 6 rfl rfl)
theorem dX0_waits_31 : decode cX0_waits 31 = .ok (.getfield 13, 3) := dk_180 0 13 (dk_at dksX0_waits_1 7 rfl rfl)
theorem dX0_waits_34 : decode cX0_waits 34 = .ok (.getfield 131, 3) := dk_180 0 131 (dk_at dksX0_waits_1 10 rfl rfl)
theorem dX0_waits_37 : decode cX0_waits 37 = .ok (.iconst 0, 1) := dk_3 (dk_at dksX0_waits_1 13 rfl rfl)
theorem dX0_waits_38 : decode cX0_waits 38 = .ok (.iaload, 1) := dk_46 (dk_at dksX0_waits_1 14 rfl rfl)
theorem dX0_waits_39 : decode cX0_waits 39 = .ok (.aload_n 0, 1) := dk_42 (dk_at dksX0_waits_1 15 rfl rfl)
theorem dX0_waits_40 : decode cX0_waits 40 = .ok (.getfield 19, 3) := dk_180 0 19 (dk_at dksX0_waits_1 16 rfl rfl)
theorem dX0_waits_43 : decode cX0_waits 43 = .ok (.getfield 148, 3) := dk_180 0 148 (dk_at dksX0_waits_1 19 rfl rfl)
theorem dX0_waits_46 : decode cX0_waits 46 = .ok (.iload_n 1, 1) := dk_27 (dk_at dksX0_waits_1 22 rfl rfl)
theorem dX0_waits_47 : decode cX0_waits 47 = .ok (.iaload, 1) := dk_46 (dk_at dksX0_waits_1 23 rfl rfl)
theorem dX0_waits_48 : decode cX0_waits 48 = .ok (.isub, 1) := dk_100 (dk_at dksX0_waits_2 0 rfl rfl)
theorem dX0_waits_49 : decode cX0_waits 49 = .ok (.invokestatic 229, 3) := dk_184 0 229 (dk_at dksX0_waits_2 1 rfl rfl)
theorem dX0_waits_52 : decode cX0_waits 52 = .ok (.ireturn, 1) := dk_172 (dk_at dksX0_waits_2 4 rfl rfl)
abbrev cX0_boat : ByteArray := prog_1_method_28_code
def yX0_boat : MethodName := ⟨RX0, "boat", "(II)I"⟩
def dkwX0_boat_7 : List UInt8 := [160, 0, 7, 29, 167, 0, 5, 21, 4, 172]
abbrev dktX0_boat_7 : List UInt8 := dkwX0_boat_7 ++ []
def dkwX0_boat_6 : List UInt8 := [180, 0, 166, 21, 5, 96, 62, 21, 6, 54, 4, 132, 5, 1, 167, 255, 131, 28, 153, 0, 9, 29, 16, 247]
abbrev dktX0_boat_6 : List UInt8 := dkwX0_boat_6 ++ dktX0_boat_7
def dkwX0_boat_5 : List UInt8 := [167, 0, 4, 3, 96, 54, 6, 132, 7, 1, 167, 255, 171, 21, 6, 21, 4, 164, 0, 18, 42, 180, 0, 19]
abbrev dktX0_boat_5 : List UInt8 := dkwX0_boat_5 ++ dktX0_boat_6
def dkwX0_boat_4 : List UInt8 := [180, 0, 148, 21, 7, 46, 21, 5, 96, 42, 180, 0, 13, 180, 0, 131, 3, 46, 161, 0, 7, 4]
abbrev dktX0_boat_4 : List UInt8 := dkwX0_boat_4 ++ dktX0_boat_5
def dkwX0_boat_3 : List UInt8 := [153, 0, 59, 21, 6, 42, 180, 0, 19, 180, 0, 147, 21, 7, 46, 16, 247, 159, 0, 32, 42, 180, 0, 19]
abbrev dktX0_boat_3 : List UInt8 := dkwX0_boat_3 ++ dktX0_boat_4
def dkwX0_boat_2 : List UInt8 := [180, 0, 128, 162, 0, 79, 42, 180, 0, 13, 42, 180, 0, 19, 180, 0, 166, 21, 5, 96, 182, 0, 176]
abbrev dktX0_boat_2 : List UInt8 := dkwX0_boat_2 ++ dktX0_boat_3
def dkwX0_boat_1 : List UInt8 := [3, 54, 4, 3, 54, 5, 21, 5, 27, 163, 0, 125, 3, 54, 6, 3, 54, 7, 21, 7, 42, 180, 0, 13]
abbrev dktX0_boat_1 : List UInt8 := dkwX0_boat_1 ++ dktX0_boat_2
def dkwX0_boat_0 : List UInt8 := [27, 4, 16, 60, 184, 0, 90, 153, 0, 12, 28, 3, 4, 184, 0, 90, 154, 0, 5, 2, 172, 16, 247, 62]
abbrev dktX0_boat_0 : List UInt8 := dkwX0_boat_0 ++ dktX0_boat_1
theorem dksX0_boat_0 : cX0_boat.data.toList.drop 0 = dktX0_boat_0 := by decide +kernel
theorem dksX0_boat_1 : cX0_boat.data.toList.drop 24 = dktX0_boat_1 := dk_seg dksX0_boat_0 24 rfl rfl
theorem dksX0_boat_2 : cX0_boat.data.toList.drop 48 = dktX0_boat_2 := dk_seg dksX0_boat_1 24 rfl rfl
theorem dksX0_boat_3 : cX0_boat.data.toList.drop 71 = dktX0_boat_3 := dk_seg dksX0_boat_2 23 rfl rfl
theorem dksX0_boat_4 : cX0_boat.data.toList.drop 95 = dktX0_boat_4 := dk_seg dksX0_boat_3 24 rfl rfl
theorem dksX0_boat_5 : cX0_boat.data.toList.drop 117 = dktX0_boat_5 := dk_seg dksX0_boat_4 22 rfl rfl
theorem dksX0_boat_6 : cX0_boat.data.toList.drop 141 = dktX0_boat_6 := dk_seg dksX0_boat_5 24 rfl rfl
theorem dksX0_boat_7 : cX0_boat.data.toList.drop 165 = dktX0_boat_7 := dk_seg dksX0_boat_6 24 rfl rfl
theorem dX0_boat_0 : decode cX0_boat 0 = .ok (.iload_n 1, 1) := dk_27 (dk_at dksX0_boat_0 0 rfl rfl)
theorem dX0_boat_1 : decode cX0_boat 1 = .ok (.iconst 1, 1) := dk_4 (dk_at dksX0_boat_0 1 rfl rfl)
theorem dX0_boat_2 : decode cX0_boat 2 = .ok (.bipush 60, 2) := dk_16 60 (dk_at dksX0_boat_0 2 rfl rfl)
theorem dX0_boat_4 : decode cX0_boat 4 = .ok (.invokestatic 90, 3) := dk_184 0 90 (dk_at dksX0_boat_0 4 rfl rfl)
theorem dX0_boat_7 : decode cX0_boat 7 = .ok (.ifCond .eq 12, 3) := dk_153 0 12 (dk_at dksX0_boat_0 7 rfl rfl)
theorem dX0_boat_10 : decode cX0_boat 10 = .ok (.iload_n 2, 1) := dk_28 (dk_at dksX0_boat_0 10 rfl rfl)
theorem dX0_boat_11 : decode cX0_boat 11 = .ok (.iconst 0, 1) := dk_3 (dk_at dksX0_boat_0 11 rfl rfl)
theorem dX0_boat_12 : decode cX0_boat 12 = .ok (.iconst 1, 1) := dk_4 (dk_at dksX0_boat_0 12 rfl rfl)
theorem dX0_boat_13 : decode cX0_boat 13 = .ok (.invokestatic 90, 3) := dk_184 0 90 (dk_at dksX0_boat_0 13 rfl rfl)
theorem dX0_boat_16 : decode cX0_boat 16 = .ok (.ifCond .ne 5, 3) := dk_154 0 5 (dk_at dksX0_boat_0 16 rfl rfl)
theorem dX0_boat_19 : decode cX0_boat 19 = .ok (.iconst (-1), 1) := dk_2 (dk_at dksX0_boat_0 19 rfl rfl)
theorem dX0_boat_20 : decode cX0_boat 20 = .ok (.ireturn, 1) := dk_172 (dk_at dksX0_boat_0 20 rfl rfl)
theorem dX0_boat_21 : decode cX0_boat 21 = .ok (.bipush (-9), 2) := dk_16 247 (dk_at dksX0_boat_0 21 rfl rfl)
theorem dX0_boat_23 : decode cX0_boat 23 = .ok (.istore_n 3, 1) := dk_62 (dk_at dksX0_boat_0 23 rfl rfl)
theorem dX0_boat_24 : decode cX0_boat 24 = .ok (.iconst 0, 1) := dk_3 (dk_at dksX0_boat_1 0 rfl rfl)
theorem dX0_boat_25 : decode cX0_boat 25 = .ok (.istore 4, 2) := dk_54 4 (dk_at dksX0_boat_1 1 rfl rfl)
theorem dX0_boat_27 : decode cX0_boat 27 = .ok (.iconst 0, 1) := dk_3 (dk_at dksX0_boat_1 3 rfl rfl)
theorem dX0_boat_28 : decode cX0_boat 28 = .ok (.istore 5, 2) := dk_54 5 (dk_at dksX0_boat_1 4 rfl rfl)
theorem dX0_boat_30 : decode cX0_boat 30 = .ok (.iload 5, 2) := dk_21 5 (dk_at dksX0_boat_1 6 rfl rfl)
theorem dX0_boat_32 : decode cX0_boat 32 = .ok (.iload_n 1, 1) := dk_27 (dk_at dksX0_boat_1 8 rfl rfl)
theorem dX0_boat_33 : decode cX0_boat 33 = .ok (.if_icmp .gt 125, 3) := dk_163 0 125 (dk_at dksX0_boat_1 9 rfl rfl)
theorem dX0_boat_36 : decode cX0_boat 36 = .ok (.iconst 0, 1) := dk_3 (dk_at dksX0_boat_1 12 rfl rfl)
theorem dX0_boat_37 : decode cX0_boat 37 = .ok (.istore 6, 2) := dk_54 6 (dk_at dksX0_boat_1 13 rfl rfl)
theorem dX0_boat_39 : decode cX0_boat 39 = .ok (.iconst 0, 1) := dk_3 (dk_at dksX0_boat_1 15 rfl rfl)
theorem dX0_boat_40 : decode cX0_boat 40 = .ok (.istore 7, 2) := dk_54 7 (dk_at dksX0_boat_1 16 rfl rfl)
theorem dX0_boat_42 : decode cX0_boat 42 = .ok (.iload 7, 2) := dk_21 7 (dk_at dksX0_boat_1 18 rfl rfl)
theorem dX0_boat_44 : decode cX0_boat 44 = .ok (.aload_n 0, 1) := dk_42 (dk_at dksX0_boat_1 20 rfl rfl)
theorem dX0_boat_45 : decode cX0_boat 45 = .ok (.getfield 13, 3) := dk_180 0 13 (dk_at dksX0_boat_1 21 rfl rfl)
theorem dX0_boat_48 : decode cX0_boat 48 = .ok (.getfield 128, 3) := dk_180 0 128 (dk_at dksX0_boat_2 0 rfl rfl)
theorem dX0_boat_51 : decode cX0_boat 51 = .ok (.if_icmp .ge 79, 3) := dk_162 0 79 (dk_at dksX0_boat_2 3 rfl rfl)
theorem dX0_boat_54 : decode cX0_boat 54 = .ok (.aload_n 0, 1) := dk_42 (dk_at dksX0_boat_2 6 rfl rfl)
theorem dX0_boat_55 : decode cX0_boat 55 = .ok (.getfield 13, 3) := dk_180 0 13 (dk_at dksX0_boat_2 7 rfl rfl)
theorem dX0_boat_58 : decode cX0_boat 58 = .ok (.aload_n 0, 1) := dk_42 (dk_at dksX0_boat_2 10 rfl rfl)
theorem dX0_boat_59 : decode cX0_boat 59 = .ok (.getfield 19, 3) := dk_180 0 19 (dk_at dksX0_boat_2 11 rfl rfl)
theorem dX0_boat_62 : decode cX0_boat 62 = .ok (.getfield 166, 3) := dk_180 0 166 (dk_at dksX0_boat_2 14 rfl rfl)
theorem dX0_boat_65 : decode cX0_boat 65 = .ok (.iload 5, 2) := dk_21 5 (dk_at dksX0_boat_2 17 rfl rfl)
theorem dX0_boat_67 : decode cX0_boat 67 = .ok (.iadd, 1) := dk_96 (dk_at dksX0_boat_2 19 rfl rfl)
theorem dX0_boat_68 : decode cX0_boat 68 = .ok (.invokevirtual 176, 3) := dk_182 0 176 (dk_at dksX0_boat_2 20 rfl rfl)
theorem dX0_boat_71 : decode cX0_boat 71 = .ok (.ifCond .eq 59, 3) := dk_153 0 59 (dk_at dksX0_boat_3 0 rfl rfl)
theorem dX0_boat_74 : decode cX0_boat 74 = .ok (.iload 6, 2) := dk_21 6 (dk_at dksX0_boat_3 3 rfl rfl)
theorem dX0_boat_76 : decode cX0_boat 76 = .ok (.aload_n 0, 1) := dk_42 (dk_at dksX0_boat_3 5 rfl rfl)
theorem dX0_boat_77 : decode cX0_boat 77 = .ok (.getfield 19, 3) := dk_180 0 19 (dk_at dksX0_boat_3 6 rfl rfl)
theorem dX0_boat_80 : decode cX0_boat 80 = .ok (.getfield 147, 3) := dk_180 0 147 (dk_at dksX0_boat_3 9 rfl rfl)
theorem dX0_boat_83 : decode cX0_boat 83 = .ok (.iload 7, 2) := dk_21 7 (dk_at dksX0_boat_3 12 rfl rfl)
theorem dX0_boat_85 : decode cX0_boat 85 = .ok (.iaload, 1) := dk_46 (dk_at dksX0_boat_3 14 rfl rfl)
theorem dX0_boat_86 : decode cX0_boat 86 = .ok (.bipush (-9), 2) := dk_16 247 (dk_at dksX0_boat_3 15 rfl rfl)
theorem dX0_boat_88 : decode cX0_boat 88 = .ok (.if_icmp .eq 32, 3) := dk_159 0 32 (dk_at dksX0_boat_3 17 rfl rfl)
theorem dX0_boat_91 : decode cX0_boat 91 = .ok (.aload_n 0, 1) := dk_42 (dk_at dksX0_boat_3 20 rfl rfl)
theorem dX0_boat_92 : decode cX0_boat 92 = .ok (.getfield 19, 3) := dk_180 0 19 (dk_at dksX0_boat_3 21 rfl rfl)
theorem dX0_boat_95 : decode cX0_boat 95 = .ok (.getfield 148, 3) := dk_180 0 148 (dk_at dksX0_boat_4 0 rfl rfl)
theorem dX0_boat_98 : decode cX0_boat 98 = .ok (.iload 7, 2) := dk_21 7 (dk_at dksX0_boat_4 3 rfl rfl)
theorem dX0_boat_100 : decode cX0_boat 100 = .ok (.iaload, 1) := dk_46 (dk_at dksX0_boat_4 5 rfl rfl)
theorem dX0_boat_101 : decode cX0_boat 101 = .ok (.iload 5, 2) := dk_21 5 (dk_at dksX0_boat_4 6 rfl rfl)
theorem dX0_boat_103 : decode cX0_boat 103 = .ok (.iadd, 1) := dk_96 (dk_at dksX0_boat_4 8 rfl rfl)
theorem dX0_boat_104 : decode cX0_boat 104 = .ok (.aload_n 0, 1) := dk_42 (dk_at dksX0_boat_4 9 rfl rfl)
theorem dX0_boat_105 : decode cX0_boat 105 = .ok (.getfield 13, 3) := dk_180 0 13 (dk_at dksX0_boat_4 10 rfl rfl)
theorem dX0_boat_108 : decode cX0_boat 108 = .ok (.getfield 131, 3) := dk_180 0 131 (dk_at dksX0_boat_4 13 rfl rfl)
theorem dX0_boat_111 : decode cX0_boat 111 = .ok (.iconst 0, 1) := dk_3 (dk_at dksX0_boat_4 16 rfl rfl)
theorem dX0_boat_112 : decode cX0_boat 112 = .ok (.iaload, 1) := dk_46 (dk_at dksX0_boat_4 17 rfl rfl)
theorem dX0_boat_113 : decode cX0_boat 113 = .ok (.if_icmp .lt 7, 3) := dk_161 0 7 (dk_at dksX0_boat_4 18 rfl rfl)
theorem dX0_boat_116 : decode cX0_boat 116 = .ok (.iconst 1, 1) := dk_4 (dk_at dksX0_boat_4 21 rfl rfl)
theorem dX0_boat_117 : decode cX0_boat 117 = .ok (.goto 4, 3) := dk_167 0 4 (dk_at dksX0_boat_5 0 rfl rfl)
theorem dX0_boat_120 : decode cX0_boat 120 = .ok (.iconst 0, 1) := dk_3 (dk_at dksX0_boat_5 3 rfl rfl)
theorem dX0_boat_121 : decode cX0_boat 121 = .ok (.iadd, 1) := dk_96 (dk_at dksX0_boat_5 4 rfl rfl)
theorem dX0_boat_122 : decode cX0_boat 122 = .ok (.istore 6, 2) := dk_54 6 (dk_at dksX0_boat_5 5 rfl rfl)
theorem dX0_boat_124 : decode cX0_boat 124 = .ok (.iinc 7 1, 3) := dk_132 7 1 (dk_at dksX0_boat_5 7 rfl rfl)
theorem dX0_boat_127 : decode cX0_boat 127 = .ok (.goto (-85), 3) := dk_167 255 171 (dk_at dksX0_boat_5 10 rfl rfl)
theorem dX0_boat_130 : decode cX0_boat 130 = .ok (.iload 6, 2) := dk_21 6 (dk_at dksX0_boat_5 13 rfl rfl)
theorem dX0_boat_132 : decode cX0_boat 132 = .ok (.iload 4, 2) := dk_21 4 (dk_at dksX0_boat_5 15 rfl rfl)
theorem dX0_boat_134 : decode cX0_boat 134 = .ok (.if_icmp .le 18, 3) := dk_164 0 18 (dk_at dksX0_boat_5 17 rfl rfl)
theorem dX0_boat_137 : decode cX0_boat 137 = .ok (.aload_n 0, 1) := dk_42 (dk_at dksX0_boat_5 20 rfl rfl)
theorem dX0_boat_138 : decode cX0_boat 138 = .ok (.getfield 19, 3) := dk_180 0 19 (dk_at dksX0_boat_5 21 rfl rfl)
theorem dX0_boat_141 : decode cX0_boat 141 = .ok (.getfield 166, 3) := dk_180 0 166 (dk_at dksX0_boat_6 0 rfl rfl)
theorem dX0_boat_144 : decode cX0_boat 144 = .ok (.iload 5, 2) := dk_21 5 (dk_at dksX0_boat_6 3 rfl rfl)
theorem dX0_boat_146 : decode cX0_boat 146 = .ok (.iadd, 1) := dk_96 (dk_at dksX0_boat_6 5 rfl rfl)
theorem dX0_boat_147 : decode cX0_boat 147 = .ok (.istore_n 3, 1) := dk_62 (dk_at dksX0_boat_6 6 rfl rfl)
theorem dX0_boat_148 : decode cX0_boat 148 = .ok (.iload 6, 2) := dk_21 6 (dk_at dksX0_boat_6 7 rfl rfl)
theorem dX0_boat_150 : decode cX0_boat 150 = .ok (.istore 4, 2) := dk_54 4 (dk_at dksX0_boat_6 9 rfl rfl)
theorem dX0_boat_152 : decode cX0_boat 152 = .ok (.iinc 5 1, 3) := dk_132 5 1 (dk_at dksX0_boat_6 11 rfl rfl)
theorem dX0_boat_155 : decode cX0_boat 155 = .ok (.goto (-125), 3) := dk_167 255 131 (dk_at dksX0_boat_6 14 rfl rfl)
theorem dX0_boat_158 : decode cX0_boat 158 = .ok (.iload_n 2, 1) := dk_28 (dk_at dksX0_boat_6 17 rfl rfl)
theorem dX0_boat_159 : decode cX0_boat 159 = .ok (.ifCond .eq 9, 3) := dk_153 0 9 (dk_at dksX0_boat_6 18 rfl rfl)
theorem dX0_boat_162 : decode cX0_boat 162 = .ok (.iload_n 3, 1) := dk_29 (dk_at dksX0_boat_6 21 rfl rfl)
theorem dX0_boat_163 : decode cX0_boat 163 = .ok (.bipush (-9), 2) := dk_16 247 (dk_at dksX0_boat_6 22 rfl rfl)
theorem dX0_boat_165 : decode cX0_boat 165 = .ok (.if_icmp .ne 7, 3) := dk_160 0 7 (dk_at dksX0_boat_7 0 rfl rfl)
theorem dX0_boat_168 : decode cX0_boat 168 = .ok (.iload_n 3, 1) := dk_29 (dk_at dksX0_boat_7 3 rfl rfl)
theorem dX0_boat_169 : decode cX0_boat 169 = .ok (.goto 5, 3) := dk_167 0 5 (dk_at dksX0_boat_7 4 rfl rfl)
theorem dX0_boat_172 : decode cX0_boat 172 = .ok (.iload 4, 2) := dk_21 4 (dk_at dksX0_boat_7 7 rfl rfl)
theorem dX0_boat_174 : decode cX0_boat 174 = .ok (.ireturn, 1) := dk_172 (dk_at dksX0_boat_7 9 rfl rfl)
abbrev cX0_clean : ByteArray := prog_1_method_31_code
def yX0_clean : MethodName := ⟨RX0, "clean", "(II)J"⟩
def dkwX0_clean_3 : List UInt8 := [22, 5, 20, 0, 247, 105, 55, 5, 132, 7, 1, 167, 255, 202, 33, 22, 5, 28, 184, 0, 249, 173]
abbrev dktX0_clean_3 : List UInt8 := dkwX0_clean_3 ++ []
def dkwX0_clean_2 : List UInt8 := [21, 7, 46, 27, 160, 0, 28, 33, 16, 10, 42, 180, 0, 13, 180, 0, 144, 21, 7, 46, 100, 133, 105, 66]
abbrev dktX0_clean_2 : List UInt8 := dkwX0_clean_2 ++ dktX0_clean_3
def dkwX0_clean_1 : List UInt8 := [55, 5, 3, 54, 7, 21, 7, 42, 180, 0, 13, 180, 0, 128, 162, 0, 48, 42, 180, 0, 19, 180, 0, 147]
abbrev dktX0_clean_1 : List UInt8 := dkwX0_clean_1 ++ dktX0_clean_2
def dkwX0_clean_0 : List UInt8 := [42, 27, 182, 0, 189, 153, 0, 12, 28, 3, 4, 184, 0, 90, 154, 0, 7, 20, 0, 245, 173, 10, 66, 10]
abbrev dktX0_clean_0 : List UInt8 := dkwX0_clean_0 ++ dktX0_clean_1
theorem dksX0_clean_0 : cX0_clean.data.toList.drop 0 = dktX0_clean_0 := by decide +kernel
theorem dksX0_clean_1 : cX0_clean.data.toList.drop 24 = dktX0_clean_1 := dk_seg dksX0_clean_0 24 rfl rfl
theorem dksX0_clean_2 : cX0_clean.data.toList.drop 48 = dktX0_clean_2 := dk_seg dksX0_clean_1 24 rfl rfl
theorem dksX0_clean_3 : cX0_clean.data.toList.drop 72 = dktX0_clean_3 := dk_seg dksX0_clean_2 24 rfl rfl
theorem dX0_clean_0 : decode cX0_clean 0 = .ok (.aload_n 0, 1) := dk_42 (dk_at dksX0_clean_0 0 rfl rfl)
theorem dX0_clean_1 : decode cX0_clean 1 = .ok (.iload_n 1, 1) := dk_27 (dk_at dksX0_clean_0 1 rfl rfl)
theorem dX0_clean_2 : decode cX0_clean 2 = .ok (.invokevirtual 189, 3) := dk_182 0 189 (dk_at dksX0_clean_0 2 rfl rfl)
theorem dX0_clean_5 : decode cX0_clean 5 = .ok (.ifCond .eq 12, 3) := dk_153 0 12 (dk_at dksX0_clean_0 5 rfl rfl)
theorem dX0_clean_8 : decode cX0_clean 8 = .ok (.iload_n 2, 1) := dk_28 (dk_at dksX0_clean_0 8 rfl rfl)
theorem dX0_clean_9 : decode cX0_clean 9 = .ok (.iconst 0, 1) := dk_3 (dk_at dksX0_clean_0 9 rfl rfl)
theorem dX0_clean_10 : decode cX0_clean 10 = .ok (.iconst 1, 1) := dk_4 (dk_at dksX0_clean_0 10 rfl rfl)
theorem dX0_clean_11 : decode cX0_clean 11 = .ok (.invokestatic 90, 3) := dk_184 0 90 (dk_at dksX0_clean_0 11 rfl rfl)
theorem dX0_clean_14 : decode cX0_clean 14 = .ok (.ifCond .ne 7, 3) := dk_154 0 7 (dk_at dksX0_clean_0 14 rfl rfl)
theorem dX0_clean_17 : decode cX0_clean 17 = .ok (.ldc2_w 245, 3) := dk_20 0 245 (dk_at dksX0_clean_0 17 rfl rfl)
theorem dX0_clean_20 : decode cX0_clean 20 = .ok (.lreturn, 1) := dk_173 (dk_at dksX0_clean_0 20 rfl rfl)
theorem dX0_clean_21 : decode cX0_clean 21 = .ok (.lconst 1, 1) := dk_10 (dk_at dksX0_clean_0 21 rfl rfl)
theorem dX0_clean_22 : decode cX0_clean 22 = .ok (.lstore_n 3, 1) := dk_66 (dk_at dksX0_clean_0 22 rfl rfl)
theorem dX0_clean_23 : decode cX0_clean 23 = .ok (.lconst 1, 1) := dk_10 (dk_at dksX0_clean_0 23 rfl rfl)
theorem dX0_clean_24 : decode cX0_clean 24 = .ok (.lstore 5, 2) := dk_55 5 (dk_at dksX0_clean_1 0 rfl rfl)
theorem dX0_clean_26 : decode cX0_clean 26 = .ok (.iconst 0, 1) := dk_3 (dk_at dksX0_clean_1 2 rfl rfl)
theorem dX0_clean_27 : decode cX0_clean 27 = .ok (.istore 7, 2) := dk_54 7 (dk_at dksX0_clean_1 3 rfl rfl)
theorem dX0_clean_29 : decode cX0_clean 29 = .ok (.iload 7, 2) := dk_21 7 (dk_at dksX0_clean_1 5 rfl rfl)
theorem dX0_clean_31 : decode cX0_clean 31 = .ok (.aload_n 0, 1) := dk_42 (dk_at dksX0_clean_1 7 rfl rfl)
theorem dX0_clean_32 : decode cX0_clean 32 = .ok (.getfield 13, 3) := dk_180 0 13 (dk_at dksX0_clean_1 8 rfl rfl)
theorem dX0_clean_35 : decode cX0_clean 35 = .ok (.getfield 128, 3) := dk_180 0 128 (dk_at dksX0_clean_1 11 rfl rfl)
theorem dX0_clean_38 : decode cX0_clean 38 = .ok (.if_icmp .ge 48, 3) := dk_162 0 48 (dk_at dksX0_clean_1 14 rfl rfl)
theorem dX0_clean_41 : decode cX0_clean 41 = .ok (.aload_n 0, 1) := dk_42 (dk_at dksX0_clean_1 17 rfl rfl)
theorem dX0_clean_42 : decode cX0_clean 42 = .ok (.getfield 19, 3) := dk_180 0 19 (dk_at dksX0_clean_1 18 rfl rfl)
theorem dX0_clean_45 : decode cX0_clean 45 = .ok (.getfield 147, 3) := dk_180 0 147 (dk_at dksX0_clean_1 21 rfl rfl)
theorem dX0_clean_48 : decode cX0_clean 48 = .ok (.iload 7, 2) := dk_21 7 (dk_at dksX0_clean_2 0 rfl rfl)
theorem dX0_clean_50 : decode cX0_clean 50 = .ok (.iaload, 1) := dk_46 (dk_at dksX0_clean_2 2 rfl rfl)
theorem dX0_clean_51 : decode cX0_clean 51 = .ok (.iload_n 1, 1) := dk_27 (dk_at dksX0_clean_2 3 rfl rfl)
theorem dX0_clean_52 : decode cX0_clean 52 = .ok (.if_icmp .ne 28, 3) := dk_160 0 28 (dk_at dksX0_clean_2 4 rfl rfl)
theorem dX0_clean_55 : decode cX0_clean 55 = .ok (.lload_n 3, 1) := dk_33 (dk_at dksX0_clean_2 7 rfl rfl)
theorem dX0_clean_56 : decode cX0_clean 56 = .ok (.bipush 10, 2) := dk_16 10 (dk_at dksX0_clean_2 8 rfl rfl)
theorem dX0_clean_58 : decode cX0_clean 58 = .ok (.aload_n 0, 1) := dk_42 (dk_at dksX0_clean_2 10 rfl rfl)
theorem dX0_clean_59 : decode cX0_clean 59 = .ok (.getfield 13, 3) := dk_180 0 13 (dk_at dksX0_clean_2 11 rfl rfl)
theorem dX0_clean_62 : decode cX0_clean 62 = .ok (.getfield 144, 3) := dk_180 0 144 (dk_at dksX0_clean_2 14 rfl rfl)
theorem dX0_clean_65 : decode cX0_clean 65 = .ok (.iload 7, 2) := dk_21 7 (dk_at dksX0_clean_2 17 rfl rfl)
theorem dX0_clean_67 : decode cX0_clean 67 = .ok (.iaload, 1) := dk_46 (dk_at dksX0_clean_2 19 rfl rfl)
theorem dX0_clean_68 : decode cX0_clean 68 = .ok (.isub, 1) := dk_100 (dk_at dksX0_clean_2 20 rfl rfl)
theorem dX0_clean_69 : decode cX0_clean 69 = .ok (.i2l, 1) := dk_133 (dk_at dksX0_clean_2 21 rfl rfl)
theorem dX0_clean_70 : decode cX0_clean 70 = .ok (.lmul, 1) := dk_105 (dk_at dksX0_clean_2 22 rfl rfl)
theorem dX0_clean_71 : decode cX0_clean 71 = .ok (.lstore_n 3, 1) := dk_66 (dk_at dksX0_clean_2 23 rfl rfl)
theorem dX0_clean_72 : decode cX0_clean 72 = .ok (.lload 5, 2) := dk_22 5 (dk_at dksX0_clean_3 0 rfl rfl)
theorem dX0_clean_74 : decode cX0_clean 74 = .ok (.ldc2_w 247, 3) := dk_20 0 247 (dk_at dksX0_clean_3 2 rfl rfl)
theorem dX0_clean_77 : decode cX0_clean 77 = .ok (.lmul, 1) := dk_105 (dk_at dksX0_clean_3 5 rfl rfl)
theorem dX0_clean_78 : decode cX0_clean 78 = .ok (.lstore 5, 2) := dk_55 5 (dk_at dksX0_clean_3 6 rfl rfl)
theorem dX0_clean_80 : decode cX0_clean 80 = .ok (.iinc 7 1, 3) := dk_132 7 1 (dk_at dksX0_clean_3 8 rfl rfl)
theorem dX0_clean_83 : decode cX0_clean 83 = .ok (.goto (-54), 3) := dk_167 255 202 (dk_at dksX0_clean_3 11 rfl rfl)
theorem dX0_clean_86 : decode cX0_clean 86 = .ok (.lload_n 3, 1) := dk_33 (dk_at dksX0_clean_3 14 rfl rfl)
theorem dX0_clean_87 : decode cX0_clean 87 = .ok (.lload 5, 2) := dk_22 5 (dk_at dksX0_clean_3 15 rfl rfl)
theorem dX0_clean_89 : decode cX0_clean 89 = .ok (.iload_n 2, 1) := dk_28 (dk_at dksX0_clean_3 17 rfl rfl)
theorem dX0_clean_90 : decode cX0_clean 90 = .ok (.invokestatic 249, 3) := dk_184 0 249 (dk_at dksX0_clean_3 18 rfl rfl)
theorem dX0_clean_93 : decode cX0_clean 93 = .ok (.lreturn, 1) := dk_173 (dk_at dksX0_clean_3 21 rfl rfl)
abbrev cX0_part : ByteArray := prog_1_method_30_code
def yX0_part : MethodName := ⟨RX0, "part", "(JJI)J"⟩
def dkwX0_part_0 : List UInt8 := [30, 32, 184, 0, 241, 55, 5, 21, 4, 154, 0, 10, 30, 22, 5, 109, 167, 0, 7, 32, 22, 5, 109, 173]
abbrev dktX0_part_0 : List UInt8 := dkwX0_part_0 ++ []
theorem dksX0_part_0 : cX0_part.data.toList.drop 0 = dktX0_part_0 := by decide +kernel
theorem dX0_part_0 : decode cX0_part 0 = .ok (.lload_n 0, 1) := dk_30 (dk_at dksX0_part_0 0 rfl rfl)
theorem dX0_part_1 : decode cX0_part 1 = .ok (.lload_n 2, 1) := dk_32 (dk_at dksX0_part_0 1 rfl rfl)
theorem dX0_part_2 : decode cX0_part 2 = .ok (.invokestatic 241, 3) := dk_184 0 241 (dk_at dksX0_part_0 2 rfl rfl)
theorem dX0_part_5 : decode cX0_part 5 = .ok (.lstore 5, 2) := dk_55 5 (dk_at dksX0_part_0 5 rfl rfl)
theorem dX0_part_7 : decode cX0_part 7 = .ok (.iload 4, 2) := dk_21 4 (dk_at dksX0_part_0 7 rfl rfl)
theorem dX0_part_9 : decode cX0_part 9 = .ok (.ifCond .ne 10, 3) := dk_154 0 10 (dk_at dksX0_part_0 9 rfl rfl)
theorem dX0_part_12 : decode cX0_part 12 = .ok (.lload_n 0, 1) := dk_30 (dk_at dksX0_part_0 12 rfl rfl)
theorem dX0_part_13 : decode cX0_part 13 = .ok (.lload 5, 2) := dk_22 5 (dk_at dksX0_part_0 13 rfl rfl)
theorem dX0_part_15 : decode cX0_part 15 = .ok (.ldiv, 1) := dk_109 (dk_at dksX0_part_0 15 rfl rfl)
theorem dX0_part_16 : decode cX0_part 16 = .ok (.goto 7, 3) := dk_167 0 7 (dk_at dksX0_part_0 16 rfl rfl)
theorem dX0_part_19 : decode cX0_part 19 = .ok (.lload_n 2, 1) := dk_32 (dk_at dksX0_part_0 19 rfl rfl)
theorem dX0_part_20 : decode cX0_part 20 = .ok (.lload 5, 2) := dk_22 5 (dk_at dksX0_part_0 20 rfl rfl)
theorem dX0_part_22 : decode cX0_part 22 = .ok (.ldiv, 1) := dk_109 (dk_at dksX0_part_0 22 rfl rfl)
theorem dX0_part_23 : decode cX0_part 23 = .ok (.lreturn, 1) := dk_173 (dk_at dksX0_part_0 23 rfl rfl)
abbrev cX0_common : ByteArray := prog_1_method_29_code
def yX0_common : MethodName := ⟨RX0, "common", "(JJ)J"⟩
def dkwX0_common_0 : List UInt8 := [32, 9, 148, 154, 0, 7, 30, 167, 0, 10, 32, 30, 32, 113, 184, 0, 241, 173]
abbrev dktX0_common_0 : List UInt8 := dkwX0_common_0 ++ []
theorem dksX0_common_0 : cX0_common.data.toList.drop 0 = dktX0_common_0 := by decide +kernel
theorem dX0_common_0 : decode cX0_common 0 = .ok (.lload_n 2, 1) := dk_32 (dk_at dksX0_common_0 0 rfl rfl)
theorem dX0_common_1 : decode cX0_common 1 = .ok (.lconst 0, 1) := dk_9 (dk_at dksX0_common_0 1 rfl rfl)
theorem dX0_common_2 : decode cX0_common 2 = .ok (.lcmp, 1) := dk_148 (dk_at dksX0_common_0 2 rfl rfl)
theorem dX0_common_3 : decode cX0_common 3 = .ok (.ifCond .ne 7, 3) := dk_154 0 7 (dk_at dksX0_common_0 3 rfl rfl)
theorem dX0_common_6 : decode cX0_common 6 = .ok (.lload_n 0, 1) := dk_30 (dk_at dksX0_common_0 6 rfl rfl)
theorem dX0_common_7 : decode cX0_common 7 = .ok (.goto 10, 3) := dk_167 0 10 (dk_at dksX0_common_0 7 rfl rfl)
theorem dX0_common_10 : decode cX0_common 10 = .ok (.lload_n 2, 1) := dk_32 (dk_at dksX0_common_0 10 rfl rfl)
theorem dX0_common_11 : decode cX0_common 11 = .ok (.lload_n 0, 1) := dk_30 (dk_at dksX0_common_0 11 rfl rfl)
theorem dX0_common_12 : decode cX0_common 12 = .ok (.lload_n 2, 1) := dk_32 (dk_at dksX0_common_0 12 rfl rfl)
theorem dX0_common_13 : decode cX0_common 13 = .ok (.lrem, 1) := dk_113 (dk_at dksX0_common_0 13 rfl rfl)
theorem dX0_common_14 : decode cX0_common 14 = .ok (.invokestatic 241, 3) := dk_184 0 241 (dk_at dksX0_common_0 14 rfl rfl)
theorem dX0_common_17 : decode cX0_common 17 = .ok (.lreturn, 1) := dk_173 (dk_at dksX0_common_0 17 rfl rfl)
abbrev cX0_well : ByteArray := prog_1_method_33_code
def yX0_well : MethodName := ⟨RX0, "well", "(III)J"⟩
def dkwX0_well_2 : List UInt8 := [20, 1, 1, 167, 0, 15, 42, 28, 27, 182, 0, 253, 22, 4, 29, 184, 0, 249, 173]
abbrev dktX0_well_2 : List UInt8 := dkwX0_well_2 ++ []
def dkwX0_well_1 : List UInt8 := [154, 0, 7, 20, 0, 245, 173, 42, 28, 16, 247, 182, 0, 253, 55, 4, 22, 4, 9, 148, 154, 0, 9]
abbrev dktX0_well_1 : List UInt8 := dkwX0_well_1 ++ dktX0_well_2
def dkwX0_well_0 : List UInt8 := [42, 27, 182, 0, 137, 153, 0, 22, 28, 3, 16, 6, 184, 0, 90, 153, 0, 12, 29, 3, 4, 184, 0, 90]
abbrev dktX0_well_0 : List UInt8 := dkwX0_well_0 ++ dktX0_well_1
theorem dksX0_well_0 : cX0_well.data.toList.drop 0 = dktX0_well_0 := by decide +kernel
theorem dksX0_well_1 : cX0_well.data.toList.drop 24 = dktX0_well_1 := dk_seg dksX0_well_0 24 rfl rfl
theorem dksX0_well_2 : cX0_well.data.toList.drop 47 = dktX0_well_2 := dk_seg dksX0_well_1 23 rfl rfl
theorem dX0_well_0 : decode cX0_well 0 = .ok (.aload_n 0, 1) := dk_42 (dk_at dksX0_well_0 0 rfl rfl)
theorem dX0_well_1 : decode cX0_well 1 = .ok (.iload_n 1, 1) := dk_27 (dk_at dksX0_well_0 1 rfl rfl)
theorem dX0_well_2 : decode cX0_well 2 = .ok (.invokevirtual 137, 3) := dk_182 0 137 (dk_at dksX0_well_0 2 rfl rfl)
theorem dX0_well_5 : decode cX0_well 5 = .ok (.ifCond .eq 22, 3) := dk_153 0 22 (dk_at dksX0_well_0 5 rfl rfl)
theorem dX0_well_8 : decode cX0_well 8 = .ok (.iload_n 2, 1) := dk_28 (dk_at dksX0_well_0 8 rfl rfl)
theorem dX0_well_9 : decode cX0_well 9 = .ok (.iconst 0, 1) := dk_3 (dk_at dksX0_well_0 9 rfl rfl)
theorem dX0_well_10 : decode cX0_well 10 = .ok (.bipush 6, 2) := dk_16 6 (dk_at dksX0_well_0 10 rfl rfl)
theorem dX0_well_12 : decode cX0_well 12 = .ok (.invokestatic 90, 3) := dk_184 0 90 (dk_at dksX0_well_0 12 rfl rfl)
theorem dX0_well_15 : decode cX0_well 15 = .ok (.ifCond .eq 12, 3) := dk_153 0 12 (dk_at dksX0_well_0 15 rfl rfl)
theorem dX0_well_18 : decode cX0_well 18 = .ok (.iload_n 3, 1) := dk_29 (dk_at dksX0_well_0 18 rfl rfl)
theorem dX0_well_19 : decode cX0_well 19 = .ok (.iconst 0, 1) := dk_3 (dk_at dksX0_well_0 19 rfl rfl)
theorem dX0_well_20 : decode cX0_well 20 = .ok (.iconst 1, 1) := dk_4 (dk_at dksX0_well_0 20 rfl rfl)
theorem dX0_well_21 : decode cX0_well 21 = .ok (.invokestatic 90, 3) := dk_184 0 90 (dk_at dksX0_well_0 21 rfl rfl)
theorem dX0_well_24 : decode cX0_well 24 = .ok (.ifCond .ne 7, 3) := dk_154 0 7 (dk_at dksX0_well_1 0 rfl rfl)
theorem dX0_well_27 : decode cX0_well 27 = .ok (.ldc2_w 245, 3) := dk_20 0 245 (dk_at dksX0_well_1 3 rfl rfl)
theorem dX0_well_30 : decode cX0_well 30 = .ok (.lreturn, 1) := dk_173 (dk_at dksX0_well_1 6 rfl rfl)
theorem dX0_well_31 : decode cX0_well 31 = .ok (.aload_n 0, 1) := dk_42 (dk_at dksX0_well_1 7 rfl rfl)
theorem dX0_well_32 : decode cX0_well 32 = .ok (.iload_n 2, 1) := dk_28 (dk_at dksX0_well_1 8 rfl rfl)
theorem dX0_well_33 : decode cX0_well 33 = .ok (.bipush (-9), 2) := dk_16 247 (dk_at dksX0_well_1 9 rfl rfl)
theorem dX0_well_35 : decode cX0_well 35 = .ok (.invokevirtual 253, 3) := dk_182 0 253 (dk_at dksX0_well_1 11 rfl rfl)
theorem dX0_well_38 : decode cX0_well 38 = .ok (.lstore 4, 2) := dk_55 4 (dk_at dksX0_well_1 14 rfl rfl)
theorem dX0_well_40 : decode cX0_well 40 = .ok (.lload 4, 2) := dk_22 4 (dk_at dksX0_well_1 16 rfl rfl)
theorem dX0_well_42 : decode cX0_well 42 = .ok (.lconst 0, 1) := dk_9 (dk_at dksX0_well_1 18 rfl rfl)
theorem dX0_well_43 : decode cX0_well 43 = .ok (.lcmp, 1) := dk_148 (dk_at dksX0_well_1 19 rfl rfl)
theorem dX0_well_44 : decode cX0_well 44 = .ok (.ifCond .ne 9, 3) := dk_154 0 9 (dk_at dksX0_well_1 20 rfl rfl)
theorem dX0_well_47 : decode cX0_well 47 = .ok (.ldc2_w 257, 3) := dk_20 1 1 (dk_at dksX0_well_2 0 rfl rfl)
theorem dX0_well_50 : decode cX0_well 50 = .ok (.goto 15, 3) := dk_167 0 15 (dk_at dksX0_well_2 3 rfl rfl)
theorem dX0_well_53 : decode cX0_well 53 = .ok (.aload_n 0, 1) := dk_42 (dk_at dksX0_well_2 6 rfl rfl)
theorem dX0_well_54 : decode cX0_well 54 = .ok (.iload_n 2, 1) := dk_28 (dk_at dksX0_well_2 7 rfl rfl)
theorem dX0_well_55 : decode cX0_well 55 = .ok (.iload_n 1, 1) := dk_27 (dk_at dksX0_well_2 8 rfl rfl)
theorem dX0_well_56 : decode cX0_well 56 = .ok (.invokevirtual 253, 3) := dk_182 0 253 (dk_at dksX0_well_2 9 rfl rfl)
theorem dX0_well_59 : decode cX0_well 59 = .ok (.lload 4, 2) := dk_22 4 (dk_at dksX0_well_2 12 rfl rfl)
theorem dX0_well_61 : decode cX0_well 61 = .ok (.iload_n 3, 1) := dk_29 (dk_at dksX0_well_2 14 rfl rfl)
theorem dX0_well_62 : decode cX0_well 62 = .ok (.invokestatic 249, 3) := dk_184 0 249 (dk_at dksX0_well_2 15 rfl rfl)
theorem dX0_well_65 : decode cX0_well 65 = .ok (.lreturn, 1) := dk_173 (dk_at dksX0_well_2 18 rfl rfl)
abbrev cX0_ways : ByteArray := prog_1_method_32_code
def yX0_ways : MethodName := ⟨RX0, "ways", "(II)J"⟩
def dkwX0_ways_5 : List UInt8 := [66, 132, 5, 1, 167, 255, 138, 33, 173]
abbrev dktX0_ways_5 : List UInt8 := dkwX0_ways_5 ++ []
def dkwX0_ways_4 : List UInt8 := [180, 0, 13, 180, 0, 144, 21, 8, 46, 100, 133, 105, 55, 6, 132, 8, 1, 167, 255, 197, 33, 22, 6, 97]
abbrev dktX0_ways_4 : List UInt8 := dkwX0_ways_4 ++ dktX0_ways_5
def dkwX0_ways_3 : List UInt8 := [4, 126, 4, 160, 0, 17, 42, 180, 0, 13, 180, 0, 144, 21, 8, 46, 133, 167, 0, 17, 16, 10, 42]
abbrev dktX0_ways_3 : List UInt8 := dkwX0_ways_3 ++ dktX0_ways_4
def dkwX0_ways_2 : List UInt8 := [55, 6, 3, 54, 8, 21, 8, 42, 180, 0, 13, 180, 0, 128, 162, 0, 53, 22, 6, 21, 5, 21, 8, 122]
abbrev dktX0_ways_2 : List UInt8 := dkwX0_ways_2 ++ dktX0_ways_3
def dkwX0_ways_1 : List UInt8 := [27, 160, 0, 22, 28, 16, 247, 159, 0, 12, 21, 5, 28, 122, 4, 126, 154, 0, 7, 10, 167, 0, 4, 9]
abbrev dktX0_ways_1 : List UInt8 := dkwX0_ways_1 ++ dktX0_ways_2
def dkwX0_ways_0 : List UInt8 := [9, 66, 3, 54, 5, 21, 5, 4, 42, 180, 0, 13, 180, 0, 128, 120, 162, 0, 110, 21, 5, 184, 0, 211]
abbrev dktX0_ways_0 : List UInt8 := dkwX0_ways_0 ++ dktX0_ways_1
theorem dksX0_ways_0 : cX0_ways.data.toList.drop 0 = dktX0_ways_0 := by decide +kernel
theorem dksX0_ways_1 : cX0_ways.data.toList.drop 24 = dktX0_ways_1 := dk_seg dksX0_ways_0 24 rfl rfl
theorem dksX0_ways_2 : cX0_ways.data.toList.drop 48 = dktX0_ways_2 := dk_seg dksX0_ways_1 24 rfl rfl
theorem dksX0_ways_3 : cX0_ways.data.toList.drop 72 = dktX0_ways_3 := dk_seg dksX0_ways_2 24 rfl rfl
theorem dksX0_ways_4 : cX0_ways.data.toList.drop 95 = dktX0_ways_4 := dk_seg dksX0_ways_3 23 rfl rfl
theorem dksX0_ways_5 : cX0_ways.data.toList.drop 119 = dktX0_ways_5 := dk_seg dksX0_ways_4 24 rfl rfl
theorem dX0_ways_0 : decode cX0_ways 0 = .ok (.lconst 0, 1) := dk_9 (dk_at dksX0_ways_0 0 rfl rfl)
theorem dX0_ways_1 : decode cX0_ways 1 = .ok (.lstore_n 3, 1) := dk_66 (dk_at dksX0_ways_0 1 rfl rfl)
theorem dX0_ways_2 : decode cX0_ways 2 = .ok (.iconst 0, 1) := dk_3 (dk_at dksX0_ways_0 2 rfl rfl)
theorem dX0_ways_3 : decode cX0_ways 3 = .ok (.istore 5, 2) := dk_54 5 (dk_at dksX0_ways_0 3 rfl rfl)
theorem dX0_ways_5 : decode cX0_ways 5 = .ok (.iload 5, 2) := dk_21 5 (dk_at dksX0_ways_0 5 rfl rfl)
theorem dX0_ways_7 : decode cX0_ways 7 = .ok (.iconst 1, 1) := dk_4 (dk_at dksX0_ways_0 7 rfl rfl)
theorem dX0_ways_8 : decode cX0_ways 8 = .ok (.aload_n 0, 1) := dk_42 (dk_at dksX0_ways_0 8 rfl rfl)
theorem dX0_ways_9 : decode cX0_ways 9 = .ok (.getfield 13, 3) := dk_180 0 13 (dk_at dksX0_ways_0 9 rfl rfl)
theorem dX0_ways_12 : decode cX0_ways 12 = .ok (.getfield 128, 3) := dk_180 0 128 (dk_at dksX0_ways_0 12 rfl rfl)
theorem dX0_ways_15 : decode cX0_ways 15 = .ok (.ishl, 1) := dk_120 (dk_at dksX0_ways_0 15 rfl rfl)
theorem dX0_ways_16 : decode cX0_ways 16 = .ok (.if_icmp .ge 110, 3) := dk_162 0 110 (dk_at dksX0_ways_0 16 rfl rfl)
theorem dX0_ways_19 : decode cX0_ways 19 = .ok (.iload 5, 2) := dk_21 5 (dk_at dksX0_ways_0 19 rfl rfl)
theorem dX0_ways_21 : decode cX0_ways 21 = .ok (.invokestatic 211, 3) := dk_184 0 211 (dk_at dksX0_ways_0 21 rfl rfl)
theorem dX0_ways_24 : decode cX0_ways 24 = .ok (.iload_n 1, 1) := dk_27 (dk_at dksX0_ways_1 0 rfl rfl)
theorem dX0_ways_25 : decode cX0_ways 25 = .ok (.if_icmp .ne 22, 3) := dk_160 0 22 (dk_at dksX0_ways_1 1 rfl rfl)
theorem dX0_ways_28 : decode cX0_ways 28 = .ok (.iload_n 2, 1) := dk_28 (dk_at dksX0_ways_1 4 rfl rfl)
theorem dX0_ways_29 : decode cX0_ways 29 = .ok (.bipush (-9), 2) := dk_16 247 (dk_at dksX0_ways_1 5 rfl rfl)
theorem dX0_ways_31 : decode cX0_ways 31 = .ok (.if_icmp .eq 12, 3) := dk_159 0 12 (dk_at dksX0_ways_1 7 rfl rfl)
theorem dX0_ways_34 : decode cX0_ways 34 = .ok (.iload 5, 2) := dk_21 5 (dk_at dksX0_ways_1 10 rfl rfl)
theorem dX0_ways_36 : decode cX0_ways 36 = .ok (.iload_n 2, 1) := dk_28 (dk_at dksX0_ways_1 12 rfl rfl)
theorem dX0_ways_37 : decode cX0_ways 37 = .ok (.ishr, 1) := dk_122 (dk_at dksX0_ways_1 13 rfl rfl)
theorem dX0_ways_38 : decode cX0_ways 38 = .ok (.iconst 1, 1) := dk_4 (dk_at dksX0_ways_1 14 rfl rfl)
theorem dX0_ways_39 : decode cX0_ways 39 = .ok (.iand, 1) := dk_126 (dk_at dksX0_ways_1 15 rfl rfl)
theorem dX0_ways_40 : decode cX0_ways 40 = .ok (.ifCond .ne 7, 3) := dk_154 0 7 (dk_at dksX0_ways_1 16 rfl rfl)
theorem dX0_ways_43 : decode cX0_ways 43 = .ok (.lconst 1, 1) := dk_10 (dk_at dksX0_ways_1 19 rfl rfl)
theorem dX0_ways_44 : decode cX0_ways 44 = .ok (.goto 4, 3) := dk_167 0 4 (dk_at dksX0_ways_1 20 rfl rfl)
theorem dX0_ways_47 : decode cX0_ways 47 = .ok (.lconst 0, 1) := dk_9 (dk_at dksX0_ways_1 23 rfl rfl)
theorem dX0_ways_48 : decode cX0_ways 48 = .ok (.lstore 6, 2) := dk_55 6 (dk_at dksX0_ways_2 0 rfl rfl)
theorem dX0_ways_50 : decode cX0_ways 50 = .ok (.iconst 0, 1) := dk_3 (dk_at dksX0_ways_2 2 rfl rfl)
theorem dX0_ways_51 : decode cX0_ways 51 = .ok (.istore 8, 2) := dk_54 8 (dk_at dksX0_ways_2 3 rfl rfl)
theorem dX0_ways_53 : decode cX0_ways 53 = .ok (.iload 8, 2) := dk_21 8 (dk_at dksX0_ways_2 5 rfl rfl)
theorem dX0_ways_55 : decode cX0_ways 55 = .ok (.aload_n 0, 1) := dk_42 (dk_at dksX0_ways_2 7 rfl rfl)
theorem dX0_ways_56 : decode cX0_ways 56 = .ok (.getfield 13, 3) := dk_180 0 13 (dk_at dksX0_ways_2 8 rfl rfl)
theorem dX0_ways_59 : decode cX0_ways 59 = .ok (.getfield 128, 3) := dk_180 0 128 (dk_at dksX0_ways_2 11 rfl rfl)
theorem dX0_ways_62 : decode cX0_ways 62 = .ok (.if_icmp .ge 53, 3) := dk_162 0 53 (dk_at dksX0_ways_2 14 rfl rfl)
theorem dX0_ways_65 : decode cX0_ways 65 = .ok (.lload 6, 2) := dk_22 6 (dk_at dksX0_ways_2 17 rfl rfl)
theorem dX0_ways_67 : decode cX0_ways 67 = .ok (.iload 5, 2) := dk_21 5 (dk_at dksX0_ways_2 19 rfl rfl)
theorem dX0_ways_69 : decode cX0_ways 69 = .ok (.iload 8, 2) := dk_21 8 (dk_at dksX0_ways_2 21 rfl rfl)
theorem dX0_ways_71 : decode cX0_ways 71 = .ok (.ishr, 1) := dk_122 (dk_at dksX0_ways_2 23 rfl rfl)
theorem dX0_ways_72 : decode cX0_ways 72 = .ok (.iconst 1, 1) := dk_4 (dk_at dksX0_ways_3 0 rfl rfl)
theorem dX0_ways_73 : decode cX0_ways 73 = .ok (.iand, 1) := dk_126 (dk_at dksX0_ways_3 1 rfl rfl)
theorem dX0_ways_74 : decode cX0_ways 74 = .ok (.iconst 1, 1) := dk_4 (dk_at dksX0_ways_3 2 rfl rfl)
theorem dX0_ways_75 : decode cX0_ways 75 = .ok (.if_icmp .ne 17, 3) := dk_160 0 17 (dk_at dksX0_ways_3 3 rfl rfl)
theorem dX0_ways_78 : decode cX0_ways 78 = .ok (.aload_n 0, 1) := dk_42 (dk_at dksX0_ways_3 6 rfl rfl)
theorem dX0_ways_79 : decode cX0_ways 79 = .ok (.getfield 13, 3) := dk_180 0 13 (dk_at dksX0_ways_3 7 rfl rfl)
theorem dX0_ways_82 : decode cX0_ways 82 = .ok (.getfield 144, 3) := dk_180 0 144 (dk_at dksX0_ways_3 10 rfl rfl)
theorem dX0_ways_85 : decode cX0_ways 85 = .ok (.iload 8, 2) := dk_21 8 (dk_at dksX0_ways_3 13 rfl rfl)
theorem dX0_ways_87 : decode cX0_ways 87 = .ok (.iaload, 1) := dk_46 (dk_at dksX0_ways_3 15 rfl rfl)
theorem dX0_ways_88 : decode cX0_ways 88 = .ok (.i2l, 1) := dk_133 (dk_at dksX0_ways_3 16 rfl rfl)
theorem dX0_ways_89 : decode cX0_ways 89 = .ok (.goto 17, 3) := dk_167 0 17 (dk_at dksX0_ways_3 17 rfl rfl)
theorem dX0_ways_92 : decode cX0_ways 92 = .ok (.bipush 10, 2) := dk_16 10 (dk_at dksX0_ways_3 20 rfl rfl)
theorem dX0_ways_94 : decode cX0_ways 94 = .ok (.aload_n 0, 1) := dk_42 (dk_at dksX0_ways_3 22 rfl rfl)
theorem dX0_ways_95 : decode cX0_ways 95 = .ok (.getfield 13, 3) := dk_180 0 13 (dk_at dksX0_ways_4 0 rfl rfl)
theorem dX0_ways_98 : decode cX0_ways 98 = .ok (.getfield 144, 3) := dk_180 0 144 (dk_at dksX0_ways_4 3 rfl rfl)
theorem dX0_ways_101 : decode cX0_ways 101 = .ok (.iload 8, 2) := dk_21 8 (dk_at dksX0_ways_4 6 rfl rfl)
theorem dX0_ways_103 : decode cX0_ways 103 = .ok (.iaload, 1) := dk_46 (dk_at dksX0_ways_4 8 rfl rfl)
theorem dX0_ways_104 : decode cX0_ways 104 = .ok (.isub, 1) := dk_100 (dk_at dksX0_ways_4 9 rfl rfl)
theorem dX0_ways_105 : decode cX0_ways 105 = .ok (.i2l, 1) := dk_133 (dk_at dksX0_ways_4 10 rfl rfl)
theorem dX0_ways_106 : decode cX0_ways 106 = .ok (.lmul, 1) := dk_105 (dk_at dksX0_ways_4 11 rfl rfl)
theorem dX0_ways_107 : decode cX0_ways 107 = .ok (.lstore 6, 2) := dk_55 6 (dk_at dksX0_ways_4 12 rfl rfl)
theorem dX0_ways_109 : decode cX0_ways 109 = .ok (.iinc 8 1, 3) := dk_132 8 1 (dk_at dksX0_ways_4 14 rfl rfl)
theorem dX0_ways_112 : decode cX0_ways 112 = .ok (.goto (-59), 3) := dk_167 255 197 (dk_at dksX0_ways_4 17 rfl rfl)
theorem dX0_ways_115 : decode cX0_ways 115 = .ok (.lload_n 3, 1) := dk_33 (dk_at dksX0_ways_4 20 rfl rfl)
theorem dX0_ways_116 : decode cX0_ways 116 = .ok (.lload 6, 2) := dk_22 6 (dk_at dksX0_ways_4 21 rfl rfl)
theorem dX0_ways_118 : decode cX0_ways 118 = .ok (.ladd, 1) := dk_97 (dk_at dksX0_ways_4 23 rfl rfl)
theorem dX0_ways_119 : decode cX0_ways 119 = .ok (.lstore_n 3, 1) := dk_66 (dk_at dksX0_ways_5 0 rfl rfl)
theorem dX0_ways_120 : decode cX0_ways 120 = .ok (.iinc 5 1, 3) := dk_132 5 1 (dk_at dksX0_ways_5 1 rfl rfl)
theorem dX0_ways_123 : decode cX0_ways 123 = .ok (.goto (-118), 3) := dk_167 255 138 (dk_at dksX0_ways_5 4 rfl rfl)
theorem dX0_ways_126 : decode cX0_ways 126 = .ok (.lload_n 3, 1) := dk_33 (dk_at dksX0_ways_5 7 rfl rfl)
theorem dX0_ways_127 : decode cX0_ways 127 = .ok (.lreturn, 1) := dk_173 (dk_at dksX0_ways_5 8 rfl rfl)
abbrev cX0_writes : ByteArray := prog_1_method_34_code
def yX0_writes : MethodName := ⟨RX0, "writes", "(I)I"⟩
def dkwX0_writes_2 : List UInt8 := [180, 0, 19, 89, 180, 1, 3, 4, 96, 181, 1, 3, 42, 180, 0, 19, 180, 1, 3, 172]
abbrev dktX0_writes_2 : List UInt8 := dkwX0_writes_2 ++ []
def dkwX0_writes_1 : List UInt8 := [16, 253, 172, 42, 182, 0, 192, 42, 180, 0, 19, 180, 1, 6, 42, 180, 0, 19, 180, 1, 3, 27, 79, 42]
abbrev dktX0_writes_1 : List UInt8 := dkwX0_writes_1 ++ dktX0_writes_2
def dkwX0_writes_0 : List UInt8 := [27, 3, 16, 9, 184, 0, 90, 154, 0, 5, 2, 172, 42, 180, 0, 19, 180, 1, 3, 8, 160, 0, 6]
abbrev dktX0_writes_0 : List UInt8 := dkwX0_writes_0 ++ dktX0_writes_1
theorem dksX0_writes_0 : cX0_writes.data.toList.drop 0 = dktX0_writes_0 := by decide +kernel
theorem dksX0_writes_1 : cX0_writes.data.toList.drop 23 = dktX0_writes_1 := dk_seg dksX0_writes_0 23 rfl rfl
theorem dksX0_writes_2 : cX0_writes.data.toList.drop 47 = dktX0_writes_2 := dk_seg dksX0_writes_1 24 rfl rfl
theorem dX0_writes_0 : decode cX0_writes 0 = .ok (.iload_n 1, 1) := dk_27 (dk_at dksX0_writes_0 0 rfl rfl)
theorem dX0_writes_1 : decode cX0_writes 1 = .ok (.iconst 0, 1) := dk_3 (dk_at dksX0_writes_0 1 rfl rfl)
theorem dX0_writes_2 : decode cX0_writes 2 = .ok (.bipush 9, 2) := dk_16 9 (dk_at dksX0_writes_0 2 rfl rfl)
theorem dX0_writes_4 : decode cX0_writes 4 = .ok (.invokestatic 90, 3) := dk_184 0 90 (dk_at dksX0_writes_0 4 rfl rfl)
theorem dX0_writes_7 : decode cX0_writes 7 = .ok (.ifCond .ne 5, 3) := dk_154 0 5 (dk_at dksX0_writes_0 7 rfl rfl)
theorem dX0_writes_10 : decode cX0_writes 10 = .ok (.iconst (-1), 1) := dk_2 (dk_at dksX0_writes_0 10 rfl rfl)
theorem dX0_writes_11 : decode cX0_writes 11 = .ok (.ireturn, 1) := dk_172 (dk_at dksX0_writes_0 11 rfl rfl)
theorem dX0_writes_12 : decode cX0_writes 12 = .ok (.aload_n 0, 1) := dk_42 (dk_at dksX0_writes_0 12 rfl rfl)
theorem dX0_writes_13 : decode cX0_writes 13 = .ok (.getfield 19, 3) := dk_180 0 19 (dk_at dksX0_writes_0 13 rfl rfl)
theorem dX0_writes_16 : decode cX0_writes 16 = .ok (.getfield 259, 3) := dk_180 1 3 (dk_at dksX0_writes_0 16 rfl rfl)
theorem dX0_writes_19 : decode cX0_writes 19 = .ok (.iconst 5, 1) := dk_8 (dk_at dksX0_writes_0 19 rfl rfl)
theorem dX0_writes_20 : decode cX0_writes 20 = .ok (.if_icmp .ne 6, 3) := dk_160 0 6 (dk_at dksX0_writes_0 20 rfl rfl)
theorem dX0_writes_23 : decode cX0_writes 23 = .ok (.bipush (-3), 2) := dk_16 253 (dk_at dksX0_writes_1 0 rfl rfl)
theorem dX0_writes_25 : decode cX0_writes 25 = .ok (.ireturn, 1) := dk_172 (dk_at dksX0_writes_1 2 rfl rfl)
theorem dX0_writes_26 : decode cX0_writes 26 = .ok (.aload_n 0, 1) := dk_42 (dk_at dksX0_writes_1 3 rfl rfl)
theorem dX0_writes_27 : decode cX0_writes 27 = .ok (.invokevirtual 192, 3) := dk_182 0 192 (dk_at dksX0_writes_1 4 rfl rfl)
theorem dX0_writes_30 : decode cX0_writes 30 = .ok (.aload_n 0, 1) := dk_42 (dk_at dksX0_writes_1 7 rfl rfl)
theorem dX0_writes_31 : decode cX0_writes 31 = .ok (.getfield 19, 3) := dk_180 0 19 (dk_at dksX0_writes_1 8 rfl rfl)
theorem dX0_writes_34 : decode cX0_writes 34 = .ok (.getfield 262, 3) := dk_180 1 6 (dk_at dksX0_writes_1 11 rfl rfl)
theorem dX0_writes_37 : decode cX0_writes 37 = .ok (.aload_n 0, 1) := dk_42 (dk_at dksX0_writes_1 14 rfl rfl)
theorem dX0_writes_38 : decode cX0_writes 38 = .ok (.getfield 19, 3) := dk_180 0 19 (dk_at dksX0_writes_1 15 rfl rfl)
theorem dX0_writes_41 : decode cX0_writes 41 = .ok (.getfield 259, 3) := dk_180 1 3 (dk_at dksX0_writes_1 18 rfl rfl)
theorem dX0_writes_44 : decode cX0_writes 44 = .ok (.iload_n 1, 1) := dk_27 (dk_at dksX0_writes_1 21 rfl rfl)
theorem dX0_writes_45 : decode cX0_writes 45 = .ok (.iastore, 1) := dk_79 (dk_at dksX0_writes_1 22 rfl rfl)
theorem dX0_writes_46 : decode cX0_writes 46 = .ok (.aload_n 0, 1) := dk_42 (dk_at dksX0_writes_1 23 rfl rfl)
theorem dX0_writes_47 : decode cX0_writes 47 = .ok (.getfield 19, 3) := dk_180 0 19 (dk_at dksX0_writes_2 0 rfl rfl)
theorem dX0_writes_50 : decode cX0_writes 50 = .ok (.dup, 1) := dk_89 (dk_at dksX0_writes_2 3 rfl rfl)
theorem dX0_writes_51 : decode cX0_writes 51 = .ok (.getfield 259, 3) := dk_180 1 3 (dk_at dksX0_writes_2 4 rfl rfl)
theorem dX0_writes_54 : decode cX0_writes 54 = .ok (.iconst 1, 1) := dk_4 (dk_at dksX0_writes_2 7 rfl rfl)
theorem dX0_writes_55 : decode cX0_writes 55 = .ok (.iadd, 1) := dk_96 (dk_at dksX0_writes_2 8 rfl rfl)
theorem dX0_writes_56 : decode cX0_writes 56 = .ok (.putfield 259, 3) := dk_181 1 3 (dk_at dksX0_writes_2 9 rfl rfl)
theorem dX0_writes_59 : decode cX0_writes 59 = .ok (.aload_n 0, 1) := dk_42 (dk_at dksX0_writes_2 12 rfl rfl)
theorem dX0_writes_60 : decode cX0_writes 60 = .ok (.getfield 19, 3) := dk_180 0 19 (dk_at dksX0_writes_2 13 rfl rfl)
theorem dX0_writes_63 : decode cX0_writes 63 = .ok (.getfield 259, 3) := dk_180 1 3 (dk_at dksX0_writes_2 16 rfl rfl)
theorem dX0_writes_66 : decode cX0_writes 66 = .ok (.ireturn, 1) := dk_172 (dk_at dksX0_writes_2 19 rfl rfl)
abbrev cX0_tears : ByteArray := prog_1_method_35_code
def yX0_tears : MethodName := ⟨RX0, "tears", "()I"⟩
def dkwX0_tears_0 : List UInt8 := [42, 182, 0, 192, 42, 180, 0, 19, 180, 1, 3, 60, 42, 180, 0, 19, 3, 181, 1, 3, 27, 172]
abbrev dktX0_tears_0 : List UInt8 := dkwX0_tears_0 ++ []
theorem dksX0_tears_0 : cX0_tears.data.toList.drop 0 = dktX0_tears_0 := by decide +kernel
theorem dX0_tears_0 : decode cX0_tears 0 = .ok (.aload_n 0, 1) := dk_42 (dk_at dksX0_tears_0 0 rfl rfl)
theorem dX0_tears_1 : decode cX0_tears 1 = .ok (.invokevirtual 192, 3) := dk_182 0 192 (dk_at dksX0_tears_0 1 rfl rfl)
theorem dX0_tears_4 : decode cX0_tears 4 = .ok (.aload_n 0, 1) := dk_42 (dk_at dksX0_tears_0 4 rfl rfl)
theorem dX0_tears_5 : decode cX0_tears 5 = .ok (.getfield 19, 3) := dk_180 0 19 (dk_at dksX0_tears_0 5 rfl rfl)
theorem dX0_tears_8 : decode cX0_tears 8 = .ok (.getfield 259, 3) := dk_180 1 3 (dk_at dksX0_tears_0 8 rfl rfl)
theorem dX0_tears_11 : decode cX0_tears 11 = .ok (.istore_n 1, 1) := dk_60 (dk_at dksX0_tears_0 11 rfl rfl)
theorem dX0_tears_12 : decode cX0_tears 12 = .ok (.aload_n 0, 1) := dk_42 (dk_at dksX0_tears_0 12 rfl rfl)
theorem dX0_tears_13 : decode cX0_tears 13 = .ok (.getfield 19, 3) := dk_180 0 19 (dk_at dksX0_tears_0 13 rfl rfl)
theorem dX0_tears_16 : decode cX0_tears 16 = .ok (.iconst 0, 1) := dk_3 (dk_at dksX0_tears_0 16 rfl rfl)
theorem dX0_tears_17 : decode cX0_tears 17 = .ok (.putfield 259, 3) := dk_181 1 3 (dk_at dksX0_tears_0 17 rfl rfl)
theorem dX0_tears_20 : decode cX0_tears 20 = .ok (.iload_n 1, 1) := dk_27 (dk_at dksX0_tears_0 20 rfl rfl)
theorem dX0_tears_21 : decode cX0_tears 21 = .ok (.ireturn, 1) := dk_172 (dk_at dksX0_tears_0 21 rfl rfl)
abbrev cX0_smokes : ByteArray := prog_1_method_36_code
def yX0_smokes : MethodName := ⟨RX0, "smokes", "(I)I"⟩
def dkwX0_smokes_3 : List UInt8 := [4, 167, 0, 4, 3, 96, 61, 132, 3, 1, 167, 255, 194, 28, 172]
abbrev dktX0_smokes_3 : List UInt8 := dkwX0_smokes_3 ++ []
def dkwX0_smokes_2 : List UInt8 := [180, 1, 6, 29, 46, 182, 1, 9, 79, 28, 42, 180, 0, 19, 180, 1, 6, 29, 46, 16, 10, 160, 0, 7]
abbrev dktX0_smokes_2 : List UInt8 := dkwX0_smokes_2 ++ dktX0_smokes_3
def dkwX0_smokes_1 : List UInt8 := [180, 1, 3, 162, 0, 57, 42, 180, 0, 19, 180, 1, 6, 29, 42, 180, 0, 13, 27, 42, 180, 0, 19]
abbrev dktX0_smokes_1 : List UInt8 := dkwX0_smokes_1 ++ dktX0_smokes_2
def dkwX0_smokes_0 : List UInt8 := [42, 27, 182, 0, 154, 154, 0, 5, 2, 172, 42, 182, 0, 192, 3, 61, 3, 62, 29, 42, 180, 0, 19]
abbrev dktX0_smokes_0 : List UInt8 := dkwX0_smokes_0 ++ dktX0_smokes_1
theorem dksX0_smokes_0 : cX0_smokes.data.toList.drop 0 = dktX0_smokes_0 := by decide +kernel
theorem dksX0_smokes_1 : cX0_smokes.data.toList.drop 23 = dktX0_smokes_1 := dk_seg dksX0_smokes_0 23 rfl rfl
theorem dksX0_smokes_2 : cX0_smokes.data.toList.drop 46 = dktX0_smokes_2 := dk_seg dksX0_smokes_1 23 rfl rfl
theorem dksX0_smokes_3 : cX0_smokes.data.toList.drop 70 = dktX0_smokes_3 := dk_seg dksX0_smokes_2 24 rfl rfl
theorem dX0_smokes_0 : decode cX0_smokes 0 = .ok (.aload_n 0, 1) := dk_42 (dk_at dksX0_smokes_0 0 rfl rfl)
theorem dX0_smokes_1 : decode cX0_smokes 1 = .ok (.iload_n 1, 1) := dk_27 (dk_at dksX0_smokes_0 1 rfl rfl)
theorem dX0_smokes_2 : decode cX0_smokes 2 = .ok (.invokevirtual 154, 3) := dk_182 0 154 (dk_at dksX0_smokes_0 2 rfl rfl)
theorem dX0_smokes_5 : decode cX0_smokes 5 = .ok (.ifCond .ne 5, 3) := dk_154 0 5 (dk_at dksX0_smokes_0 5 rfl rfl)
theorem dX0_smokes_8 : decode cX0_smokes 8 = .ok (.iconst (-1), 1) := dk_2 (dk_at dksX0_smokes_0 8 rfl rfl)
theorem dX0_smokes_9 : decode cX0_smokes 9 = .ok (.ireturn, 1) := dk_172 (dk_at dksX0_smokes_0 9 rfl rfl)
theorem dX0_smokes_10 : decode cX0_smokes 10 = .ok (.aload_n 0, 1) := dk_42 (dk_at dksX0_smokes_0 10 rfl rfl)
theorem dX0_smokes_11 : decode cX0_smokes 11 = .ok (.invokevirtual 192, 3) := dk_182 0 192 (dk_at dksX0_smokes_0 11 rfl rfl)
theorem dX0_smokes_14 : decode cX0_smokes 14 = .ok (.iconst 0, 1) := dk_3 (dk_at dksX0_smokes_0 14 rfl rfl)
theorem dX0_smokes_15 : decode cX0_smokes 15 = .ok (.istore_n 2, 1) := dk_61 (dk_at dksX0_smokes_0 15 rfl rfl)
theorem dX0_smokes_16 : decode cX0_smokes 16 = .ok (.iconst 0, 1) := dk_3 (dk_at dksX0_smokes_0 16 rfl rfl)
theorem dX0_smokes_17 : decode cX0_smokes 17 = .ok (.istore_n 3, 1) := dk_62 (dk_at dksX0_smokes_0 17 rfl rfl)
theorem dX0_smokes_18 : decode cX0_smokes 18 = .ok (.iload_n 3, 1) := dk_29 (dk_at dksX0_smokes_0 18 rfl rfl)
theorem dX0_smokes_19 : decode cX0_smokes 19 = .ok (.aload_n 0, 1) := dk_42 (dk_at dksX0_smokes_0 19 rfl rfl)
theorem dX0_smokes_20 : decode cX0_smokes 20 = .ok (.getfield 19, 3) := dk_180 0 19 (dk_at dksX0_smokes_0 20 rfl rfl)
theorem dX0_smokes_23 : decode cX0_smokes 23 = .ok (.getfield 259, 3) := dk_180 1 3 (dk_at dksX0_smokes_1 0 rfl rfl)
theorem dX0_smokes_26 : decode cX0_smokes 26 = .ok (.if_icmp .ge 57, 3) := dk_162 0 57 (dk_at dksX0_smokes_1 3 rfl rfl)
theorem dX0_smokes_29 : decode cX0_smokes 29 = .ok (.aload_n 0, 1) := dk_42 (dk_at dksX0_smokes_1 6 rfl rfl)
theorem dX0_smokes_30 : decode cX0_smokes 30 = .ok (.getfield 19, 3) := dk_180 0 19 (dk_at dksX0_smokes_1 7 rfl rfl)
theorem dX0_smokes_33 : decode cX0_smokes 33 = .ok (.getfield 262, 3) := dk_180 1 6 (dk_at dksX0_smokes_1 10 rfl rfl)
theorem dX0_smokes_36 : decode cX0_smokes 36 = .ok (.iload_n 3, 1) := dk_29 (dk_at dksX0_smokes_1 13 rfl rfl)
theorem dX0_smokes_37 : decode cX0_smokes 37 = .ok (.aload_n 0, 1) := dk_42 (dk_at dksX0_smokes_1 14 rfl rfl)
theorem dX0_smokes_38 : decode cX0_smokes 38 = .ok (.getfield 13, 3) := dk_180 0 13 (dk_at dksX0_smokes_1 15 rfl rfl)
theorem dX0_smokes_41 : decode cX0_smokes 41 = .ok (.iload_n 1, 1) := dk_27 (dk_at dksX0_smokes_1 18 rfl rfl)
theorem dX0_smokes_42 : decode cX0_smokes 42 = .ok (.aload_n 0, 1) := dk_42 (dk_at dksX0_smokes_1 19 rfl rfl)
theorem dX0_smokes_43 : decode cX0_smokes 43 = .ok (.getfield 19, 3) := dk_180 0 19 (dk_at dksX0_smokes_1 20 rfl rfl)
theorem dX0_smokes_46 : decode cX0_smokes 46 = .ok (.getfield 262, 3) := dk_180 1 6 (dk_at dksX0_smokes_2 0 rfl rfl)
theorem dX0_smokes_49 : decode cX0_smokes 49 = .ok (.iload_n 3, 1) := dk_29 (dk_at dksX0_smokes_2 3 rfl rfl)
theorem dX0_smokes_50 : decode cX0_smokes 50 = .ok (.iaload, 1) := dk_46 (dk_at dksX0_smokes_2 4 rfl rfl)
theorem dX0_smokes_51 : decode cX0_smokes 51 = .ok (.invokevirtual 265, 3) := dk_182 1 9 (dk_at dksX0_smokes_2 5 rfl rfl)
theorem dX0_smokes_54 : decode cX0_smokes 54 = .ok (.iastore, 1) := dk_79 (dk_at dksX0_smokes_2 8 rfl rfl)
theorem dX0_smokes_55 : decode cX0_smokes 55 = .ok (.iload_n 2, 1) := dk_28 (dk_at dksX0_smokes_2 9 rfl rfl)
theorem dX0_smokes_56 : decode cX0_smokes 56 = .ok (.aload_n 0, 1) := dk_42 (dk_at dksX0_smokes_2 10 rfl rfl)
theorem dX0_smokes_57 : decode cX0_smokes 57 = .ok (.getfield 19, 3) := dk_180 0 19 (dk_at dksX0_smokes_2 11 rfl rfl)
theorem dX0_smokes_60 : decode cX0_smokes 60 = .ok (.getfield 262, 3) := dk_180 1 6 (dk_at dksX0_smokes_2 14 rfl rfl)
theorem dX0_smokes_63 : decode cX0_smokes 63 = .ok (.iload_n 3, 1) := dk_29 (dk_at dksX0_smokes_2 17 rfl rfl)
theorem dX0_smokes_64 : decode cX0_smokes 64 = .ok (.iaload, 1) := dk_46 (dk_at dksX0_smokes_2 18 rfl rfl)
theorem dX0_smokes_65 : decode cX0_smokes 65 = .ok (.bipush 10, 2) := dk_16 10 (dk_at dksX0_smokes_2 19 rfl rfl)
theorem dX0_smokes_67 : decode cX0_smokes 67 = .ok (.if_icmp .ne 7, 3) := dk_160 0 7 (dk_at dksX0_smokes_2 21 rfl rfl)
theorem dX0_smokes_70 : decode cX0_smokes 70 = .ok (.iconst 1, 1) := dk_4 (dk_at dksX0_smokes_3 0 rfl rfl)
theorem dX0_smokes_71 : decode cX0_smokes 71 = .ok (.goto 4, 3) := dk_167 0 4 (dk_at dksX0_smokes_3 1 rfl rfl)
theorem dX0_smokes_74 : decode cX0_smokes 74 = .ok (.iconst 0, 1) := dk_3 (dk_at dksX0_smokes_3 4 rfl rfl)
theorem dX0_smokes_75 : decode cX0_smokes 75 = .ok (.iadd, 1) := dk_96 (dk_at dksX0_smokes_3 5 rfl rfl)
theorem dX0_smokes_76 : decode cX0_smokes 76 = .ok (.istore_n 2, 1) := dk_61 (dk_at dksX0_smokes_3 6 rfl rfl)
theorem dX0_smokes_77 : decode cX0_smokes 77 = .ok (.iinc 3 1, 3) := dk_132 3 1 (dk_at dksX0_smokes_3 7 rfl rfl)
theorem dX0_smokes_80 : decode cX0_smokes 80 = .ok (.goto (-62), 3) := dk_167 255 194 (dk_at dksX0_smokes_3 10 rfl rfl)
theorem dX0_smokes_83 : decode cX0_smokes 83 = .ok (.iload_n 2, 1) := dk_28 (dk_at dksX0_smokes_3 13 rfl rfl)
theorem dX0_smokes_84 : decode cX0_smokes 84 = .ok (.ireturn, 1) := dk_172 (dk_at dksX0_smokes_3 14 rfl rfl)
abbrev cX0_word : ByteArray := prog_1_method_37_code
def yX0_word : MethodName := ⟨RX0, "word", "(I)I"⟩
def dkwX0_word_1 : List UInt8 := [27, 46, 167, 0, 4, 2, 172]
abbrev dktX0_word_1 : List UInt8 := dkwX0_word_1 ++ []
def dkwX0_word_0 : List UInt8 := [27, 3, 42, 180, 0, 19, 180, 1, 3, 4, 100, 184, 0, 90, 153, 0, 15, 42, 180, 0, 19, 180, 1, 6]
abbrev dktX0_word_0 : List UInt8 := dkwX0_word_0 ++ dktX0_word_1
theorem dksX0_word_0 : cX0_word.data.toList.drop 0 = dktX0_word_0 := by decide +kernel
theorem dksX0_word_1 : cX0_word.data.toList.drop 24 = dktX0_word_1 := dk_seg dksX0_word_0 24 rfl rfl
theorem dX0_word_0 : decode cX0_word 0 = .ok (.iload_n 1, 1) := dk_27 (dk_at dksX0_word_0 0 rfl rfl)
theorem dX0_word_1 : decode cX0_word 1 = .ok (.iconst 0, 1) := dk_3 (dk_at dksX0_word_0 1 rfl rfl)
theorem dX0_word_2 : decode cX0_word 2 = .ok (.aload_n 0, 1) := dk_42 (dk_at dksX0_word_0 2 rfl rfl)
theorem dX0_word_3 : decode cX0_word 3 = .ok (.getfield 19, 3) := dk_180 0 19 (dk_at dksX0_word_0 3 rfl rfl)
theorem dX0_word_6 : decode cX0_word 6 = .ok (.getfield 259, 3) := dk_180 1 3 (dk_at dksX0_word_0 6 rfl rfl)
theorem dX0_word_9 : decode cX0_word 9 = .ok (.iconst 1, 1) := dk_4 (dk_at dksX0_word_0 9 rfl rfl)
theorem dX0_word_10 : decode cX0_word 10 = .ok (.isub, 1) := dk_100 (dk_at dksX0_word_0 10 rfl rfl)
theorem dX0_word_11 : decode cX0_word 11 = .ok (.invokestatic 90, 3) := dk_184 0 90 (dk_at dksX0_word_0 11 rfl rfl)
theorem dX0_word_14 : decode cX0_word 14 = .ok (.ifCond .eq 15, 3) := dk_153 0 15 (dk_at dksX0_word_0 14 rfl rfl)
theorem dX0_word_17 : decode cX0_word 17 = .ok (.aload_n 0, 1) := dk_42 (dk_at dksX0_word_0 17 rfl rfl)
theorem dX0_word_18 : decode cX0_word 18 = .ok (.getfield 19, 3) := dk_180 0 19 (dk_at dksX0_word_0 18 rfl rfl)
theorem dX0_word_21 : decode cX0_word 21 = .ok (.getfield 262, 3) := dk_180 1 6 (dk_at dksX0_word_0 21 rfl rfl)
theorem dX0_word_24 : decode cX0_word 24 = .ok (.iload_n 1, 1) := dk_27 (dk_at dksX0_word_1 0 rfl rfl)
theorem dX0_word_25 : decode cX0_word 25 = .ok (.iaload, 1) := dk_46 (dk_at dksX0_word_1 1 rfl rfl)
theorem dX0_word_26 : decode cX0_word 26 = .ok (.goto 4, 3) := dk_167 0 4 (dk_at dksX0_word_1 2 rfl rfl)
theorem dX0_word_29 : decode cX0_word 29 = .ok (.iconst (-1), 1) := dk_2 (dk_at dksX0_word_1 5 rfl rfl)
theorem dX0_word_30 : decode cX0_word 30 = .ok (.ireturn, 1) := dk_172 (dk_at dksX0_word_1 6 rfl rfl)
abbrev cX0_brown : ByteArray := prog_1_method_38_code
def yX0_brown : MethodName := ⟨RX0, "brown", "(I)I"⟩
def dkwX0_brown_4 : List UInt8 := [181, 1, 12, 42, 89, 180, 0, 116, 4, 96, 181, 0, 116, 42, 180, 0, 116, 172]
abbrev dktX0_brown_4 : List UInt8 := dkwX0_brown_4 ++ []
def dkwX0_brown_3 : List UInt8 := [3, 8, 184, 0, 179, 42, 180, 0, 54, 42, 180, 0, 116, 27, 79, 42, 42, 180, 0, 19, 180, 1, 3]
abbrev dktX0_brown_3 : List UInt8 := dkwX0_brown_3 ++ dktX0_brown_4
def dkwX0_brown_2 : List UInt8 := [7, 160, 0, 6, 16, 253, 172, 42, 180, 0, 19, 180, 1, 6, 3, 42, 180, 0, 51, 42, 180, 0, 116, 50]
abbrev dktX0_brown_2 : List UInt8 := dkwX0_brown_2 ++ dktX0_brown_3
def dkwX0_brown_1 : List UInt8 := [158, 0, 20, 42, 180, 0, 19, 180, 1, 3, 42, 180, 1, 12, 159, 0, 6, 16, 254, 172, 42, 180, 0, 116]
abbrev dktX0_brown_1 : List UInt8 := dkwX0_brown_1 ++ dktX0_brown_2
def dkwX0_brown_0 : List UInt8 := [42, 27, 182, 0, 154, 154, 0, 5, 2, 172, 42, 180, 0, 19, 180, 1, 3, 153, 0, 24, 42, 180, 0, 116]
abbrev dktX0_brown_0 : List UInt8 := dkwX0_brown_0 ++ dktX0_brown_1
theorem dksX0_brown_0 : cX0_brown.data.toList.drop 0 = dktX0_brown_0 := by decide +kernel
theorem dksX0_brown_1 : cX0_brown.data.toList.drop 24 = dktX0_brown_1 := dk_seg dksX0_brown_0 24 rfl rfl
theorem dksX0_brown_2 : cX0_brown.data.toList.drop 48 = dktX0_brown_2 := dk_seg dksX0_brown_1 24 rfl rfl
theorem dksX0_brown_3 : cX0_brown.data.toList.drop 72 = dktX0_brown_3 := dk_seg dksX0_brown_2 24 rfl rfl
theorem dksX0_brown_4 : cX0_brown.data.toList.drop 95 = dktX0_brown_4 := dk_seg dksX0_brown_3 23 rfl rfl
theorem dX0_brown_0 : decode cX0_brown 0 = .ok (.aload_n 0, 1) := dk_42 (dk_at dksX0_brown_0 0 rfl rfl)
theorem dX0_brown_1 : decode cX0_brown 1 = .ok (.iload_n 1, 1) := dk_27 (dk_at dksX0_brown_0 1 rfl rfl)
theorem dX0_brown_2 : decode cX0_brown 2 = .ok (.invokevirtual 154, 3) := dk_182 0 154 (dk_at dksX0_brown_0 2 rfl rfl)
theorem dX0_brown_5 : decode cX0_brown 5 = .ok (.ifCond .ne 5, 3) := dk_154 0 5 (dk_at dksX0_brown_0 5 rfl rfl)
theorem dX0_brown_8 : decode cX0_brown 8 = .ok (.iconst (-1), 1) := dk_2 (dk_at dksX0_brown_0 8 rfl rfl)
theorem dX0_brown_9 : decode cX0_brown 9 = .ok (.ireturn, 1) := dk_172 (dk_at dksX0_brown_0 9 rfl rfl)
theorem dX0_brown_10 : decode cX0_brown 10 = .ok (.aload_n 0, 1) := dk_42 (dk_at dksX0_brown_0 10 rfl rfl)
theorem dX0_brown_11 : decode cX0_brown 11 = .ok (.getfield 19, 3) := dk_180 0 19 (dk_at dksX0_brown_0 11 rfl rfl)
theorem dX0_brown_14 : decode cX0_brown 14 = .ok (.getfield 259, 3) := dk_180 1 3 (dk_at dksX0_brown_0 14 rfl rfl)
theorem dX0_brown_17 : decode cX0_brown 17 = .ok (.ifCond .eq 24, 3) := dk_153 0 24 (dk_at dksX0_brown_0 17 rfl rfl)
theorem dX0_brown_20 : decode cX0_brown 20 = .ok (.aload_n 0, 1) := dk_42 (dk_at dksX0_brown_0 20 rfl rfl)
theorem dX0_brown_21 : decode cX0_brown 21 = .ok (.getfield 116, 3) := dk_180 0 116 (dk_at dksX0_brown_0 21 rfl rfl)
theorem dX0_brown_24 : decode cX0_brown 24 = .ok (.ifCond .le 20, 3) := dk_158 0 20 (dk_at dksX0_brown_1 0 rfl rfl)
theorem dX0_brown_27 : decode cX0_brown 27 = .ok (.aload_n 0, 1) := dk_42 (dk_at dksX0_brown_1 3 rfl rfl)
theorem dX0_brown_28 : decode cX0_brown 28 = .ok (.getfield 19, 3) := dk_180 0 19 (dk_at dksX0_brown_1 4 rfl rfl)
theorem dX0_brown_31 : decode cX0_brown 31 = .ok (.getfield 259, 3) := dk_180 1 3 (dk_at dksX0_brown_1 7 rfl rfl)
theorem dX0_brown_34 : decode cX0_brown 34 = .ok (.aload_n 0, 1) := dk_42 (dk_at dksX0_brown_1 10 rfl rfl)
theorem dX0_brown_35 : decode cX0_brown 35 = .ok (.getfield 268, 3) := dk_180 1 12 (dk_at dksX0_brown_1 11 rfl rfl)
theorem dX0_brown_38 : decode cX0_brown 38 = .ok (.if_icmp .eq 6, 3) := dk_159 0 6 (dk_at dksX0_brown_1 14 rfl rfl)
theorem dX0_brown_41 : decode cX0_brown 41 = .ok (.bipush (-2), 2) := dk_16 254 (dk_at dksX0_brown_1 17 rfl rfl)
theorem dX0_brown_43 : decode cX0_brown 43 = .ok (.ireturn, 1) := dk_172 (dk_at dksX0_brown_1 19 rfl rfl)
theorem dX0_brown_44 : decode cX0_brown 44 = .ok (.aload_n 0, 1) := dk_42 (dk_at dksX0_brown_1 20 rfl rfl)
theorem dX0_brown_45 : decode cX0_brown 45 = .ok (.getfield 116, 3) := dk_180 0 116 (dk_at dksX0_brown_1 21 rfl rfl)
theorem dX0_brown_48 : decode cX0_brown 48 = .ok (.iconst 4, 1) := dk_7 (dk_at dksX0_brown_2 0 rfl rfl)
theorem dX0_brown_49 : decode cX0_brown 49 = .ok (.if_icmp .ne 6, 3) := dk_160 0 6 (dk_at dksX0_brown_2 1 rfl rfl)
theorem dX0_brown_52 : decode cX0_brown 52 = .ok (.bipush (-3), 2) := dk_16 253 (dk_at dksX0_brown_2 4 rfl rfl)
theorem dX0_brown_54 : decode cX0_brown 54 = .ok (.ireturn, 1) := dk_172 (dk_at dksX0_brown_2 6 rfl rfl)
theorem dX0_brown_55 : decode cX0_brown 55 = .ok (.aload_n 0, 1) := dk_42 (dk_at dksX0_brown_2 7 rfl rfl)
theorem dX0_brown_56 : decode cX0_brown 56 = .ok (.getfield 19, 3) := dk_180 0 19 (dk_at dksX0_brown_2 8 rfl rfl)
theorem dX0_brown_59 : decode cX0_brown 59 = .ok (.getfield 262, 3) := dk_180 1 6 (dk_at dksX0_brown_2 11 rfl rfl)
theorem dX0_brown_62 : decode cX0_brown 62 = .ok (.iconst 0, 1) := dk_3 (dk_at dksX0_brown_2 14 rfl rfl)
theorem dX0_brown_63 : decode cX0_brown 63 = .ok (.aload_n 0, 1) := dk_42 (dk_at dksX0_brown_2 15 rfl rfl)
theorem dX0_brown_64 : decode cX0_brown 64 = .ok (.getfield 51, 3) := dk_180 0 51 (dk_at dksX0_brown_2 16 rfl rfl)
theorem dX0_brown_67 : decode cX0_brown 67 = .ok (.aload_n 0, 1) := dk_42 (dk_at dksX0_brown_2 19 rfl rfl)
theorem dX0_brown_68 : decode cX0_brown 68 = .ok (.getfield 116, 3) := dk_180 0 116 (dk_at dksX0_brown_2 20 rfl rfl)
theorem dX0_brown_71 : decode cX0_brown 71 = .ok (.aaload, 1) := dk_50 (dk_at dksX0_brown_2 23 rfl rfl)
theorem dX0_brown_72 : decode cX0_brown 72 = .ok (.iconst 0, 1) := dk_3 (dk_at dksX0_brown_3 0 rfl rfl)
theorem dX0_brown_73 : decode cX0_brown 73 = .ok (.iconst 5, 1) := dk_8 (dk_at dksX0_brown_3 1 rfl rfl)
theorem dX0_brown_74 : decode cX0_brown 74 = .ok (.invokestatic 179, 3) := dk_184 0 179 (dk_at dksX0_brown_3 2 rfl rfl)
theorem dX0_brown_77 : decode cX0_brown 77 = .ok (.aload_n 0, 1) := dk_42 (dk_at dksX0_brown_3 5 rfl rfl)
theorem dX0_brown_78 : decode cX0_brown 78 = .ok (.getfield 54, 3) := dk_180 0 54 (dk_at dksX0_brown_3 6 rfl rfl)
theorem dX0_brown_81 : decode cX0_brown 81 = .ok (.aload_n 0, 1) := dk_42 (dk_at dksX0_brown_3 9 rfl rfl)
theorem dX0_brown_82 : decode cX0_brown 82 = .ok (.getfield 116, 3) := dk_180 0 116 (dk_at dksX0_brown_3 10 rfl rfl)
theorem dX0_brown_85 : decode cX0_brown 85 = .ok (.iload_n 1, 1) := dk_27 (dk_at dksX0_brown_3 13 rfl rfl)
theorem dX0_brown_86 : decode cX0_brown 86 = .ok (.iastore, 1) := dk_79 (dk_at dksX0_brown_3 14 rfl rfl)
theorem dX0_brown_87 : decode cX0_brown 87 = .ok (.aload_n 0, 1) := dk_42 (dk_at dksX0_brown_3 15 rfl rfl)
theorem dX0_brown_88 : decode cX0_brown 88 = .ok (.aload_n 0, 1) := dk_42 (dk_at dksX0_brown_3 16 rfl rfl)
theorem dX0_brown_89 : decode cX0_brown 89 = .ok (.getfield 19, 3) := dk_180 0 19 (dk_at dksX0_brown_3 17 rfl rfl)
theorem dX0_brown_92 : decode cX0_brown 92 = .ok (.getfield 259, 3) := dk_180 1 3 (dk_at dksX0_brown_3 20 rfl rfl)
theorem dX0_brown_95 : decode cX0_brown 95 = .ok (.putfield 268, 3) := dk_181 1 12 (dk_at dksX0_brown_4 0 rfl rfl)
theorem dX0_brown_98 : decode cX0_brown 98 = .ok (.aload_n 0, 1) := dk_42 (dk_at dksX0_brown_4 3 rfl rfl)
theorem dX0_brown_99 : decode cX0_brown 99 = .ok (.dup, 1) := dk_89 (dk_at dksX0_brown_4 4 rfl rfl)
theorem dX0_brown_100 : decode cX0_brown 100 = .ok (.getfield 116, 3) := dk_180 0 116 (dk_at dksX0_brown_4 5 rfl rfl)
theorem dX0_brown_103 : decode cX0_brown 103 = .ok (.iconst 1, 1) := dk_4 (dk_at dksX0_brown_4 8 rfl rfl)
theorem dX0_brown_104 : decode cX0_brown 104 = .ok (.iadd, 1) := dk_96 (dk_at dksX0_brown_4 9 rfl rfl)
theorem dX0_brown_105 : decode cX0_brown 105 = .ok (.putfield 116, 3) := dk_181 0 116 (dk_at dksX0_brown_4 10 rfl rfl)
theorem dX0_brown_108 : decode cX0_brown 108 = .ok (.aload_n 0, 1) := dk_42 (dk_at dksX0_brown_4 13 rfl rfl)
theorem dX0_brown_109 : decode cX0_brown 109 = .ok (.getfield 116, 3) := dk_180 0 116 (dk_at dksX0_brown_4 14 rfl rfl)
theorem dX0_brown_112 : decode cX0_brown 112 = .ok (.ireturn, 1) := dk_172 (dk_at dksX0_brown_4 17 rfl rfl)
abbrev cX0_burn : ByteArray := prog_1_method_39_code
def yX0_burn : MethodName := ⟨RX0, "burn", "()I"⟩
def dkwX0_burn_0 : List UInt8 := [42, 180, 0, 116, 60, 42, 3, 181, 0, 116, 27, 172]
abbrev dktX0_burn_0 : List UInt8 := dkwX0_burn_0 ++ []
theorem dksX0_burn_0 : cX0_burn.data.toList.drop 0 = dktX0_burn_0 := by decide +kernel
theorem dX0_burn_0 : decode cX0_burn 0 = .ok (.aload_n 0, 1) := dk_42 (dk_at dksX0_burn_0 0 rfl rfl)
theorem dX0_burn_1 : decode cX0_burn 1 = .ok (.getfield 116, 3) := dk_180 0 116 (dk_at dksX0_burn_0 1 rfl rfl)
theorem dX0_burn_4 : decode cX0_burn 4 = .ok (.istore_n 1, 1) := dk_60 (dk_at dksX0_burn_0 4 rfl rfl)
theorem dX0_burn_5 : decode cX0_burn 5 = .ok (.aload_n 0, 1) := dk_42 (dk_at dksX0_burn_0 5 rfl rfl)
theorem dX0_burn_6 : decode cX0_burn 6 = .ok (.iconst 0, 1) := dk_3 (dk_at dksX0_burn_0 6 rfl rfl)
theorem dX0_burn_7 : decode cX0_burn 7 = .ok (.putfield 116, 3) := dk_181 0 116 (dk_at dksX0_burn_0 7 rfl rfl)
theorem dX0_burn_10 : decode cX0_burn 10 = .ok (.iload_n 1, 1) := dk_27 (dk_at dksX0_burn_0 10 rfl rfl)
theorem dX0_burn_11 : decode cX0_burn 11 = .ok (.ireturn, 1) := dk_172 (dk_at dksX0_burn_0 11 rfl rfl)
abbrev cX0_stood : ByteArray := prog_1_method_42_code
def yX0_stood : MethodName := ⟨RX0, "stood", "(I)I"⟩
def dkwX0_stood_0 : List UInt8 := [42, 27, 182, 1, 15, 153, 0, 11, 42, 27, 182, 1, 18, 167, 0, 4, 2, 172]
abbrev dktX0_stood_0 : List UInt8 := dkwX0_stood_0 ++ []
theorem dksX0_stood_0 : cX0_stood.data.toList.drop 0 = dktX0_stood_0 := by decide +kernel
theorem dX0_stood_0 : decode cX0_stood 0 = .ok (.aload_n 0, 1) := dk_42 (dk_at dksX0_stood_0 0 rfl rfl)
theorem dX0_stood_1 : decode cX0_stood 1 = .ok (.iload_n 1, 1) := dk_27 (dk_at dksX0_stood_0 1 rfl rfl)
theorem dX0_stood_2 : decode cX0_stood 2 = .ok (.invokevirtual 271, 3) := dk_182 1 15 (dk_at dksX0_stood_0 2 rfl rfl)
theorem dX0_stood_5 : decode cX0_stood 5 = .ok (.ifCond .eq 11, 3) := dk_153 0 11 (dk_at dksX0_stood_0 5 rfl rfl)
theorem dX0_stood_8 : decode cX0_stood 8 = .ok (.aload_n 0, 1) := dk_42 (dk_at dksX0_stood_0 8 rfl rfl)
theorem dX0_stood_9 : decode cX0_stood 9 = .ok (.iload_n 1, 1) := dk_27 (dk_at dksX0_stood_0 9 rfl rfl)
theorem dX0_stood_10 : decode cX0_stood 10 = .ok (.invokevirtual 274, 3) := dk_182 1 18 (dk_at dksX0_stood_0 10 rfl rfl)
theorem dX0_stood_13 : decode cX0_stood 13 = .ok (.goto 4, 3) := dk_167 0 4 (dk_at dksX0_stood_0 13 rfl rfl)
theorem dX0_stood_16 : decode cX0_stood 16 = .ok (.iconst (-1), 1) := dk_2 (dk_at dksX0_stood_0 16 rfl rfl)
theorem dX0_stood_17 : decode cX0_stood 17 = .ok (.ireturn, 1) := dk_172 (dk_at dksX0_stood_0 17 rfl rfl)
abbrev cX0_isPlace : ByteArray := prog_1_method_40_code
def yX0_isPlace : MethodName := ⟨RX0, "isPlace", "(I)Z"⟩
def dkwX0_isPlace_1 : List UInt8 := [167, 0, 4, 3, 172]
abbrev dktX0_isPlace_1 : List UInt8 := dkwX0_isPlace_1 ++ []
def dkwX0_isPlace_0 : List UInt8 := [42, 180, 0, 116, 158, 0, 21, 27, 3, 42, 180, 1, 12, 4, 100, 184, 0, 90, 153, 0, 7, 4]
abbrev dktX0_isPlace_0 : List UInt8 := dkwX0_isPlace_0 ++ dktX0_isPlace_1
theorem dksX0_isPlace_0 : cX0_isPlace.data.toList.drop 0 = dktX0_isPlace_0 := by decide +kernel
theorem dksX0_isPlace_1 : cX0_isPlace.data.toList.drop 22 = dktX0_isPlace_1 := dk_seg dksX0_isPlace_0 22 rfl rfl
theorem dX0_isPlace_0 : decode cX0_isPlace 0 = .ok (.aload_n 0, 1) := dk_42 (dk_at dksX0_isPlace_0 0 rfl rfl)
theorem dX0_isPlace_1 : decode cX0_isPlace 1 = .ok (.getfield 116, 3) := dk_180 0 116 (dk_at dksX0_isPlace_0 1 rfl rfl)
theorem dX0_isPlace_4 : decode cX0_isPlace 4 = .ok (.ifCond .le 21, 3) := dk_158 0 21 (dk_at dksX0_isPlace_0 4 rfl rfl)
theorem dX0_isPlace_7 : decode cX0_isPlace 7 = .ok (.iload_n 1, 1) := dk_27 (dk_at dksX0_isPlace_0 7 rfl rfl)
theorem dX0_isPlace_8 : decode cX0_isPlace 8 = .ok (.iconst 0, 1) := dk_3 (dk_at dksX0_isPlace_0 8 rfl rfl)
theorem dX0_isPlace_9 : decode cX0_isPlace 9 = .ok (.aload_n 0, 1) := dk_42 (dk_at dksX0_isPlace_0 9 rfl rfl)
theorem dX0_isPlace_10 : decode cX0_isPlace 10 = .ok (.getfield 268, 3) := dk_180 1 12 (dk_at dksX0_isPlace_0 10 rfl rfl)
theorem dX0_isPlace_13 : decode cX0_isPlace 13 = .ok (.iconst 1, 1) := dk_4 (dk_at dksX0_isPlace_0 13 rfl rfl)
theorem dX0_isPlace_14 : decode cX0_isPlace 14 = .ok (.isub, 1) := dk_100 (dk_at dksX0_isPlace_0 14 rfl rfl)
theorem dX0_isPlace_15 : decode cX0_isPlace 15 = .ok (.invokestatic 90, 3) := dk_184 0 90 (dk_at dksX0_isPlace_0 15 rfl rfl)
theorem dX0_isPlace_18 : decode cX0_isPlace 18 = .ok (.ifCond .eq 7, 3) := dk_153 0 7 (dk_at dksX0_isPlace_0 18 rfl rfl)
theorem dX0_isPlace_21 : decode cX0_isPlace 21 = .ok (.iconst 1, 1) := dk_4 (dk_at dksX0_isPlace_0 21 rfl rfl)
theorem dX0_isPlace_22 : decode cX0_isPlace 22 = .ok (.goto 4, 3) := dk_167 0 4 (dk_at dksX0_isPlace_1 0 rfl rfl)
theorem dX0_isPlace_25 : decode cX0_isPlace 25 = .ok (.iconst 0, 1) := dk_3 (dk_at dksX0_isPlace_1 3 rfl rfl)
theorem dX0_isPlace_26 : decode cX0_isPlace 26 = .ok (.ireturn, 1) := dk_172 (dk_at dksX0_isPlace_1 4 rfl rfl)
abbrev cX0_stoodAt : ByteArray := prog_1_method_41_code
def yX0_stoodAt : MethodName := ⟨RX0, "stoodAt", "(I)I"⟩
def dkwX0_stoodAt_3 : List UInt8 := [28, 21, 4, 153, 0, 9, 4, 29, 120, 167, 0, 4, 3, 128, 61, 132, 3, 1, 167, 255, 172, 28, 172]
abbrev dktX0_stoodAt_3 : List UInt8 := dkwX0_stoodAt_3 ++ []
def dkwX0_stoodAt_2 : List UInt8 := [180, 0, 51, 21, 5, 50, 27, 46, 160, 0, 7, 4, 167, 0, 4, 3, 54, 4, 132, 5, 1, 167, 255, 205]
abbrev dktX0_stoodAt_2 : List UInt8 := dkwX0_stoodAt_2 ++ dktX0_stoodAt_3
def dkwX0_stoodAt_1 : List UInt8 := [162, 0, 48, 21, 4, 153, 0, 34, 42, 180, 0, 13, 42, 180, 0, 54, 21, 5, 46, 29, 182, 1, 9, 42]
abbrev dktX0_stoodAt_1 : List UInt8 := dkwX0_stoodAt_1 ++ dktX0_stoodAt_2
def dkwX0_stoodAt_0 : List UInt8 := [3, 61, 3, 62, 29, 16, 10, 162, 0, 84, 4, 54, 4, 3, 54, 5, 21, 5, 42, 180, 0, 116]
abbrev dktX0_stoodAt_0 : List UInt8 := dkwX0_stoodAt_0 ++ dktX0_stoodAt_1
theorem dksX0_stoodAt_0 : cX0_stoodAt.data.toList.drop 0 = dktX0_stoodAt_0 := by decide +kernel
theorem dksX0_stoodAt_1 : cX0_stoodAt.data.toList.drop 22 = dktX0_stoodAt_1 := dk_seg dksX0_stoodAt_0 22 rfl rfl
theorem dksX0_stoodAt_2 : cX0_stoodAt.data.toList.drop 46 = dktX0_stoodAt_2 := dk_seg dksX0_stoodAt_1 24 rfl rfl
theorem dksX0_stoodAt_3 : cX0_stoodAt.data.toList.drop 70 = dktX0_stoodAt_3 := dk_seg dksX0_stoodAt_2 24 rfl rfl
theorem dX0_stoodAt_0 : decode cX0_stoodAt 0 = .ok (.iconst 0, 1) := dk_3 (dk_at dksX0_stoodAt_0 0 rfl rfl)
theorem dX0_stoodAt_1 : decode cX0_stoodAt 1 = .ok (.istore_n 2, 1) := dk_61 (dk_at dksX0_stoodAt_0 1 rfl rfl)
theorem dX0_stoodAt_2 : decode cX0_stoodAt 2 = .ok (.iconst 0, 1) := dk_3 (dk_at dksX0_stoodAt_0 2 rfl rfl)
theorem dX0_stoodAt_3 : decode cX0_stoodAt 3 = .ok (.istore_n 3, 1) := dk_62 (dk_at dksX0_stoodAt_0 3 rfl rfl)
theorem dX0_stoodAt_4 : decode cX0_stoodAt 4 = .ok (.iload_n 3, 1) := dk_29 (dk_at dksX0_stoodAt_0 4 rfl rfl)
theorem dX0_stoodAt_5 : decode cX0_stoodAt 5 = .ok (.bipush 10, 2) := dk_16 10 (dk_at dksX0_stoodAt_0 5 rfl rfl)
theorem dX0_stoodAt_7 : decode cX0_stoodAt 7 = .ok (.if_icmp .ge 84, 3) := dk_162 0 84 (dk_at dksX0_stoodAt_0 7 rfl rfl)
theorem dX0_stoodAt_10 : decode cX0_stoodAt 10 = .ok (.iconst 1, 1) := dk_4 (dk_at dksX0_stoodAt_0 10 rfl rfl)
theorem dX0_stoodAt_11 : decode cX0_stoodAt 11 = .ok (.istore 4, 2) := dk_54 4 (dk_at dksX0_stoodAt_0 11 rfl rfl)
theorem dX0_stoodAt_13 : decode cX0_stoodAt 13 = .ok (.iconst 0, 1) := dk_3 (dk_at dksX0_stoodAt_0 13 rfl rfl)
theorem dX0_stoodAt_14 : decode cX0_stoodAt 14 = .ok (.istore 5, 2) := dk_54 5 (dk_at dksX0_stoodAt_0 14 rfl rfl)
theorem dX0_stoodAt_16 : decode cX0_stoodAt 16 = .ok (.iload 5, 2) := dk_21 5 (dk_at dksX0_stoodAt_0 16 rfl rfl)
theorem dX0_stoodAt_18 : decode cX0_stoodAt 18 = .ok (.aload_n 0, 1) := dk_42 (dk_at dksX0_stoodAt_0 18 rfl rfl)
theorem dX0_stoodAt_19 : decode cX0_stoodAt 19 = .ok (.getfield 116, 3) := dk_180 0 116 (dk_at dksX0_stoodAt_0 19 rfl rfl)
theorem dX0_stoodAt_22 : decode cX0_stoodAt 22 = .ok (.if_icmp .ge 48, 3) := dk_162 0 48 (dk_at dksX0_stoodAt_1 0 rfl rfl)
theorem dX0_stoodAt_25 : decode cX0_stoodAt 25 = .ok (.iload 4, 2) := dk_21 4 (dk_at dksX0_stoodAt_1 3 rfl rfl)
theorem dX0_stoodAt_27 : decode cX0_stoodAt 27 = .ok (.ifCond .eq 34, 3) := dk_153 0 34 (dk_at dksX0_stoodAt_1 5 rfl rfl)
theorem dX0_stoodAt_30 : decode cX0_stoodAt 30 = .ok (.aload_n 0, 1) := dk_42 (dk_at dksX0_stoodAt_1 8 rfl rfl)
theorem dX0_stoodAt_31 : decode cX0_stoodAt 31 = .ok (.getfield 13, 3) := dk_180 0 13 (dk_at dksX0_stoodAt_1 9 rfl rfl)
theorem dX0_stoodAt_34 : decode cX0_stoodAt 34 = .ok (.aload_n 0, 1) := dk_42 (dk_at dksX0_stoodAt_1 12 rfl rfl)
theorem dX0_stoodAt_35 : decode cX0_stoodAt 35 = .ok (.getfield 54, 3) := dk_180 0 54 (dk_at dksX0_stoodAt_1 13 rfl rfl)
theorem dX0_stoodAt_38 : decode cX0_stoodAt 38 = .ok (.iload 5, 2) := dk_21 5 (dk_at dksX0_stoodAt_1 16 rfl rfl)
theorem dX0_stoodAt_40 : decode cX0_stoodAt 40 = .ok (.iaload, 1) := dk_46 (dk_at dksX0_stoodAt_1 18 rfl rfl)
theorem dX0_stoodAt_41 : decode cX0_stoodAt 41 = .ok (.iload_n 3, 1) := dk_29 (dk_at dksX0_stoodAt_1 19 rfl rfl)
theorem dX0_stoodAt_42 : decode cX0_stoodAt 42 = .ok (.invokevirtual 265, 3) := dk_182 1 9 (dk_at dksX0_stoodAt_1 20 rfl rfl)
theorem dX0_stoodAt_45 : decode cX0_stoodAt 45 = .ok (.aload_n 0, 1) := dk_42 (dk_at dksX0_stoodAt_1 23 rfl rfl)
theorem dX0_stoodAt_46 : decode cX0_stoodAt 46 = .ok (.getfield 51, 3) := dk_180 0 51 (dk_at dksX0_stoodAt_2 0 rfl rfl)
theorem dX0_stoodAt_49 : decode cX0_stoodAt 49 = .ok (.iload 5, 2) := dk_21 5 (dk_at dksX0_stoodAt_2 3 rfl rfl)
theorem dX0_stoodAt_51 : decode cX0_stoodAt 51 = .ok (.aaload, 1) := dk_50 (dk_at dksX0_stoodAt_2 5 rfl rfl)
theorem dX0_stoodAt_52 : decode cX0_stoodAt 52 = .ok (.iload_n 1, 1) := dk_27 (dk_at dksX0_stoodAt_2 6 rfl rfl)
theorem dX0_stoodAt_53 : decode cX0_stoodAt 53 = .ok (.iaload, 1) := dk_46 (dk_at dksX0_stoodAt_2 7 rfl rfl)
theorem dX0_stoodAt_54 : decode cX0_stoodAt 54 = .ok (.if_icmp .ne 7, 3) := dk_160 0 7 (dk_at dksX0_stoodAt_2 8 rfl rfl)
theorem dX0_stoodAt_57 : decode cX0_stoodAt 57 = .ok (.iconst 1, 1) := dk_4 (dk_at dksX0_stoodAt_2 11 rfl rfl)
theorem dX0_stoodAt_58 : decode cX0_stoodAt 58 = .ok (.goto 4, 3) := dk_167 0 4 (dk_at dksX0_stoodAt_2 12 rfl rfl)
theorem dX0_stoodAt_61 : decode cX0_stoodAt 61 = .ok (.iconst 0, 1) := dk_3 (dk_at dksX0_stoodAt_2 15 rfl rfl)
theorem dX0_stoodAt_62 : decode cX0_stoodAt 62 = .ok (.istore 4, 2) := dk_54 4 (dk_at dksX0_stoodAt_2 16 rfl rfl)
theorem dX0_stoodAt_64 : decode cX0_stoodAt 64 = .ok (.iinc 5 1, 3) := dk_132 5 1 (dk_at dksX0_stoodAt_2 18 rfl rfl)
theorem dX0_stoodAt_67 : decode cX0_stoodAt 67 = .ok (.goto (-51), 3) := dk_167 255 205 (dk_at dksX0_stoodAt_2 21 rfl rfl)
theorem dX0_stoodAt_70 : decode cX0_stoodAt 70 = .ok (.iload_n 2, 1) := dk_28 (dk_at dksX0_stoodAt_3 0 rfl rfl)
theorem dX0_stoodAt_71 : decode cX0_stoodAt 71 = .ok (.iload 4, 2) := dk_21 4 (dk_at dksX0_stoodAt_3 1 rfl rfl)
theorem dX0_stoodAt_73 : decode cX0_stoodAt 73 = .ok (.ifCond .eq 9, 3) := dk_153 0 9 (dk_at dksX0_stoodAt_3 3 rfl rfl)
theorem dX0_stoodAt_76 : decode cX0_stoodAt 76 = .ok (.iconst 1, 1) := dk_4 (dk_at dksX0_stoodAt_3 6 rfl rfl)
theorem dX0_stoodAt_77 : decode cX0_stoodAt 77 = .ok (.iload_n 3, 1) := dk_29 (dk_at dksX0_stoodAt_3 7 rfl rfl)
theorem dX0_stoodAt_78 : decode cX0_stoodAt 78 = .ok (.ishl, 1) := dk_120 (dk_at dksX0_stoodAt_3 8 rfl rfl)
theorem dX0_stoodAt_79 : decode cX0_stoodAt 79 = .ok (.goto 4, 3) := dk_167 0 4 (dk_at dksX0_stoodAt_3 9 rfl rfl)
theorem dX0_stoodAt_82 : decode cX0_stoodAt 82 = .ok (.iconst 0, 1) := dk_3 (dk_at dksX0_stoodAt_3 12 rfl rfl)
theorem dX0_stoodAt_83 : decode cX0_stoodAt 83 = .ok (.ior, 1) := dk_128 (dk_at dksX0_stoodAt_3 13 rfl rfl)
theorem dX0_stoodAt_84 : decode cX0_stoodAt 84 = .ok (.istore_n 2, 1) := dk_61 (dk_at dksX0_stoodAt_3 14 rfl rfl)
theorem dX0_stoodAt_85 : decode cX0_stoodAt 85 = .ok (.iinc 3 1, 3) := dk_132 3 1 (dk_at dksX0_stoodAt_3 15 rfl rfl)
theorem dX0_stoodAt_88 : decode cX0_stoodAt 88 = .ok (.goto (-84), 3) := dk_167 255 172 (dk_at dksX0_stoodAt_3 18 rfl rfl)
theorem dX0_stoodAt_91 : decode cX0_stoodAt 91 = .ok (.iload_n 2, 1) := dk_28 (dk_at dksX0_stoodAt_3 21 rfl rfl)
theorem dX0_stoodAt_92 : decode cX0_stoodAt 92 = .ok (.ireturn, 1) := dk_172 (dk_at dksX0_stoodAt_3 22 rfl rfl)
abbrev cX0_letters : ByteArray := prog_1_method_43_code
def yX0_letters : MethodName := ⟨RX0, "letters", "(I)I"⟩
def dkwX0_letters_4 : List UInt8 := [167, 0, 7, 29, 184, 1, 21, 172]
abbrev dktX0_letters_4 : List UInt8 := dkwX0_letters_4 ++ []
def dkwX0_letters_3 : List UInt8 := [27, 182, 1, 18, 62, 28, 154, 0, 8, 16, 247, 167, 0, 20, 29, 184, 0, 211, 4, 164, 0, 8, 16, 251]
abbrev dktX0_letters_3 : List UInt8 := dkwX0_letters_3 ++ dktX0_letters_4
def dkwX0_letters_2 : List UInt8 := [29, 182, 1, 18, 184, 0, 211, 104, 61, 132, 3, 1, 167, 255, 227, 27, 16, 247, 160, 0, 5, 28, 172, 42]
abbrev dktX0_letters_2 : List UInt8 := dkwX0_letters_2 ++ dktX0_letters_3
def dkwX0_letters_1 : List UInt8 := [167, 0, 4, 4, 61, 3, 62, 29, 42, 180, 1, 12, 162, 0, 27, 42, 180, 0, 116, 158, 0, 20, 28, 42]
abbrev dktX0_letters_1 : List UInt8 := dkwX0_letters_1 ++ dktX0_letters_2
def dkwX0_letters_0 : List UInt8 := [27, 16, 247, 159, 0, 13, 42, 27, 182, 1, 15, 154, 0, 5, 2, 172, 42, 180, 0, 116, 154, 0, 7, 3]
abbrev dktX0_letters_0 : List UInt8 := dkwX0_letters_0 ++ dktX0_letters_1
theorem dksX0_letters_0 : cX0_letters.data.toList.drop 0 = dktX0_letters_0 := by decide +kernel
theorem dksX0_letters_1 : cX0_letters.data.toList.drop 24 = dktX0_letters_1 := dk_seg dksX0_letters_0 24 rfl rfl
theorem dksX0_letters_2 : cX0_letters.data.toList.drop 48 = dktX0_letters_2 := dk_seg dksX0_letters_1 24 rfl rfl
theorem dksX0_letters_3 : cX0_letters.data.toList.drop 72 = dktX0_letters_3 := dk_seg dksX0_letters_2 24 rfl rfl
theorem dksX0_letters_4 : cX0_letters.data.toList.drop 96 = dktX0_letters_4 := dk_seg dksX0_letters_3 24 rfl rfl
theorem dX0_letters_0 : decode cX0_letters 0 = .ok (.iload_n 1, 1) := dk_27 (dk_at dksX0_letters_0 0 rfl rfl)
theorem dX0_letters_1 : decode cX0_letters 1 = .ok (.bipush (-9), 2) := dk_16 247 (dk_at dksX0_letters_0 1 rfl rfl)
theorem dX0_letters_3 : decode cX0_letters 3 = .ok (.if_icmp .eq 13, 3) := dk_159 0 13 (dk_at dksX0_letters_0 3 rfl rfl)
theorem dX0_letters_6 : decode cX0_letters 6 = .ok (.aload_n 0, 1) := dk_42 (dk_at dksX0_letters_0 6 rfl rfl)
theorem dX0_letters_7 : decode cX0_letters 7 = .ok (.iload_n 1, 1) := dk_27 (dk_at dksX0_letters_0 7 rfl rfl)
theorem dX0_letters_8 : decode cX0_letters 8 = .ok (.invokevirtual 271, 3) := dk_182 1 15 (dk_at dksX0_letters_0 8 rfl rfl)
theorem dX0_letters_11 : decode cX0_letters 11 = .ok (.ifCond .ne 5, 3) := dk_154 0 5 (dk_at dksX0_letters_0 11 rfl rfl)
theorem dX0_letters_14 : decode cX0_letters 14 = .ok (.iconst (-1), 1) := dk_2 (dk_at dksX0_letters_0 14 rfl rfl)
theorem dX0_letters_15 : decode cX0_letters 15 = .ok (.ireturn, 1) := dk_172 (dk_at dksX0_letters_0 15 rfl rfl)
theorem dX0_letters_16 : decode cX0_letters 16 = .ok (.aload_n 0, 1) := dk_42 (dk_at dksX0_letters_0 16 rfl rfl)
theorem dX0_letters_17 : decode cX0_letters 17 = .ok (.getfield 116, 3) := dk_180 0 116 (dk_at dksX0_letters_0 17 rfl rfl)
theorem dX0_letters_20 : decode cX0_letters 20 = .ok (.ifCond .ne 7, 3) := dk_154 0 7 (dk_at dksX0_letters_0 20 rfl rfl)
theorem dX0_letters_23 : decode cX0_letters 23 = .ok (.iconst 0, 1) := dk_3 (dk_at dksX0_letters_0 23 rfl rfl)
theorem dX0_letters_24 : decode cX0_letters 24 = .ok (.goto 4, 3) := dk_167 0 4 (dk_at dksX0_letters_1 0 rfl rfl)
theorem dX0_letters_27 : decode cX0_letters 27 = .ok (.iconst 1, 1) := dk_4 (dk_at dksX0_letters_1 3 rfl rfl)
theorem dX0_letters_28 : decode cX0_letters 28 = .ok (.istore_n 2, 1) := dk_61 (dk_at dksX0_letters_1 4 rfl rfl)
theorem dX0_letters_29 : decode cX0_letters 29 = .ok (.iconst 0, 1) := dk_3 (dk_at dksX0_letters_1 5 rfl rfl)
theorem dX0_letters_30 : decode cX0_letters 30 = .ok (.istore_n 3, 1) := dk_62 (dk_at dksX0_letters_1 6 rfl rfl)
theorem dX0_letters_31 : decode cX0_letters 31 = .ok (.iload_n 3, 1) := dk_29 (dk_at dksX0_letters_1 7 rfl rfl)
theorem dX0_letters_32 : decode cX0_letters 32 = .ok (.aload_n 0, 1) := dk_42 (dk_at dksX0_letters_1 8 rfl rfl)
theorem dX0_letters_33 : decode cX0_letters 33 = .ok (.getfield 268, 3) := dk_180 1 12 (dk_at dksX0_letters_1 9 rfl rfl)
theorem dX0_letters_36 : decode cX0_letters 36 = .ok (.if_icmp .ge 27, 3) := dk_162 0 27 (dk_at dksX0_letters_1 12 rfl rfl)
theorem dX0_letters_39 : decode cX0_letters 39 = .ok (.aload_n 0, 1) := dk_42 (dk_at dksX0_letters_1 15 rfl rfl)
theorem dX0_letters_40 : decode cX0_letters 40 = .ok (.getfield 116, 3) := dk_180 0 116 (dk_at dksX0_letters_1 16 rfl rfl)
theorem dX0_letters_43 : decode cX0_letters 43 = .ok (.ifCond .le 20, 3) := dk_158 0 20 (dk_at dksX0_letters_1 19 rfl rfl)
theorem dX0_letters_46 : decode cX0_letters 46 = .ok (.iload_n 2, 1) := dk_28 (dk_at dksX0_letters_1 22 rfl rfl)
theorem dX0_letters_47 : decode cX0_letters 47 = .ok (.aload_n 0, 1) := dk_42 (dk_at dksX0_letters_1 23 rfl rfl)
theorem dX0_letters_48 : decode cX0_letters 48 = .ok (.iload_n 3, 1) := dk_29 (dk_at dksX0_letters_2 0 rfl rfl)
theorem dX0_letters_49 : decode cX0_letters 49 = .ok (.invokevirtual 274, 3) := dk_182 1 18 (dk_at dksX0_letters_2 1 rfl rfl)
theorem dX0_letters_52 : decode cX0_letters 52 = .ok (.invokestatic 211, 3) := dk_184 0 211 (dk_at dksX0_letters_2 4 rfl rfl)
theorem dX0_letters_55 : decode cX0_letters 55 = .ok (.imul, 1) := dk_104 (dk_at dksX0_letters_2 7 rfl rfl)
theorem dX0_letters_56 : decode cX0_letters 56 = .ok (.istore_n 2, 1) := dk_61 (dk_at dksX0_letters_2 8 rfl rfl)
theorem dX0_letters_57 : decode cX0_letters 57 = .ok (.iinc 3 1, 3) := dk_132 3 1 (dk_at dksX0_letters_2 9 rfl rfl)
theorem dX0_letters_60 : decode cX0_letters 60 = .ok (.goto (-29), 3) := dk_167 255 227 (dk_at dksX0_letters_2 12 rfl rfl)
theorem dX0_letters_63 : decode cX0_letters 63 = .ok (.iload_n 1, 1) := dk_27 (dk_at dksX0_letters_2 15 rfl rfl)
theorem dX0_letters_64 : decode cX0_letters 64 = .ok (.bipush (-9), 2) := dk_16 247 (dk_at dksX0_letters_2 16 rfl rfl)
theorem dX0_letters_66 : decode cX0_letters 66 = .ok (.if_icmp .ne 5, 3) := dk_160 0 5 (dk_at dksX0_letters_2 18 rfl rfl)
theorem dX0_letters_69 : decode cX0_letters 69 = .ok (.iload_n 2, 1) := dk_28 (dk_at dksX0_letters_2 21 rfl rfl)
theorem dX0_letters_70 : decode cX0_letters 70 = .ok (.ireturn, 1) := dk_172 (dk_at dksX0_letters_2 22 rfl rfl)
theorem dX0_letters_71 : decode cX0_letters 71 = .ok (.aload_n 0, 1) := dk_42 (dk_at dksX0_letters_2 23 rfl rfl)
theorem dX0_letters_72 : decode cX0_letters 72 = .ok (.iload_n 1, 1) := dk_27 (dk_at dksX0_letters_3 0 rfl rfl)
theorem dX0_letters_73 : decode cX0_letters 73 = .ok (.invokevirtual 274, 3) := dk_182 1 18 (dk_at dksX0_letters_3 1 rfl rfl)
theorem dX0_letters_76 : decode cX0_letters 76 = .ok (.istore_n 3, 1) := dk_62 (dk_at dksX0_letters_3 4 rfl rfl)
theorem dX0_letters_77 : decode cX0_letters 77 = .ok (.iload_n 2, 1) := dk_28 (dk_at dksX0_letters_3 5 rfl rfl)
theorem dX0_letters_78 : decode cX0_letters 78 = .ok (.ifCond .ne 8, 3) := dk_154 0 8 (dk_at dksX0_letters_3 6 rfl rfl)
theorem dX0_letters_81 : decode cX0_letters 81 = .ok (.bipush (-9), 2) := dk_16 247 (dk_at dksX0_letters_3 9 rfl rfl)
theorem dX0_letters_83 : decode cX0_letters 83 = .ok (.goto 20, 3) := dk_167 0 20 (dk_at dksX0_letters_3 11 rfl rfl)
theorem dX0_letters_86 : decode cX0_letters 86 = .ok (.iload_n 3, 1) := dk_29 (dk_at dksX0_letters_3 14 rfl rfl)
theorem dX0_letters_87 : decode cX0_letters 87 = .ok (.invokestatic 211, 3) := dk_184 0 211 (dk_at dksX0_letters_3 15 rfl rfl)
theorem dX0_letters_90 : decode cX0_letters 90 = .ok (.iconst 1, 1) := dk_4 (dk_at dksX0_letters_3 18 rfl rfl)
theorem dX0_letters_91 : decode cX0_letters 91 = .ok (.if_icmp .le 8, 3) := dk_164 0 8 (dk_at dksX0_letters_3 19 rfl rfl)
theorem dX0_letters_94 : decode cX0_letters 94 = .ok (.bipush (-5), 2) := dk_16 251 (dk_at dksX0_letters_3 22 rfl rfl)
theorem dX0_letters_96 : decode cX0_letters 96 = .ok (.goto 7, 3) := dk_167 0 7 (dk_at dksX0_letters_4 0 rfl rfl)
theorem dX0_letters_99 : decode cX0_letters 99 = .ok (.iload_n 3, 1) := dk_29 (dk_at dksX0_letters_4 3 rfl rfl)
theorem dX0_letters_100 : decode cX0_letters 100 = .ok (.invokestatic 277, 3) := dk_184 1 21 (dk_at dksX0_letters_4 4 rfl rfl)
theorem dX0_letters_103 : decode cX0_letters 103 = .ok (.ireturn, 1) := dk_172 (dk_at dksX0_letters_4 7 rfl rfl)
abbrev cX0_whose : ByteArray := prog_1_method_46_code
def yX0_whose : MethodName := ⟨RX0, "whose", "(I)I"⟩
def dkwX0_whose_2 : List UInt8 := [29, 120, 167, 0, 4, 3, 128, 61, 132, 3, 1, 167, 255, 213, 28, 172]
abbrev dktX0_whose_2 : List UInt8 := dkwX0_whose_2 ++ []
def dkwX0_whose_1 : List UInt8 := [162, 0, 38, 42, 180, 0, 60, 3, 29, 79, 28, 42, 42, 180, 0, 60, 4, 182, 1, 30, 153, 0, 9, 4]
abbrev dktX0_whose_1 : List UInt8 := dkwX0_whose_1 ++ dktX0_whose_2
def dkwX0_whose_0 : List UInt8 := [42, 27, 182, 1, 27, 154, 0, 5, 2, 172, 3, 61, 3, 62, 29, 42, 180, 0, 13, 180, 0, 134]
abbrev dktX0_whose_0 : List UInt8 := dkwX0_whose_0 ++ dktX0_whose_1
theorem dksX0_whose_0 : cX0_whose.data.toList.drop 0 = dktX0_whose_0 := by decide +kernel
theorem dksX0_whose_1 : cX0_whose.data.toList.drop 22 = dktX0_whose_1 := dk_seg dksX0_whose_0 22 rfl rfl
theorem dksX0_whose_2 : cX0_whose.data.toList.drop 46 = dktX0_whose_2 := dk_seg dksX0_whose_1 24 rfl rfl
theorem dX0_whose_0 : decode cX0_whose 0 = .ok (.aload_n 0, 1) := dk_42 (dk_at dksX0_whose_0 0 rfl rfl)
theorem dX0_whose_1 : decode cX0_whose 1 = .ok (.iload_n 1, 1) := dk_27 (dk_at dksX0_whose_0 1 rfl rfl)
theorem dX0_whose_2 : decode cX0_whose 2 = .ok (.invokevirtual 283, 3) := dk_182 1 27 (dk_at dksX0_whose_0 2 rfl rfl)
theorem dX0_whose_5 : decode cX0_whose 5 = .ok (.ifCond .ne 5, 3) := dk_154 0 5 (dk_at dksX0_whose_0 5 rfl rfl)
theorem dX0_whose_8 : decode cX0_whose 8 = .ok (.iconst (-1), 1) := dk_2 (dk_at dksX0_whose_0 8 rfl rfl)
theorem dX0_whose_9 : decode cX0_whose 9 = .ok (.ireturn, 1) := dk_172 (dk_at dksX0_whose_0 9 rfl rfl)
theorem dX0_whose_10 : decode cX0_whose 10 = .ok (.iconst 0, 1) := dk_3 (dk_at dksX0_whose_0 10 rfl rfl)
theorem dX0_whose_11 : decode cX0_whose 11 = .ok (.istore_n 2, 1) := dk_61 (dk_at dksX0_whose_0 11 rfl rfl)
theorem dX0_whose_12 : decode cX0_whose 12 = .ok (.iconst 0, 1) := dk_3 (dk_at dksX0_whose_0 12 rfl rfl)
theorem dX0_whose_13 : decode cX0_whose 13 = .ok (.istore_n 3, 1) := dk_62 (dk_at dksX0_whose_0 13 rfl rfl)
theorem dX0_whose_14 : decode cX0_whose 14 = .ok (.iload_n 3, 1) := dk_29 (dk_at dksX0_whose_0 14 rfl rfl)
theorem dX0_whose_15 : decode cX0_whose 15 = .ok (.aload_n 0, 1) := dk_42 (dk_at dksX0_whose_0 15 rfl rfl)
theorem dX0_whose_16 : decode cX0_whose 16 = .ok (.getfield 13, 3) := dk_180 0 13 (dk_at dksX0_whose_0 16 rfl rfl)
theorem dX0_whose_19 : decode cX0_whose 19 = .ok (.getfield 134, 3) := dk_180 0 134 (dk_at dksX0_whose_0 19 rfl rfl)
theorem dX0_whose_22 : decode cX0_whose 22 = .ok (.if_icmp .ge 38, 3) := dk_162 0 38 (dk_at dksX0_whose_1 0 rfl rfl)
theorem dX0_whose_25 : decode cX0_whose 25 = .ok (.aload_n 0, 1) := dk_42 (dk_at dksX0_whose_1 3 rfl rfl)
theorem dX0_whose_26 : decode cX0_whose 26 = .ok (.getfield 60, 3) := dk_180 0 60 (dk_at dksX0_whose_1 4 rfl rfl)
theorem dX0_whose_29 : decode cX0_whose 29 = .ok (.iconst 0, 1) := dk_3 (dk_at dksX0_whose_1 7 rfl rfl)
theorem dX0_whose_30 : decode cX0_whose 30 = .ok (.iload_n 3, 1) := dk_29 (dk_at dksX0_whose_1 8 rfl rfl)
theorem dX0_whose_31 : decode cX0_whose 31 = .ok (.iastore, 1) := dk_79 (dk_at dksX0_whose_1 9 rfl rfl)
theorem dX0_whose_32 : decode cX0_whose 32 = .ok (.iload_n 2, 1) := dk_28 (dk_at dksX0_whose_1 10 rfl rfl)
theorem dX0_whose_33 : decode cX0_whose 33 = .ok (.aload_n 0, 1) := dk_42 (dk_at dksX0_whose_1 11 rfl rfl)
theorem dX0_whose_34 : decode cX0_whose 34 = .ok (.aload_n 0, 1) := dk_42 (dk_at dksX0_whose_1 12 rfl rfl)
theorem dX0_whose_35 : decode cX0_whose 35 = .ok (.getfield 60, 3) := dk_180 0 60 (dk_at dksX0_whose_1 13 rfl rfl)
theorem dX0_whose_38 : decode cX0_whose 38 = .ok (.iconst 1, 1) := dk_4 (dk_at dksX0_whose_1 16 rfl rfl)
theorem dX0_whose_39 : decode cX0_whose 39 = .ok (.invokevirtual 286, 3) := dk_182 1 30 (dk_at dksX0_whose_1 17 rfl rfl)
theorem dX0_whose_42 : decode cX0_whose 42 = .ok (.ifCond .eq 9, 3) := dk_153 0 9 (dk_at dksX0_whose_1 20 rfl rfl)
theorem dX0_whose_45 : decode cX0_whose 45 = .ok (.iconst 1, 1) := dk_4 (dk_at dksX0_whose_1 23 rfl rfl)
theorem dX0_whose_46 : decode cX0_whose 46 = .ok (.iload_n 3, 1) := dk_29 (dk_at dksX0_whose_2 0 rfl rfl)
theorem dX0_whose_47 : decode cX0_whose 47 = .ok (.ishl, 1) := dk_120 (dk_at dksX0_whose_2 1 rfl rfl)
theorem dX0_whose_48 : decode cX0_whose 48 = .ok (.goto 4, 3) := dk_167 0 4 (dk_at dksX0_whose_2 2 rfl rfl)
theorem dX0_whose_51 : decode cX0_whose 51 = .ok (.iconst 0, 1) := dk_3 (dk_at dksX0_whose_2 5 rfl rfl)
theorem dX0_whose_52 : decode cX0_whose 52 = .ok (.ior, 1) := dk_128 (dk_at dksX0_whose_2 6 rfl rfl)
theorem dX0_whose_53 : decode cX0_whose 53 = .ok (.istore_n 2, 1) := dk_61 (dk_at dksX0_whose_2 7 rfl rfl)
theorem dX0_whose_54 : decode cX0_whose 54 = .ok (.iinc 3 1, 3) := dk_132 3 1 (dk_at dksX0_whose_2 8 rfl rfl)
theorem dX0_whose_57 : decode cX0_whose 57 = .ok (.goto (-43), 3) := dk_167 255 213 (dk_at dksX0_whose_2 11 rfl rfl)
theorem dX0_whose_60 : decode cX0_whose 60 = .ok (.iload_n 2, 1) := dk_28 (dk_at dksX0_whose_2 14 rfl rfl)
theorem dX0_whose_61 : decode cX0_whose 61 = .ok (.ireturn, 1) := dk_172 (dk_at dksX0_whose_2 15 rfl rfl)
abbrev cX0_isLetter : ByteArray := prog_1_method_44_code
def yX0_isLetter : MethodName := ⟨RX0, "isLetter", "(I)Z"⟩
def dkwX0_isLetter_7 : List UInt8 := [21, 4, 100, 21, 5, 79, 132, 4, 1, 167, 255, 196, 29, 172]
abbrev dktX0_isLetter_7 : List UInt8 := dkwX0_isLetter_7 ++ []
def dkwX0_isLetter_6 : List UInt8 := [180, 0, 57, 42, 180, 1, 24, 4, 100, 21, 4, 100, 46, 79, 42, 180, 0, 57, 42, 180, 1, 24, 4, 100]
abbrev dktX0_isLetter_6 : List UInt8 := dkwX0_isLetter_6 ++ dktX0_isLetter_7
def dkwX0_isLetter_5 : List UInt8 := [180, 1, 24, 5, 108, 162, 0, 55, 42, 180, 0, 57, 21, 4, 46, 54, 5, 42, 180, 0, 57, 21, 4, 42]
abbrev dktX0_isLetter_5 : List UInt8 := dkwX0_isLetter_5 ++ dktX0_isLetter_6
def dkwX0_isLetter_4 : List UInt8 := [16, 10, 162, 0, 7, 4, 167, 0, 4, 3, 62, 132, 4, 1, 167, 255, 222, 3, 54, 4, 21, 4, 42]
abbrev dktX0_isLetter_4 : List UInt8 := dkwX0_isLetter_4 ++ dktX0_isLetter_5
def dkwX0_isLetter_3 : List UInt8 := [3, 54, 4, 21, 4, 42, 180, 1, 24, 162, 0, 31, 29, 153, 0, 19, 42, 180, 0, 57, 21, 4, 46]
abbrev dktX0_isLetter_3 : List UInt8 := dkwX0_isLetter_3 ++ dktX0_isLetter_4
def dkwX0_isLetter_2 : List UInt8 := [181, 1, 24, 167, 255, 214, 28, 4, 160, 0, 14, 42, 180, 1, 24, 158, 0, 7, 4, 167, 0, 4, 3, 62]
abbrev dktX0_isLetter_2 : List UInt8 := dkwX0_isLetter_2 ++ dktX0_isLetter_3
def dkwX0_isLetter_1 : List UInt8 := [180, 0, 57, 42, 180, 1, 24, 28, 16, 11, 112, 79, 28, 16, 11, 108, 61, 42, 89, 180, 1, 24, 4, 96]
abbrev dktX0_isLetter_1 : List UInt8 := dkwX0_isLetter_1 ++ dktX0_isLetter_2
def dkwX0_isLetter_0 : List UInt8 := [27, 61, 42, 3, 181, 1, 24, 28, 16, 11, 161, 0, 42, 42, 180, 1, 24, 8, 162, 0, 34, 42]
abbrev dktX0_isLetter_0 : List UInt8 := dkwX0_isLetter_0 ++ dktX0_isLetter_1
theorem dksX0_isLetter_0 : cX0_isLetter.data.toList.drop 0 = dktX0_isLetter_0 := by decide +kernel
theorem dksX0_isLetter_1 : cX0_isLetter.data.toList.drop 22 = dktX0_isLetter_1 := dk_seg dksX0_isLetter_0 22 rfl rfl
theorem dksX0_isLetter_2 : cX0_isLetter.data.toList.drop 46 = dktX0_isLetter_2 := dk_seg dksX0_isLetter_1 24 rfl rfl
theorem dksX0_isLetter_3 : cX0_isLetter.data.toList.drop 70 = dktX0_isLetter_3 := dk_seg dksX0_isLetter_2 24 rfl rfl
theorem dksX0_isLetter_4 : cX0_isLetter.data.toList.drop 93 = dktX0_isLetter_4 := dk_seg dksX0_isLetter_3 23 rfl rfl
theorem dksX0_isLetter_5 : cX0_isLetter.data.toList.drop 116 = dktX0_isLetter_5 := dk_seg dksX0_isLetter_4 23 rfl rfl
theorem dksX0_isLetter_6 : cX0_isLetter.data.toList.drop 140 = dktX0_isLetter_6 := dk_seg dksX0_isLetter_5 24 rfl rfl
theorem dksX0_isLetter_7 : cX0_isLetter.data.toList.drop 164 = dktX0_isLetter_7 := dk_seg dksX0_isLetter_6 24 rfl rfl
theorem dX0_isLetter_0 : decode cX0_isLetter 0 = .ok (.iload_n 1, 1) := dk_27 (dk_at dksX0_isLetter_0 0 rfl rfl)
theorem dX0_isLetter_1 : decode cX0_isLetter 1 = .ok (.istore_n 2, 1) := dk_61 (dk_at dksX0_isLetter_0 1 rfl rfl)
theorem dX0_isLetter_2 : decode cX0_isLetter 2 = .ok (.aload_n 0, 1) := dk_42 (dk_at dksX0_isLetter_0 2 rfl rfl)
theorem dX0_isLetter_3 : decode cX0_isLetter 3 = .ok (.iconst 0, 1) := dk_3 (dk_at dksX0_isLetter_0 3 rfl rfl)
theorem dX0_isLetter_4 : decode cX0_isLetter 4 = .ok (.putfield 280, 3) := dk_181 1 24 (dk_at dksX0_isLetter_0 4 rfl rfl)
theorem dX0_isLetter_7 : decode cX0_isLetter 7 = .ok (.iload_n 2, 1) := dk_28 (dk_at dksX0_isLetter_0 7 rfl rfl)
theorem dX0_isLetter_8 : decode cX0_isLetter 8 = .ok (.bipush 11, 2) := dk_16 11 (dk_at dksX0_isLetter_0 8 rfl rfl)
theorem dX0_isLetter_10 : decode cX0_isLetter 10 = .ok (.if_icmp .lt 42, 3) := dk_161 0 42 (dk_at dksX0_isLetter_0 10 rfl rfl)
theorem dX0_isLetter_13 : decode cX0_isLetter 13 = .ok (.aload_n 0, 1) := dk_42 (dk_at dksX0_isLetter_0 13 rfl rfl)
theorem dX0_isLetter_14 : decode cX0_isLetter 14 = .ok (.getfield 280, 3) := dk_180 1 24 (dk_at dksX0_isLetter_0 14 rfl rfl)
theorem dX0_isLetter_17 : decode cX0_isLetter 17 = .ok (.iconst 5, 1) := dk_8 (dk_at dksX0_isLetter_0 17 rfl rfl)
theorem dX0_isLetter_18 : decode cX0_isLetter 18 = .ok (.if_icmp .ge 34, 3) := dk_162 0 34 (dk_at dksX0_isLetter_0 18 rfl rfl)
theorem dX0_isLetter_21 : decode cX0_isLetter 21 = .ok (.aload_n 0, 1) := dk_42 (dk_at dksX0_isLetter_0 21 rfl rfl)
theorem dX0_isLetter_22 : decode cX0_isLetter 22 = .ok (.getfield 57, 3) := dk_180 0 57 (dk_at dksX0_isLetter_1 0 rfl rfl)
theorem dX0_isLetter_25 : decode cX0_isLetter 25 = .ok (.aload_n 0, 1) := dk_42 (dk_at dksX0_isLetter_1 3 rfl rfl)
theorem dX0_isLetter_26 : decode cX0_isLetter 26 = .ok (.getfield 280, 3) := dk_180 1 24 (dk_at dksX0_isLetter_1 4 rfl rfl)
theorem dX0_isLetter_29 : decode cX0_isLetter 29 = .ok (.iload_n 2, 1) := dk_28 (dk_at dksX0_isLetter_1 7 rfl rfl)
theorem dX0_isLetter_30 : decode cX0_isLetter 30 = .ok (.bipush 11, 2) := dk_16 11 (dk_at dksX0_isLetter_1 8 rfl rfl)
theorem dX0_isLetter_32 : decode cX0_isLetter 32 = .ok (.irem, 1) := dk_112 (dk_at dksX0_isLetter_1 10 rfl rfl)
theorem dX0_isLetter_33 : decode cX0_isLetter 33 = .ok (.iastore, 1) := dk_79 (dk_at dksX0_isLetter_1 11 rfl rfl)
theorem dX0_isLetter_34 : decode cX0_isLetter 34 = .ok (.iload_n 2, 1) := dk_28 (dk_at dksX0_isLetter_1 12 rfl rfl)
theorem dX0_isLetter_35 : decode cX0_isLetter 35 = .ok (.bipush 11, 2) := dk_16 11 (dk_at dksX0_isLetter_1 13 rfl rfl)
theorem dX0_isLetter_37 : decode cX0_isLetter 37 = .ok (.idiv, 1) := dk_108 (dk_at dksX0_isLetter_1 15 rfl rfl)
theorem dX0_isLetter_38 : decode cX0_isLetter 38 = .ok (.istore_n 2, 1) := dk_61 (dk_at dksX0_isLetter_1 16 rfl rfl)
theorem dX0_isLetter_39 : decode cX0_isLetter 39 = .ok (.aload_n 0, 1) := dk_42 (dk_at dksX0_isLetter_1 17 rfl rfl)
theorem dX0_isLetter_40 : decode cX0_isLetter 40 = .ok (.dup, 1) := dk_89 (dk_at dksX0_isLetter_1 18 rfl rfl)
theorem dX0_isLetter_41 : decode cX0_isLetter 41 = .ok (.getfield 280, 3) := dk_180 1 24 (dk_at dksX0_isLetter_1 19 rfl rfl)
theorem dX0_isLetter_44 : decode cX0_isLetter 44 = .ok (.iconst 1, 1) := dk_4 (dk_at dksX0_isLetter_1 22 rfl rfl)
theorem dX0_isLetter_45 : decode cX0_isLetter 45 = .ok (.iadd, 1) := dk_96 (dk_at dksX0_isLetter_1 23 rfl rfl)
theorem dX0_isLetter_46 : decode cX0_isLetter 46 = .ok (.putfield 280, 3) := dk_181 1 24 (dk_at dksX0_isLetter_2 0 rfl rfl)
theorem dX0_isLetter_49 : decode cX0_isLetter 49 = .ok (.goto (-42), 3) := dk_167 255 214 (dk_at dksX0_isLetter_2 3 rfl rfl)
theorem dX0_isLetter_52 : decode cX0_isLetter 52 = .ok (.iload_n 2, 1) := dk_28 (dk_at dksX0_isLetter_2 6 rfl rfl)
theorem dX0_isLetter_53 : decode cX0_isLetter 53 = .ok (.iconst 1, 1) := dk_4 (dk_at dksX0_isLetter_2 7 rfl rfl)
theorem dX0_isLetter_54 : decode cX0_isLetter 54 = .ok (.if_icmp .ne 14, 3) := dk_160 0 14 (dk_at dksX0_isLetter_2 8 rfl rfl)
theorem dX0_isLetter_57 : decode cX0_isLetter 57 = .ok (.aload_n 0, 1) := dk_42 (dk_at dksX0_isLetter_2 11 rfl rfl)
theorem dX0_isLetter_58 : decode cX0_isLetter 58 = .ok (.getfield 280, 3) := dk_180 1 24 (dk_at dksX0_isLetter_2 12 rfl rfl)
theorem dX0_isLetter_61 : decode cX0_isLetter 61 = .ok (.ifCond .le 7, 3) := dk_158 0 7 (dk_at dksX0_isLetter_2 15 rfl rfl)
theorem dX0_isLetter_64 : decode cX0_isLetter 64 = .ok (.iconst 1, 1) := dk_4 (dk_at dksX0_isLetter_2 18 rfl rfl)
theorem dX0_isLetter_65 : decode cX0_isLetter 65 = .ok (.goto 4, 3) := dk_167 0 4 (dk_at dksX0_isLetter_2 19 rfl rfl)
theorem dX0_isLetter_68 : decode cX0_isLetter 68 = .ok (.iconst 0, 1) := dk_3 (dk_at dksX0_isLetter_2 22 rfl rfl)
theorem dX0_isLetter_69 : decode cX0_isLetter 69 = .ok (.istore_n 3, 1) := dk_62 (dk_at dksX0_isLetter_2 23 rfl rfl)
theorem dX0_isLetter_70 : decode cX0_isLetter 70 = .ok (.iconst 0, 1) := dk_3 (dk_at dksX0_isLetter_3 0 rfl rfl)
theorem dX0_isLetter_71 : decode cX0_isLetter 71 = .ok (.istore 4, 2) := dk_54 4 (dk_at dksX0_isLetter_3 1 rfl rfl)
theorem dX0_isLetter_73 : decode cX0_isLetter 73 = .ok (.iload 4, 2) := dk_21 4 (dk_at dksX0_isLetter_3 3 rfl rfl)
theorem dX0_isLetter_75 : decode cX0_isLetter 75 = .ok (.aload_n 0, 1) := dk_42 (dk_at dksX0_isLetter_3 5 rfl rfl)
theorem dX0_isLetter_76 : decode cX0_isLetter 76 = .ok (.getfield 280, 3) := dk_180 1 24 (dk_at dksX0_isLetter_3 6 rfl rfl)
theorem dX0_isLetter_79 : decode cX0_isLetter 79 = .ok (.if_icmp .ge 31, 3) := dk_162 0 31 (dk_at dksX0_isLetter_3 9 rfl rfl)
theorem dX0_isLetter_82 : decode cX0_isLetter 82 = .ok (.iload_n 3, 1) := dk_29 (dk_at dksX0_isLetter_3 12 rfl rfl)
theorem dX0_isLetter_83 : decode cX0_isLetter 83 = .ok (.ifCond .eq 19, 3) := dk_153 0 19 (dk_at dksX0_isLetter_3 13 rfl rfl)
theorem dX0_isLetter_86 : decode cX0_isLetter 86 = .ok (.aload_n 0, 1) := dk_42 (dk_at dksX0_isLetter_3 16 rfl rfl)
theorem dX0_isLetter_87 : decode cX0_isLetter 87 = .ok (.getfield 57, 3) := dk_180 0 57 (dk_at dksX0_isLetter_3 17 rfl rfl)
theorem dX0_isLetter_90 : decode cX0_isLetter 90 = .ok (.iload 4, 2) := dk_21 4 (dk_at dksX0_isLetter_3 20 rfl rfl)
theorem dX0_isLetter_92 : decode cX0_isLetter 92 = .ok (.iaload, 1) := dk_46 (dk_at dksX0_isLetter_3 22 rfl rfl)
theorem dX0_isLetter_93 : decode cX0_isLetter 93 = .ok (.bipush 10, 2) := dk_16 10 (dk_at dksX0_isLetter_4 0 rfl rfl)
theorem dX0_isLetter_95 : decode cX0_isLetter 95 = .ok (.if_icmp .ge 7, 3) := dk_162 0 7 (dk_at dksX0_isLetter_4 2 rfl rfl)
theorem dX0_isLetter_98 : decode cX0_isLetter 98 = .ok (.iconst 1, 1) := dk_4 (dk_at dksX0_isLetter_4 5 rfl rfl)
theorem dX0_isLetter_99 : decode cX0_isLetter 99 = .ok (.goto 4, 3) := dk_167 0 4 (dk_at dksX0_isLetter_4 6 rfl rfl)
theorem dX0_isLetter_102 : decode cX0_isLetter 102 = .ok (.iconst 0, 1) := dk_3 (dk_at dksX0_isLetter_4 9 rfl rfl)
theorem dX0_isLetter_103 : decode cX0_isLetter 103 = .ok (.istore_n 3, 1) := dk_62 (dk_at dksX0_isLetter_4 10 rfl rfl)
theorem dX0_isLetter_104 : decode cX0_isLetter 104 = .ok (.iinc 4 1, 3) := dk_132 4 1 (dk_at dksX0_isLetter_4 11 rfl rfl)
theorem dX0_isLetter_107 : decode cX0_isLetter 107 = .ok (.goto (-34), 3) := dk_167 255 222 (dk_at dksX0_isLetter_4 14 rfl rfl)
theorem dX0_isLetter_110 : decode cX0_isLetter 110 = .ok (.iconst 0, 1) := dk_3 (dk_at dksX0_isLetter_4 17 rfl rfl)
theorem dX0_isLetter_111 : decode cX0_isLetter 111 = .ok (.istore 4, 2) := dk_54 4 (dk_at dksX0_isLetter_4 18 rfl rfl)
theorem dX0_isLetter_113 : decode cX0_isLetter 113 = .ok (.iload 4, 2) := dk_21 4 (dk_at dksX0_isLetter_4 20 rfl rfl)
theorem dX0_isLetter_115 : decode cX0_isLetter 115 = .ok (.aload_n 0, 1) := dk_42 (dk_at dksX0_isLetter_4 22 rfl rfl)
theorem dX0_isLetter_116 : decode cX0_isLetter 116 = .ok (.getfield 280, 3) := dk_180 1 24 (dk_at dksX0_isLetter_5 0 rfl rfl)
theorem dX0_isLetter_119 : decode cX0_isLetter 119 = .ok (.iconst 2, 1) := dk_5 (dk_at dksX0_isLetter_5 3 rfl rfl)
theorem dX0_isLetter_120 : decode cX0_isLetter 120 = .ok (.idiv, 1) := dk_108 (dk_at dksX0_isLetter_5 4 rfl rfl)
theorem dX0_isLetter_121 : decode cX0_isLetter 121 = .ok (.if_icmp .ge 55, 3) := dk_162 0 55 (dk_at dksX0_isLetter_5 5 rfl rfl)
theorem dX0_isLetter_124 : decode cX0_isLetter 124 = .ok (.aload_n 0, 1) := dk_42 (dk_at dksX0_isLetter_5 8 rfl rfl)
theorem dX0_isLetter_125 : decode cX0_isLetter 125 = .ok (.getfield 57, 3) := dk_180 0 57 (dk_at dksX0_isLetter_5 9 rfl rfl)
theorem dX0_isLetter_128 : decode cX0_isLetter 128 = .ok (.iload 4, 2) := dk_21 4 (dk_at dksX0_isLetter_5 12 rfl rfl)
theorem dX0_isLetter_130 : decode cX0_isLetter 130 = .ok (.iaload, 1) := dk_46 (dk_at dksX0_isLetter_5 14 rfl rfl)
theorem dX0_isLetter_131 : decode cX0_isLetter 131 = .ok (.istore 5, 2) := dk_54 5 (dk_at dksX0_isLetter_5 15 rfl rfl)
theorem dX0_isLetter_133 : decode cX0_isLetter 133 = .ok (.aload_n 0, 1) := dk_42 (dk_at dksX0_isLetter_5 17 rfl rfl)
theorem dX0_isLetter_134 : decode cX0_isLetter 134 = .ok (.getfield 57, 3) := dk_180 0 57 (dk_at dksX0_isLetter_5 18 rfl rfl)
theorem dX0_isLetter_137 : decode cX0_isLetter 137 = .ok (.iload 4, 2) := dk_21 4 (dk_at dksX0_isLetter_5 21 rfl rfl)
theorem dX0_isLetter_139 : decode cX0_isLetter 139 = .ok (.aload_n 0, 1) := dk_42 (dk_at dksX0_isLetter_5 23 rfl rfl)
theorem dX0_isLetter_140 : decode cX0_isLetter 140 = .ok (.getfield 57, 3) := dk_180 0 57 (dk_at dksX0_isLetter_6 0 rfl rfl)
theorem dX0_isLetter_143 : decode cX0_isLetter 143 = .ok (.aload_n 0, 1) := dk_42 (dk_at dksX0_isLetter_6 3 rfl rfl)
theorem dX0_isLetter_144 : decode cX0_isLetter 144 = .ok (.getfield 280, 3) := dk_180 1 24 (dk_at dksX0_isLetter_6 4 rfl rfl)
theorem dX0_isLetter_147 : decode cX0_isLetter 147 = .ok (.iconst 1, 1) := dk_4 (dk_at dksX0_isLetter_6 7 rfl rfl)
theorem dX0_isLetter_148 : decode cX0_isLetter 148 = .ok (.isub, 1) := dk_100 (dk_at dksX0_isLetter_6 8 rfl rfl)
theorem dX0_isLetter_149 : decode cX0_isLetter 149 = .ok (.iload 4, 2) := dk_21 4 (dk_at dksX0_isLetter_6 9 rfl rfl)
theorem dX0_isLetter_151 : decode cX0_isLetter 151 = .ok (.isub, 1) := dk_100 (dk_at dksX0_isLetter_6 11 rfl rfl)
theorem dX0_isLetter_152 : decode cX0_isLetter 152 = .ok (.iaload, 1) := dk_46 (dk_at dksX0_isLetter_6 12 rfl rfl)
theorem dX0_isLetter_153 : decode cX0_isLetter 153 = .ok (.iastore, 1) := dk_79 (dk_at dksX0_isLetter_6 13 rfl rfl)
theorem dX0_isLetter_154 : decode cX0_isLetter 154 = .ok (.aload_n 0, 1) := dk_42 (dk_at dksX0_isLetter_6 14 rfl rfl)
theorem dX0_isLetter_155 : decode cX0_isLetter 155 = .ok (.getfield 57, 3) := dk_180 0 57 (dk_at dksX0_isLetter_6 15 rfl rfl)
theorem dX0_isLetter_158 : decode cX0_isLetter 158 = .ok (.aload_n 0, 1) := dk_42 (dk_at dksX0_isLetter_6 18 rfl rfl)
theorem dX0_isLetter_159 : decode cX0_isLetter 159 = .ok (.getfield 280, 3) := dk_180 1 24 (dk_at dksX0_isLetter_6 19 rfl rfl)
theorem dX0_isLetter_162 : decode cX0_isLetter 162 = .ok (.iconst 1, 1) := dk_4 (dk_at dksX0_isLetter_6 22 rfl rfl)
theorem dX0_isLetter_163 : decode cX0_isLetter 163 = .ok (.isub, 1) := dk_100 (dk_at dksX0_isLetter_6 23 rfl rfl)
theorem dX0_isLetter_164 : decode cX0_isLetter 164 = .ok (.iload 4, 2) := dk_21 4 (dk_at dksX0_isLetter_7 0 rfl rfl)
theorem dX0_isLetter_166 : decode cX0_isLetter 166 = .ok (.isub, 1) := dk_100 (dk_at dksX0_isLetter_7 2 rfl rfl)
theorem dX0_isLetter_167 : decode cX0_isLetter 167 = .ok (.iload 5, 2) := dk_21 5 (dk_at dksX0_isLetter_7 3 rfl rfl)
theorem dX0_isLetter_169 : decode cX0_isLetter 169 = .ok (.iastore, 1) := dk_79 (dk_at dksX0_isLetter_7 5 rfl rfl)
theorem dX0_isLetter_170 : decode cX0_isLetter 170 = .ok (.iinc 4 1, 3) := dk_132 4 1 (dk_at dksX0_isLetter_7 6 rfl rfl)
theorem dX0_isLetter_173 : decode cX0_isLetter 173 = .ok (.goto (-60), 3) := dk_167 255 196 (dk_at dksX0_isLetter_7 9 rfl rfl)
theorem dX0_isLetter_176 : decode cX0_isLetter 176 = .ok (.iload_n 3, 1) := dk_29 (dk_at dksX0_isLetter_7 12 rfl rfl)
theorem dX0_isLetter_177 : decode cX0_isLetter 177 = .ok (.ireturn, 1) := dk_172 (dk_at dksX0_isLetter_7 13 rfl rfl)
abbrev cX0_makes : ByteArray := prog_1_method_45_code
def yX0_makes : MethodName := ⟨RX0, "makes", "([II)Z"⟩
def dkwX0_makes_4 : List UInt8 := [167, 0, 4, 3, 62, 132, 4, 1, 167, 255, 180, 29, 172]
abbrev dktX0_makes_4 : List UInt8 := dkwX0_makes_4 ++ []
def dkwX0_makes_3 : List UInt8 := [132, 6, 1, 167, 255, 232, 21, 5, 42, 180, 0, 19, 180, 1, 6, 21, 4, 46, 160, 0, 7, 4]
abbrev dktX0_makes_3 : List UInt8 := dkwX0_makes_3 ++ dktX0_makes_4
def dkwX0_makes_2 : List UInt8 := [54, 6, 21, 6, 28, 162, 0, 24, 42, 180, 0, 13, 43, 21, 6, 46, 21, 5, 182, 1, 9, 54, 5]
abbrev dktX0_makes_2 : List UInt8 := dkwX0_makes_2 ++ dktX0_makes_3
def dkwX0_makes_1 : List UInt8 := [21, 4, 42, 180, 1, 24, 162, 0, 73, 29, 153, 0, 69, 42, 180, 0, 57, 21, 4, 46, 54, 5, 3]
abbrev dktX0_makes_1 : List UInt8 := dkwX0_makes_1 ++ dktX0_makes_2
def dkwX0_makes_0 : List UInt8 := [42, 180, 1, 24, 42, 180, 0, 19, 180, 1, 3, 160, 0, 7, 4, 167, 0, 4, 3, 62, 3, 54, 4]
abbrev dktX0_makes_0 : List UInt8 := dkwX0_makes_0 ++ dktX0_makes_1
theorem dksX0_makes_0 : cX0_makes.data.toList.drop 0 = dktX0_makes_0 := by decide +kernel
theorem dksX0_makes_1 : cX0_makes.data.toList.drop 23 = dktX0_makes_1 := dk_seg dksX0_makes_0 23 rfl rfl
theorem dksX0_makes_2 : cX0_makes.data.toList.drop 46 = dktX0_makes_2 := dk_seg dksX0_makes_1 23 rfl rfl
theorem dksX0_makes_3 : cX0_makes.data.toList.drop 69 = dktX0_makes_3 := dk_seg dksX0_makes_2 23 rfl rfl
theorem dksX0_makes_4 : cX0_makes.data.toList.drop 91 = dktX0_makes_4 := dk_seg dksX0_makes_3 22 rfl rfl
theorem dX0_makes_0 : decode cX0_makes 0 = .ok (.aload_n 0, 1) := dk_42 (dk_at dksX0_makes_0 0 rfl rfl)
theorem dX0_makes_1 : decode cX0_makes 1 = .ok (.getfield 280, 3) := dk_180 1 24 (dk_at dksX0_makes_0 1 rfl rfl)
theorem dX0_makes_4 : decode cX0_makes 4 = .ok (.aload_n 0, 1) := dk_42 (dk_at dksX0_makes_0 4 rfl rfl)
theorem dX0_makes_5 : decode cX0_makes 5 = .ok (.getfield 19, 3) := dk_180 0 19 (dk_at dksX0_makes_0 5 rfl rfl)
theorem dX0_makes_8 : decode cX0_makes 8 = .ok (.getfield 259, 3) := dk_180 1 3 (dk_at dksX0_makes_0 8 rfl rfl)
theorem dX0_makes_11 : decode cX0_makes 11 = .ok (.if_icmp .ne 7, 3) := dk_160 0 7 (dk_at dksX0_makes_0 11 rfl rfl)
theorem dX0_makes_14 : decode cX0_makes 14 = .ok (.iconst 1, 1) := dk_4 (dk_at dksX0_makes_0 14 rfl rfl)
theorem dX0_makes_15 : decode cX0_makes 15 = .ok (.goto 4, 3) := dk_167 0 4 (dk_at dksX0_makes_0 15 rfl rfl)
theorem dX0_makes_18 : decode cX0_makes 18 = .ok (.iconst 0, 1) := dk_3 (dk_at dksX0_makes_0 18 rfl rfl)
theorem dX0_makes_19 : decode cX0_makes 19 = .ok (.istore_n 3, 1) := dk_62 (dk_at dksX0_makes_0 19 rfl rfl)
theorem dX0_makes_20 : decode cX0_makes 20 = .ok (.iconst 0, 1) := dk_3 (dk_at dksX0_makes_0 20 rfl rfl)
theorem dX0_makes_21 : decode cX0_makes 21 = .ok (.istore 4, 2) := dk_54 4 (dk_at dksX0_makes_0 21 rfl rfl)
theorem dX0_makes_23 : decode cX0_makes 23 = .ok (.iload 4, 2) := dk_21 4 (dk_at dksX0_makes_1 0 rfl rfl)
theorem dX0_makes_25 : decode cX0_makes 25 = .ok (.aload_n 0, 1) := dk_42 (dk_at dksX0_makes_1 2 rfl rfl)
theorem dX0_makes_26 : decode cX0_makes 26 = .ok (.getfield 280, 3) := dk_180 1 24 (dk_at dksX0_makes_1 3 rfl rfl)
theorem dX0_makes_29 : decode cX0_makes 29 = .ok (.if_icmp .ge 73, 3) := dk_162 0 73 (dk_at dksX0_makes_1 6 rfl rfl)
theorem dX0_makes_32 : decode cX0_makes 32 = .ok (.iload_n 3, 1) := dk_29 (dk_at dksX0_makes_1 9 rfl rfl)
theorem dX0_makes_33 : decode cX0_makes 33 = .ok (.ifCond .eq 69, 3) := dk_153 0 69 (dk_at dksX0_makes_1 10 rfl rfl)
theorem dX0_makes_36 : decode cX0_makes 36 = .ok (.aload_n 0, 1) := dk_42 (dk_at dksX0_makes_1 13 rfl rfl)
theorem dX0_makes_37 : decode cX0_makes 37 = .ok (.getfield 57, 3) := dk_180 0 57 (dk_at dksX0_makes_1 14 rfl rfl)
theorem dX0_makes_40 : decode cX0_makes 40 = .ok (.iload 4, 2) := dk_21 4 (dk_at dksX0_makes_1 17 rfl rfl)
theorem dX0_makes_42 : decode cX0_makes 42 = .ok (.iaload, 1) := dk_46 (dk_at dksX0_makes_1 19 rfl rfl)
theorem dX0_makes_43 : decode cX0_makes 43 = .ok (.istore 5, 2) := dk_54 5 (dk_at dksX0_makes_1 20 rfl rfl)
theorem dX0_makes_45 : decode cX0_makes 45 = .ok (.iconst 0, 1) := dk_3 (dk_at dksX0_makes_1 22 rfl rfl)
theorem dX0_makes_46 : decode cX0_makes 46 = .ok (.istore 6, 2) := dk_54 6 (dk_at dksX0_makes_2 0 rfl rfl)
theorem dX0_makes_48 : decode cX0_makes 48 = .ok (.iload 6, 2) := dk_21 6 (dk_at dksX0_makes_2 2 rfl rfl)
theorem dX0_makes_50 : decode cX0_makes 50 = .ok (.iload_n 2, 1) := dk_28 (dk_at dksX0_makes_2 4 rfl rfl)
theorem dX0_makes_51 : decode cX0_makes 51 = .ok (.if_icmp .ge 24, 3) := dk_162 0 24 (dk_at dksX0_makes_2 5 rfl rfl)
theorem dX0_makes_54 : decode cX0_makes 54 = .ok (.aload_n 0, 1) := dk_42 (dk_at dksX0_makes_2 8 rfl rfl)
theorem dX0_makes_55 : decode cX0_makes 55 = .ok (.getfield 13, 3) := dk_180 0 13 (dk_at dksX0_makes_2 9 rfl rfl)
theorem dX0_makes_58 : decode cX0_makes 58 = .ok (.aload_n 1, 1) := dk_43 (dk_at dksX0_makes_2 12 rfl rfl)
theorem dX0_makes_59 : decode cX0_makes 59 = .ok (.iload 6, 2) := dk_21 6 (dk_at dksX0_makes_2 13 rfl rfl)
theorem dX0_makes_61 : decode cX0_makes 61 = .ok (.iaload, 1) := dk_46 (dk_at dksX0_makes_2 15 rfl rfl)
theorem dX0_makes_62 : decode cX0_makes 62 = .ok (.iload 5, 2) := dk_21 5 (dk_at dksX0_makes_2 16 rfl rfl)
theorem dX0_makes_64 : decode cX0_makes 64 = .ok (.invokevirtual 265, 3) := dk_182 1 9 (dk_at dksX0_makes_2 18 rfl rfl)
theorem dX0_makes_67 : decode cX0_makes 67 = .ok (.istore 5, 2) := dk_54 5 (dk_at dksX0_makes_2 21 rfl rfl)
theorem dX0_makes_69 : decode cX0_makes 69 = .ok (.iinc 6 1, 3) := dk_132 6 1 (dk_at dksX0_makes_3 0 rfl rfl)
theorem dX0_makes_72 : decode cX0_makes 72 = .ok (.goto (-24), 3) := dk_167 255 232 (dk_at dksX0_makes_3 3 rfl rfl)
theorem dX0_makes_75 : decode cX0_makes 75 = .ok (.iload 5, 2) := dk_21 5 (dk_at dksX0_makes_3 6 rfl rfl)
theorem dX0_makes_77 : decode cX0_makes 77 = .ok (.aload_n 0, 1) := dk_42 (dk_at dksX0_makes_3 8 rfl rfl)
theorem dX0_makes_78 : decode cX0_makes 78 = .ok (.getfield 19, 3) := dk_180 0 19 (dk_at dksX0_makes_3 9 rfl rfl)
theorem dX0_makes_81 : decode cX0_makes 81 = .ok (.getfield 262, 3) := dk_180 1 6 (dk_at dksX0_makes_3 12 rfl rfl)
theorem dX0_makes_84 : decode cX0_makes 84 = .ok (.iload 4, 2) := dk_21 4 (dk_at dksX0_makes_3 15 rfl rfl)
theorem dX0_makes_86 : decode cX0_makes 86 = .ok (.iaload, 1) := dk_46 (dk_at dksX0_makes_3 17 rfl rfl)
theorem dX0_makes_87 : decode cX0_makes 87 = .ok (.if_icmp .ne 7, 3) := dk_160 0 7 (dk_at dksX0_makes_3 18 rfl rfl)
theorem dX0_makes_90 : decode cX0_makes 90 = .ok (.iconst 1, 1) := dk_4 (dk_at dksX0_makes_3 21 rfl rfl)
theorem dX0_makes_91 : decode cX0_makes 91 = .ok (.goto 4, 3) := dk_167 0 4 (dk_at dksX0_makes_4 0 rfl rfl)
theorem dX0_makes_94 : decode cX0_makes 94 = .ok (.iconst 0, 1) := dk_3 (dk_at dksX0_makes_4 3 rfl rfl)
theorem dX0_makes_95 : decode cX0_makes 95 = .ok (.istore_n 3, 1) := dk_62 (dk_at dksX0_makes_4 4 rfl rfl)
theorem dX0_makes_96 : decode cX0_makes 96 = .ok (.iinc 4 1, 3) := dk_132 4 1 (dk_at dksX0_makes_4 5 rfl rfl)
theorem dX0_makes_99 : decode cX0_makes 99 = .ok (.goto (-76), 3) := dk_167 255 180 (dk_at dksX0_makes_4 8 rfl rfl)
theorem dX0_makes_102 : decode cX0_makes 102 = .ok (.iload_n 3, 1) := dk_29 (dk_at dksX0_makes_4 11 rfl rfl)
theorem dX0_makes_103 : decode cX0_makes 103 = .ok (.ireturn, 1) := dk_172 (dk_at dksX0_makes_4 12 rfl rfl)
abbrev cX0_chain : ByteArray := prog_1_method_48_code
def yX0_chain : MethodName := ⟨RX0, "chain", "(II)I"⟩
def dkwX0_chain_3 : List UInt8 := [180, 0, 63, 28, 46, 167, 0, 5, 16, 251, 172, 132, 3, 1, 167, 255, 192, 16, 247, 172]
abbrev dktX0_chain_3 : List UInt8 := dkwX0_chain_3 ++ []
def dkwX0_chain_2 : List UInt8 := [180, 0, 63, 3, 7, 184, 0, 179, 28, 2, 160, 0, 7, 29, 167, 0, 19, 28, 29, 162, 0, 12, 42]
abbrev dktX0_chain_2 : List UInt8 := dkwX0_chain_2 ++ dktX0_chain_3
def dkwX0_chain_1 : List UInt8 := [180, 0, 134, 163, 0, 59, 42, 3, 29, 3, 182, 1, 34, 153, 0, 43, 42, 180, 0, 60, 3, 42]
abbrev dktX0_chain_1 : List UInt8 := dkwX0_chain_1 ++ dktX0_chain_2
def dkwX0_chain_0 : List UInt8 := [42, 27, 182, 1, 27, 153, 0, 8, 28, 2, 162, 0, 5, 2, 172, 3, 62, 29, 42, 180, 0, 13]
abbrev dktX0_chain_0 : List UInt8 := dkwX0_chain_0 ++ dktX0_chain_1
theorem dksX0_chain_0 : cX0_chain.data.toList.drop 0 = dktX0_chain_0 := by decide +kernel
theorem dksX0_chain_1 : cX0_chain.data.toList.drop 22 = dktX0_chain_1 := dk_seg dksX0_chain_0 22 rfl rfl
theorem dksX0_chain_2 : cX0_chain.data.toList.drop 44 = dktX0_chain_2 := dk_seg dksX0_chain_1 22 rfl rfl
theorem dksX0_chain_3 : cX0_chain.data.toList.drop 67 = dktX0_chain_3 := dk_seg dksX0_chain_2 23 rfl rfl
theorem dX0_chain_0 : decode cX0_chain 0 = .ok (.aload_n 0, 1) := dk_42 (dk_at dksX0_chain_0 0 rfl rfl)
theorem dX0_chain_1 : decode cX0_chain 1 = .ok (.iload_n 1, 1) := dk_27 (dk_at dksX0_chain_0 1 rfl rfl)
theorem dX0_chain_2 : decode cX0_chain 2 = .ok (.invokevirtual 283, 3) := dk_182 1 27 (dk_at dksX0_chain_0 2 rfl rfl)
theorem dX0_chain_5 : decode cX0_chain 5 = .ok (.ifCond .eq 8, 3) := dk_153 0 8 (dk_at dksX0_chain_0 5 rfl rfl)
theorem dX0_chain_8 : decode cX0_chain 8 = .ok (.iload_n 2, 1) := dk_28 (dk_at dksX0_chain_0 8 rfl rfl)
theorem dX0_chain_9 : decode cX0_chain 9 = .ok (.iconst (-1), 1) := dk_2 (dk_at dksX0_chain_0 9 rfl rfl)
theorem dX0_chain_10 : decode cX0_chain 10 = .ok (.if_icmp .ge 5, 3) := dk_162 0 5 (dk_at dksX0_chain_0 10 rfl rfl)
theorem dX0_chain_13 : decode cX0_chain 13 = .ok (.iconst (-1), 1) := dk_2 (dk_at dksX0_chain_0 13 rfl rfl)
theorem dX0_chain_14 : decode cX0_chain 14 = .ok (.ireturn, 1) := dk_172 (dk_at dksX0_chain_0 14 rfl rfl)
theorem dX0_chain_15 : decode cX0_chain 15 = .ok (.iconst 0, 1) := dk_3 (dk_at dksX0_chain_0 15 rfl rfl)
theorem dX0_chain_16 : decode cX0_chain 16 = .ok (.istore_n 3, 1) := dk_62 (dk_at dksX0_chain_0 16 rfl rfl)
theorem dX0_chain_17 : decode cX0_chain 17 = .ok (.iload_n 3, 1) := dk_29 (dk_at dksX0_chain_0 17 rfl rfl)
theorem dX0_chain_18 : decode cX0_chain 18 = .ok (.aload_n 0, 1) := dk_42 (dk_at dksX0_chain_0 18 rfl rfl)
theorem dX0_chain_19 : decode cX0_chain 19 = .ok (.getfield 13, 3) := dk_180 0 13 (dk_at dksX0_chain_0 19 rfl rfl)
theorem dX0_chain_22 : decode cX0_chain 22 = .ok (.getfield 134, 3) := dk_180 0 134 (dk_at dksX0_chain_1 0 rfl rfl)
theorem dX0_chain_25 : decode cX0_chain 25 = .ok (.if_icmp .gt 59, 3) := dk_163 0 59 (dk_at dksX0_chain_1 3 rfl rfl)
theorem dX0_chain_28 : decode cX0_chain 28 = .ok (.aload_n 0, 1) := dk_42 (dk_at dksX0_chain_1 6 rfl rfl)
theorem dX0_chain_29 : decode cX0_chain 29 = .ok (.iconst 0, 1) := dk_3 (dk_at dksX0_chain_1 7 rfl rfl)
theorem dX0_chain_30 : decode cX0_chain 30 = .ok (.iload_n 3, 1) := dk_29 (dk_at dksX0_chain_1 8 rfl rfl)
theorem dX0_chain_31 : decode cX0_chain 31 = .ok (.iconst 0, 1) := dk_3 (dk_at dksX0_chain_1 9 rfl rfl)
theorem dX0_chain_32 : decode cX0_chain 32 = .ok (.invokevirtual 290, 3) := dk_182 1 34 (dk_at dksX0_chain_1 10 rfl rfl)
theorem dX0_chain_35 : decode cX0_chain 35 = .ok (.ifCond .eq 43, 3) := dk_153 0 43 (dk_at dksX0_chain_1 13 rfl rfl)
theorem dX0_chain_38 : decode cX0_chain 38 = .ok (.aload_n 0, 1) := dk_42 (dk_at dksX0_chain_1 16 rfl rfl)
theorem dX0_chain_39 : decode cX0_chain 39 = .ok (.getfield 60, 3) := dk_180 0 60 (dk_at dksX0_chain_1 17 rfl rfl)
theorem dX0_chain_42 : decode cX0_chain 42 = .ok (.iconst 0, 1) := dk_3 (dk_at dksX0_chain_1 20 rfl rfl)
theorem dX0_chain_43 : decode cX0_chain 43 = .ok (.aload_n 0, 1) := dk_42 (dk_at dksX0_chain_1 21 rfl rfl)
theorem dX0_chain_44 : decode cX0_chain 44 = .ok (.getfield 63, 3) := dk_180 0 63 (dk_at dksX0_chain_2 0 rfl rfl)
theorem dX0_chain_47 : decode cX0_chain 47 = .ok (.iconst 0, 1) := dk_3 (dk_at dksX0_chain_2 3 rfl rfl)
theorem dX0_chain_48 : decode cX0_chain 48 = .ok (.iconst 4, 1) := dk_7 (dk_at dksX0_chain_2 4 rfl rfl)
theorem dX0_chain_49 : decode cX0_chain 49 = .ok (.invokestatic 179, 3) := dk_184 0 179 (dk_at dksX0_chain_2 5 rfl rfl)
theorem dX0_chain_52 : decode cX0_chain 52 = .ok (.iload_n 2, 1) := dk_28 (dk_at dksX0_chain_2 8 rfl rfl)
theorem dX0_chain_53 : decode cX0_chain 53 = .ok (.iconst (-1), 1) := dk_2 (dk_at dksX0_chain_2 9 rfl rfl)
theorem dX0_chain_54 : decode cX0_chain 54 = .ok (.if_icmp .ne 7, 3) := dk_160 0 7 (dk_at dksX0_chain_2 10 rfl rfl)
theorem dX0_chain_57 : decode cX0_chain 57 = .ok (.iload_n 3, 1) := dk_29 (dk_at dksX0_chain_2 13 rfl rfl)
theorem dX0_chain_58 : decode cX0_chain 58 = .ok (.goto 19, 3) := dk_167 0 19 (dk_at dksX0_chain_2 14 rfl rfl)
theorem dX0_chain_61 : decode cX0_chain 61 = .ok (.iload_n 2, 1) := dk_28 (dk_at dksX0_chain_2 17 rfl rfl)
theorem dX0_chain_62 : decode cX0_chain 62 = .ok (.iload_n 3, 1) := dk_29 (dk_at dksX0_chain_2 18 rfl rfl)
theorem dX0_chain_63 : decode cX0_chain 63 = .ok (.if_icmp .ge 12, 3) := dk_162 0 12 (dk_at dksX0_chain_2 19 rfl rfl)
theorem dX0_chain_66 : decode cX0_chain 66 = .ok (.aload_n 0, 1) := dk_42 (dk_at dksX0_chain_2 22 rfl rfl)
theorem dX0_chain_67 : decode cX0_chain 67 = .ok (.getfield 63, 3) := dk_180 0 63 (dk_at dksX0_chain_3 0 rfl rfl)
theorem dX0_chain_70 : decode cX0_chain 70 = .ok (.iload_n 2, 1) := dk_28 (dk_at dksX0_chain_3 3 rfl rfl)
theorem dX0_chain_71 : decode cX0_chain 71 = .ok (.iaload, 1) := dk_46 (dk_at dksX0_chain_3 4 rfl rfl)
theorem dX0_chain_72 : decode cX0_chain 72 = .ok (.goto 5, 3) := dk_167 0 5 (dk_at dksX0_chain_3 5 rfl rfl)
theorem dX0_chain_75 : decode cX0_chain 75 = .ok (.bipush (-5), 2) := dk_16 251 (dk_at dksX0_chain_3 8 rfl rfl)
theorem dX0_chain_77 : decode cX0_chain 77 = .ok (.ireturn, 1) := dk_172 (dk_at dksX0_chain_3 10 rfl rfl)
theorem dX0_chain_78 : decode cX0_chain 78 = .ok (.iinc 3 1, 3) := dk_132 3 1 (dk_at dksX0_chain_3 11 rfl rfl)
theorem dX0_chain_81 : decode cX0_chain 81 = .ok (.goto (-64), 3) := dk_167 255 192 (dk_at dksX0_chain_3 14 rfl rfl)
theorem dX0_chain_84 : decode cX0_chain 84 = .ok (.bipush (-9), 2) := dk_16 247 (dk_at dksX0_chain_3 17 rfl rfl)
theorem dX0_chain_86 : decode cX0_chain 86 = .ok (.ireturn, 1) := dk_172 (dk_at dksX0_chain_3 19 rfl rfl)
abbrev cX0_findRow : ByteArray := prog_1_method_47_code
def yX0_findRow : MethodName := ⟨RX0, "findRow", "(III)Z"⟩
def dkwX0_findRow_3 : List UInt8 := [3, 172]
abbrev dktX0_findRow_3 : List UInt8 := dkwX0_findRow_3 ++ []
def dkwX0_findRow_2 : List UInt8 := [27, 4, 96, 28, 29, 4, 21, 4, 120, 128, 182, 1, 34, 153, 0, 5, 4, 172, 132, 4, 1, 167, 255, 205]
abbrev dktX0_findRow_2 : List UInt8 := dkwX0_findRow_2 ++ dktX0_findRow_3
def dkwX0_findRow_1 : List UInt8 := [180, 0, 134, 162, 0, 45, 29, 21, 4, 122, 4, 126, 154, 0, 30, 42, 180, 0, 60, 27, 21, 4, 79, 42]
abbrev dktX0_findRow_1 : List UInt8 := dkwX0_findRow_1 ++ dktX0_findRow_2
def dkwX0_findRow_0 : List UInt8 := [27, 28, 160, 0, 13, 42, 42, 180, 0, 60, 28, 182, 1, 30, 172, 3, 54, 4, 21, 4, 42, 180, 0, 13]
abbrev dktX0_findRow_0 : List UInt8 := dkwX0_findRow_0 ++ dktX0_findRow_1
theorem dksX0_findRow_0 : cX0_findRow.data.toList.drop 0 = dktX0_findRow_0 := by decide +kernel
theorem dksX0_findRow_1 : cX0_findRow.data.toList.drop 24 = dktX0_findRow_1 := dk_seg dksX0_findRow_0 24 rfl rfl
theorem dksX0_findRow_2 : cX0_findRow.data.toList.drop 48 = dktX0_findRow_2 := dk_seg dksX0_findRow_1 24 rfl rfl
theorem dksX0_findRow_3 : cX0_findRow.data.toList.drop 72 = dktX0_findRow_3 := dk_seg dksX0_findRow_2 24 rfl rfl
theorem dX0_findRow_0 : decode cX0_findRow 0 = .ok (.iload_n 1, 1) := dk_27 (dk_at dksX0_findRow_0 0 rfl rfl)
theorem dX0_findRow_1 : decode cX0_findRow 1 = .ok (.iload_n 2, 1) := dk_28 (dk_at dksX0_findRow_0 1 rfl rfl)
theorem dX0_findRow_2 : decode cX0_findRow 2 = .ok (.if_icmp .ne 13, 3) := dk_160 0 13 (dk_at dksX0_findRow_0 2 rfl rfl)
theorem dX0_findRow_5 : decode cX0_findRow 5 = .ok (.aload_n 0, 1) := dk_42 (dk_at dksX0_findRow_0 5 rfl rfl)
theorem dX0_findRow_6 : decode cX0_findRow 6 = .ok (.aload_n 0, 1) := dk_42 (dk_at dksX0_findRow_0 6 rfl rfl)
theorem dX0_findRow_7 : decode cX0_findRow 7 = .ok (.getfield 60, 3) := dk_180 0 60 (dk_at dksX0_findRow_0 7 rfl rfl)
theorem dX0_findRow_10 : decode cX0_findRow 10 = .ok (.iload_n 2, 1) := dk_28 (dk_at dksX0_findRow_0 10 rfl rfl)
theorem dX0_findRow_11 : decode cX0_findRow 11 = .ok (.invokevirtual 286, 3) := dk_182 1 30 (dk_at dksX0_findRow_0 11 rfl rfl)
theorem dX0_findRow_14 : decode cX0_findRow 14 = .ok (.ireturn, 1) := dk_172 (dk_at dksX0_findRow_0 14 rfl rfl)
theorem dX0_findRow_15 : decode cX0_findRow 15 = .ok (.iconst 0, 1) := dk_3 (dk_at dksX0_findRow_0 15 rfl rfl)
theorem dX0_findRow_16 : decode cX0_findRow 16 = .ok (.istore 4, 2) := dk_54 4 (dk_at dksX0_findRow_0 16 rfl rfl)
theorem dX0_findRow_18 : decode cX0_findRow 18 = .ok (.iload 4, 2) := dk_21 4 (dk_at dksX0_findRow_0 18 rfl rfl)
theorem dX0_findRow_20 : decode cX0_findRow 20 = .ok (.aload_n 0, 1) := dk_42 (dk_at dksX0_findRow_0 20 rfl rfl)
theorem dX0_findRow_21 : decode cX0_findRow 21 = .ok (.getfield 13, 3) := dk_180 0 13 (dk_at dksX0_findRow_0 21 rfl rfl)
theorem dX0_findRow_24 : decode cX0_findRow 24 = .ok (.getfield 134, 3) := dk_180 0 134 (dk_at dksX0_findRow_1 0 rfl rfl)
theorem dX0_findRow_27 : decode cX0_findRow 27 = .ok (.if_icmp .ge 45, 3) := dk_162 0 45 (dk_at dksX0_findRow_1 3 rfl rfl)
theorem dX0_findRow_30 : decode cX0_findRow 30 = .ok (.iload_n 3, 1) := dk_29 (dk_at dksX0_findRow_1 6 rfl rfl)
theorem dX0_findRow_31 : decode cX0_findRow 31 = .ok (.iload 4, 2) := dk_21 4 (dk_at dksX0_findRow_1 7 rfl rfl)
theorem dX0_findRow_33 : decode cX0_findRow 33 = .ok (.ishr, 1) := dk_122 (dk_at dksX0_findRow_1 9 rfl rfl)
theorem dX0_findRow_34 : decode cX0_findRow 34 = .ok (.iconst 1, 1) := dk_4 (dk_at dksX0_findRow_1 10 rfl rfl)
theorem dX0_findRow_35 : decode cX0_findRow 35 = .ok (.iand, 1) := dk_126 (dk_at dksX0_findRow_1 11 rfl rfl)
theorem dX0_findRow_36 : decode cX0_findRow 36 = .ok (.ifCond .ne 30, 3) := dk_154 0 30 (dk_at dksX0_findRow_1 12 rfl rfl)
theorem dX0_findRow_39 : decode cX0_findRow 39 = .ok (.aload_n 0, 1) := dk_42 (dk_at dksX0_findRow_1 15 rfl rfl)
theorem dX0_findRow_40 : decode cX0_findRow 40 = .ok (.getfield 60, 3) := dk_180 0 60 (dk_at dksX0_findRow_1 16 rfl rfl)
theorem dX0_findRow_43 : decode cX0_findRow 43 = .ok (.iload_n 1, 1) := dk_27 (dk_at dksX0_findRow_1 19 rfl rfl)
theorem dX0_findRow_44 : decode cX0_findRow 44 = .ok (.iload 4, 2) := dk_21 4 (dk_at dksX0_findRow_1 20 rfl rfl)
theorem dX0_findRow_46 : decode cX0_findRow 46 = .ok (.iastore, 1) := dk_79 (dk_at dksX0_findRow_1 22 rfl rfl)
theorem dX0_findRow_47 : decode cX0_findRow 47 = .ok (.aload_n 0, 1) := dk_42 (dk_at dksX0_findRow_1 23 rfl rfl)
theorem dX0_findRow_48 : decode cX0_findRow 48 = .ok (.iload_n 1, 1) := dk_27 (dk_at dksX0_findRow_2 0 rfl rfl)
theorem dX0_findRow_49 : decode cX0_findRow 49 = .ok (.iconst 1, 1) := dk_4 (dk_at dksX0_findRow_2 1 rfl rfl)
theorem dX0_findRow_50 : decode cX0_findRow 50 = .ok (.iadd, 1) := dk_96 (dk_at dksX0_findRow_2 2 rfl rfl)
theorem dX0_findRow_51 : decode cX0_findRow 51 = .ok (.iload_n 2, 1) := dk_28 (dk_at dksX0_findRow_2 3 rfl rfl)
theorem dX0_findRow_52 : decode cX0_findRow 52 = .ok (.iload_n 3, 1) := dk_29 (dk_at dksX0_findRow_2 4 rfl rfl)
theorem dX0_findRow_53 : decode cX0_findRow 53 = .ok (.iconst 1, 1) := dk_4 (dk_at dksX0_findRow_2 5 rfl rfl)
theorem dX0_findRow_54 : decode cX0_findRow 54 = .ok (.iload 4, 2) := dk_21 4 (dk_at dksX0_findRow_2 6 rfl rfl)
theorem dX0_findRow_56 : decode cX0_findRow 56 = .ok (.ishl, 1) := dk_120 (dk_at dksX0_findRow_2 8 rfl rfl)
theorem dX0_findRow_57 : decode cX0_findRow 57 = .ok (.ior, 1) := dk_128 (dk_at dksX0_findRow_2 9 rfl rfl)
theorem dX0_findRow_58 : decode cX0_findRow 58 = .ok (.invokevirtual 290, 3) := dk_182 1 34 (dk_at dksX0_findRow_2 10 rfl rfl)
theorem dX0_findRow_61 : decode cX0_findRow 61 = .ok (.ifCond .eq 5, 3) := dk_153 0 5 (dk_at dksX0_findRow_2 13 rfl rfl)
theorem dX0_findRow_64 : decode cX0_findRow 64 = .ok (.iconst 1, 1) := dk_4 (dk_at dksX0_findRow_2 16 rfl rfl)
theorem dX0_findRow_65 : decode cX0_findRow 65 = .ok (.ireturn, 1) := dk_172 (dk_at dksX0_findRow_2 17 rfl rfl)
theorem dX0_findRow_66 : decode cX0_findRow 66 = .ok (.iinc 4 1, 3) := dk_132 4 1 (dk_at dksX0_findRow_2 18 rfl rfl)
theorem dX0_findRow_69 : decode cX0_findRow 69 = .ok (.goto (-51), 3) := dk_167 255 205 (dk_at dksX0_findRow_2 21 rfl rfl)
theorem dX0_findRow_72 : decode cX0_findRow 72 = .ok (.iconst 0, 1) := dk_3 (dk_at dksX0_findRow_3 0 rfl rfl)
theorem dX0_findRow_73 : decode cX0_findRow 73 = .ok (.ireturn, 1) := dk_172 (dk_at dksX0_findRow_3 1 rfl rfl)
abbrev cX0_rate : ByteArray := prog_1_method_49_code
def yX0_rate : MethodName := ⟨RX0, "rate", "(II)I"⟩
def dkwX0_rate_1 : List UInt8 := [182, 1, 37, 167, 0, 6, 19, 1, 40, 172]
abbrev dktX0_rate_1 : List UInt8 := dkwX0_rate_1 ++ []
def dkwX0_rate_0 : List UInt8 := [27, 3, 8, 184, 0, 90, 153, 0, 24, 42, 28, 182, 0, 154, 153, 0, 16, 42, 180, 0, 86, 27, 50, 28]
abbrev dktX0_rate_0 : List UInt8 := dkwX0_rate_0 ++ dktX0_rate_1
theorem dksX0_rate_0 : cX0_rate.data.toList.drop 0 = dktX0_rate_0 := by decide +kernel
theorem dksX0_rate_1 : cX0_rate.data.toList.drop 24 = dktX0_rate_1 := dk_seg dksX0_rate_0 24 rfl rfl
theorem dX0_rate_0 : decode cX0_rate 0 = .ok (.iload_n 1, 1) := dk_27 (dk_at dksX0_rate_0 0 rfl rfl)
theorem dX0_rate_1 : decode cX0_rate 1 = .ok (.iconst 0, 1) := dk_3 (dk_at dksX0_rate_0 1 rfl rfl)
theorem dX0_rate_2 : decode cX0_rate 2 = .ok (.iconst 5, 1) := dk_8 (dk_at dksX0_rate_0 2 rfl rfl)
theorem dX0_rate_3 : decode cX0_rate 3 = .ok (.invokestatic 90, 3) := dk_184 0 90 (dk_at dksX0_rate_0 3 rfl rfl)
theorem dX0_rate_6 : decode cX0_rate 6 = .ok (.ifCond .eq 24, 3) := dk_153 0 24 (dk_at dksX0_rate_0 6 rfl rfl)
theorem dX0_rate_9 : decode cX0_rate 9 = .ok (.aload_n 0, 1) := dk_42 (dk_at dksX0_rate_0 9 rfl rfl)
theorem dX0_rate_10 : decode cX0_rate 10 = .ok (.iload_n 2, 1) := dk_28 (dk_at dksX0_rate_0 10 rfl rfl)
theorem dX0_rate_11 : decode cX0_rate 11 = .ok (.invokevirtual 154, 3) := dk_182 0 154 (dk_at dksX0_rate_0 11 rfl rfl)
theorem dX0_rate_14 : decode cX0_rate 14 = .ok (.ifCond .eq 16, 3) := dk_153 0 16 (dk_at dksX0_rate_0 14 rfl rfl)
theorem dX0_rate_17 : decode cX0_rate 17 = .ok (.aload_n 0, 1) := dk_42 (dk_at dksX0_rate_0 17 rfl rfl)
theorem dX0_rate_18 : decode cX0_rate 18 = .ok (.getfield 86, 3) := dk_180 0 86 (dk_at dksX0_rate_0 18 rfl rfl)
theorem dX0_rate_21 : decode cX0_rate 21 = .ok (.iload_n 1, 1) := dk_27 (dk_at dksX0_rate_0 21 rfl rfl)
theorem dX0_rate_22 : decode cX0_rate 22 = .ok (.aaload, 1) := dk_50 (dk_at dksX0_rate_0 22 rfl rfl)
theorem dX0_rate_23 : decode cX0_rate 23 = .ok (.iload_n 2, 1) := dk_28 (dk_at dksX0_rate_0 23 rfl rfl)
theorem dX0_rate_24 : decode cX0_rate 24 = .ok (.invokevirtual 293, 3) := dk_182 1 37 (dk_at dksX0_rate_1 0 rfl rfl)
theorem dX0_rate_27 : decode cX0_rate 27 = .ok (.goto 6, 3) := dk_167 0 6 (dk_at dksX0_rate_1 3 rfl rfl)
theorem dX0_rate_30 : decode cX0_rate 30 = .ok (.ldc_w 296, 3) := dk_19 1 40 (dk_at dksX0_rate_1 6 rfl rfl)
theorem dX0_rate_33 : decode cX0_rate 33 = .ok (.ireturn, 1) := dk_172 (dk_at dksX0_rate_1 9 rfl rfl)
abbrev cX0_keep : ByteArray := prog_1_method_50_code
def yX0_keep : MethodName := ⟨RX0, "keep", "(I)I"⟩
def dkwX0_keep_1 : List UInt8 := [42, 180, 0, 37, 27, 4, 84, 42, 180, 0, 19, 180, 0, 166, 172]
abbrev dktX0_keep_1 : List UInt8 := dkwX0_keep_1 ++ []
def dkwX0_keep_0 : List UInt8 := [27, 3, 4, 184, 0, 90, 154, 0, 5, 2, 172, 42, 180, 0, 34, 27, 50, 42, 180, 0, 19, 182, 0, 185]
abbrev dktX0_keep_0 : List UInt8 := dkwX0_keep_0 ++ dktX0_keep_1
theorem dksX0_keep_0 : cX0_keep.data.toList.drop 0 = dktX0_keep_0 := by decide +kernel
theorem dksX0_keep_1 : cX0_keep.data.toList.drop 24 = dktX0_keep_1 := dk_seg dksX0_keep_0 24 rfl rfl
theorem dX0_keep_0 : decode cX0_keep 0 = .ok (.iload_n 1, 1) := dk_27 (dk_at dksX0_keep_0 0 rfl rfl)
theorem dX0_keep_1 : decode cX0_keep 1 = .ok (.iconst 0, 1) := dk_3 (dk_at dksX0_keep_0 1 rfl rfl)
theorem dX0_keep_2 : decode cX0_keep 2 = .ok (.iconst 1, 1) := dk_4 (dk_at dksX0_keep_0 2 rfl rfl)
theorem dX0_keep_3 : decode cX0_keep 3 = .ok (.invokestatic 90, 3) := dk_184 0 90 (dk_at dksX0_keep_0 3 rfl rfl)
theorem dX0_keep_6 : decode cX0_keep 6 = .ok (.ifCond .ne 5, 3) := dk_154 0 5 (dk_at dksX0_keep_0 6 rfl rfl)
theorem dX0_keep_9 : decode cX0_keep 9 = .ok (.iconst (-1), 1) := dk_2 (dk_at dksX0_keep_0 9 rfl rfl)
theorem dX0_keep_10 : decode cX0_keep 10 = .ok (.ireturn, 1) := dk_172 (dk_at dksX0_keep_0 10 rfl rfl)
theorem dX0_keep_11 : decode cX0_keep 11 = .ok (.aload_n 0, 1) := dk_42 (dk_at dksX0_keep_0 11 rfl rfl)
theorem dX0_keep_12 : decode cX0_keep 12 = .ok (.getfield 34, 3) := dk_180 0 34 (dk_at dksX0_keep_0 12 rfl rfl)
theorem dX0_keep_15 : decode cX0_keep 15 = .ok (.iload_n 1, 1) := dk_27 (dk_at dksX0_keep_0 15 rfl rfl)
theorem dX0_keep_16 : decode cX0_keep 16 = .ok (.aaload, 1) := dk_50 (dk_at dksX0_keep_0 16 rfl rfl)
theorem dX0_keep_17 : decode cX0_keep 17 = .ok (.aload_n 0, 1) := dk_42 (dk_at dksX0_keep_0 17 rfl rfl)
theorem dX0_keep_18 : decode cX0_keep 18 = .ok (.getfield 19, 3) := dk_180 0 19 (dk_at dksX0_keep_0 18 rfl rfl)
theorem dX0_keep_21 : decode cX0_keep 21 = .ok (.invokevirtual 185, 3) := dk_182 0 185 (dk_at dksX0_keep_0 21 rfl rfl)
theorem dX0_keep_24 : decode cX0_keep 24 = .ok (.aload_n 0, 1) := dk_42 (dk_at dksX0_keep_1 0 rfl rfl)
theorem dX0_keep_25 : decode cX0_keep 25 = .ok (.getfield 37, 3) := dk_180 0 37 (dk_at dksX0_keep_1 1 rfl rfl)
theorem dX0_keep_28 : decode cX0_keep 28 = .ok (.iload_n 1, 1) := dk_27 (dk_at dksX0_keep_1 4 rfl rfl)
theorem dX0_keep_29 : decode cX0_keep 29 = .ok (.iconst 1, 1) := dk_4 (dk_at dksX0_keep_1 5 rfl rfl)
theorem dX0_keep_30 : decode cX0_keep 30 = .ok (.bastore, 1) := dk_84 (dk_at dksX0_keep_1 6 rfl rfl)
theorem dX0_keep_31 : decode cX0_keep 31 = .ok (.aload_n 0, 1) := dk_42 (dk_at dksX0_keep_1 7 rfl rfl)
theorem dX0_keep_32 : decode cX0_keep 32 = .ok (.getfield 19, 3) := dk_180 0 19 (dk_at dksX0_keep_1 8 rfl rfl)
theorem dX0_keep_35 : decode cX0_keep 35 = .ok (.getfield 166, 3) := dk_180 0 166 (dk_at dksX0_keep_1 11 rfl rfl)
theorem dX0_keep_38 : decode cX0_keep 38 = .ok (.ireturn, 1) := dk_172 (dk_at dksX0_keep_1 14 rfl rfl)
abbrev cX0_back : ByteArray := prog_1_method_51_code
def yX0_back : MethodName := ⟨RX0, "back", "(I)I"⟩
def dkwX0_back_2 : List UInt8 := [172]
abbrev dktX0_back_2 : List UInt8 := dkwX0_back_2 ++ []
def dkwX0_back_1 : List UInt8 := [180, 0, 19, 42, 180, 0, 34, 27, 50, 182, 0, 185, 42, 3, 181, 0, 113, 42, 180, 0, 19, 180, 0, 166]
abbrev dktX0_back_1 : List UInt8 := dkwX0_back_1 ++ dktX0_back_2
def dkwX0_back_0 : List UInt8 := [27, 3, 4, 184, 0, 90, 154, 0, 5, 2, 172, 42, 180, 0, 37, 27, 51, 154, 0, 6, 16, 254, 172, 42]
abbrev dktX0_back_0 : List UInt8 := dkwX0_back_0 ++ dktX0_back_1
theorem dksX0_back_0 : cX0_back.data.toList.drop 0 = dktX0_back_0 := by decide +kernel
theorem dksX0_back_1 : cX0_back.data.toList.drop 24 = dktX0_back_1 := dk_seg dksX0_back_0 24 rfl rfl
theorem dksX0_back_2 : cX0_back.data.toList.drop 48 = dktX0_back_2 := dk_seg dksX0_back_1 24 rfl rfl
theorem dX0_back_0 : decode cX0_back 0 = .ok (.iload_n 1, 1) := dk_27 (dk_at dksX0_back_0 0 rfl rfl)
theorem dX0_back_1 : decode cX0_back 1 = .ok (.iconst 0, 1) := dk_3 (dk_at dksX0_back_0 1 rfl rfl)
theorem dX0_back_2 : decode cX0_back 2 = .ok (.iconst 1, 1) := dk_4 (dk_at dksX0_back_0 2 rfl rfl)
theorem dX0_back_3 : decode cX0_back 3 = .ok (.invokestatic 90, 3) := dk_184 0 90 (dk_at dksX0_back_0 3 rfl rfl)
theorem dX0_back_6 : decode cX0_back 6 = .ok (.ifCond .ne 5, 3) := dk_154 0 5 (dk_at dksX0_back_0 6 rfl rfl)
theorem dX0_back_9 : decode cX0_back 9 = .ok (.iconst (-1), 1) := dk_2 (dk_at dksX0_back_0 9 rfl rfl)
theorem dX0_back_10 : decode cX0_back 10 = .ok (.ireturn, 1) := dk_172 (dk_at dksX0_back_0 10 rfl rfl)
theorem dX0_back_11 : decode cX0_back 11 = .ok (.aload_n 0, 1) := dk_42 (dk_at dksX0_back_0 11 rfl rfl)
theorem dX0_back_12 : decode cX0_back 12 = .ok (.getfield 37, 3) := dk_180 0 37 (dk_at dksX0_back_0 12 rfl rfl)
theorem dX0_back_15 : decode cX0_back 15 = .ok (.iload_n 1, 1) := dk_27 (dk_at dksX0_back_0 15 rfl rfl)
theorem dX0_back_16 : decode cX0_back 16 = .ok (.baload, 1) := dk_51 (dk_at dksX0_back_0 16 rfl rfl)
theorem dX0_back_17 : decode cX0_back 17 = .ok (.ifCond .ne 6, 3) := dk_154 0 6 (dk_at dksX0_back_0 17 rfl rfl)
theorem dX0_back_20 : decode cX0_back 20 = .ok (.bipush (-2), 2) := dk_16 254 (dk_at dksX0_back_0 20 rfl rfl)
theorem dX0_back_22 : decode cX0_back 22 = .ok (.ireturn, 1) := dk_172 (dk_at dksX0_back_0 22 rfl rfl)
theorem dX0_back_23 : decode cX0_back 23 = .ok (.aload_n 0, 1) := dk_42 (dk_at dksX0_back_0 23 rfl rfl)
theorem dX0_back_24 : decode cX0_back 24 = .ok (.getfield 19, 3) := dk_180 0 19 (dk_at dksX0_back_1 0 rfl rfl)
theorem dX0_back_27 : decode cX0_back 27 = .ok (.aload_n 0, 1) := dk_42 (dk_at dksX0_back_1 3 rfl rfl)
theorem dX0_back_28 : decode cX0_back 28 = .ok (.getfield 34, 3) := dk_180 0 34 (dk_at dksX0_back_1 4 rfl rfl)
theorem dX0_back_31 : decode cX0_back 31 = .ok (.iload_n 1, 1) := dk_27 (dk_at dksX0_back_1 7 rfl rfl)
theorem dX0_back_32 : decode cX0_back 32 = .ok (.aaload, 1) := dk_50 (dk_at dksX0_back_1 8 rfl rfl)
theorem dX0_back_33 : decode cX0_back 33 = .ok (.invokevirtual 185, 3) := dk_182 0 185 (dk_at dksX0_back_1 9 rfl rfl)
theorem dX0_back_36 : decode cX0_back 36 = .ok (.aload_n 0, 1) := dk_42 (dk_at dksX0_back_1 12 rfl rfl)
theorem dX0_back_37 : decode cX0_back 37 = .ok (.iconst 0, 1) := dk_3 (dk_at dksX0_back_1 13 rfl rfl)
theorem dX0_back_38 : decode cX0_back 38 = .ok (.putfield 113, 3) := dk_181 0 113 (dk_at dksX0_back_1 14 rfl rfl)
theorem dX0_back_41 : decode cX0_back 41 = .ok (.aload_n 0, 1) := dk_42 (dk_at dksX0_back_1 17 rfl rfl)
theorem dX0_back_42 : decode cX0_back 42 = .ok (.getfield 19, 3) := dk_180 0 19 (dk_at dksX0_back_1 18 rfl rfl)
theorem dX0_back_45 : decode cX0_back 45 = .ok (.getfield 166, 3) := dk_180 0 166 (dk_at dksX0_back_1 21 rfl rfl)
theorem dX0_back_48 : decode cX0_back 48 = .ok (.ireturn, 1) := dk_172 (dk_at dksX0_back_2 0 rfl rfl)
abbrev cX0_count : ByteArray := prog_1_method_52_code
def yX0_count : MethodName := ⟨RX0, "count", "(I)I"⟩
def dkwX0_count_3 : List UInt8 := [180, 0, 134, 172, 42, 180, 0, 19, 180, 1, 3, 172, 42, 180, 0, 116, 172, 42, 180, 0, 94, 172, 2, 172]
abbrev dktX0_count_3 : List UInt8 := dkwX0_count_3 ++ []
def dkwX0_count_2 : List UInt8 := [42, 180, 0, 13, 180, 0, 131, 27, 46, 172, 42, 180, 0, 13, 180, 0, 128, 172, 42, 180, 0, 13]
abbrev dktX0_count_2 : List UInt8 := dkwX0_count_2 ++ dktX0_count_3
def dkwX0_count_1 : List UInt8 := [170, 0, 0, 0, 0, 0, 91, 0, 0, 0, 0, 0, 0, 0, 7, 0, 0, 0, 47, 0, 0, 0, 47, 0, 0, 0, 47, 0, 0, 0, 57, 0, 0, 0, 65, 0, 0, 0, 73, 0, 0, 0, 81, 0, 0, 0, 86]
abbrev dktX0_count_1 : List UInt8 := dkwX0_count_1 ++ dktX0_count_2
def dkwX0_count_0 : List UInt8 := [27]
abbrev dktX0_count_0 : List UInt8 := dkwX0_count_0 ++ dktX0_count_1
theorem dksX0_count_0 : cX0_count.data.toList.drop 0 = dktX0_count_0 := by decide +kernel
theorem dksX0_count_1 : cX0_count.data.toList.drop 1 = dktX0_count_1 := dk_seg dksX0_count_0 1 rfl rfl
theorem dksX0_count_2 : cX0_count.data.toList.drop 48 = dktX0_count_2 := dk_seg dksX0_count_1 47 rfl rfl
theorem dksX0_count_3 : cX0_count.data.toList.drop 70 = dktX0_count_3 := dk_seg dksX0_count_2 22 rfl rfl
theorem dX0_count_0 : decode cX0_count 0 = .ok (.iload_n 1, 1) := dk_27 (dk_at dksX0_count_0 0 rfl rfl)
theorem dX0_count_1 : decode cX0_count 1 = .ok (.tableswitch 91 0 7 #[47, 47, 47, 57, 65, 73, 81, 86], 47) := by decide +kernel
theorem dX0_count_48 : decode cX0_count 48 = .ok (.aload_n 0, 1) := dk_42 (dk_at dksX0_count_2 0 rfl rfl)
theorem dX0_count_49 : decode cX0_count 49 = .ok (.getfield 13, 3) := dk_180 0 13 (dk_at dksX0_count_2 1 rfl rfl)
theorem dX0_count_52 : decode cX0_count 52 = .ok (.getfield 131, 3) := dk_180 0 131 (dk_at dksX0_count_2 4 rfl rfl)
theorem dX0_count_55 : decode cX0_count 55 = .ok (.iload_n 1, 1) := dk_27 (dk_at dksX0_count_2 7 rfl rfl)
theorem dX0_count_56 : decode cX0_count 56 = .ok (.iaload, 1) := dk_46 (dk_at dksX0_count_2 8 rfl rfl)
theorem dX0_count_57 : decode cX0_count 57 = .ok (.ireturn, 1) := dk_172 (dk_at dksX0_count_2 9 rfl rfl)
theorem dX0_count_58 : decode cX0_count 58 = .ok (.aload_n 0, 1) := dk_42 (dk_at dksX0_count_2 10 rfl rfl)
theorem dX0_count_59 : decode cX0_count 59 = .ok (.getfield 13, 3) := dk_180 0 13 (dk_at dksX0_count_2 11 rfl rfl)
theorem dX0_count_62 : decode cX0_count 62 = .ok (.getfield 128, 3) := dk_180 0 128 (dk_at dksX0_count_2 14 rfl rfl)
theorem dX0_count_65 : decode cX0_count 65 = .ok (.ireturn, 1) := dk_172 (dk_at dksX0_count_2 17 rfl rfl)
theorem dX0_count_66 : decode cX0_count 66 = .ok (.aload_n 0, 1) := dk_42 (dk_at dksX0_count_2 18 rfl rfl)
theorem dX0_count_67 : decode cX0_count 67 = .ok (.getfield 13, 3) := dk_180 0 13 (dk_at dksX0_count_2 19 rfl rfl)
theorem dX0_count_70 : decode cX0_count 70 = .ok (.getfield 134, 3) := dk_180 0 134 (dk_at dksX0_count_3 0 rfl rfl)
theorem dX0_count_73 : decode cX0_count 73 = .ok (.ireturn, 1) := dk_172 (dk_at dksX0_count_3 3 rfl rfl)
theorem dX0_count_74 : decode cX0_count 74 = .ok (.aload_n 0, 1) := dk_42 (dk_at dksX0_count_3 4 rfl rfl)
theorem dX0_count_75 : decode cX0_count 75 = .ok (.getfield 19, 3) := dk_180 0 19 (dk_at dksX0_count_3 5 rfl rfl)
theorem dX0_count_78 : decode cX0_count 78 = .ok (.getfield 259, 3) := dk_180 1 3 (dk_at dksX0_count_3 8 rfl rfl)
theorem dX0_count_81 : decode cX0_count 81 = .ok (.ireturn, 1) := dk_172 (dk_at dksX0_count_3 11 rfl rfl)
theorem dX0_count_82 : decode cX0_count 82 = .ok (.aload_n 0, 1) := dk_42 (dk_at dksX0_count_3 12 rfl rfl)
theorem dX0_count_83 : decode cX0_count 83 = .ok (.getfield 116, 3) := dk_180 0 116 (dk_at dksX0_count_3 13 rfl rfl)
theorem dX0_count_86 : decode cX0_count 86 = .ok (.ireturn, 1) := dk_172 (dk_at dksX0_count_3 16 rfl rfl)
theorem dX0_count_87 : decode cX0_count 87 = .ok (.aload_n 0, 1) := dk_42 (dk_at dksX0_count_3 17 rfl rfl)
theorem dX0_count_88 : decode cX0_count 88 = .ok (.getfield 94, 3) := dk_180 0 94 (dk_at dksX0_count_3 18 rfl rfl)
theorem dX0_count_91 : decode cX0_count 91 = .ok (.ireturn, 1) := dk_172 (dk_at dksX0_count_3 21 rfl rfl)
theorem dX0_count_92 : decode cX0_count 92 = .ok (.iconst (-1), 1) := dk_2 (dk_at dksX0_count_3 22 rfl rfl)
theorem dX0_count_93 : decode cX0_count 93 = .ok (.ireturn, 1) := dk_172 (dk_at dksX0_count_3 23 rfl rfl)
abbrev cX0_trace : ByteArray := prog_1_method_53_code
def yX0_trace : MethodName := ⟨RX0, "trace", "()J"⟩
theorem dX0_trace_0 : decode cX0_trace 0 = .ok (.aload_n 0, 1) := by decide +kernel
theorem dX0_trace_1 : decode cX0_trace 1 = .ok (.getfield 297, 3) := by decide +kernel
theorem dX0_trace_4 : decode cX0_trace 4 = .ok (.lreturn, 1) := by decide +kernel
theorem q60 : (Jvm.Cond.initialized "SmokedLetters") ∈ lw_all := lw_g (lw_at lw_m1 1 rfl) rfl
theorem q85 : (Jvm.Cond.instantiable "SmokedLetters" (20 : Nat)) ∈ lw_all := lw_g (lw_at lw_m1 26 rfl) rfl
theorem q87 : (Jvm.Cond.instanceMethod ({ cls := "SmokedLetters", name := "<init>", desc := "()V" } : Jvm.MethodName)) ∈ lw_all := lw_g (lw_at lw_m1 28 rfl) rfl
theorem q88 : (Jvm.Cond.code ({ cls := "SmokedLetters", name := "<init>", desc := "()V" } : Jvm.MethodName) prog_1_method_3_code (1 : Nat) (Option.none : Option Jvm.ClassFile.FieldType)) ∈ lw_all := lw_g (lw_at lw_m1 29 rfl) rfl
theorem q89 : (Jvm.Cond.methodLink "SmokedLetters" (7 : Nat) ({ cls := "java/lang/Object", name := "<init>", desc := "()V" } : Jvm.MethodName)) ∈ lw_all := lw_g (lw_at lw_m1 30 rfl) rfl
theorem q92 : (Jvm.Cond.classLink "SmokedLetters" (10 : Nat) "SmokedLetters$Book") ∈ lw_all := lw_g (lw_at lw_m1 33 rfl) rfl
theorem q94 : (Jvm.Cond.methodLinkNest "SmokedLetters" (12 : Nat) ({ cls := "SmokedLetters$Book", name := "<init>", desc := "()V" } : Jvm.MethodName) "SmokedLetters") ∈ lw_tbl := lw_at lw_m1 35 rfl
theorem q101 : (Jvm.Cond.fieldLinkNest "SmokedLetters" (131 : Nat) "SmokedLetters$Book" "law" "[I" "SmokedLetters") ∈ lw_tbl := lw_at lw_m1 42 rfl
theorem q104 : (Jvm.Cond.fieldLinkNest "SmokedLetters" (141 : Nat) "SmokedLetters$Book" "comes" "[I" "SmokedLetters") ∈ lw_tbl := lw_at lw_m1 45 rfl
theorem q107 : (Jvm.Cond.fieldLinkNest "SmokedLetters" (144 : Nat) "SmokedLetters$Book" "chance" "[I" "SmokedLetters") ∈ lw_tbl := lw_at lw_m1 48 rfl
theorem q111 : (Jvm.Cond.fieldLinkNest "SmokedLetters" (157 : Nat) "SmokedLetters$Book" "burns" "[I" "SmokedLetters") ∈ lw_tbl := lw_at lw_m1 52 rfl
theorem q115 : (Jvm.Cond.fieldLinkNest "SmokedLetters" (160 : Nat) "SmokedLetters$Book" "mercyOf" "[I" "SmokedLetters") ∈ lw_tbl := lw_at lw_m1 56 rfl
theorem q119 : (Jvm.Cond.fieldLinkNest "SmokedLetters" (163 : Nat) "SmokedLetters$Book" "mercyTo" "[I" "SmokedLetters") ∈ lw_tbl := lw_at lw_m1 60 rfl
theorem q121 : (Jvm.Cond.fieldLinkNest "SmokedLetters" (128 : Nat) "SmokedLetters$Book" "travellers" "I" "SmokedLetters") ∈ lw_tbl := lw_at lw_m1 62 rfl
theorem q124 : (Jvm.Cond.fieldLinkNest "SmokedLetters" (134 : Nat) "SmokedLetters$Book" "clerks" "I" "SmokedLetters") ∈ lw_tbl := lw_at lw_m1 65 rfl
theorem q125 : (Jvm.Cond.fieldLinkNest "SmokedLetters" (125 : Nat) "SmokedLetters$Book" "items" "I" "SmokedLetters") ∈ lw_tbl := lw_at lw_m1 66 rfl
theorem q147 : (Jvm.Cond.classLink "SmokedLetters" (1 : Nat) "SmokedLetters$Island") ∈ lw_all := lw_g (lw_at lw_m1 88 rfl) rfl
theorem q149 : (Jvm.Cond.methodLink "SmokedLetters" (3 : Nat) ({ cls := "SmokedLetters$Island", name := "<init>", desc := "()V" } : Jvm.MethodName)) ∈ lw_all := lw_g (lw_at lw_m1 90 rfl) rfl
theorem q161 : (Jvm.Cond.fieldLinkNest "SmokedLetters" (166 : Nat) "SmokedLetters$Island" "day" "I" "SmokedLetters") ∈ lw_tbl := lw_at lw_m1 102 rfl
theorem q163 : (Jvm.Cond.fieldLinkNest "SmokedLetters" (169 : Nat) "SmokedLetters$Island" "vinegar" "I" "SmokedLetters") ∈ lw_tbl := lw_at lw_m1 104 rfl
theorem q166 : (Jvm.Cond.fieldLinkNest "SmokedLetters" (151 : Nat) "SmokedLetters$Island" "gone" "I" "SmokedLetters") ∈ lw_tbl := lw_at lw_m1 107 rfl
theorem q168 : (Jvm.Cond.fieldLinkNest "SmokedLetters" (147 : Nat) "SmokedLetters$Island" "row" "[I" "SmokedLetters") ∈ lw_tbl := lw_at lw_m1 109 rfl
theorem q170 : (Jvm.Cond.fieldLinkNest "SmokedLetters" (148 : Nat) "SmokedLetters$Island" "days" "[I" "SmokedLetters") ∈ lw_tbl := lw_at lw_m1 111 rfl
theorem q172 : (Jvm.Cond.fieldLinkNest "SmokedLetters" (262 : Nat) "SmokedLetters$Island" "word" "[I" "SmokedLetters") ∈ lw_tbl := lw_at lw_m1 113 rfl
theorem q174 : (Jvm.Cond.fieldLinkNest "SmokedLetters" (259 : Nat) "SmokedLetters$Island" "words" "I" "SmokedLetters") ∈ lw_tbl := lw_at lw_m1 115 rfl
theorem q190 : (Jvm.Cond.methodLink "SmokedLetters" (26 : Nat) ({ cls := "SmokedLetters", name := "islands", desc := "(I)[LSmokedLetters$Island;" } : Jvm.MethodName)) ∈ lw_all := lw_g (lw_at lw_m1 131 rfl) rfl
theorem q191 : (Jvm.Cond.static ({ cls := "SmokedLetters", name := "islands", desc := "(I)[LSmokedLetters$Island;" } : Jvm.MethodName)) ∈ lw_all := lw_g (lw_at lw_m1 132 rfl) rfl
theorem q192 : (Jvm.Cond.code ({ cls := "SmokedLetters", name := "islands", desc := "(I)[LSmokedLetters$Island;" } : Jvm.MethodName) prog_1_method_2_code (3 : Nat) (Option.some (Jvm.ClassFile.FieldType.array (Jvm.ClassFile.FieldType.object "SmokedLetters$Island")))) ∈ lw_all := lw_g (lw_at lw_m1 133 rfl) rfl
theorem q194 : (Jvm.Cond.classLink "SmokedLetters" (49 : Nat) "[[I") ∈ lw_all := lw_g (lw_at lw_m1 135 rfl) rfl
theorem q196 : (Jvm.Cond.classLink "SmokedLetters" (66 : Nat) "SmokedLetters$Clerk") ∈ lw_all := lw_g (lw_at lw_m1 137 rfl) rfl
theorem q199 : (Jvm.Cond.methodLinkNest "SmokedLetters" (68 : Nat) ({ cls := "SmokedLetters$Clerk", name := "<init>", desc := "(LSmokedLetters;)V" } : Jvm.MethodName) "SmokedLetters") ∈ lw_tbl := lw_at lw_m1 140 rfl
theorem q209 : (Jvm.Cond.classLink "SmokedLetters" (71 : Nat) "SmokedLetters$Nun") ∈ lw_all := lw_g (lw_at lw_m1 150 rfl) rfl
theorem q211 : (Jvm.Cond.methodLinkNest "SmokedLetters" (73 : Nat) ({ cls := "SmokedLetters$Nun", name := "<init>", desc := "(LSmokedLetters;)V" } : Jvm.MethodName) "SmokedLetters") ∈ lw_tbl := lw_at lw_m1 152 rfl
theorem q220 : (Jvm.Cond.classLink "SmokedLetters" (74 : Nat) "SmokedLetters$Nephew") ∈ lw_all := lw_g (lw_at lw_m1 161 rfl) rfl
theorem q222 : (Jvm.Cond.methodLinkNest "SmokedLetters" (76 : Nat) ({ cls := "SmokedLetters$Nephew", name := "<init>", desc := "(LSmokedLetters;)V" } : Jvm.MethodName) "SmokedLetters") ∈ lw_tbl := lw_at lw_m1 163 rfl
theorem q231 : (Jvm.Cond.classLink "SmokedLetters" (77 : Nat) "SmokedLetters$Abbess") ∈ lw_all := lw_g (lw_at lw_m1 172 rfl) rfl
theorem q233 : (Jvm.Cond.methodLinkNest "SmokedLetters" (79 : Nat) ({ cls := "SmokedLetters$Abbess", name := "<init>", desc := "(LSmokedLetters;)V" } : Jvm.MethodName) "SmokedLetters") ∈ lw_tbl := lw_at lw_m1 174 rfl
theorem q243 : (Jvm.Cond.classLink "SmokedLetters" (80 : Nat) "SmokedLetters$Forger") ∈ lw_all := lw_g (lw_at lw_m1 184 rfl) rfl
theorem q245 : (Jvm.Cond.methodLinkNest "SmokedLetters" (82 : Nat) ({ cls := "SmokedLetters$Forger", name := "<init>", desc := "(LSmokedLetters;)V" } : Jvm.MethodName) "SmokedLetters") ∈ lw_tbl := lw_at lw_m1 186 rfl
theorem q255 : (Jvm.Cond.classLink "SmokedLetters" (83 : Nat) "SmokedLetters$Gull") ∈ lw_all := lw_g (lw_at lw_m1 196 rfl) rfl
theorem q257 : (Jvm.Cond.methodLinkNest "SmokedLetters" (85 : Nat) ({ cls := "SmokedLetters$Gull", name := "<init>", desc := "(LSmokedLetters;)V" } : Jvm.MethodName) "SmokedLetters") ∈ lw_tbl := lw_at lw_m1 198 rfl
theorem q269 : (Jvm.Cond.fieldLink "SmokedLetters" (13 : Nat) "SmokedLetters" "book" "LSmokedLetters$Book;") ∈ lw_all := lw_g (lw_at lw_m1 210 rfl) rfl
theorem q271 : (Jvm.Cond.fieldLink "SmokedLetters" (19 : Nat) "SmokedLetters" "now" "LSmokedLetters$Island;") ∈ lw_all := lw_g (lw_at lw_m1 212 rfl) rfl
theorem q272 : (Jvm.Cond.fieldLink "SmokedLetters" (23 : Nat) "SmokedLetters" "tried" "LSmokedLetters$Island;") ∈ lw_all := lw_g (lw_at lw_m1 213 rfl) rfl
theorem q273 : (Jvm.Cond.fieldLink "SmokedLetters" (30 : Nat) "SmokedLetters" "before" "[LSmokedLetters$Island;") ∈ lw_all := lw_g (lw_at lw_m1 214 rfl) rfl
theorem q274 : (Jvm.Cond.fieldLink "SmokedLetters" (113 : Nat) "SmokedLetters" "deeds" "I") ∈ lw_all := lw_g (lw_at lw_m1 215 rfl) rfl
theorem q275 : (Jvm.Cond.fieldLink "SmokedLetters" (34 : Nat) "SmokedLetters" "images" "[LSmokedLetters$Island;") ∈ lw_all := lw_g (lw_at lw_m1 216 rfl) rfl
theorem q276 : (Jvm.Cond.fieldLink "SmokedLetters" (37 : Nat) "SmokedLetters" "isKept" "[Z") ∈ lw_all := lw_g (lw_at lw_m1 217 rfl) rfl
theorem q278 : (Jvm.Cond.fieldLink "SmokedLetters" (41 : Nat) "SmokedLetters" "text" "[B") ∈ lw_all := lw_g (lw_at lw_m1 219 rfl) rfl
theorem q280 : (Jvm.Cond.fieldLink "SmokedLetters" (94 : Nat) "SmokedLetters" "typed" "I") ∈ lw_all := lw_g (lw_at lw_m1 221 rfl) rfl
theorem q281 : (Jvm.Cond.fieldLink "SmokedLetters" (45 : Nat) "SmokedLetters" "sailsOn" "[I") ∈ lw_all := lw_g (lw_at lw_m1 222 rfl) rfl
theorem q282 : (Jvm.Cond.fieldLink "SmokedLetters" (51 : Nat) "SmokedLetters" "brown" "[[I") ∈ lw_all := lw_g (lw_at lw_m1 223 rfl) rfl
theorem q283 : (Jvm.Cond.fieldLink "SmokedLetters" (54 : Nat) "SmokedLetters" "brownBy" "[I") ∈ lw_all := lw_g (lw_at lw_m1 224 rfl) rfl
theorem q284 : (Jvm.Cond.fieldLink "SmokedLetters" (116 : Nat) "SmokedLetters" "browns" "I") ∈ lw_all := lw_g (lw_at lw_m1 225 rfl) rfl
theorem q285 : (Jvm.Cond.fieldLink "SmokedLetters" (268 : Nat) "SmokedLetters" "brownLong" "I") ∈ lw_all := lw_g (lw_at lw_m1 226 rfl) rfl
theorem q286 : (Jvm.Cond.fieldLink "SmokedLetters" (57 : Nat) "SmokedLetters" "told" "[I") ∈ lw_all := lw_g (lw_at lw_m1 227 rfl) rfl
theorem q287 : (Jvm.Cond.fieldLink "SmokedLetters" (280 : Nat) "SmokedLetters" "toldLong" "I") ∈ lw_all := lw_g (lw_at lw_m1 228 rfl) rfl
theorem q288 : (Jvm.Cond.fieldLink "SmokedLetters" (60 : Nat) "SmokedLetters" "row" "[I") ∈ lw_all := lw_g (lw_at lw_m1 229 rfl) rfl
theorem q289 : (Jvm.Cond.fieldLink "SmokedLetters" (63 : Nat) "SmokedLetters" "bestRow" "[I") ∈ lw_all := lw_g (lw_at lw_m1 230 rfl) rfl
theorem q296 : (Jvm.Cond.fieldLink "SmokedLetters" (297 : Nat) "SmokedLetters" "trace" "J") ∈ lw_all := lw_g (lw_at lw_m1 237 rfl) rfl
theorem q297 : (Jvm.Cond.fieldLink "SmokedLetters" (86 : Nat) "SmokedLetters" "kinds" "[LSmokedLetters$Clerk;") ∈ lw_all := lw_g (lw_at lw_m1 238 rfl) rfl
theorem q298 : (Jvm.Cond.lays "SmokedLetters" "SmokedLetters" "book" "LSmokedLetters$Book;") ∈ lw_all := lw_g (lw_at lw_m1 239 rfl) rfl
theorem q299 : (Jvm.Cond.soleField "SmokedLetters" "book") ∈ lw_all := lw_g (lw_at lw_m2 0 rfl) rfl
theorem q300 : (Jvm.Cond.laysFinal "SmokedLetters" "SmokedLetters" "now" "LSmokedLetters$Island;") ∈ lw_all := lw_g (lw_at lw_m2 1 rfl) rfl
theorem q301 : (Jvm.Cond.soleField "SmokedLetters" "now") ∈ lw_all := lw_g (lw_at lw_m2 2 rfl) rfl
theorem q302 : (Jvm.Cond.laysFinal "SmokedLetters" "SmokedLetters" "tried" "LSmokedLetters$Island;") ∈ lw_all := lw_g (lw_at lw_m2 3 rfl) rfl
theorem q303 : (Jvm.Cond.soleField "SmokedLetters" "tried") ∈ lw_all := lw_g (lw_at lw_m2 4 rfl) rfl
theorem q304 : (Jvm.Cond.laysFinal "SmokedLetters" "SmokedLetters" "before" "[LSmokedLetters$Island;") ∈ lw_all := lw_g (lw_at lw_m2 5 rfl) rfl
theorem q305 : (Jvm.Cond.soleField "SmokedLetters" "before") ∈ lw_all := lw_g (lw_at lw_m2 6 rfl) rfl
theorem q306 : (Jvm.Cond.lays "SmokedLetters" "SmokedLetters" "deeds" "I") ∈ lw_all := lw_g (lw_at lw_m2 7 rfl) rfl
theorem q307 : (Jvm.Cond.soleField "SmokedLetters" "deeds") ∈ lw_all := lw_g (lw_at lw_m2 8 rfl) rfl
theorem q308 : (Jvm.Cond.laysFinal "SmokedLetters" "SmokedLetters" "images" "[LSmokedLetters$Island;") ∈ lw_all := lw_g (lw_at lw_m2 9 rfl) rfl
theorem q309 : (Jvm.Cond.soleField "SmokedLetters" "images") ∈ lw_all := lw_g (lw_at lw_m2 10 rfl) rfl
theorem q310 : (Jvm.Cond.laysFinal "SmokedLetters" "SmokedLetters" "isKept" "[Z") ∈ lw_all := lw_g (lw_at lw_m2 11 rfl) rfl
theorem q311 : (Jvm.Cond.soleField "SmokedLetters" "isKept") ∈ lw_all := lw_g (lw_at lw_m2 12 rfl) rfl
theorem q312 : (Jvm.Cond.laysFinal "SmokedLetters" "SmokedLetters" "text" "[B") ∈ lw_all := lw_g (lw_at lw_m2 13 rfl) rfl
theorem q313 : (Jvm.Cond.soleField "SmokedLetters" "text") ∈ lw_all := lw_g (lw_at lw_m2 14 rfl) rfl
theorem q314 : (Jvm.Cond.lays "SmokedLetters" "SmokedLetters" "typed" "I") ∈ lw_all := lw_g (lw_at lw_m2 15 rfl) rfl
theorem q315 : (Jvm.Cond.soleField "SmokedLetters" "typed") ∈ lw_all := lw_g (lw_at lw_m2 16 rfl) rfl
theorem q316 : (Jvm.Cond.laysFinal "SmokedLetters" "SmokedLetters" "sailsOn" "[I") ∈ lw_all := lw_g (lw_at lw_m2 17 rfl) rfl
theorem q317 : (Jvm.Cond.soleField "SmokedLetters" "sailsOn") ∈ lw_all := lw_g (lw_at lw_m2 18 rfl) rfl
theorem q318 : (Jvm.Cond.laysFinal "SmokedLetters" "SmokedLetters" "brown" "[[I") ∈ lw_all := lw_g (lw_at lw_m2 19 rfl) rfl
theorem q319 : (Jvm.Cond.soleField "SmokedLetters" "brown") ∈ lw_all := lw_g (lw_at lw_m2 20 rfl) rfl
theorem q320 : (Jvm.Cond.laysFinal "SmokedLetters" "SmokedLetters" "brownBy" "[I") ∈ lw_all := lw_g (lw_at lw_m2 21 rfl) rfl
theorem q321 : (Jvm.Cond.soleField "SmokedLetters" "brownBy") ∈ lw_all := lw_g (lw_at lw_m2 22 rfl) rfl
theorem q322 : (Jvm.Cond.lays "SmokedLetters" "SmokedLetters" "browns" "I") ∈ lw_all := lw_g (lw_at lw_m2 23 rfl) rfl
theorem q323 : (Jvm.Cond.soleField "SmokedLetters" "browns") ∈ lw_all := lw_g (lw_at lw_m2 24 rfl) rfl
theorem q324 : (Jvm.Cond.lays "SmokedLetters" "SmokedLetters" "brownLong" "I") ∈ lw_all := lw_g (lw_at lw_m2 25 rfl) rfl
theorem q325 : (Jvm.Cond.soleField "SmokedLetters" "brownLong") ∈ lw_all := lw_g (lw_at lw_m2 26 rfl) rfl
theorem q326 : (Jvm.Cond.laysFinal "SmokedLetters" "SmokedLetters" "told" "[I") ∈ lw_all := lw_g (lw_at lw_m2 27 rfl) rfl
theorem q327 : (Jvm.Cond.soleField "SmokedLetters" "told") ∈ lw_all := lw_g (lw_at lw_m2 28 rfl) rfl
theorem q328 : (Jvm.Cond.lays "SmokedLetters" "SmokedLetters" "toldLong" "I") ∈ lw_all := lw_g (lw_at lw_m2 29 rfl) rfl
theorem q329 : (Jvm.Cond.soleField "SmokedLetters" "toldLong") ∈ lw_all := lw_g (lw_at lw_m2 30 rfl) rfl
theorem q330 : (Jvm.Cond.laysFinal "SmokedLetters" "SmokedLetters" "row" "[I") ∈ lw_all := lw_g (lw_at lw_m2 31 rfl) rfl
theorem q331 : (Jvm.Cond.soleField "SmokedLetters" "row") ∈ lw_all := lw_g (lw_at lw_m2 32 rfl) rfl
theorem q332 : (Jvm.Cond.laysFinal "SmokedLetters" "SmokedLetters" "bestRow" "[I") ∈ lw_all := lw_g (lw_at lw_m2 33 rfl) rfl
theorem q333 : (Jvm.Cond.soleField "SmokedLetters" "bestRow") ∈ lw_all := lw_g (lw_at lw_m2 34 rfl) rfl
theorem q334 : (Jvm.Cond.lays "SmokedLetters" "SmokedLetters" "trace" "J") ∈ lw_all := lw_g (lw_at lw_m2 35 rfl) rfl
theorem q335 : (Jvm.Cond.soleField "SmokedLetters" "trace") ∈ lw_all := lw_g (lw_at lw_m2 36 rfl) rfl
theorem q336 : (Jvm.Cond.laysFinal "SmokedLetters" "SmokedLetters" "kinds" "[LSmokedLetters$Clerk;") ∈ lw_all := lw_g (lw_at lw_m2 37 rfl) rfl
theorem q337 : (Jvm.Cond.soleField "SmokedLetters" "kinds") ∈ lw_all := lw_g (lw_at lw_m2 38 rfl) rfl
theorem q338 : (Jvm.Cond.superclass "SmokedLetters" "java/lang/Object") ∈ lw_all := lw_g (lw_at lw_m2 39 rfl) rfl
theorem q340 : (Jvm.Cond.instanceMethod ({ cls := "SmokedLetters", name := "type", desc := "(I)I" } : Jvm.MethodName)) ∈ lw_all := lw_g (lw_at lw_m2 41 rfl) rfl
theorem q341 : (Jvm.Cond.selects "SmokedLetters" ({ cls := "SmokedLetters", name := "type", desc := "(I)I" } : Jvm.MethodName) ({ cls := "SmokedLetters", name := "type", desc := "(I)I" } : Jvm.MethodName)) ∈ lw_all := lw_g (lw_at lw_m2 42 rfl) rfl
theorem q342 : (Jvm.Cond.code ({ cls := "SmokedLetters", name := "type", desc := "(I)I" } : Jvm.MethodName) prog_1_method_4_code (2 : Nat) (Option.some Jvm.ClassFile.FieldType.int)) ∈ lw_all := lw_g (lw_at lw_m2 43 rfl) rfl
theorem q343 : (Jvm.Cond.methodLink "SmokedLetters" (90 : Nat) ({ cls := "SmokedLetters", name := "in", desc := "(III)Z" } : Jvm.MethodName)) ∈ lw_all := lw_g (lw_at lw_m2 44 rfl) rfl
theorem q344 : (Jvm.Cond.static ({ cls := "SmokedLetters", name := "in", desc := "(III)Z" } : Jvm.MethodName)) ∈ lw_all := lw_g (lw_at lw_m2 45 rfl) rfl
theorem q345 : (Jvm.Cond.code ({ cls := "SmokedLetters", name := "in", desc := "(III)Z" } : Jvm.MethodName) prog_1_method_1_code (3 : Nat) (Option.some Jvm.ClassFile.FieldType.boolean)) ∈ lw_all := lw_g (lw_at lw_m2 46 rfl) rfl
theorem q347 : (Jvm.Cond.instanceMethod ({ cls := "SmokedLetters", name := "clear", desc := "()I" } : Jvm.MethodName)) ∈ lw_all := lw_g (lw_at lw_m2 48 rfl) rfl
theorem q348 : (Jvm.Cond.selects "SmokedLetters" ({ cls := "SmokedLetters", name := "clear", desc := "()I" } : Jvm.MethodName) ({ cls := "SmokedLetters", name := "clear", desc := "()I" } : Jvm.MethodName)) ∈ lw_all := lw_g (lw_at lw_m2 49 rfl) rfl
theorem q349 : (Jvm.Cond.code ({ cls := "SmokedLetters", name := "clear", desc := "()I" } : Jvm.MethodName) prog_1_method_5_code (2 : Nat) (Option.some Jvm.ClassFile.FieldType.int)) ∈ lw_all := lw_g (lw_at lw_m2 50 rfl) rfl
theorem q351 : (Jvm.Cond.instanceMethod ({ cls := "SmokedLetters", name := "island", desc := "()I" } : Jvm.MethodName)) ∈ lw_all := lw_g (lw_at lw_m2 52 rfl) rfl
theorem q352 : (Jvm.Cond.selects "SmokedLetters" ({ cls := "SmokedLetters", name := "island", desc := "()I" } : Jvm.MethodName) ({ cls := "SmokedLetters", name := "island", desc := "()I" } : Jvm.MethodName)) ∈ lw_all := lw_g (lw_at lw_m2 53 rfl) rfl
theorem q353 : (Jvm.Cond.codeWith ({ cls := "SmokedLetters", name := "island", desc := "()I" } : Jvm.MethodName) prog_1_method_6_code (3 : Nat) (Option.some Jvm.ClassFile.FieldType.int) [((0 : Nat), (12 : Nat), (15 : Nat), (105 : Nat))]) ∈ lw_all := lw_g (lw_at lw_m2 54 rfl) rfl
theorem q354 : (Jvm.Cond.classLink "SmokedLetters" (105 : Nat) "SmokedLetters$Wrong") ∈ lw_all := lw_g (lw_at lw_m2 55 rfl) rfl
theorem q355 : (Jvm.Cond.classLink "SmokedLetters" (98 : Nat) "SmokedLetters$Reader") ∈ lw_all := lw_g (lw_at lw_m2 56 rfl) rfl
theorem q357 : (Jvm.Cond.methodLinkNest "SmokedLetters" (100 : Nat) ({ cls := "SmokedLetters$Reader", name := "<init>", desc := "(LSmokedLetters;)V" } : Jvm.MethodName) "SmokedLetters") ∈ lw_tbl := lw_at lw_m2 58 rfl
theorem q385 : (Jvm.Cond.methodLink "SmokedLetters" (101 : Nat) ({ cls := "SmokedLetters$Reader", name := "read", desc := "()LSmokedLetters$Book;" } : Jvm.MethodName)) ∈ lw_all := lw_g (lw_at lw_m2 86 rfl) rfl
theorem q546 : (Jvm.Cond.fieldLinkNest "SmokedLetters" (107 : Nat) "SmokedLetters$Wrong" "at" "I" "SmokedLetters") ∈ lw_tbl := lw_at lw_m3 7 rfl
theorem q571 : (Jvm.Cond.laysStatic "SmokedLetters" "MOST" "[I") ∈ lw_tbl := lw_at lw_m3 32 rfl
theorem q572 : (Jvm.Cond.methodLink "SmokedLetters" (110 : Nat) ({ cls := "SmokedLetters$Island", name := "begin", desc := "()V" } : Jvm.MethodName)) ∈ lw_all := lw_g (lw_at lw_m3 33 rfl) rfl
theorem q573 : (Jvm.Cond.methodLink "SmokedLetters" (119 : Nat) ({ cls := "java/util/Arrays", name := "fill", desc := "([ZZ)V" } : Jvm.MethodName)) ∈ lw_all := lw_g (lw_at lw_m3 34 rfl) rfl
theorem q577 : (Jvm.Cond.instanceMethod ({ cls := "SmokedLetters", name := "traveller", desc := "(II)I" } : Jvm.MethodName)) ∈ lw_all := lw_g (lw_at lw_m3 38 rfl) rfl
theorem q578 : (Jvm.Cond.selects "SmokedLetters" ({ cls := "SmokedLetters", name := "traveller", desc := "(II)I" } : Jvm.MethodName) ({ cls := "SmokedLetters", name := "traveller", desc := "(II)I" } : Jvm.MethodName)) ∈ lw_all := lw_g (lw_at lw_m3 39 rfl) rfl
theorem q579 : (Jvm.Cond.code ({ cls := "SmokedLetters", name := "traveller", desc := "(II)I" } : Jvm.MethodName) prog_1_method_10_code (3 : Nat) (Option.some Jvm.ClassFile.FieldType.int)) ∈ lw_all := lw_g (lw_at lw_m3 40 rfl) rfl
theorem q580 : (Jvm.Cond.methodLink "SmokedLetters" (137 : Nat) ({ cls := "SmokedLetters", name := "isTraveller", desc := "(I)Z" } : Jvm.MethodName)) ∈ lw_all := lw_g (lw_at lw_m3 41 rfl) rfl
theorem q581 : (Jvm.Cond.privateMethod ({ cls := "SmokedLetters", name := "isTraveller", desc := "(I)Z" } : Jvm.MethodName)) ∈ lw_tbl := lw_at lw_m3 42 rfl
theorem q582 : (Jvm.Cond.instanceMethod ({ cls := "SmokedLetters", name := "isTraveller", desc := "(I)Z" } : Jvm.MethodName)) ∈ lw_all := lw_g (lw_at lw_m3 43 rfl) rfl
theorem q583 : (Jvm.Cond.code ({ cls := "SmokedLetters", name := "isTraveller", desc := "(I)Z" } : Jvm.MethodName) prog_1_method_7_code (2 : Nat) (Option.some Jvm.ClassFile.FieldType.boolean)) ∈ lw_all := lw_g (lw_at lw_m3 44 rfl) rfl
theorem q585 : (Jvm.Cond.instanceMethod ({ cls := "SmokedLetters", name := "clerk", desc := "(II)I" } : Jvm.MethodName)) ∈ lw_all := lw_g (lw_at lw_m3 46 rfl) rfl
theorem q586 : (Jvm.Cond.selects "SmokedLetters" ({ cls := "SmokedLetters", name := "clerk", desc := "(II)I" } : Jvm.MethodName) ({ cls := "SmokedLetters", name := "clerk", desc := "(II)I" } : Jvm.MethodName)) ∈ lw_all := lw_g (lw_at lw_m3 47 rfl) rfl
theorem q587 : (Jvm.Cond.code ({ cls := "SmokedLetters", name := "clerk", desc := "(II)I" } : Jvm.MethodName) prog_1_method_11_code (3 : Nat) (Option.some Jvm.ClassFile.FieldType.int)) ∈ lw_all := lw_g (lw_at lw_m3 48 rfl) rfl
theorem q588 : (Jvm.Cond.methodLink "SmokedLetters" (154 : Nat) ({ cls := "SmokedLetters", name := "isClerk", desc := "(I)Z" } : Jvm.MethodName)) ∈ lw_all := lw_g (lw_at lw_m3 49 rfl) rfl
theorem q589 : (Jvm.Cond.privateMethod ({ cls := "SmokedLetters", name := "isClerk", desc := "(I)Z" } : Jvm.MethodName)) ∈ lw_tbl := lw_at lw_m3 50 rfl
theorem q590 : (Jvm.Cond.instanceMethod ({ cls := "SmokedLetters", name := "isClerk", desc := "(I)Z" } : Jvm.MethodName)) ∈ lw_all := lw_g (lw_at lw_m3 51 rfl) rfl
theorem q591 : (Jvm.Cond.code ({ cls := "SmokedLetters", name := "isClerk", desc := "(I)Z" } : Jvm.MethodName) prog_1_method_9_code (2 : Nat) (Option.some Jvm.ClassFile.FieldType.boolean)) ∈ lw_all := lw_g (lw_at lw_m3 52 rfl) rfl
theorem q593 : (Jvm.Cond.instanceMethod ({ cls := "SmokedLetters", name := "now", desc := "(I)I" } : Jvm.MethodName)) ∈ lw_all := lw_g (lw_at lw_m3 54 rfl) rfl
theorem q594 : (Jvm.Cond.selects "SmokedLetters" ({ cls := "SmokedLetters", name := "now", desc := "(I)I" } : Jvm.MethodName) ({ cls := "SmokedLetters", name := "now", desc := "(I)I" } : Jvm.MethodName)) ∈ lw_all := lw_g (lw_at lw_m3 55 rfl) rfl
theorem q595 : (Jvm.Cond.code ({ cls := "SmokedLetters", name := "now", desc := "(I)I" } : Jvm.MethodName) prog_1_method_12_code (2 : Nat) (Option.some Jvm.ClassFile.FieldType.int)) ∈ lw_all := lw_g (lw_at lw_m3 56 rfl) rfl
theorem q596 : (Jvm.Cond.methodLink "SmokedLetters" (172 : Nat) ({ cls := "SmokedLetters$Island", name := "leavers", desc := "(LSmokedLetters$Book;)I" } : Jvm.MethodName)) ∈ lw_all := lw_g (lw_at lw_m3 57 rfl) rfl
theorem q604 : (Jvm.Cond.methodLink "SmokedLetters" (176 : Nat) ({ cls := "SmokedLetters$Book", name := "isBoat", desc := "(I)Z" } : Jvm.MethodName)) ∈ lw_all := lw_g (lw_at lw_m3 65 rfl) rfl
theorem q609 : (Jvm.Cond.instanceMethod ({ cls := "SmokedLetters", name := "puts", desc := "(II)I" } : Jvm.MethodName)) ∈ lw_all := lw_g (lw_at lw_m3 70 rfl) rfl
theorem q610 : (Jvm.Cond.selects "SmokedLetters" ({ cls := "SmokedLetters", name := "puts", desc := "(II)I" } : Jvm.MethodName) ({ cls := "SmokedLetters", name := "puts", desc := "(II)I" } : Jvm.MethodName)) ∈ lw_all := lw_g (lw_at lw_m3 71 rfl) rfl
theorem q611 : (Jvm.Cond.code ({ cls := "SmokedLetters", name := "puts", desc := "(II)I" } : Jvm.MethodName) prog_1_method_14_code (3 : Nat) (Option.some Jvm.ClassFile.FieldType.int)) ∈ lw_all := lw_g (lw_at lw_m3 72 rfl) rfl
theorem q612 : (Jvm.Cond.methodLink "SmokedLetters" (189 : Nat) ({ cls := "SmokedLetters", name := "isRow", desc := "(I)Z" } : Jvm.MethodName)) ∈ lw_all := lw_g (lw_at lw_m3 73 rfl) rfl
theorem q613 : (Jvm.Cond.privateMethod ({ cls := "SmokedLetters", name := "isRow", desc := "(I)Z" } : Jvm.MethodName)) ∈ lw_tbl := lw_at lw_m3 74 rfl
theorem q614 : (Jvm.Cond.instanceMethod ({ cls := "SmokedLetters", name := "isRow", desc := "(I)Z" } : Jvm.MethodName)) ∈ lw_all := lw_g (lw_at lw_m3 75 rfl) rfl
theorem q615 : (Jvm.Cond.code ({ cls := "SmokedLetters", name := "isRow", desc := "(I)Z" } : Jvm.MethodName) prog_1_method_8_code (2 : Nat) (Option.some Jvm.ClassFile.FieldType.boolean)) ∈ lw_all := lw_g (lw_at lw_m3 76 rfl) rfl
theorem q616 : (Jvm.Cond.methodLink "SmokedLetters" (192 : Nat) ({ cls := "SmokedLetters", name := "know", desc := "()V" } : Jvm.MethodName)) ∈ lw_all := lw_g (lw_at lw_m3 77 rfl) rfl
theorem q617 : (Jvm.Cond.privateMethod ({ cls := "SmokedLetters", name := "know", desc := "()V" } : Jvm.MethodName)) ∈ lw_tbl := lw_at lw_m3 78 rfl
theorem q618 : (Jvm.Cond.instanceMethod ({ cls := "SmokedLetters", name := "know", desc := "()V" } : Jvm.MethodName)) ∈ lw_all := lw_g (lw_at lw_m3 79 rfl) rfl
theorem q619 : (Jvm.Cond.code ({ cls := "SmokedLetters", name := "know", desc := "()V" } : Jvm.MethodName) prog_1_method_13_code (2 : Nat) (Option.none : Option Jvm.ClassFile.FieldType)) ∈ lw_all := lw_g (lw_at lw_m3 80 rfl) rfl
theorem q620 : (Jvm.Cond.methodLink "SmokedLetters" (179 : Nat) ({ cls := "java/lang/System", name := "arraycopy", desc := "(Ljava/lang/Object;ILjava/lang/Object;II)V" } : Jvm.MethodName)) ∈ lw_all := lw_g (lw_at lw_m3 81 rfl) rfl
theorem q623 : (Jvm.Cond.methodLink "SmokedLetters" (185 : Nat) ({ cls := "SmokedLetters$Island", name := "copyOf", desc := "(LSmokedLetters$Island;)V" } : Jvm.MethodName)) ∈ lw_all := lw_g (lw_at lw_m3 84 rfl) rfl
theorem q628 : (Jvm.Cond.methodLink "SmokedLetters" (195 : Nat) ({ cls := "SmokedLetters$Island", name := "put", desc := "(II)I" } : Jvm.MethodName)) ∈ lw_all := lw_g (lw_at lw_m3 89 rfl) rfl
theorem q637 : (Jvm.Cond.instanceMethod ({ cls := "SmokedLetters", name := "day", desc := "()I" } : Jvm.MethodName)) ∈ lw_all := lw_g (lw_at lw_m3 98 rfl) rfl
theorem q638 : (Jvm.Cond.selects "SmokedLetters" ({ cls := "SmokedLetters", name := "day", desc := "()I" } : Jvm.MethodName) ({ cls := "SmokedLetters", name := "day", desc := "()I" } : Jvm.MethodName)) ∈ lw_all := lw_g (lw_at lw_m3 99 rfl) rfl
theorem q639 : (Jvm.Cond.code ({ cls := "SmokedLetters", name := "day", desc := "()I" } : Jvm.MethodName) prog_1_method_15_code (1 : Nat) (Option.some Jvm.ClassFile.FieldType.int)) ∈ lw_all := lw_g (lw_at lw_m3 100 rfl) rfl
theorem q640 : (Jvm.Cond.methodLink "SmokedLetters" (199 : Nat) ({ cls := "SmokedLetters$Island", name := "pass", desc := "(LSmokedLetters$Book;)V" } : Jvm.MethodName)) ∈ lw_all := lw_g (lw_at lw_m3 101 rfl) rfl
theorem q645 : (Jvm.Cond.instanceMethod ({ cls := "SmokedLetters", name := "sails", desc := "(I)I" } : Jvm.MethodName)) ∈ lw_all := lw_g (lw_at lw_m3 106 rfl) rfl
theorem q646 : (Jvm.Cond.selects "SmokedLetters" ({ cls := "SmokedLetters", name := "sails", desc := "(I)I" } : Jvm.MethodName) ({ cls := "SmokedLetters", name := "sails", desc := "(I)I" } : Jvm.MethodName)) ∈ lw_all := lw_g (lw_at lw_m3 107 rfl) rfl
theorem q647 : (Jvm.Cond.code ({ cls := "SmokedLetters", name := "sails", desc := "(I)I" } : Jvm.MethodName) prog_1_method_16_code (2 : Nat) (Option.some Jvm.ClassFile.FieldType.int)) ∈ lw_all := lw_g (lw_at lw_m3 108 rfl) rfl
theorem q648 : (Jvm.Cond.methodLink "SmokedLetters" (203 : Nat) ({ cls := "SmokedLetters$Island", name := "mayLeave", desc := "(LSmokedLetters$Book;I)Z" } : Jvm.MethodName)) ∈ lw_all := lw_g (lw_at lw_m3 109 rfl) rfl
theorem q649 : (Jvm.Cond.methodLink "SmokedLetters" (207 : Nat) ({ cls := "SmokedLetters$Island", name := "sail", desc := "(I)V" } : Jvm.MethodName)) ∈ lw_all := lw_g (lw_at lw_m3 110 rfl) rfl
theorem q653 : (Jvm.Cond.methodLink "SmokedLetters" (211 : Nat) ({ cls := "java/lang/Integer", name := "bitCount", desc := "(I)I" } : Jvm.MethodName)) ∈ lw_all := lw_g (lw_at lw_m3 114 rfl) rfl
theorem q660 : (Jvm.Cond.instanceMethod ({ cls := "SmokedLetters", name := "undo", desc := "()I" } : Jvm.MethodName)) ∈ lw_all := lw_g (lw_at lw_m3 121 rfl) rfl
theorem q661 : (Jvm.Cond.selects "SmokedLetters" ({ cls := "SmokedLetters", name := "undo", desc := "()I" } : Jvm.MethodName) ({ cls := "SmokedLetters", name := "undo", desc := "()I" } : Jvm.MethodName)) ∈ lw_all := lw_g (lw_at lw_m3 122 rfl) rfl
theorem q662 : (Jvm.Cond.code ({ cls := "SmokedLetters", name := "undo", desc := "()I" } : Jvm.MethodName) prog_1_method_17_code (1 : Nat) (Option.some Jvm.ClassFile.FieldType.int)) ∈ lw_all := lw_g (lw_at lw_m3 123 rfl) rfl
theorem q664 : (Jvm.Cond.instanceMethod ({ cls := "SmokedLetters", name := "most", desc := "(II)I" } : Jvm.MethodName)) ∈ lw_all := lw_g (lw_at lw_m3 125 rfl) rfl
theorem q665 : (Jvm.Cond.selects "SmokedLetters" ({ cls := "SmokedLetters", name := "most", desc := "(II)I" } : Jvm.MethodName) ({ cls := "SmokedLetters", name := "most", desc := "(II)I" } : Jvm.MethodName)) ∈ lw_all := lw_g (lw_at lw_m3 126 rfl) rfl
theorem q666 : (Jvm.Cond.code ({ cls := "SmokedLetters", name := "most", desc := "(II)I" } : Jvm.MethodName) prog_1_method_23_code (7 : Nat) (Option.some Jvm.ClassFile.FieldType.int)) ∈ lw_all := lw_g (lw_at lw_m3 127 rfl) rfl
theorem q667 : (Jvm.Cond.methodLink "SmokedLetters" (220 : Nat) ({ cls := "SmokedLetters", name := "isTravellerOrNone", desc := "(I)Z" } : Jvm.MethodName)) ∈ lw_all := lw_g (lw_at lw_m3 128 rfl) rfl
theorem q668 : (Jvm.Cond.privateMethod ({ cls := "SmokedLetters", name := "isTravellerOrNone", desc := "(I)Z" } : Jvm.MethodName)) ∈ lw_tbl := lw_at lw_m3 129 rfl
theorem q669 : (Jvm.Cond.instanceMethod ({ cls := "SmokedLetters", name := "isTravellerOrNone", desc := "(I)Z" } : Jvm.MethodName)) ∈ lw_all := lw_g (lw_at lw_m3 130 rfl) rfl
theorem q670 : (Jvm.Cond.code ({ cls := "SmokedLetters", name := "isTravellerOrNone", desc := "(I)Z" } : Jvm.MethodName) prog_1_method_22_code (2 : Nat) (Option.some Jvm.ClassFile.FieldType.boolean)) ∈ lw_all := lw_g (lw_at lw_m3 131 rfl) rfl
theorem q671 : (Jvm.Cond.methodLink "SmokedLetters" (223 : Nat) ({ cls := "SmokedLetters", name := "go", desc := "(I)V" } : Jvm.MethodName)) ∈ lw_all := lw_g (lw_at lw_m3 132 rfl) rfl
theorem q672 : (Jvm.Cond.privateMethod ({ cls := "SmokedLetters", name := "go", desc := "(I)V" } : Jvm.MethodName)) ∈ lw_tbl := lw_at lw_m3 133 rfl
theorem q673 : (Jvm.Cond.instanceMethod ({ cls := "SmokedLetters", name := "go", desc := "(I)V" } : Jvm.MethodName)) ∈ lw_all := lw_g (lw_at lw_m3 134 rfl) rfl
theorem q674 : (Jvm.Cond.code ({ cls := "SmokedLetters", name := "go", desc := "(I)V" } : Jvm.MethodName) prog_1_method_19_code (5 : Nat) (Option.none : Option Jvm.ClassFile.FieldType)) ∈ lw_all := lw_g (lw_at lw_m3 135 rfl) rfl
theorem q675 : (Jvm.Cond.methodLink "SmokedLetters" (217 : Nat) ({ cls := "SmokedLetters", name := "rowIn", desc := "(II)I" } : Jvm.MethodName)) ∈ lw_all := lw_g (lw_at lw_m3 136 rfl) rfl
theorem q676 : (Jvm.Cond.static ({ cls := "SmokedLetters", name := "rowIn", desc := "(II)I" } : Jvm.MethodName)) ∈ lw_all := lw_g (lw_at lw_m3 137 rfl) rfl
theorem q677 : (Jvm.Cond.code ({ cls := "SmokedLetters", name := "rowIn", desc := "(II)I" } : Jvm.MethodName) prog_1_method_18_code (4 : Nat) (Option.some Jvm.ClassFile.FieldType.int)) ∈ lw_all := lw_g (lw_at lw_m3 138 rfl) rfl
theorem q678 : (Jvm.Cond.methodLink "SmokedLetters" (226 : Nat) ({ cls := "SmokedLetters", name := "sailedBy", desc := "(I)I" } : Jvm.MethodName)) ∈ lw_all := lw_g (lw_at lw_m3 139 rfl) rfl
theorem q679 : (Jvm.Cond.privateMethod ({ cls := "SmokedLetters", name := "sailedBy", desc := "(I)I" } : Jvm.MethodName)) ∈ lw_tbl := lw_at lw_m3 140 rfl
theorem q680 : (Jvm.Cond.instanceMethod ({ cls := "SmokedLetters", name := "sailedBy", desc := "(I)I" } : Jvm.MethodName)) ∈ lw_all := lw_g (lw_at lw_m3 141 rfl) rfl
theorem q681 : (Jvm.Cond.code ({ cls := "SmokedLetters", name := "sailedBy", desc := "(I)I" } : Jvm.MethodName) prog_1_method_21_code (4 : Nat) (Option.some Jvm.ClassFile.FieldType.int)) ∈ lw_all := lw_g (lw_at lw_m3 142 rfl) rfl
theorem q682 : (Jvm.Cond.methodLink "SmokedLetters" (229 : Nat) ({ cls := "java/lang/Math", name := "max", desc := "(II)I" } : Jvm.MethodName)) ∈ lw_all := lw_g (lw_at lw_m3 143 rfl) rfl
theorem q683 : (Jvm.Cond.methodLink "SmokedLetters" (234 : Nat) ({ cls := "SmokedLetters", name := "nextOf", desc := "(I)I" } : Jvm.MethodName)) ∈ lw_all := lw_g (lw_at lw_m3 144 rfl) rfl
theorem q684 : (Jvm.Cond.privateMethod ({ cls := "SmokedLetters", name := "nextOf", desc := "(I)I" } : Jvm.MethodName)) ∈ lw_tbl := lw_at lw_m3 145 rfl
theorem q685 : (Jvm.Cond.instanceMethod ({ cls := "SmokedLetters", name := "nextOf", desc := "(I)I" } : Jvm.MethodName)) ∈ lw_all := lw_g (lw_at lw_m3 146 rfl) rfl
theorem q686 : (Jvm.Cond.code ({ cls := "SmokedLetters", name := "nextOf", desc := "(I)I" } : Jvm.MethodName) prog_1_method_20_code (5 : Nat) (Option.some Jvm.ClassFile.FieldType.int)) ∈ lw_all := lw_g (lw_at lw_m3 147 rfl) rfl
theorem q688 : (Jvm.Cond.instanceMethod ({ cls := "SmokedLetters", name := "soonest", desc := "(I)I" } : Jvm.MethodName)) ∈ lw_all := lw_g (lw_at lw_m3 149 rfl) rfl
theorem q689 : (Jvm.Cond.selects "SmokedLetters" ({ cls := "SmokedLetters", name := "soonest", desc := "(I)I" } : Jvm.MethodName) ({ cls := "SmokedLetters", name := "soonest", desc := "(I)I" } : Jvm.MethodName)) ∈ lw_all := lw_g (lw_at lw_m3 150 rfl) rfl
theorem q690 : (Jvm.Cond.code ({ cls := "SmokedLetters", name := "soonest", desc := "(I)I" } : Jvm.MethodName) prog_1_method_24_code (9 : Nat) (Option.some Jvm.ClassFile.FieldType.int)) ∈ lw_all := lw_g (lw_at lw_m3 151 rfl) rfl
theorem q691 : (Jvm.Cond.constant "SmokedLetters" (237 : Nat) (2147483647 : Int32)) ∈ lw_all := lw_g (lw_at lw_m3 152 rfl) rfl
theorem q693 : (Jvm.Cond.instanceMethod ({ cls := "SmokedLetters", name := "plan", desc := "(II)I" } : Jvm.MethodName)) ∈ lw_all := lw_g (lw_at lw_m3 154 rfl) rfl
theorem q694 : (Jvm.Cond.selects "SmokedLetters" ({ cls := "SmokedLetters", name := "plan", desc := "(II)I" } : Jvm.MethodName) ({ cls := "SmokedLetters", name := "plan", desc := "(II)I" } : Jvm.MethodName)) ∈ lw_all := lw_g (lw_at lw_m3 155 rfl) rfl
theorem q695 : (Jvm.Cond.code ({ cls := "SmokedLetters", name := "plan", desc := "(II)I" } : Jvm.MethodName) prog_1_method_26_code (3 : Nat) (Option.some Jvm.ClassFile.FieldType.int)) ∈ lw_all := lw_g (lw_at lw_m3 156 rfl) rfl
theorem q696 : (Jvm.Cond.methodLink "SmokedLetters" (238 : Nat) ({ cls := "SmokedLetters", name := "isPlan", desc := "(I)Z" } : Jvm.MethodName)) ∈ lw_all := lw_g (lw_at lw_m3 157 rfl) rfl
theorem q697 : (Jvm.Cond.privateMethod ({ cls := "SmokedLetters", name := "isPlan", desc := "(I)Z" } : Jvm.MethodName)) ∈ lw_tbl := lw_at lw_m3 158 rfl
theorem q698 : (Jvm.Cond.instanceMethod ({ cls := "SmokedLetters", name := "isPlan", desc := "(I)Z" } : Jvm.MethodName)) ∈ lw_all := lw_g (lw_at lw_m3 159 rfl) rfl
theorem q699 : (Jvm.Cond.code ({ cls := "SmokedLetters", name := "isPlan", desc := "(I)Z" } : Jvm.MethodName) prog_1_method_25_code (5 : Nat) (Option.some Jvm.ClassFile.FieldType.boolean)) ∈ lw_all := lw_g (lw_at lw_m3 160 rfl) rfl
theorem q701 : (Jvm.Cond.instanceMethod ({ cls := "SmokedLetters", name := "waits", desc := "(I)I" } : Jvm.MethodName)) ∈ lw_all := lw_g (lw_at lw_m3 162 rfl) rfl
theorem q702 : (Jvm.Cond.selects "SmokedLetters" ({ cls := "SmokedLetters", name := "waits", desc := "(I)I" } : Jvm.MethodName) ({ cls := "SmokedLetters", name := "waits", desc := "(I)I" } : Jvm.MethodName)) ∈ lw_all := lw_g (lw_at lw_m3 163 rfl) rfl
theorem q703 : (Jvm.Cond.code ({ cls := "SmokedLetters", name := "waits", desc := "(I)I" } : Jvm.MethodName) prog_1_method_27_code (2 : Nat) (Option.some Jvm.ClassFile.FieldType.int)) ∈ lw_all := lw_g (lw_at lw_m3 164 rfl) rfl
theorem q705 : (Jvm.Cond.instanceMethod ({ cls := "SmokedLetters", name := "boat", desc := "(II)I" } : Jvm.MethodName)) ∈ lw_all := lw_g (lw_at lw_m3 166 rfl) rfl
theorem q706 : (Jvm.Cond.selects "SmokedLetters" ({ cls := "SmokedLetters", name := "boat", desc := "(II)I" } : Jvm.MethodName) ({ cls := "SmokedLetters", name := "boat", desc := "(II)I" } : Jvm.MethodName)) ∈ lw_all := lw_g (lw_at lw_m3 167 rfl) rfl
theorem q707 : (Jvm.Cond.code ({ cls := "SmokedLetters", name := "boat", desc := "(II)I" } : Jvm.MethodName) prog_1_method_28_code (8 : Nat) (Option.some Jvm.ClassFile.FieldType.int)) ∈ lw_all := lw_g (lw_at lw_m3 168 rfl) rfl
theorem q709 : (Jvm.Cond.instanceMethod ({ cls := "SmokedLetters", name := "clean", desc := "(II)J" } : Jvm.MethodName)) ∈ lw_all := lw_g (lw_at lw_m3 170 rfl) rfl
theorem q710 : (Jvm.Cond.selects "SmokedLetters" ({ cls := "SmokedLetters", name := "clean", desc := "(II)J" } : Jvm.MethodName) ({ cls := "SmokedLetters", name := "clean", desc := "(II)J" } : Jvm.MethodName)) ∈ lw_all := lw_g (lw_at lw_m3 171 rfl) rfl
theorem q711 : (Jvm.Cond.code ({ cls := "SmokedLetters", name := "clean", desc := "(II)J" } : Jvm.MethodName) prog_1_method_31_code (8 : Nat) (Option.some Jvm.ClassFile.FieldType.long)) ∈ lw_all := lw_g (lw_at lw_m3 172 rfl) rfl
theorem q712 : (Jvm.Cond.constantLong "SmokedLetters" (245 : Nat) (-1 : Int64)) ∈ lw_all := lw_g (lw_at lw_m3 173 rfl) rfl
theorem q713 : (Jvm.Cond.constantLong "SmokedLetters" (247 : Nat) (10 : Int64)) ∈ lw_all := lw_g (lw_at lw_m3 174 rfl) rfl
theorem q714 : (Jvm.Cond.methodLink "SmokedLetters" (249 : Nat) ({ cls := "SmokedLetters", name := "part", desc := "(JJI)J" } : Jvm.MethodName)) ∈ lw_all := lw_g (lw_at lw_m3 175 rfl) rfl
theorem q715 : (Jvm.Cond.static ({ cls := "SmokedLetters", name := "part", desc := "(JJI)J" } : Jvm.MethodName)) ∈ lw_all := lw_g (lw_at lw_m3 176 rfl) rfl
theorem q716 : (Jvm.Cond.code ({ cls := "SmokedLetters", name := "part", desc := "(JJI)J" } : Jvm.MethodName) prog_1_method_30_code (7 : Nat) (Option.some Jvm.ClassFile.FieldType.long)) ∈ lw_all := lw_g (lw_at lw_m3 177 rfl) rfl
theorem q717 : (Jvm.Cond.methodLink "SmokedLetters" (241 : Nat) ({ cls := "SmokedLetters", name := "common", desc := "(JJ)J" } : Jvm.MethodName)) ∈ lw_all := lw_g (lw_at lw_m3 178 rfl) rfl
theorem q718 : (Jvm.Cond.static ({ cls := "SmokedLetters", name := "common", desc := "(JJ)J" } : Jvm.MethodName)) ∈ lw_all := lw_g (lw_at lw_m3 179 rfl) rfl
theorem q719 : (Jvm.Cond.code ({ cls := "SmokedLetters", name := "common", desc := "(JJ)J" } : Jvm.MethodName) prog_1_method_29_code (4 : Nat) (Option.some Jvm.ClassFile.FieldType.long)) ∈ lw_all := lw_g (lw_at lw_m3 180 rfl) rfl
theorem q721 : (Jvm.Cond.instanceMethod ({ cls := "SmokedLetters", name := "well", desc := "(III)J" } : Jvm.MethodName)) ∈ lw_all := lw_g (lw_at lw_m3 182 rfl) rfl
theorem q722 : (Jvm.Cond.selects "SmokedLetters" ({ cls := "SmokedLetters", name := "well", desc := "(III)J" } : Jvm.MethodName) ({ cls := "SmokedLetters", name := "well", desc := "(III)J" } : Jvm.MethodName)) ∈ lw_all := lw_g (lw_at lw_m3 183 rfl) rfl
theorem q723 : (Jvm.Cond.code ({ cls := "SmokedLetters", name := "well", desc := "(III)J" } : Jvm.MethodName) prog_1_method_33_code (6 : Nat) (Option.some Jvm.ClassFile.FieldType.long)) ∈ lw_all := lw_g (lw_at lw_m3 184 rfl) rfl
theorem q724 : (Jvm.Cond.methodLink "SmokedLetters" (253 : Nat) ({ cls := "SmokedLetters", name := "ways", desc := "(II)J" } : Jvm.MethodName)) ∈ lw_all := lw_g (lw_at lw_m3 185 rfl) rfl
theorem q725 : (Jvm.Cond.privateMethod ({ cls := "SmokedLetters", name := "ways", desc := "(II)J" } : Jvm.MethodName)) ∈ lw_tbl := lw_at lw_m3 186 rfl
theorem q726 : (Jvm.Cond.instanceMethod ({ cls := "SmokedLetters", name := "ways", desc := "(II)J" } : Jvm.MethodName)) ∈ lw_all := lw_g (lw_at lw_m3 187 rfl) rfl
theorem q727 : (Jvm.Cond.code ({ cls := "SmokedLetters", name := "ways", desc := "(II)J" } : Jvm.MethodName) prog_1_method_32_code (9 : Nat) (Option.some Jvm.ClassFile.FieldType.long)) ∈ lw_all := lw_g (lw_at lw_m3 188 rfl) rfl
theorem q728 : (Jvm.Cond.constantLong "SmokedLetters" (257 : Nat) (-9 : Int64)) ∈ lw_all := lw_g (lw_at lw_m3 189 rfl) rfl
theorem q730 : (Jvm.Cond.instanceMethod ({ cls := "SmokedLetters", name := "writes", desc := "(I)I" } : Jvm.MethodName)) ∈ lw_all := lw_g (lw_at lw_m3 191 rfl) rfl
theorem q731 : (Jvm.Cond.selects "SmokedLetters" ({ cls := "SmokedLetters", name := "writes", desc := "(I)I" } : Jvm.MethodName) ({ cls := "SmokedLetters", name := "writes", desc := "(I)I" } : Jvm.MethodName)) ∈ lw_all := lw_g (lw_at lw_m3 192 rfl) rfl
theorem q732 : (Jvm.Cond.code ({ cls := "SmokedLetters", name := "writes", desc := "(I)I" } : Jvm.MethodName) prog_1_method_34_code (2 : Nat) (Option.some Jvm.ClassFile.FieldType.int)) ∈ lw_all := lw_g (lw_at lw_m3 193 rfl) rfl
theorem q734 : (Jvm.Cond.instanceMethod ({ cls := "SmokedLetters", name := "tears", desc := "()I" } : Jvm.MethodName)) ∈ lw_all := lw_g (lw_at lw_m3 195 rfl) rfl
theorem q735 : (Jvm.Cond.selects "SmokedLetters" ({ cls := "SmokedLetters", name := "tears", desc := "()I" } : Jvm.MethodName) ({ cls := "SmokedLetters", name := "tears", desc := "()I" } : Jvm.MethodName)) ∈ lw_all := lw_g (lw_at lw_m3 196 rfl) rfl
theorem q736 : (Jvm.Cond.code ({ cls := "SmokedLetters", name := "tears", desc := "()I" } : Jvm.MethodName) prog_1_method_35_code (2 : Nat) (Option.some Jvm.ClassFile.FieldType.int)) ∈ lw_all := lw_g (lw_at lw_m3 197 rfl) rfl
theorem q738 : (Jvm.Cond.instanceMethod ({ cls := "SmokedLetters", name := "smokes", desc := "(I)I" } : Jvm.MethodName)) ∈ lw_all := lw_g (lw_at lw_m3 199 rfl) rfl
theorem q739 : (Jvm.Cond.selects "SmokedLetters" ({ cls := "SmokedLetters", name := "smokes", desc := "(I)I" } : Jvm.MethodName) ({ cls := "SmokedLetters", name := "smokes", desc := "(I)I" } : Jvm.MethodName)) ∈ lw_all := lw_g (lw_at lw_m3 200 rfl) rfl
theorem q740 : (Jvm.Cond.code ({ cls := "SmokedLetters", name := "smokes", desc := "(I)I" } : Jvm.MethodName) prog_1_method_36_code (4 : Nat) (Option.some Jvm.ClassFile.FieldType.int)) ∈ lw_all := lw_g (lw_at lw_m3 201 rfl) rfl
theorem q741 : (Jvm.Cond.methodLink "SmokedLetters" (265 : Nat) ({ cls := "SmokedLetters$Book", name := "copied", desc := "(II)I" } : Jvm.MethodName)) ∈ lw_all := lw_g (lw_at lw_m3 202 rfl) rfl
theorem q746 : (Jvm.Cond.instanceMethod ({ cls := "SmokedLetters", name := "word", desc := "(I)I" } : Jvm.MethodName)) ∈ lw_all := lw_g (lw_at lw_m3 207 rfl) rfl
theorem q747 : (Jvm.Cond.selects "SmokedLetters" ({ cls := "SmokedLetters", name := "word", desc := "(I)I" } : Jvm.MethodName) ({ cls := "SmokedLetters", name := "word", desc := "(I)I" } : Jvm.MethodName)) ∈ lw_all := lw_g (lw_at lw_m3 208 rfl) rfl
theorem q748 : (Jvm.Cond.code ({ cls := "SmokedLetters", name := "word", desc := "(I)I" } : Jvm.MethodName) prog_1_method_37_code (2 : Nat) (Option.some Jvm.ClassFile.FieldType.int)) ∈ lw_all := lw_g (lw_at lw_m3 209 rfl) rfl
theorem q750 : (Jvm.Cond.instanceMethod ({ cls := "SmokedLetters", name := "brown", desc := "(I)I" } : Jvm.MethodName)) ∈ lw_all := lw_g (lw_at lw_m3 211 rfl) rfl
theorem q751 : (Jvm.Cond.selects "SmokedLetters" ({ cls := "SmokedLetters", name := "brown", desc := "(I)I" } : Jvm.MethodName) ({ cls := "SmokedLetters", name := "brown", desc := "(I)I" } : Jvm.MethodName)) ∈ lw_all := lw_g (lw_at lw_m3 212 rfl) rfl
theorem q752 : (Jvm.Cond.code ({ cls := "SmokedLetters", name := "brown", desc := "(I)I" } : Jvm.MethodName) prog_1_method_38_code (2 : Nat) (Option.some Jvm.ClassFile.FieldType.int)) ∈ lw_all := lw_g (lw_at lw_m3 213 rfl) rfl
theorem q754 : (Jvm.Cond.instanceMethod ({ cls := "SmokedLetters", name := "burn", desc := "()I" } : Jvm.MethodName)) ∈ lw_all := lw_g (lw_at lw_m3 215 rfl) rfl
theorem q755 : (Jvm.Cond.selects "SmokedLetters" ({ cls := "SmokedLetters", name := "burn", desc := "()I" } : Jvm.MethodName) ({ cls := "SmokedLetters", name := "burn", desc := "()I" } : Jvm.MethodName)) ∈ lw_all := lw_g (lw_at lw_m3 216 rfl) rfl
theorem q756 : (Jvm.Cond.code ({ cls := "SmokedLetters", name := "burn", desc := "()I" } : Jvm.MethodName) prog_1_method_39_code (2 : Nat) (Option.some Jvm.ClassFile.FieldType.int)) ∈ lw_all := lw_g (lw_at lw_m3 217 rfl) rfl
theorem q758 : (Jvm.Cond.instanceMethod ({ cls := "SmokedLetters", name := "stood", desc := "(I)I" } : Jvm.MethodName)) ∈ lw_all := lw_g (lw_at lw_m3 219 rfl) rfl
theorem q759 : (Jvm.Cond.selects "SmokedLetters" ({ cls := "SmokedLetters", name := "stood", desc := "(I)I" } : Jvm.MethodName) ({ cls := "SmokedLetters", name := "stood", desc := "(I)I" } : Jvm.MethodName)) ∈ lw_all := lw_g (lw_at lw_m3 220 rfl) rfl
theorem q760 : (Jvm.Cond.code ({ cls := "SmokedLetters", name := "stood", desc := "(I)I" } : Jvm.MethodName) prog_1_method_42_code (2 : Nat) (Option.some Jvm.ClassFile.FieldType.int)) ∈ lw_all := lw_g (lw_at lw_m3 221 rfl) rfl
theorem q761 : (Jvm.Cond.methodLink "SmokedLetters" (271 : Nat) ({ cls := "SmokedLetters", name := "isPlace", desc := "(I)Z" } : Jvm.MethodName)) ∈ lw_all := lw_g (lw_at lw_m3 222 rfl) rfl
theorem q762 : (Jvm.Cond.privateMethod ({ cls := "SmokedLetters", name := "isPlace", desc := "(I)Z" } : Jvm.MethodName)) ∈ lw_tbl := lw_at lw_m3 223 rfl
theorem q763 : (Jvm.Cond.instanceMethod ({ cls := "SmokedLetters", name := "isPlace", desc := "(I)Z" } : Jvm.MethodName)) ∈ lw_all := lw_g (lw_at lw_m3 224 rfl) rfl
theorem q764 : (Jvm.Cond.code ({ cls := "SmokedLetters", name := "isPlace", desc := "(I)Z" } : Jvm.MethodName) prog_1_method_40_code (2 : Nat) (Option.some Jvm.ClassFile.FieldType.boolean)) ∈ lw_all := lw_g (lw_at lw_m3 225 rfl) rfl
theorem q765 : (Jvm.Cond.methodLink "SmokedLetters" (274 : Nat) ({ cls := "SmokedLetters", name := "stoodAt", desc := "(I)I" } : Jvm.MethodName)) ∈ lw_all := lw_g (lw_at lw_m3 226 rfl) rfl
theorem q766 : (Jvm.Cond.privateMethod ({ cls := "SmokedLetters", name := "stoodAt", desc := "(I)I" } : Jvm.MethodName)) ∈ lw_tbl := lw_at lw_m3 227 rfl
theorem q767 : (Jvm.Cond.instanceMethod ({ cls := "SmokedLetters", name := "stoodAt", desc := "(I)I" } : Jvm.MethodName)) ∈ lw_all := lw_g (lw_at lw_m3 228 rfl) rfl
theorem q768 : (Jvm.Cond.code ({ cls := "SmokedLetters", name := "stoodAt", desc := "(I)I" } : Jvm.MethodName) prog_1_method_41_code (6 : Nat) (Option.some Jvm.ClassFile.FieldType.int)) ∈ lw_all := lw_g (lw_at lw_m3 229 rfl) rfl
theorem q770 : (Jvm.Cond.instanceMethod ({ cls := "SmokedLetters", name := "letters", desc := "(I)I" } : Jvm.MethodName)) ∈ lw_all := lw_g (lw_at lw_m3 231 rfl) rfl
theorem q771 : (Jvm.Cond.selects "SmokedLetters" ({ cls := "SmokedLetters", name := "letters", desc := "(I)I" } : Jvm.MethodName) ({ cls := "SmokedLetters", name := "letters", desc := "(I)I" } : Jvm.MethodName)) ∈ lw_all := lw_g (lw_at lw_m3 232 rfl) rfl
theorem q772 : (Jvm.Cond.code ({ cls := "SmokedLetters", name := "letters", desc := "(I)I" } : Jvm.MethodName) prog_1_method_43_code (4 : Nat) (Option.some Jvm.ClassFile.FieldType.int)) ∈ lw_all := lw_g (lw_at lw_m3 233 rfl) rfl
theorem q773 : (Jvm.Cond.methodLink "SmokedLetters" (277 : Nat) ({ cls := "java/lang/Integer", name := "numberOfTrailingZeros", desc := "(I)I" } : Jvm.MethodName)) ∈ lw_all := lw_g (lw_at lw_m3 234 rfl) rfl
theorem q778 : (Jvm.Cond.instanceMethod ({ cls := "SmokedLetters", name := "whose", desc := "(I)I" } : Jvm.MethodName)) ∈ lw_all := lw_g (lw_at lw_m3 239 rfl) rfl
theorem q779 : (Jvm.Cond.selects "SmokedLetters" ({ cls := "SmokedLetters", name := "whose", desc := "(I)I" } : Jvm.MethodName) ({ cls := "SmokedLetters", name := "whose", desc := "(I)I" } : Jvm.MethodName)) ∈ lw_all := lw_g (lw_at lw_m4 0 rfl) rfl
theorem q780 : (Jvm.Cond.code ({ cls := "SmokedLetters", name := "whose", desc := "(I)I" } : Jvm.MethodName) prog_1_method_46_code (4 : Nat) (Option.some Jvm.ClassFile.FieldType.int)) ∈ lw_all := lw_g (lw_at lw_m4 1 rfl) rfl
theorem q781 : (Jvm.Cond.methodLink "SmokedLetters" (283 : Nat) ({ cls := "SmokedLetters", name := "isLetter", desc := "(I)Z" } : Jvm.MethodName)) ∈ lw_all := lw_g (lw_at lw_m4 2 rfl) rfl
theorem q782 : (Jvm.Cond.privateMethod ({ cls := "SmokedLetters", name := "isLetter", desc := "(I)Z" } : Jvm.MethodName)) ∈ lw_tbl := lw_at lw_m4 3 rfl
theorem q783 : (Jvm.Cond.instanceMethod ({ cls := "SmokedLetters", name := "isLetter", desc := "(I)Z" } : Jvm.MethodName)) ∈ lw_all := lw_g (lw_at lw_m4 4 rfl) rfl
theorem q784 : (Jvm.Cond.code ({ cls := "SmokedLetters", name := "isLetter", desc := "(I)Z" } : Jvm.MethodName) prog_1_method_44_code (6 : Nat) (Option.some Jvm.ClassFile.FieldType.boolean)) ∈ lw_all := lw_g (lw_at lw_m4 5 rfl) rfl
theorem q785 : (Jvm.Cond.methodLink "SmokedLetters" (286 : Nat) ({ cls := "SmokedLetters", name := "makes", desc := "([II)Z" } : Jvm.MethodName)) ∈ lw_all := lw_g (lw_at lw_m4 6 rfl) rfl
theorem q786 : (Jvm.Cond.privateMethod ({ cls := "SmokedLetters", name := "makes", desc := "([II)Z" } : Jvm.MethodName)) ∈ lw_tbl := lw_at lw_m4 7 rfl
theorem q787 : (Jvm.Cond.instanceMethod ({ cls := "SmokedLetters", name := "makes", desc := "([II)Z" } : Jvm.MethodName)) ∈ lw_all := lw_g (lw_at lw_m4 8 rfl) rfl
theorem q788 : (Jvm.Cond.code ({ cls := "SmokedLetters", name := "makes", desc := "([II)Z" } : Jvm.MethodName) prog_1_method_45_code (7 : Nat) (Option.some Jvm.ClassFile.FieldType.boolean)) ∈ lw_all := lw_g (lw_at lw_m4 9 rfl) rfl
theorem q790 : (Jvm.Cond.instanceMethod ({ cls := "SmokedLetters", name := "chain", desc := "(II)I" } : Jvm.MethodName)) ∈ lw_all := lw_g (lw_at lw_m4 11 rfl) rfl
theorem q791 : (Jvm.Cond.selects "SmokedLetters" ({ cls := "SmokedLetters", name := "chain", desc := "(II)I" } : Jvm.MethodName) ({ cls := "SmokedLetters", name := "chain", desc := "(II)I" } : Jvm.MethodName)) ∈ lw_all := lw_g (lw_at lw_m4 12 rfl) rfl
theorem q792 : (Jvm.Cond.code ({ cls := "SmokedLetters", name := "chain", desc := "(II)I" } : Jvm.MethodName) prog_1_method_48_code (4 : Nat) (Option.some Jvm.ClassFile.FieldType.int)) ∈ lw_all := lw_g (lw_at lw_m4 13 rfl) rfl
theorem q793 : (Jvm.Cond.methodLink "SmokedLetters" (290 : Nat) ({ cls := "SmokedLetters", name := "findRow", desc := "(III)Z" } : Jvm.MethodName)) ∈ lw_all := lw_g (lw_at lw_m4 14 rfl) rfl
theorem q794 : (Jvm.Cond.privateMethod ({ cls := "SmokedLetters", name := "findRow", desc := "(III)Z" } : Jvm.MethodName)) ∈ lw_tbl := lw_at lw_m4 15 rfl
theorem q795 : (Jvm.Cond.instanceMethod ({ cls := "SmokedLetters", name := "findRow", desc := "(III)Z" } : Jvm.MethodName)) ∈ lw_all := lw_g (lw_at lw_m4 16 rfl) rfl
theorem q796 : (Jvm.Cond.code ({ cls := "SmokedLetters", name := "findRow", desc := "(III)Z" } : Jvm.MethodName) prog_1_method_47_code (5 : Nat) (Option.some Jvm.ClassFile.FieldType.boolean)) ∈ lw_all := lw_g (lw_at lw_m4 17 rfl) rfl
theorem q798 : (Jvm.Cond.instanceMethod ({ cls := "SmokedLetters", name := "rate", desc := "(II)I" } : Jvm.MethodName)) ∈ lw_all := lw_g (lw_at lw_m4 19 rfl) rfl
theorem q799 : (Jvm.Cond.selects "SmokedLetters" ({ cls := "SmokedLetters", name := "rate", desc := "(II)I" } : Jvm.MethodName) ({ cls := "SmokedLetters", name := "rate", desc := "(II)I" } : Jvm.MethodName)) ∈ lw_all := lw_g (lw_at lw_m4 20 rfl) rfl
theorem q800 : (Jvm.Cond.code ({ cls := "SmokedLetters", name := "rate", desc := "(II)I" } : Jvm.MethodName) prog_1_method_49_code (3 : Nat) (Option.some Jvm.ClassFile.FieldType.int)) ∈ lw_all := lw_g (lw_at lw_m4 21 rfl) rfl
theorem q801 : (Jvm.Cond.methodLink "SmokedLetters" (293 : Nat) ({ cls := "SmokedLetters$Clerk", name := "rate", desc := "(I)I" } : Jvm.MethodName)) ∈ lw_all := lw_g (lw_at lw_m4 22 rfl) rfl
theorem q833 : (Jvm.Cond.constant "SmokedLetters" (296 : Nat) (-1000000 : Int32)) ∈ lw_all := lw_g (lw_at lw_m4 54 rfl) rfl
theorem q835 : (Jvm.Cond.instanceMethod ({ cls := "SmokedLetters", name := "keep", desc := "(I)I" } : Jvm.MethodName)) ∈ lw_all := lw_g (lw_at lw_m4 56 rfl) rfl
theorem q836 : (Jvm.Cond.selects "SmokedLetters" ({ cls := "SmokedLetters", name := "keep", desc := "(I)I" } : Jvm.MethodName) ({ cls := "SmokedLetters", name := "keep", desc := "(I)I" } : Jvm.MethodName)) ∈ lw_all := lw_g (lw_at lw_m4 57 rfl) rfl
theorem q837 : (Jvm.Cond.code ({ cls := "SmokedLetters", name := "keep", desc := "(I)I" } : Jvm.MethodName) prog_1_method_50_code (2 : Nat) (Option.some Jvm.ClassFile.FieldType.int)) ∈ lw_all := lw_g (lw_at lw_m4 58 rfl) rfl
theorem q839 : (Jvm.Cond.instanceMethod ({ cls := "SmokedLetters", name := "back", desc := "(I)I" } : Jvm.MethodName)) ∈ lw_all := lw_g (lw_at lw_m4 60 rfl) rfl
theorem q840 : (Jvm.Cond.selects "SmokedLetters" ({ cls := "SmokedLetters", name := "back", desc := "(I)I" } : Jvm.MethodName) ({ cls := "SmokedLetters", name := "back", desc := "(I)I" } : Jvm.MethodName)) ∈ lw_all := lw_g (lw_at lw_m4 61 rfl) rfl
theorem q841 : (Jvm.Cond.code ({ cls := "SmokedLetters", name := "back", desc := "(I)I" } : Jvm.MethodName) prog_1_method_51_code (2 : Nat) (Option.some Jvm.ClassFile.FieldType.int)) ∈ lw_all := lw_g (lw_at lw_m4 62 rfl) rfl
theorem q843 : (Jvm.Cond.instanceMethod ({ cls := "SmokedLetters", name := "count", desc := "(I)I" } : Jvm.MethodName)) ∈ lw_all := lw_g (lw_at lw_m4 64 rfl) rfl
theorem q844 : (Jvm.Cond.selects "SmokedLetters" ({ cls := "SmokedLetters", name := "count", desc := "(I)I" } : Jvm.MethodName) ({ cls := "SmokedLetters", name := "count", desc := "(I)I" } : Jvm.MethodName)) ∈ lw_all := lw_g (lw_at lw_m4 65 rfl) rfl
theorem q845 : (Jvm.Cond.code ({ cls := "SmokedLetters", name := "count", desc := "(I)I" } : Jvm.MethodName) prog_1_method_52_code (2 : Nat) (Option.some Jvm.ClassFile.FieldType.int)) ∈ lw_all := lw_g (lw_at lw_m4 66 rfl) rfl
theorem q847 : (Jvm.Cond.instanceMethod ({ cls := "SmokedLetters", name := "trace", desc := "()J" } : Jvm.MethodName)) ∈ lw_all := lw_g (lw_at lw_m4 68 rfl) rfl
theorem q848 : (Jvm.Cond.selects "SmokedLetters" ({ cls := "SmokedLetters", name := "trace", desc := "()J" } : Jvm.MethodName) ({ cls := "SmokedLetters", name := "trace", desc := "()J" } : Jvm.MethodName)) ∈ lw_all := lw_g (lw_at lw_m4 69 rfl) rfl
theorem q849 : (Jvm.Cond.code ({ cls := "SmokedLetters", name := "trace", desc := "()J" } : Jvm.MethodName) prog_1_method_53_code (1 : Nat) (Option.some Jvm.ClassFile.FieldType.long)) ∈ lw_all := lw_g (lw_at lw_m4 70 rfl) rfl
theorem in_X0 : ∀ w ∈ wsX00, w ∈ lw_all := lw_in wsX00 [298, 300, 302, 304, 306, 308, 310, 312, 314, 316, 318, 320, 322, 324, 326, 328, 330, 332, 334, 336] (by decide +kernel) (by decide +kernel)
