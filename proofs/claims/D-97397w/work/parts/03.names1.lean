/-! SmokedLettersModel -/
set_option maxRecDepth 100000
def RX9 : String := "SmokedLettersModel"
def TX9 : u_T := fun k => match k with
  | 0 => ("SmokedLettersModel", "hold", "I", false)
  | 1 => ("SmokedLettersModel", "rows", "I", false)
  | 2 => ("SmokedLettersModel", "boats", "I", false)
  | 3 => ("SmokedLettersModel", "travellers", "I", false)
  | 4 => ("SmokedLettersModel", "traveller", "[I", true)
  | 5 => ("SmokedLettersModel", "clerks", "I", false)
  | 6 => ("SmokedLettersModel", "clerk", "[I", true)
  | 7 => ("SmokedLettersModel", "st", "[I", true)
  | 8 => ("SmokedLettersModel", "was", "[I", true)
  | 9 => ("SmokedLettersModel", "known", "I", false)
  | 10 => ("SmokedLettersModel", "images", "[I", true)
  | 11 => ("SmokedLettersModel", "isKept", "[Z", true)
  | 12 => ("SmokedLettersModel", "copies", "I", false)
  | 13 => ("SmokedLettersModel", "copyLong", "I", false)
  | 14 => ("SmokedLettersModel", "copier", "[I", true)
  | 15 => ("SmokedLettersModel", "copy", "[I", true)
  | 16 => ("SmokedLettersModel", "trace", "J", false)
  | 17 => ("SmokedLettersModel", "text", "[I", true)
  | 18 => ("SmokedLettersModel", "texted", "I", false)
  | 19 => ("SmokedLettersModel", "cursor", "I", false)
  | 20 => ("SmokedLettersModel", "start", "I", false)
  | 21 => ("SmokedLettersModel", "token", "I", false)
  | 22 => ("SmokedLettersModel", "number", "I", false)
  | 23 => ("SmokedLettersModel", "isWrong", "Z", false)
  | 24 => ("SmokedLettersModel", "saidTravellers", "I", false)
  | 25 => ("SmokedLettersModel", "saidTraveller", "[I", true)
  | 26 => ("SmokedLettersModel", "saidClerks", "I", false)
  | 27 => ("SmokedLettersModel", "saidClerk", "[I", true)
  | 28 => ("SmokedLettersModel", "said", "[I", true)
  | 29 => ("SmokedLettersModel", "saidSet", "I", false)
  | 30 => ("SmokedLettersModel", "put", "[I", true)
  | 31 => ("SmokedLettersModel", "lies", "[I", true)
  | 32 => ("SmokedLettersModel", "days", "[I", true)
  | 33 => ("SmokedLettersModel", "sailed", "[I", true)
  | 34 => ("SmokedLettersModel", "sick", "[J", true)
  | 35 => ("SmokedLettersModel", "letter", "[I", true)
  | 36 => ("SmokedLettersModel", "smoked", "[I", true)
  | 37 => ("SmokedLettersModel", "letterLong", "I", false)
  | _ => ("SmokedLettersModel", "row", "[I", true)
def tyX9 : Nat → FieldType := fun k => match k with
  | 0 => .int
  | 1 => .int
  | 2 => .int
  | 3 => .int
  | 4 => .array .int
  | 5 => .int
  | 6 => .array .int
  | 7 => .array .int
  | 8 => .array .int
  | 9 => .int
  | 10 => .array .int
  | 11 => .array .boolean
  | 12 => .int
  | 13 => .int
  | 14 => .array .int
  | 15 => .array .int
  | 16 => .long
  | 17 => .array .int
  | 18 => .int
  | 19 => .int
  | 20 => .int
  | 21 => .int
  | 22 => .int
  | 23 => .boolean
  | 24 => .int
  | 25 => .array .int
  | 26 => .int
  | 27 => .array .int
  | 28 => .array .int
  | 29 => .int
  | 30 => .array .int
  | 31 => .array .int
  | 32 => .array .int
  | 33 => .array .int
  | 34 => .array .long
  | 35 => .array .int
  | 36 => .array .int
  | 37 => .int
  | _ => .array .int
abbrev wsX90 : List Cond := u_ws RX9 TX9 39
set_option maxRecDepth 100000 in
theorem nmX9 : ∀ a, a < 39 → ∀ b, b < 39 → a ≠ b → (TX9 a).2.1 ≠ (TX9 b).2.1 := by decide +kernel
set_option maxRecDepth 100000 in
theorem tyX9_ok : ∀ k, k < 39 → parseFieldDescriptor (TX9 k).2.2.1 = some (tyX9 k) := by decide +kernel
abbrev cX9_init : ByteArray := prog_13_method_1_code
def yX9_init : MethodName := ⟨RX9, "<init>", "()V"⟩
def dkwX9_init_8 : List UInt8 := [5, 27, 96, 16, 247, 79, 132, 1, 1, 167, 255, 237, 177]
abbrev dktX9_init_8 : List UInt8 := dkwX9_init_8 ++ []
def dkwX9_init_7 : List UInt8 := [188, 10, 181, 0, 76, 42, 7, 188, 10, 181, 0, 79, 3, 60, 27, 16, 6, 162, 0, 19, 42, 180, 0, 26]
abbrev dktX9_init_7 : List UInt8 := dkwX9_init_7 ++ dktX9_init_8
def dkwX9_init_6 : List UInt8 := [16, 6, 188, 10, 181, 0, 66, 42, 16, 7, 188, 11, 181, 0, 69, 42, 8, 188, 10, 181, 0, 73, 42, 8]
abbrev dktX9_init_6 : List UInt8 := dkwX9_init_6 ++ dktX9_init_7
def dkwX9_init_5 : List UInt8 := [16, 6, 188, 10, 181, 0, 57, 42, 16, 6, 188, 10, 181, 0, 60, 42, 16, 6, 188, 10, 181, 0, 63, 42]
abbrev dktX9_init_5 : List UInt8 := dkwX9_init_5 ++ dktX9_init_6
def dkwX9_init_4 : List UInt8 := [16, 12, 188, 10, 181, 0, 48, 42, 16, 12, 188, 10, 181, 0, 51, 42, 6, 188, 10, 181, 0, 54, 42]
abbrev dktX9_init_4 : List UInt8 := dkwX9_init_4 ++ dktX9_init_5
def dkwX9_init_3 : List UInt8 := [7, 188, 10, 181, 0, 39, 42, 16, 20, 188, 10, 181, 0, 42, 42, 17, 0, 200, 188, 10, 181, 0, 45, 42]
abbrev dktX9_init_3 : List UInt8 := dkwX9_init_3 ++ dktX9_init_4
def dkwX9_init_2 : List UInt8 := [17, 1, 4, 188, 10, 181, 0, 29, 42, 16, 52, 188, 10, 181, 0, 32, 42, 5, 188, 4, 181, 0, 35, 42]
abbrev dktX9_init_2 : List UInt8 := dkwX9_init_2 ++ dktX9_init_3
def dkwX9_init_1 : List UInt8 := [188, 10, 181, 0, 19, 42, 16, 12, 188, 10, 181, 0, 23, 42, 16, 26, 188, 10, 181, 0, 26, 42]
abbrev dktX9_init_1 : List UInt8 := dkwX9_init_1 ++ dktX9_init_2
def dkwX9_init_0 : List UInt8 := [42, 183, 0, 1, 42, 16, 10, 181, 0, 7, 42, 5, 181, 0, 13, 42, 4, 181, 0, 16, 42, 16, 12]
abbrev dktX9_init_0 : List UInt8 := dkwX9_init_0 ++ dktX9_init_1
theorem dksX9_init_0 : cX9_init.data.toList.drop 0 = dktX9_init_0 := by decide +kernel
theorem dksX9_init_1 : cX9_init.data.toList.drop 23 = dktX9_init_1 := dk_seg dksX9_init_0 23 rfl rfl
theorem dksX9_init_2 : cX9_init.data.toList.drop 45 = dktX9_init_2 := dk_seg dksX9_init_1 22 rfl rfl
theorem dksX9_init_3 : cX9_init.data.toList.drop 69 = dktX9_init_3 := dk_seg dksX9_init_2 24 rfl rfl
theorem dksX9_init_4 : cX9_init.data.toList.drop 93 = dktX9_init_4 := dk_seg dksX9_init_3 24 rfl rfl
theorem dksX9_init_5 : cX9_init.data.toList.drop 116 = dktX9_init_5 := dk_seg dksX9_init_4 23 rfl rfl
theorem dksX9_init_6 : cX9_init.data.toList.drop 140 = dktX9_init_6 := dk_seg dksX9_init_5 24 rfl rfl
theorem dksX9_init_7 : cX9_init.data.toList.drop 164 = dktX9_init_7 := dk_seg dksX9_init_6 24 rfl rfl
theorem dksX9_init_8 : cX9_init.data.toList.drop 188 = dktX9_init_8 := dk_seg dksX9_init_7 24 rfl rfl
theorem dX9_init_0 : decode cX9_init 0 = .ok (.aload_n 0, 1) := dk_42 (dk_at dksX9_init_0 0 rfl rfl)
theorem dX9_init_1 : decode cX9_init 1 = .ok (.invokespecial 1, 3) := dk_183 0 1 (dk_at dksX9_init_0 1 rfl rfl)
theorem dX9_init_4 : decode cX9_init 4 = .ok (.aload_n 0, 1) := dk_42 (dk_at dksX9_init_0 4 rfl rfl)
theorem dX9_init_5 : decode cX9_init 5 = .ok (.bipush 10, 2) := dk_16 10 (dk_at dksX9_init_0 5 rfl rfl)
theorem dX9_init_7 : decode cX9_init 7 = .ok (.putfield 7, 3) := dk_181 0 7 (dk_at dksX9_init_0 7 rfl rfl)
theorem dX9_init_10 : decode cX9_init 10 = .ok (.aload_n 0, 1) := dk_42 (dk_at dksX9_init_0 10 rfl rfl)
theorem dX9_init_11 : decode cX9_init 11 = .ok (.iconst 2, 1) := dk_5 (dk_at dksX9_init_0 11 rfl rfl)
theorem dX9_init_12 : decode cX9_init 12 = .ok (.putfield 13, 3) := dk_181 0 13 (dk_at dksX9_init_0 12 rfl rfl)
theorem dX9_init_15 : decode cX9_init 15 = .ok (.aload_n 0, 1) := dk_42 (dk_at dksX9_init_0 15 rfl rfl)
theorem dX9_init_16 : decode cX9_init 16 = .ok (.iconst 1, 1) := dk_4 (dk_at dksX9_init_0 16 rfl rfl)
theorem dX9_init_17 : decode cX9_init 17 = .ok (.putfield 16, 3) := dk_181 0 16 (dk_at dksX9_init_0 17 rfl rfl)
theorem dX9_init_20 : decode cX9_init 20 = .ok (.aload_n 0, 1) := dk_42 (dk_at dksX9_init_0 20 rfl rfl)
theorem dX9_init_21 : decode cX9_init 21 = .ok (.bipush 12, 2) := dk_16 12 (dk_at dksX9_init_0 21 rfl rfl)
theorem dX9_init_23 : decode cX9_init 23 = .ok (.newarray .int, 2) := dk_188_10 (dk_at dksX9_init_1 0 rfl rfl)
theorem dX9_init_25 : decode cX9_init 25 = .ok (.putfield 19, 3) := dk_181 0 19 (dk_at dksX9_init_1 2 rfl rfl)
theorem dX9_init_28 : decode cX9_init 28 = .ok (.aload_n 0, 1) := dk_42 (dk_at dksX9_init_1 5 rfl rfl)
theorem dX9_init_29 : decode cX9_init 29 = .ok (.bipush 12, 2) := dk_16 12 (dk_at dksX9_init_1 6 rfl rfl)
theorem dX9_init_31 : decode cX9_init 31 = .ok (.newarray .int, 2) := dk_188_10 (dk_at dksX9_init_1 8 rfl rfl)
theorem dX9_init_33 : decode cX9_init 33 = .ok (.putfield 23, 3) := dk_181 0 23 (dk_at dksX9_init_1 10 rfl rfl)
theorem dX9_init_36 : decode cX9_init 36 = .ok (.aload_n 0, 1) := dk_42 (dk_at dksX9_init_1 13 rfl rfl)
theorem dX9_init_37 : decode cX9_init 37 = .ok (.bipush 26, 2) := dk_16 26 (dk_at dksX9_init_1 14 rfl rfl)
theorem dX9_init_39 : decode cX9_init 39 = .ok (.newarray .int, 2) := dk_188_10 (dk_at dksX9_init_1 16 rfl rfl)
theorem dX9_init_41 : decode cX9_init 41 = .ok (.putfield 26, 3) := dk_181 0 26 (dk_at dksX9_init_1 18 rfl rfl)
theorem dX9_init_44 : decode cX9_init 44 = .ok (.aload_n 0, 1) := dk_42 (dk_at dksX9_init_1 21 rfl rfl)
theorem dX9_init_45 : decode cX9_init 45 = .ok (.sipush 260, 3) := dk_17 1 4 (dk_at dksX9_init_2 0 rfl rfl)
theorem dX9_init_48 : decode cX9_init 48 = .ok (.newarray .int, 2) := dk_188_10 (dk_at dksX9_init_2 3 rfl rfl)
theorem dX9_init_50 : decode cX9_init 50 = .ok (.putfield 29, 3) := dk_181 0 29 (dk_at dksX9_init_2 5 rfl rfl)
theorem dX9_init_53 : decode cX9_init 53 = .ok (.aload_n 0, 1) := dk_42 (dk_at dksX9_init_2 8 rfl rfl)
theorem dX9_init_54 : decode cX9_init 54 = .ok (.bipush 52, 2) := dk_16 52 (dk_at dksX9_init_2 9 rfl rfl)
theorem dX9_init_56 : decode cX9_init 56 = .ok (.newarray .int, 2) := dk_188_10 (dk_at dksX9_init_2 11 rfl rfl)
theorem dX9_init_58 : decode cX9_init 58 = .ok (.putfield 32, 3) := dk_181 0 32 (dk_at dksX9_init_2 13 rfl rfl)
theorem dX9_init_61 : decode cX9_init 61 = .ok (.aload_n 0, 1) := dk_42 (dk_at dksX9_init_2 16 rfl rfl)
theorem dX9_init_62 : decode cX9_init 62 = .ok (.iconst 2, 1) := dk_5 (dk_at dksX9_init_2 17 rfl rfl)
theorem dX9_init_63 : decode cX9_init 63 = .ok (.newarray .boolean, 2) := dk_188_4 (dk_at dksX9_init_2 18 rfl rfl)
theorem dX9_init_65 : decode cX9_init 65 = .ok (.putfield 35, 3) := dk_181 0 35 (dk_at dksX9_init_2 20 rfl rfl)
theorem dX9_init_68 : decode cX9_init 68 = .ok (.aload_n 0, 1) := dk_42 (dk_at dksX9_init_2 23 rfl rfl)
theorem dX9_init_69 : decode cX9_init 69 = .ok (.iconst 4, 1) := dk_7 (dk_at dksX9_init_3 0 rfl rfl)
theorem dX9_init_70 : decode cX9_init 70 = .ok (.newarray .int, 2) := dk_188_10 (dk_at dksX9_init_3 1 rfl rfl)
theorem dX9_init_72 : decode cX9_init 72 = .ok (.putfield 39, 3) := dk_181 0 39 (dk_at dksX9_init_3 3 rfl rfl)
theorem dX9_init_75 : decode cX9_init 75 = .ok (.aload_n 0, 1) := dk_42 (dk_at dksX9_init_3 6 rfl rfl)
theorem dX9_init_76 : decode cX9_init 76 = .ok (.bipush 20, 2) := dk_16 20 (dk_at dksX9_init_3 7 rfl rfl)
theorem dX9_init_78 : decode cX9_init 78 = .ok (.newarray .int, 2) := dk_188_10 (dk_at dksX9_init_3 9 rfl rfl)
theorem dX9_init_80 : decode cX9_init 80 = .ok (.putfield 42, 3) := dk_181 0 42 (dk_at dksX9_init_3 11 rfl rfl)
theorem dX9_init_83 : decode cX9_init 83 = .ok (.aload_n 0, 1) := dk_42 (dk_at dksX9_init_3 14 rfl rfl)
theorem dX9_init_84 : decode cX9_init 84 = .ok (.sipush 200, 3) := dk_17 0 200 (dk_at dksX9_init_3 15 rfl rfl)
theorem dX9_init_87 : decode cX9_init 87 = .ok (.newarray .int, 2) := dk_188_10 (dk_at dksX9_init_3 18 rfl rfl)
theorem dX9_init_89 : decode cX9_init 89 = .ok (.putfield 45, 3) := dk_181 0 45 (dk_at dksX9_init_3 20 rfl rfl)
theorem dX9_init_92 : decode cX9_init 92 = .ok (.aload_n 0, 1) := dk_42 (dk_at dksX9_init_3 23 rfl rfl)
theorem dX9_init_93 : decode cX9_init 93 = .ok (.bipush 12, 2) := dk_16 12 (dk_at dksX9_init_4 0 rfl rfl)
theorem dX9_init_95 : decode cX9_init 95 = .ok (.newarray .int, 2) := dk_188_10 (dk_at dksX9_init_4 2 rfl rfl)
theorem dX9_init_97 : decode cX9_init 97 = .ok (.putfield 48, 3) := dk_181 0 48 (dk_at dksX9_init_4 4 rfl rfl)
theorem dX9_init_100 : decode cX9_init 100 = .ok (.aload_n 0, 1) := dk_42 (dk_at dksX9_init_4 7 rfl rfl)
theorem dX9_init_101 : decode cX9_init 101 = .ok (.bipush 12, 2) := dk_16 12 (dk_at dksX9_init_4 8 rfl rfl)
theorem dX9_init_103 : decode cX9_init 103 = .ok (.newarray .int, 2) := dk_188_10 (dk_at dksX9_init_4 10 rfl rfl)
theorem dX9_init_105 : decode cX9_init 105 = .ok (.putfield 51, 3) := dk_181 0 51 (dk_at dksX9_init_4 12 rfl rfl)
theorem dX9_init_108 : decode cX9_init 108 = .ok (.aload_n 0, 1) := dk_42 (dk_at dksX9_init_4 15 rfl rfl)
theorem dX9_init_109 : decode cX9_init 109 = .ok (.iconst 3, 1) := dk_6 (dk_at dksX9_init_4 16 rfl rfl)
theorem dX9_init_110 : decode cX9_init 110 = .ok (.newarray .int, 2) := dk_188_10 (dk_at dksX9_init_4 17 rfl rfl)
theorem dX9_init_112 : decode cX9_init 112 = .ok (.putfield 54, 3) := dk_181 0 54 (dk_at dksX9_init_4 19 rfl rfl)
theorem dX9_init_115 : decode cX9_init 115 = .ok (.aload_n 0, 1) := dk_42 (dk_at dksX9_init_4 22 rfl rfl)
theorem dX9_init_116 : decode cX9_init 116 = .ok (.bipush 6, 2) := dk_16 6 (dk_at dksX9_init_5 0 rfl rfl)
theorem dX9_init_118 : decode cX9_init 118 = .ok (.newarray .int, 2) := dk_188_10 (dk_at dksX9_init_5 2 rfl rfl)
theorem dX9_init_120 : decode cX9_init 120 = .ok (.putfield 57, 3) := dk_181 0 57 (dk_at dksX9_init_5 4 rfl rfl)
theorem dX9_init_123 : decode cX9_init 123 = .ok (.aload_n 0, 1) := dk_42 (dk_at dksX9_init_5 7 rfl rfl)
theorem dX9_init_124 : decode cX9_init 124 = .ok (.bipush 6, 2) := dk_16 6 (dk_at dksX9_init_5 8 rfl rfl)
theorem dX9_init_126 : decode cX9_init 126 = .ok (.newarray .int, 2) := dk_188_10 (dk_at dksX9_init_5 10 rfl rfl)
theorem dX9_init_128 : decode cX9_init 128 = .ok (.putfield 60, 3) := dk_181 0 60 (dk_at dksX9_init_5 12 rfl rfl)
theorem dX9_init_131 : decode cX9_init 131 = .ok (.aload_n 0, 1) := dk_42 (dk_at dksX9_init_5 15 rfl rfl)
theorem dX9_init_132 : decode cX9_init 132 = .ok (.bipush 6, 2) := dk_16 6 (dk_at dksX9_init_5 16 rfl rfl)
theorem dX9_init_134 : decode cX9_init 134 = .ok (.newarray .int, 2) := dk_188_10 (dk_at dksX9_init_5 18 rfl rfl)
theorem dX9_init_136 : decode cX9_init 136 = .ok (.putfield 63, 3) := dk_181 0 63 (dk_at dksX9_init_5 20 rfl rfl)
theorem dX9_init_139 : decode cX9_init 139 = .ok (.aload_n 0, 1) := dk_42 (dk_at dksX9_init_5 23 rfl rfl)
theorem dX9_init_140 : decode cX9_init 140 = .ok (.bipush 6, 2) := dk_16 6 (dk_at dksX9_init_6 0 rfl rfl)
theorem dX9_init_142 : decode cX9_init 142 = .ok (.newarray .int, 2) := dk_188_10 (dk_at dksX9_init_6 2 rfl rfl)
theorem dX9_init_144 : decode cX9_init 144 = .ok (.putfield 66, 3) := dk_181 0 66 (dk_at dksX9_init_6 4 rfl rfl)
theorem dX9_init_147 : decode cX9_init 147 = .ok (.aload_n 0, 1) := dk_42 (dk_at dksX9_init_6 7 rfl rfl)
theorem dX9_init_148 : decode cX9_init 148 = .ok (.bipush 7, 2) := dk_16 7 (dk_at dksX9_init_6 8 rfl rfl)
theorem dX9_init_150 : decode cX9_init 150 = .ok (.newarray .long, 2) := dk_188_11 (dk_at dksX9_init_6 10 rfl rfl)
theorem dX9_init_152 : decode cX9_init 152 = .ok (.putfield 69, 3) := dk_181 0 69 (dk_at dksX9_init_6 12 rfl rfl)
theorem dX9_init_155 : decode cX9_init 155 = .ok (.aload_n 0, 1) := dk_42 (dk_at dksX9_init_6 15 rfl rfl)
theorem dX9_init_156 : decode cX9_init 156 = .ok (.iconst 5, 1) := dk_8 (dk_at dksX9_init_6 16 rfl rfl)
theorem dX9_init_157 : decode cX9_init 157 = .ok (.newarray .int, 2) := dk_188_10 (dk_at dksX9_init_6 17 rfl rfl)
theorem dX9_init_159 : decode cX9_init 159 = .ok (.putfield 73, 3) := dk_181 0 73 (dk_at dksX9_init_6 19 rfl rfl)
theorem dX9_init_162 : decode cX9_init 162 = .ok (.aload_n 0, 1) := dk_42 (dk_at dksX9_init_6 22 rfl rfl)
theorem dX9_init_163 : decode cX9_init 163 = .ok (.iconst 5, 1) := dk_8 (dk_at dksX9_init_6 23 rfl rfl)
theorem dX9_init_164 : decode cX9_init 164 = .ok (.newarray .int, 2) := dk_188_10 (dk_at dksX9_init_7 0 rfl rfl)
theorem dX9_init_166 : decode cX9_init 166 = .ok (.putfield 76, 3) := dk_181 0 76 (dk_at dksX9_init_7 2 rfl rfl)
theorem dX9_init_169 : decode cX9_init 169 = .ok (.aload_n 0, 1) := dk_42 (dk_at dksX9_init_7 5 rfl rfl)
theorem dX9_init_170 : decode cX9_init 170 = .ok (.iconst 4, 1) := dk_7 (dk_at dksX9_init_7 6 rfl rfl)
theorem dX9_init_171 : decode cX9_init 171 = .ok (.newarray .int, 2) := dk_188_10 (dk_at dksX9_init_7 7 rfl rfl)
theorem dX9_init_173 : decode cX9_init 173 = .ok (.putfield 79, 3) := dk_181 0 79 (dk_at dksX9_init_7 9 rfl rfl)
theorem dX9_init_176 : decode cX9_init 176 = .ok (.iconst 0, 1) := dk_3 (dk_at dksX9_init_7 12 rfl rfl)
theorem dX9_init_177 : decode cX9_init 177 = .ok (.istore_n 1, 1) := dk_60 (dk_at dksX9_init_7 13 rfl rfl)
theorem dX9_init_178 : decode cX9_init 178 = .ok (.iload_n 1, 1) := dk_27 (dk_at dksX9_init_7 14 rfl rfl)
theorem dX9_init_179 : decode cX9_init 179 = .ok (.bipush 6, 2) := dk_16 6 (dk_at dksX9_init_7 15 rfl rfl)
theorem dX9_init_181 : decode cX9_init 181 = .ok (.if_icmp .ge 19, 3) := dk_162 0 19 (dk_at dksX9_init_7 17 rfl rfl)
theorem dX9_init_184 : decode cX9_init 184 = .ok (.aload_n 0, 1) := dk_42 (dk_at dksX9_init_7 20 rfl rfl)
theorem dX9_init_185 : decode cX9_init 185 = .ok (.getfield 26, 3) := dk_180 0 26 (dk_at dksX9_init_7 21 rfl rfl)
theorem dX9_init_188 : decode cX9_init 188 = .ok (.iconst 2, 1) := dk_5 (dk_at dksX9_init_8 0 rfl rfl)
theorem dX9_init_189 : decode cX9_init 189 = .ok (.iload_n 1, 1) := dk_27 (dk_at dksX9_init_8 1 rfl rfl)
theorem dX9_init_190 : decode cX9_init 190 = .ok (.iadd, 1) := dk_96 (dk_at dksX9_init_8 2 rfl rfl)
theorem dX9_init_191 : decode cX9_init 191 = .ok (.bipush (-9), 2) := dk_16 247 (dk_at dksX9_init_8 3 rfl rfl)
theorem dX9_init_193 : decode cX9_init 193 = .ok (.iastore, 1) := dk_79 (dk_at dksX9_init_8 5 rfl rfl)
theorem dX9_init_194 : decode cX9_init 194 = .ok (.iinc 1 1, 3) := dk_132 1 1 (dk_at dksX9_init_8 6 rfl rfl)
theorem dX9_init_197 : decode cX9_init 197 = .ok (.goto (-19), 3) := dk_167 255 237 (dk_at dksX9_init_8 9 rfl rfl)
theorem dX9_init_200 : decode cX9_init 200 = .ok (.return_, 1) := dk_177 (dk_at dksX9_init_8 12 rfl rfl)
abbrev cX9_type : ByteArray := prog_13_method_9_code
def yX9_type : MethodName := ⟨RX9, "type", "(I)I"⟩
def dkwX9_type_2 : List UInt8 := [180, 0, 92, 172]
abbrev dktX9_type_2 : List UInt8 := dkwX9_type_2 ++ []
def dkwX9_type_1 : List UInt8 := [16, 253, 172, 42, 180, 0, 45, 42, 180, 0, 92, 27, 79, 42, 89, 180, 0, 92, 4, 96, 181, 0, 92, 42]
abbrev dktX9_type_1 : List UInt8 := dkwX9_type_1 ++ dktX9_type_2
def dkwX9_type_0 : List UInt8 := [27, 3, 17, 0, 255, 184, 0, 85, 154, 0, 5, 2, 172, 42, 180, 0, 92, 17, 0, 200, 160, 0, 6]
abbrev dktX9_type_0 : List UInt8 := dkwX9_type_0 ++ dktX9_type_1
theorem dksX9_type_0 : cX9_type.data.toList.drop 0 = dktX9_type_0 := by decide +kernel
theorem dksX9_type_1 : cX9_type.data.toList.drop 23 = dktX9_type_1 := dk_seg dksX9_type_0 23 rfl rfl
theorem dksX9_type_2 : cX9_type.data.toList.drop 47 = dktX9_type_2 := dk_seg dksX9_type_1 24 rfl rfl
theorem dX9_type_0 : decode cX9_type 0 = .ok (.iload_n 1, 1) := dk_27 (dk_at dksX9_type_0 0 rfl rfl)
theorem dX9_type_1 : decode cX9_type 1 = .ok (.iconst 0, 1) := dk_3 (dk_at dksX9_type_0 1 rfl rfl)
theorem dX9_type_2 : decode cX9_type 2 = .ok (.sipush 255, 3) := dk_17 0 255 (dk_at dksX9_type_0 2 rfl rfl)
theorem dX9_type_5 : decode cX9_type 5 = .ok (.invokestatic 85, 3) := dk_184 0 85 (dk_at dksX9_type_0 5 rfl rfl)
theorem dX9_type_8 : decode cX9_type 8 = .ok (.ifCond .ne 5, 3) := dk_154 0 5 (dk_at dksX9_type_0 8 rfl rfl)
theorem dX9_type_11 : decode cX9_type 11 = .ok (.iconst (-1), 1) := dk_2 (dk_at dksX9_type_0 11 rfl rfl)
theorem dX9_type_12 : decode cX9_type 12 = .ok (.ireturn, 1) := dk_172 (dk_at dksX9_type_0 12 rfl rfl)
theorem dX9_type_13 : decode cX9_type 13 = .ok (.aload_n 0, 1) := dk_42 (dk_at dksX9_type_0 13 rfl rfl)
theorem dX9_type_14 : decode cX9_type 14 = .ok (.getfield 92, 3) := dk_180 0 92 (dk_at dksX9_type_0 14 rfl rfl)
theorem dX9_type_17 : decode cX9_type 17 = .ok (.sipush 200, 3) := dk_17 0 200 (dk_at dksX9_type_0 17 rfl rfl)
theorem dX9_type_20 : decode cX9_type 20 = .ok (.if_icmp .ne 6, 3) := dk_160 0 6 (dk_at dksX9_type_0 20 rfl rfl)
theorem dX9_type_23 : decode cX9_type 23 = .ok (.bipush (-3), 2) := dk_16 253 (dk_at dksX9_type_1 0 rfl rfl)
theorem dX9_type_25 : decode cX9_type 25 = .ok (.ireturn, 1) := dk_172 (dk_at dksX9_type_1 2 rfl rfl)
theorem dX9_type_26 : decode cX9_type 26 = .ok (.aload_n 0, 1) := dk_42 (dk_at dksX9_type_1 3 rfl rfl)
theorem dX9_type_27 : decode cX9_type 27 = .ok (.getfield 45, 3) := dk_180 0 45 (dk_at dksX9_type_1 4 rfl rfl)
theorem dX9_type_30 : decode cX9_type 30 = .ok (.aload_n 0, 1) := dk_42 (dk_at dksX9_type_1 7 rfl rfl)
theorem dX9_type_31 : decode cX9_type 31 = .ok (.getfield 92, 3) := dk_180 0 92 (dk_at dksX9_type_1 8 rfl rfl)
theorem dX9_type_34 : decode cX9_type 34 = .ok (.iload_n 1, 1) := dk_27 (dk_at dksX9_type_1 11 rfl rfl)
theorem dX9_type_35 : decode cX9_type 35 = .ok (.iastore, 1) := dk_79 (dk_at dksX9_type_1 12 rfl rfl)
theorem dX9_type_36 : decode cX9_type 36 = .ok (.aload_n 0, 1) := dk_42 (dk_at dksX9_type_1 13 rfl rfl)
theorem dX9_type_37 : decode cX9_type 37 = .ok (.dup, 1) := dk_89 (dk_at dksX9_type_1 14 rfl rfl)
theorem dX9_type_38 : decode cX9_type 38 = .ok (.getfield 92, 3) := dk_180 0 92 (dk_at dksX9_type_1 15 rfl rfl)
theorem dX9_type_41 : decode cX9_type 41 = .ok (.iconst 1, 1) := dk_4 (dk_at dksX9_type_1 18 rfl rfl)
theorem dX9_type_42 : decode cX9_type 42 = .ok (.iadd, 1) := dk_96 (dk_at dksX9_type_1 19 rfl rfl)
theorem dX9_type_43 : decode cX9_type 43 = .ok (.putfield 92, 3) := dk_181 0 92 (dk_at dksX9_type_1 20 rfl rfl)
theorem dX9_type_46 : decode cX9_type 46 = .ok (.aload_n 0, 1) := dk_42 (dk_at dksX9_type_1 23 rfl rfl)
theorem dX9_type_47 : decode cX9_type 47 = .ok (.getfield 92, 3) := dk_180 0 92 (dk_at dksX9_type_2 0 rfl rfl)
theorem dX9_type_50 : decode cX9_type 50 = .ok (.ireturn, 1) := dk_172 (dk_at dksX9_type_2 3 rfl rfl)
abbrev cX9_in : ByteArray := prog_13_method_3_code
def yX9_in : MethodName := ⟨RX9, "in", "(III)Z"⟩
def dkwX9_in_0 : List UInt8 := [26, 27, 161, 0, 12, 26, 28, 163, 0, 7, 4, 167, 0, 4, 3, 172]
abbrev dktX9_in_0 : List UInt8 := dkwX9_in_0 ++ []
theorem dksX9_in_0 : cX9_in.data.toList.drop 0 = dktX9_in_0 := by decide +kernel
theorem dX9_in_0 : decode cX9_in 0 = .ok (.iload_n 0, 1) := dk_26 (dk_at dksX9_in_0 0 rfl rfl)
theorem dX9_in_1 : decode cX9_in 1 = .ok (.iload_n 1, 1) := dk_27 (dk_at dksX9_in_0 1 rfl rfl)
theorem dX9_in_2 : decode cX9_in 2 = .ok (.if_icmp .lt 12, 3) := dk_161 0 12 (dk_at dksX9_in_0 2 rfl rfl)
theorem dX9_in_5 : decode cX9_in 5 = .ok (.iload_n 0, 1) := dk_26 (dk_at dksX9_in_0 5 rfl rfl)
theorem dX9_in_6 : decode cX9_in 6 = .ok (.iload_n 2, 1) := dk_28 (dk_at dksX9_in_0 6 rfl rfl)
theorem dX9_in_7 : decode cX9_in 7 = .ok (.if_icmp .gt 7, 3) := dk_163 0 7 (dk_at dksX9_in_0 7 rfl rfl)
theorem dX9_in_10 : decode cX9_in 10 = .ok (.iconst 1, 1) := dk_4 (dk_at dksX9_in_0 10 rfl rfl)
theorem dX9_in_11 : decode cX9_in 11 = .ok (.goto 4, 3) := dk_167 0 4 (dk_at dksX9_in_0 11 rfl rfl)
theorem dX9_in_14 : decode cX9_in 14 = .ok (.iconst 0, 1) := dk_3 (dk_at dksX9_in_0 14 rfl rfl)
theorem dX9_in_15 : decode cX9_in 15 = .ok (.ireturn, 1) := dk_172 (dk_at dksX9_in_0 15 rfl rfl)
abbrev cX9_clear : ByteArray := prog_13_method_10_code
def yX9_clear : MethodName := ⟨RX9, "clear", "()I"⟩
def dkwX9_clear_0 : List UInt8 := [42, 180, 0, 92, 60, 42, 3, 181, 0, 92, 27, 172]
abbrev dktX9_clear_0 : List UInt8 := dkwX9_clear_0 ++ []
theorem dksX9_clear_0 : cX9_clear.data.toList.drop 0 = dktX9_clear_0 := by decide +kernel
theorem dX9_clear_0 : decode cX9_clear 0 = .ok (.aload_n 0, 1) := dk_42 (dk_at dksX9_clear_0 0 rfl rfl)
theorem dX9_clear_1 : decode cX9_clear 1 = .ok (.getfield 92, 3) := dk_180 0 92 (dk_at dksX9_clear_0 1 rfl rfl)
theorem dX9_clear_4 : decode cX9_clear 4 = .ok (.istore_n 1, 1) := dk_60 (dk_at dksX9_clear_0 4 rfl rfl)
theorem dX9_clear_5 : decode cX9_clear 5 = .ok (.aload_n 0, 1) := dk_42 (dk_at dksX9_clear_0 5 rfl rfl)
theorem dX9_clear_6 : decode cX9_clear 6 = .ok (.iconst 0, 1) := dk_3 (dk_at dksX9_clear_0 6 rfl rfl)
theorem dX9_clear_7 : decode cX9_clear 7 = .ok (.putfield 92, 3) := dk_181 0 92 (dk_at dksX9_clear_0 7 rfl rfl)
theorem dX9_clear_10 : decode cX9_clear 10 = .ok (.iload_n 1, 1) := dk_27 (dk_at dksX9_clear_0 10 rfl rfl)
theorem dX9_clear_11 : decode cX9_clear 11 = .ok (.ireturn, 1) := dk_172 (dk_at dksX9_clear_0 11 rfl rfl)
abbrev cX9_island : ByteArray := prog_13_method_19_code
def yX9_island : MethodName := ⟨RX9, "island", "()I"⟩
def dkwX9_island_10 : List UInt8 := [42, 3, 181, 0, 92, 27, 172]
abbrev dktX9_island_10 : List UInt8 := dkwX9_island_10 ++ []
def dkwX9_island_9 : List UInt8 := [42, 3, 181, 0, 152, 42, 3, 181, 0, 155, 42, 180, 0, 35, 3, 3, 84, 42, 180, 0, 35, 4, 3, 84]
abbrev dktX9_island_9 : List UInt8 := dkwX9_island_9 ++ dktX9_island_10
def dkwX9_island_8 : List UInt8 := [28, 28, 5, 16, 7, 184, 0, 85, 153, 0, 8, 16, 247, 167, 0, 4, 3, 79, 132, 2, 1, 167, 255, 225]
abbrev dktX9_island_8 : List UInt8 := dkwX9_island_8 ++ dktX9_island_9
def dkwX9_island_7 : List UInt8 := [180, 0, 51, 28, 46, 79, 132, 2, 1, 167, 255, 223, 3, 61, 28, 16, 26, 162, 0, 31, 42, 180, 0, 26]
abbrev dktX9_island_7 : List UInt8 := dkwX9_island_7 ++ dktX9_island_8
def dkwX9_island_6 : List UInt8 := [16, 12, 162, 0, 33, 42, 180, 0, 19, 28, 42, 180, 0, 48, 28, 46, 79, 42, 180, 0, 23, 28, 42]
abbrev dktX9_island_6 : List UInt8 := dkwX9_island_6 ++ dktX9_island_7
def dkwX9_island_5 : List UInt8 := [46, 181, 0, 16, 42, 42, 180, 0, 133, 181, 0, 82, 42, 42, 180, 0, 136, 181, 0, 89, 3, 61, 28]
abbrev dktX9_island_5 : List UInt8 := dkwX9_island_5 ++ dktX9_island_6
def dkwX9_island_4 : List UInt8 := [180, 0, 54, 3, 46, 181, 0, 7, 42, 42, 180, 0, 54, 4, 46, 181, 0, 13, 42, 42, 180, 0, 54, 5]
abbrev dktX9_island_4 : List UInt8 := dkwX9_island_4 ++ dktX9_island_5
def dkwX9_island_3 : List UInt8 := [132, 1, 1, 167, 255, 235, 42, 180, 0, 111, 153, 0, 11, 16, 246, 42, 180, 0, 102, 100, 172, 42, 42]
abbrev dktX9_island_3 : List UInt8 := dkwX9_island_3 ++ dktX9_island_4
def dkwX9_island_2 : List UInt8 := [60, 42, 182, 0, 115, 42, 180, 0, 105, 153, 0, 20, 42, 180, 0, 111, 154, 0, 13, 42, 182, 0, 149]
abbrev dktX9_island_2 : List UInt8 := dkwX9_island_2 ++ dktX9_island_3
def dkwX9_island_1 : List UInt8 := [79, 42, 180, 0, 54, 5, 4, 79, 42, 3, 181, 0, 122, 42, 3, 181, 0, 133, 42, 3, 181, 0, 136, 3]
abbrev dktX9_island_1 : List UInt8 := dkwX9_island_1 ++ dktX9_island_2
def dkwX9_island_0 : List UInt8 := [42, 3, 181, 0, 95, 42, 3, 181, 0, 111, 42, 180, 0, 54, 3, 16, 10, 79, 42, 180, 0, 54, 4, 5]
abbrev dktX9_island_0 : List UInt8 := dkwX9_island_0 ++ dktX9_island_1
theorem dksX9_island_0 : cX9_island.data.toList.drop 0 = dktX9_island_0 := by decide +kernel
theorem dksX9_island_1 : cX9_island.data.toList.drop 24 = dktX9_island_1 := dk_seg dksX9_island_0 24 rfl rfl
theorem dksX9_island_2 : cX9_island.data.toList.drop 48 = dktX9_island_2 := dk_seg dksX9_island_1 24 rfl rfl
theorem dksX9_island_3 : cX9_island.data.toList.drop 71 = dktX9_island_3 := dk_seg dksX9_island_2 23 rfl rfl
theorem dksX9_island_4 : cX9_island.data.toList.drop 94 = dktX9_island_4 := dk_seg dksX9_island_3 23 rfl rfl
theorem dksX9_island_5 : cX9_island.data.toList.drop 118 = dktX9_island_5 := dk_seg dksX9_island_4 24 rfl rfl
theorem dksX9_island_6 : cX9_island.data.toList.drop 141 = dktX9_island_6 := dk_seg dksX9_island_5 23 rfl rfl
theorem dksX9_island_7 : cX9_island.data.toList.drop 164 = dktX9_island_7 := dk_seg dksX9_island_6 23 rfl rfl
theorem dksX9_island_8 : cX9_island.data.toList.drop 188 = dktX9_island_8 := dk_seg dksX9_island_7 24 rfl rfl
theorem dksX9_island_9 : cX9_island.data.toList.drop 212 = dktX9_island_9 := dk_seg dksX9_island_8 24 rfl rfl
theorem dksX9_island_10 : cX9_island.data.toList.drop 236 = dktX9_island_10 := dk_seg dksX9_island_9 24 rfl rfl
theorem dX9_island_0 : decode cX9_island 0 = .ok (.aload_n 0, 1) := dk_42 (dk_at dksX9_island_0 0 rfl rfl)
theorem dX9_island_1 : decode cX9_island 1 = .ok (.iconst 0, 1) := dk_3 (dk_at dksX9_island_0 1 rfl rfl)
theorem dX9_island_2 : decode cX9_island 2 = .ok (.putfield 95, 3) := dk_181 0 95 (dk_at dksX9_island_0 2 rfl rfl)
theorem dX9_island_5 : decode cX9_island 5 = .ok (.aload_n 0, 1) := dk_42 (dk_at dksX9_island_0 5 rfl rfl)
theorem dX9_island_6 : decode cX9_island 6 = .ok (.iconst 0, 1) := dk_3 (dk_at dksX9_island_0 6 rfl rfl)
theorem dX9_island_7 : decode cX9_island 7 = .ok (.putfield 111, 3) := dk_181 0 111 (dk_at dksX9_island_0 7 rfl rfl)
theorem dX9_island_10 : decode cX9_island 10 = .ok (.aload_n 0, 1) := dk_42 (dk_at dksX9_island_0 10 rfl rfl)
theorem dX9_island_11 : decode cX9_island 11 = .ok (.getfield 54, 3) := dk_180 0 54 (dk_at dksX9_island_0 11 rfl rfl)
theorem dX9_island_14 : decode cX9_island 14 = .ok (.iconst 0, 1) := dk_3 (dk_at dksX9_island_0 14 rfl rfl)
theorem dX9_island_15 : decode cX9_island 15 = .ok (.bipush 10, 2) := dk_16 10 (dk_at dksX9_island_0 15 rfl rfl)
theorem dX9_island_17 : decode cX9_island 17 = .ok (.iastore, 1) := dk_79 (dk_at dksX9_island_0 17 rfl rfl)
theorem dX9_island_18 : decode cX9_island 18 = .ok (.aload_n 0, 1) := dk_42 (dk_at dksX9_island_0 18 rfl rfl)
theorem dX9_island_19 : decode cX9_island 19 = .ok (.getfield 54, 3) := dk_180 0 54 (dk_at dksX9_island_0 19 rfl rfl)
theorem dX9_island_22 : decode cX9_island 22 = .ok (.iconst 1, 1) := dk_4 (dk_at dksX9_island_0 22 rfl rfl)
theorem dX9_island_23 : decode cX9_island 23 = .ok (.iconst 2, 1) := dk_5 (dk_at dksX9_island_0 23 rfl rfl)
theorem dX9_island_24 : decode cX9_island 24 = .ok (.iastore, 1) := dk_79 (dk_at dksX9_island_1 0 rfl rfl)
theorem dX9_island_25 : decode cX9_island 25 = .ok (.aload_n 0, 1) := dk_42 (dk_at dksX9_island_1 1 rfl rfl)
theorem dX9_island_26 : decode cX9_island 26 = .ok (.getfield 54, 3) := dk_180 0 54 (dk_at dksX9_island_1 2 rfl rfl)
theorem dX9_island_29 : decode cX9_island 29 = .ok (.iconst 2, 1) := dk_5 (dk_at dksX9_island_1 5 rfl rfl)
theorem dX9_island_30 : decode cX9_island 30 = .ok (.iconst 1, 1) := dk_4 (dk_at dksX9_island_1 6 rfl rfl)
theorem dX9_island_31 : decode cX9_island 31 = .ok (.iastore, 1) := dk_79 (dk_at dksX9_island_1 7 rfl rfl)
theorem dX9_island_32 : decode cX9_island 32 = .ok (.aload_n 0, 1) := dk_42 (dk_at dksX9_island_1 8 rfl rfl)
theorem dX9_island_33 : decode cX9_island 33 = .ok (.iconst 0, 1) := dk_3 (dk_at dksX9_island_1 9 rfl rfl)
theorem dX9_island_34 : decode cX9_island 34 = .ok (.putfield 122, 3) := dk_181 0 122 (dk_at dksX9_island_1 10 rfl rfl)
theorem dX9_island_37 : decode cX9_island 37 = .ok (.aload_n 0, 1) := dk_42 (dk_at dksX9_island_1 13 rfl rfl)
theorem dX9_island_38 : decode cX9_island 38 = .ok (.iconst 0, 1) := dk_3 (dk_at dksX9_island_1 14 rfl rfl)
theorem dX9_island_39 : decode cX9_island 39 = .ok (.putfield 133, 3) := dk_181 0 133 (dk_at dksX9_island_1 15 rfl rfl)
theorem dX9_island_42 : decode cX9_island 42 = .ok (.aload_n 0, 1) := dk_42 (dk_at dksX9_island_1 18 rfl rfl)
theorem dX9_island_43 : decode cX9_island 43 = .ok (.iconst 0, 1) := dk_3 (dk_at dksX9_island_1 19 rfl rfl)
theorem dX9_island_44 : decode cX9_island 44 = .ok (.putfield 136, 3) := dk_181 0 136 (dk_at dksX9_island_1 20 rfl rfl)
theorem dX9_island_47 : decode cX9_island 47 = .ok (.iconst 0, 1) := dk_3 (dk_at dksX9_island_1 23 rfl rfl)
theorem dX9_island_48 : decode cX9_island 48 = .ok (.istore_n 1, 1) := dk_60 (dk_at dksX9_island_2 0 rfl rfl)
theorem dX9_island_49 : decode cX9_island 49 = .ok (.aload_n 0, 1) := dk_42 (dk_at dksX9_island_2 1 rfl rfl)
theorem dX9_island_50 : decode cX9_island 50 = .ok (.invokevirtual 115, 3) := dk_182 0 115 (dk_at dksX9_island_2 2 rfl rfl)
theorem dX9_island_53 : decode cX9_island 53 = .ok (.aload_n 0, 1) := dk_42 (dk_at dksX9_island_2 5 rfl rfl)
theorem dX9_island_54 : decode cX9_island 54 = .ok (.getfield 105, 3) := dk_180 0 105 (dk_at dksX9_island_2 6 rfl rfl)
theorem dX9_island_57 : decode cX9_island 57 = .ok (.ifCond .eq 20, 3) := dk_153 0 20 (dk_at dksX9_island_2 9 rfl rfl)
theorem dX9_island_60 : decode cX9_island 60 = .ok (.aload_n 0, 1) := dk_42 (dk_at dksX9_island_2 12 rfl rfl)
theorem dX9_island_61 : decode cX9_island 61 = .ok (.getfield 111, 3) := dk_180 0 111 (dk_at dksX9_island_2 13 rfl rfl)
theorem dX9_island_64 : decode cX9_island 64 = .ok (.ifCond .ne 13, 3) := dk_154 0 13 (dk_at dksX9_island_2 16 rfl rfl)
theorem dX9_island_67 : decode cX9_island 67 = .ok (.aload_n 0, 1) := dk_42 (dk_at dksX9_island_2 19 rfl rfl)
theorem dX9_island_68 : decode cX9_island 68 = .ok (.invokevirtual 149, 3) := dk_182 0 149 (dk_at dksX9_island_2 20 rfl rfl)
theorem dX9_island_71 : decode cX9_island 71 = .ok (.iinc 1 1, 3) := dk_132 1 1 (dk_at dksX9_island_3 0 rfl rfl)
theorem dX9_island_74 : decode cX9_island 74 = .ok (.goto (-21), 3) := dk_167 255 235 (dk_at dksX9_island_3 3 rfl rfl)
theorem dX9_island_77 : decode cX9_island 77 = .ok (.aload_n 0, 1) := dk_42 (dk_at dksX9_island_3 6 rfl rfl)
theorem dX9_island_78 : decode cX9_island 78 = .ok (.getfield 111, 3) := dk_180 0 111 (dk_at dksX9_island_3 7 rfl rfl)
theorem dX9_island_81 : decode cX9_island 81 = .ok (.ifCond .eq 11, 3) := dk_153 0 11 (dk_at dksX9_island_3 10 rfl rfl)
theorem dX9_island_84 : decode cX9_island 84 = .ok (.bipush (-10), 2) := dk_16 246 (dk_at dksX9_island_3 13 rfl rfl)
theorem dX9_island_86 : decode cX9_island 86 = .ok (.aload_n 0, 1) := dk_42 (dk_at dksX9_island_3 15 rfl rfl)
theorem dX9_island_87 : decode cX9_island 87 = .ok (.getfield 102, 3) := dk_180 0 102 (dk_at dksX9_island_3 16 rfl rfl)
theorem dX9_island_90 : decode cX9_island 90 = .ok (.isub, 1) := dk_100 (dk_at dksX9_island_3 19 rfl rfl)
theorem dX9_island_91 : decode cX9_island 91 = .ok (.ireturn, 1) := dk_172 (dk_at dksX9_island_3 20 rfl rfl)
theorem dX9_island_92 : decode cX9_island 92 = .ok (.aload_n 0, 1) := dk_42 (dk_at dksX9_island_3 21 rfl rfl)
theorem dX9_island_93 : decode cX9_island 93 = .ok (.aload_n 0, 1) := dk_42 (dk_at dksX9_island_3 22 rfl rfl)
theorem dX9_island_94 : decode cX9_island 94 = .ok (.getfield 54, 3) := dk_180 0 54 (dk_at dksX9_island_4 0 rfl rfl)
theorem dX9_island_97 : decode cX9_island 97 = .ok (.iconst 0, 1) := dk_3 (dk_at dksX9_island_4 3 rfl rfl)
theorem dX9_island_98 : decode cX9_island 98 = .ok (.iaload, 1) := dk_46 (dk_at dksX9_island_4 4 rfl rfl)
theorem dX9_island_99 : decode cX9_island 99 = .ok (.putfield 7, 3) := dk_181 0 7 (dk_at dksX9_island_4 5 rfl rfl)
theorem dX9_island_102 : decode cX9_island 102 = .ok (.aload_n 0, 1) := dk_42 (dk_at dksX9_island_4 8 rfl rfl)
theorem dX9_island_103 : decode cX9_island 103 = .ok (.aload_n 0, 1) := dk_42 (dk_at dksX9_island_4 9 rfl rfl)
theorem dX9_island_104 : decode cX9_island 104 = .ok (.getfield 54, 3) := dk_180 0 54 (dk_at dksX9_island_4 10 rfl rfl)
theorem dX9_island_107 : decode cX9_island 107 = .ok (.iconst 1, 1) := dk_4 (dk_at dksX9_island_4 13 rfl rfl)
theorem dX9_island_108 : decode cX9_island 108 = .ok (.iaload, 1) := dk_46 (dk_at dksX9_island_4 14 rfl rfl)
theorem dX9_island_109 : decode cX9_island 109 = .ok (.putfield 13, 3) := dk_181 0 13 (dk_at dksX9_island_4 15 rfl rfl)
theorem dX9_island_112 : decode cX9_island 112 = .ok (.aload_n 0, 1) := dk_42 (dk_at dksX9_island_4 18 rfl rfl)
theorem dX9_island_113 : decode cX9_island 113 = .ok (.aload_n 0, 1) := dk_42 (dk_at dksX9_island_4 19 rfl rfl)
theorem dX9_island_114 : decode cX9_island 114 = .ok (.getfield 54, 3) := dk_180 0 54 (dk_at dksX9_island_4 20 rfl rfl)
theorem dX9_island_117 : decode cX9_island 117 = .ok (.iconst 2, 1) := dk_5 (dk_at dksX9_island_4 23 rfl rfl)
theorem dX9_island_118 : decode cX9_island 118 = .ok (.iaload, 1) := dk_46 (dk_at dksX9_island_5 0 rfl rfl)
theorem dX9_island_119 : decode cX9_island 119 = .ok (.putfield 16, 3) := dk_181 0 16 (dk_at dksX9_island_5 1 rfl rfl)
theorem dX9_island_122 : decode cX9_island 122 = .ok (.aload_n 0, 1) := dk_42 (dk_at dksX9_island_5 4 rfl rfl)
theorem dX9_island_123 : decode cX9_island 123 = .ok (.aload_n 0, 1) := dk_42 (dk_at dksX9_island_5 5 rfl rfl)
theorem dX9_island_124 : decode cX9_island 124 = .ok (.getfield 133, 3) := dk_180 0 133 (dk_at dksX9_island_5 6 rfl rfl)
theorem dX9_island_127 : decode cX9_island 127 = .ok (.putfield 82, 3) := dk_181 0 82 (dk_at dksX9_island_5 9 rfl rfl)
theorem dX9_island_130 : decode cX9_island 130 = .ok (.aload_n 0, 1) := dk_42 (dk_at dksX9_island_5 12 rfl rfl)
theorem dX9_island_131 : decode cX9_island 131 = .ok (.aload_n 0, 1) := dk_42 (dk_at dksX9_island_5 13 rfl rfl)
theorem dX9_island_132 : decode cX9_island 132 = .ok (.getfield 136, 3) := dk_180 0 136 (dk_at dksX9_island_5 14 rfl rfl)
theorem dX9_island_135 : decode cX9_island 135 = .ok (.putfield 89, 3) := dk_181 0 89 (dk_at dksX9_island_5 17 rfl rfl)
theorem dX9_island_138 : decode cX9_island 138 = .ok (.iconst 0, 1) := dk_3 (dk_at dksX9_island_5 20 rfl rfl)
theorem dX9_island_139 : decode cX9_island 139 = .ok (.istore_n 2, 1) := dk_61 (dk_at dksX9_island_5 21 rfl rfl)
theorem dX9_island_140 : decode cX9_island 140 = .ok (.iload_n 2, 1) := dk_28 (dk_at dksX9_island_5 22 rfl rfl)
theorem dX9_island_141 : decode cX9_island 141 = .ok (.bipush 12, 2) := dk_16 12 (dk_at dksX9_island_6 0 rfl rfl)
theorem dX9_island_143 : decode cX9_island 143 = .ok (.if_icmp .ge 33, 3) := dk_162 0 33 (dk_at dksX9_island_6 2 rfl rfl)
theorem dX9_island_146 : decode cX9_island 146 = .ok (.aload_n 0, 1) := dk_42 (dk_at dksX9_island_6 5 rfl rfl)
theorem dX9_island_147 : decode cX9_island 147 = .ok (.getfield 19, 3) := dk_180 0 19 (dk_at dksX9_island_6 6 rfl rfl)
theorem dX9_island_150 : decode cX9_island 150 = .ok (.iload_n 2, 1) := dk_28 (dk_at dksX9_island_6 9 rfl rfl)
theorem dX9_island_151 : decode cX9_island 151 = .ok (.aload_n 0, 1) := dk_42 (dk_at dksX9_island_6 10 rfl rfl)
theorem dX9_island_152 : decode cX9_island 152 = .ok (.getfield 48, 3) := dk_180 0 48 (dk_at dksX9_island_6 11 rfl rfl)
theorem dX9_island_155 : decode cX9_island 155 = .ok (.iload_n 2, 1) := dk_28 (dk_at dksX9_island_6 14 rfl rfl)
theorem dX9_island_156 : decode cX9_island 156 = .ok (.iaload, 1) := dk_46 (dk_at dksX9_island_6 15 rfl rfl)
theorem dX9_island_157 : decode cX9_island 157 = .ok (.iastore, 1) := dk_79 (dk_at dksX9_island_6 16 rfl rfl)
theorem dX9_island_158 : decode cX9_island 158 = .ok (.aload_n 0, 1) := dk_42 (dk_at dksX9_island_6 17 rfl rfl)
theorem dX9_island_159 : decode cX9_island 159 = .ok (.getfield 23, 3) := dk_180 0 23 (dk_at dksX9_island_6 18 rfl rfl)
theorem dX9_island_162 : decode cX9_island 162 = .ok (.iload_n 2, 1) := dk_28 (dk_at dksX9_island_6 21 rfl rfl)
theorem dX9_island_163 : decode cX9_island 163 = .ok (.aload_n 0, 1) := dk_42 (dk_at dksX9_island_6 22 rfl rfl)
theorem dX9_island_164 : decode cX9_island 164 = .ok (.getfield 51, 3) := dk_180 0 51 (dk_at dksX9_island_7 0 rfl rfl)
theorem dX9_island_167 : decode cX9_island 167 = .ok (.iload_n 2, 1) := dk_28 (dk_at dksX9_island_7 3 rfl rfl)
theorem dX9_island_168 : decode cX9_island 168 = .ok (.iaload, 1) := dk_46 (dk_at dksX9_island_7 4 rfl rfl)
theorem dX9_island_169 : decode cX9_island 169 = .ok (.iastore, 1) := dk_79 (dk_at dksX9_island_7 5 rfl rfl)
theorem dX9_island_170 : decode cX9_island 170 = .ok (.iinc 2 1, 3) := dk_132 2 1 (dk_at dksX9_island_7 6 rfl rfl)
theorem dX9_island_173 : decode cX9_island 173 = .ok (.goto (-33), 3) := dk_167 255 223 (dk_at dksX9_island_7 9 rfl rfl)
theorem dX9_island_176 : decode cX9_island 176 = .ok (.iconst 0, 1) := dk_3 (dk_at dksX9_island_7 12 rfl rfl)
theorem dX9_island_177 : decode cX9_island 177 = .ok (.istore_n 2, 1) := dk_61 (dk_at dksX9_island_7 13 rfl rfl)
theorem dX9_island_178 : decode cX9_island 178 = .ok (.iload_n 2, 1) := dk_28 (dk_at dksX9_island_7 14 rfl rfl)
theorem dX9_island_179 : decode cX9_island 179 = .ok (.bipush 26, 2) := dk_16 26 (dk_at dksX9_island_7 15 rfl rfl)
theorem dX9_island_181 : decode cX9_island 181 = .ok (.if_icmp .ge 31, 3) := dk_162 0 31 (dk_at dksX9_island_7 17 rfl rfl)
theorem dX9_island_184 : decode cX9_island 184 = .ok (.aload_n 0, 1) := dk_42 (dk_at dksX9_island_7 20 rfl rfl)
theorem dX9_island_185 : decode cX9_island 185 = .ok (.getfield 26, 3) := dk_180 0 26 (dk_at dksX9_island_7 21 rfl rfl)
theorem dX9_island_188 : decode cX9_island 188 = .ok (.iload_n 2, 1) := dk_28 (dk_at dksX9_island_8 0 rfl rfl)
theorem dX9_island_189 : decode cX9_island 189 = .ok (.iload_n 2, 1) := dk_28 (dk_at dksX9_island_8 1 rfl rfl)
theorem dX9_island_190 : decode cX9_island 190 = .ok (.iconst 2, 1) := dk_5 (dk_at dksX9_island_8 2 rfl rfl)
theorem dX9_island_191 : decode cX9_island 191 = .ok (.bipush 7, 2) := dk_16 7 (dk_at dksX9_island_8 3 rfl rfl)
theorem dX9_island_193 : decode cX9_island 193 = .ok (.invokestatic 85, 3) := dk_184 0 85 (dk_at dksX9_island_8 5 rfl rfl)
theorem dX9_island_196 : decode cX9_island 196 = .ok (.ifCond .eq 8, 3) := dk_153 0 8 (dk_at dksX9_island_8 8 rfl rfl)
theorem dX9_island_199 : decode cX9_island 199 = .ok (.bipush (-9), 2) := dk_16 247 (dk_at dksX9_island_8 11 rfl rfl)
theorem dX9_island_201 : decode cX9_island 201 = .ok (.goto 4, 3) := dk_167 0 4 (dk_at dksX9_island_8 13 rfl rfl)
theorem dX9_island_204 : decode cX9_island 204 = .ok (.iconst 0, 1) := dk_3 (dk_at dksX9_island_8 16 rfl rfl)
theorem dX9_island_205 : decode cX9_island 205 = .ok (.iastore, 1) := dk_79 (dk_at dksX9_island_8 17 rfl rfl)
theorem dX9_island_206 : decode cX9_island 206 = .ok (.iinc 2 1, 3) := dk_132 2 1 (dk_at dksX9_island_8 18 rfl rfl)
theorem dX9_island_209 : decode cX9_island 209 = .ok (.goto (-31), 3) := dk_167 255 225 (dk_at dksX9_island_8 21 rfl rfl)
theorem dX9_island_212 : decode cX9_island 212 = .ok (.aload_n 0, 1) := dk_42 (dk_at dksX9_island_9 0 rfl rfl)
theorem dX9_island_213 : decode cX9_island 213 = .ok (.iconst 0, 1) := dk_3 (dk_at dksX9_island_9 1 rfl rfl)
theorem dX9_island_214 : decode cX9_island 214 = .ok (.putfield 152, 3) := dk_181 0 152 (dk_at dksX9_island_9 2 rfl rfl)
theorem dX9_island_217 : decode cX9_island 217 = .ok (.aload_n 0, 1) := dk_42 (dk_at dksX9_island_9 5 rfl rfl)
theorem dX9_island_218 : decode cX9_island 218 = .ok (.iconst 0, 1) := dk_3 (dk_at dksX9_island_9 6 rfl rfl)
theorem dX9_island_219 : decode cX9_island 219 = .ok (.putfield 155, 3) := dk_181 0 155 (dk_at dksX9_island_9 7 rfl rfl)
theorem dX9_island_222 : decode cX9_island 222 = .ok (.aload_n 0, 1) := dk_42 (dk_at dksX9_island_9 10 rfl rfl)
theorem dX9_island_223 : decode cX9_island 223 = .ok (.getfield 35, 3) := dk_180 0 35 (dk_at dksX9_island_9 11 rfl rfl)
theorem dX9_island_226 : decode cX9_island 226 = .ok (.iconst 0, 1) := dk_3 (dk_at dksX9_island_9 14 rfl rfl)
theorem dX9_island_227 : decode cX9_island 227 = .ok (.iconst 0, 1) := dk_3 (dk_at dksX9_island_9 15 rfl rfl)
theorem dX9_island_228 : decode cX9_island 228 = .ok (.bastore, 1) := dk_84 (dk_at dksX9_island_9 16 rfl rfl)
theorem dX9_island_229 : decode cX9_island 229 = .ok (.aload_n 0, 1) := dk_42 (dk_at dksX9_island_9 17 rfl rfl)
theorem dX9_island_230 : decode cX9_island 230 = .ok (.getfield 35, 3) := dk_180 0 35 (dk_at dksX9_island_9 18 rfl rfl)
theorem dX9_island_233 : decode cX9_island 233 = .ok (.iconst 1, 1) := dk_4 (dk_at dksX9_island_9 21 rfl rfl)
theorem dX9_island_234 : decode cX9_island 234 = .ok (.iconst 0, 1) := dk_3 (dk_at dksX9_island_9 22 rfl rfl)
theorem dX9_island_235 : decode cX9_island 235 = .ok (.bastore, 1) := dk_84 (dk_at dksX9_island_9 23 rfl rfl)
theorem dX9_island_236 : decode cX9_island 236 = .ok (.aload_n 0, 1) := dk_42 (dk_at dksX9_island_10 0 rfl rfl)
theorem dX9_island_237 : decode cX9_island 237 = .ok (.iconst 0, 1) := dk_3 (dk_at dksX9_island_10 1 rfl rfl)
theorem dX9_island_238 : decode cX9_island 238 = .ok (.putfield 92, 3) := dk_181 0 92 (dk_at dksX9_island_10 2 rfl rfl)
theorem dX9_island_241 : decode cX9_island 241 = .ok (.iload_n 1, 1) := dk_27 (dk_at dksX9_island_10 5 rfl rfl)
theorem dX9_island_242 : decode cX9_island 242 = .ok (.ireturn, 1) := dk_172 (dk_at dksX9_island_10 6 rfl rfl)
abbrev cX9_next : ByteArray := prog_13_method_12_code
def yX9_next : MethodName := ⟨RX9, "next", "()V"⟩
def dkwX9_next_11 : List UInt8 := [42, 28, 153, 0, 7, 5, 167, 0, 4, 7, 181, 0, 105, 177]
abbrev dktX9_next_11 : List UInt8 := dkwX9_next_11 ++ []
def dkwX9_next_10 : List UInt8 := [16, 48, 160, 0, 16, 42, 180, 0, 95, 42, 180, 0, 102, 100, 4, 160, 0, 7, 4, 167, 0, 4, 3, 61]
abbrev dktX9_next_10 : List UInt8 := dkwX9_next_10 ++ dktX9_next_11
def dkwX9_next_9 : List UInt8 := [180, 0, 95, 42, 180, 0, 102, 100, 8, 162, 0, 36, 42, 180, 0, 108, 17, 4, 0, 162, 0, 26, 27]
abbrev dktX9_next_9 : List UInt8 := dkwX9_next_9 ++ dktX9_next_10
def dkwX9_next_8 : List UInt8 := [167, 0, 7, 42, 180, 0, 108, 181, 0, 108, 42, 89, 180, 0, 95, 4, 96, 181, 0, 95, 167, 255, 185, 42]
abbrev dktX9_next_8 : List UInt8 := dkwX9_next_8 ++ dktX9_next_9
def dkwX9_next_7 : List UInt8 := [162, 0, 25, 16, 10, 42, 180, 0, 108, 104, 42, 42, 180, 0, 95, 182, 0, 98, 96, 16, 48, 100]
abbrev dktX9_next_7 : List UInt8 := dkwX9_next_7 ++ dktX9_next_8
def dkwX9_next_6 : List UInt8 := [182, 0, 98, 16, 48, 16, 57, 184, 0, 85, 153, 0, 59, 42, 42, 180, 0, 95, 42, 180, 0, 102, 100, 7]
abbrev dktX9_next_6 : List UInt8 := dkwX9_next_6 ++ dktX9_next_7
def dkwX9_next_5 : List UInt8 := [16, 48, 16, 57, 184, 0, 85, 153, 0, 146, 42, 27, 16, 48, 100, 181, 0, 108, 42, 42, 180, 0, 95]
abbrev dktX9_next_5 : List UInt8 := dkwX9_next_5 ++ dktX9_next_6
def dkwX9_next_4 : List UInt8 := [16, 107, 160, 0, 7, 4, 167, 0, 14, 27, 16, 59, 160, 0, 7, 6, 167, 0, 4, 7, 181, 0, 105, 27]
abbrev dktX9_next_4 : List UInt8 := dkwX9_next_4 ++ dktX9_next_5
def dkwX9_next_3 : List UInt8 := [16, 113, 159, 0, 27, 27, 16, 114, 159, 0, 21, 27, 16, 98, 159, 0, 15, 27, 16, 116, 159, 0, 9, 27]
abbrev dktX9_next_3 : List UInt8 := dkwX9_next_3 ++ dktX9_next_4
def dkwX9_next_2 : List UInt8 := [42, 3, 181, 0, 105, 177, 42, 89, 180, 0, 95, 4, 96, 181, 0, 95, 42, 27, 181, 0, 108, 42, 27]
abbrev dktX9_next_2 : List UInt8 := dkwX9_next_2 ++ dktX9_next_3
def dkwX9_next_1 : List UInt8 := [167, 255, 233, 42, 42, 180, 0, 95, 181, 0, 102, 42, 42, 180, 0, 95, 182, 0, 98, 60, 27, 156, 0, 9]
abbrev dktX9_next_1 : List UInt8 := dkwX9_next_1 ++ dktX9_next_2
def dkwX9_next_0 : List UInt8 := [42, 42, 180, 0, 95, 182, 0, 98, 16, 32, 160, 0, 16, 42, 89, 180, 0, 95, 4, 96, 181, 0, 95]
abbrev dktX9_next_0 : List UInt8 := dkwX9_next_0 ++ dktX9_next_1
theorem dksX9_next_0 : cX9_next.data.toList.drop 0 = dktX9_next_0 := by decide +kernel
theorem dksX9_next_1 : cX9_next.data.toList.drop 23 = dktX9_next_1 := dk_seg dksX9_next_0 23 rfl rfl
theorem dksX9_next_2 : cX9_next.data.toList.drop 47 = dktX9_next_2 := dk_seg dksX9_next_1 24 rfl rfl
theorem dksX9_next_3 : cX9_next.data.toList.drop 70 = dktX9_next_3 := dk_seg dksX9_next_2 23 rfl rfl
theorem dksX9_next_4 : cX9_next.data.toList.drop 94 = dktX9_next_4 := dk_seg dksX9_next_3 24 rfl rfl
theorem dksX9_next_5 : cX9_next.data.toList.drop 118 = dktX9_next_5 := dk_seg dksX9_next_4 24 rfl rfl
theorem dksX9_next_6 : cX9_next.data.toList.drop 141 = dktX9_next_6 := dk_seg dksX9_next_5 23 rfl rfl
theorem dksX9_next_7 : cX9_next.data.toList.drop 165 = dktX9_next_7 := dk_seg dksX9_next_6 24 rfl rfl
theorem dksX9_next_8 : cX9_next.data.toList.drop 187 = dktX9_next_8 := dk_seg dksX9_next_7 22 rfl rfl
theorem dksX9_next_9 : cX9_next.data.toList.drop 211 = dktX9_next_9 := dk_seg dksX9_next_8 24 rfl rfl
theorem dksX9_next_10 : cX9_next.data.toList.drop 234 = dktX9_next_10 := dk_seg dksX9_next_9 23 rfl rfl
theorem dksX9_next_11 : cX9_next.data.toList.drop 258 = dktX9_next_11 := dk_seg dksX9_next_10 24 rfl rfl
theorem dX9_next_0 : decode cX9_next 0 = .ok (.aload_n 0, 1) := dk_42 (dk_at dksX9_next_0 0 rfl rfl)
theorem dX9_next_1 : decode cX9_next 1 = .ok (.aload_n 0, 1) := dk_42 (dk_at dksX9_next_0 1 rfl rfl)
theorem dX9_next_2 : decode cX9_next 2 = .ok (.getfield 95, 3) := dk_180 0 95 (dk_at dksX9_next_0 2 rfl rfl)
theorem dX9_next_5 : decode cX9_next 5 = .ok (.invokevirtual 98, 3) := dk_182 0 98 (dk_at dksX9_next_0 5 rfl rfl)
theorem dX9_next_8 : decode cX9_next 8 = .ok (.bipush 32, 2) := dk_16 32 (dk_at dksX9_next_0 8 rfl rfl)
theorem dX9_next_10 : decode cX9_next 10 = .ok (.if_icmp .ne 16, 3) := dk_160 0 16 (dk_at dksX9_next_0 10 rfl rfl)
theorem dX9_next_13 : decode cX9_next 13 = .ok (.aload_n 0, 1) := dk_42 (dk_at dksX9_next_0 13 rfl rfl)
theorem dX9_next_14 : decode cX9_next 14 = .ok (.dup, 1) := dk_89 (dk_at dksX9_next_0 14 rfl rfl)
theorem dX9_next_15 : decode cX9_next 15 = .ok (.getfield 95, 3) := dk_180 0 95 (dk_at dksX9_next_0 15 rfl rfl)
theorem dX9_next_18 : decode cX9_next 18 = .ok (.iconst 1, 1) := dk_4 (dk_at dksX9_next_0 18 rfl rfl)
theorem dX9_next_19 : decode cX9_next 19 = .ok (.iadd, 1) := dk_96 (dk_at dksX9_next_0 19 rfl rfl)
theorem dX9_next_20 : decode cX9_next 20 = .ok (.putfield 95, 3) := dk_181 0 95 (dk_at dksX9_next_0 20 rfl rfl)
theorem dX9_next_23 : decode cX9_next 23 = .ok (.goto (-23), 3) := dk_167 255 233 (dk_at dksX9_next_1 0 rfl rfl)
theorem dX9_next_26 : decode cX9_next 26 = .ok (.aload_n 0, 1) := dk_42 (dk_at dksX9_next_1 3 rfl rfl)
theorem dX9_next_27 : decode cX9_next 27 = .ok (.aload_n 0, 1) := dk_42 (dk_at dksX9_next_1 4 rfl rfl)
theorem dX9_next_28 : decode cX9_next 28 = .ok (.getfield 95, 3) := dk_180 0 95 (dk_at dksX9_next_1 5 rfl rfl)
theorem dX9_next_31 : decode cX9_next 31 = .ok (.putfield 102, 3) := dk_181 0 102 (dk_at dksX9_next_1 8 rfl rfl)
theorem dX9_next_34 : decode cX9_next 34 = .ok (.aload_n 0, 1) := dk_42 (dk_at dksX9_next_1 11 rfl rfl)
theorem dX9_next_35 : decode cX9_next 35 = .ok (.aload_n 0, 1) := dk_42 (dk_at dksX9_next_1 12 rfl rfl)
theorem dX9_next_36 : decode cX9_next 36 = .ok (.getfield 95, 3) := dk_180 0 95 (dk_at dksX9_next_1 13 rfl rfl)
theorem dX9_next_39 : decode cX9_next 39 = .ok (.invokevirtual 98, 3) := dk_182 0 98 (dk_at dksX9_next_1 16 rfl rfl)
theorem dX9_next_42 : decode cX9_next 42 = .ok (.istore_n 1, 1) := dk_60 (dk_at dksX9_next_1 19 rfl rfl)
theorem dX9_next_43 : decode cX9_next 43 = .ok (.iload_n 1, 1) := dk_27 (dk_at dksX9_next_1 20 rfl rfl)
theorem dX9_next_44 : decode cX9_next 44 = .ok (.ifCond .ge 9, 3) := dk_156 0 9 (dk_at dksX9_next_1 21 rfl rfl)
theorem dX9_next_47 : decode cX9_next 47 = .ok (.aload_n 0, 1) := dk_42 (dk_at dksX9_next_2 0 rfl rfl)
theorem dX9_next_48 : decode cX9_next 48 = .ok (.iconst 0, 1) := dk_3 (dk_at dksX9_next_2 1 rfl rfl)
theorem dX9_next_49 : decode cX9_next 49 = .ok (.putfield 105, 3) := dk_181 0 105 (dk_at dksX9_next_2 2 rfl rfl)
theorem dX9_next_52 : decode cX9_next 52 = .ok (.return_, 1) := dk_177 (dk_at dksX9_next_2 5 rfl rfl)
theorem dX9_next_53 : decode cX9_next 53 = .ok (.aload_n 0, 1) := dk_42 (dk_at dksX9_next_2 6 rfl rfl)
theorem dX9_next_54 : decode cX9_next 54 = .ok (.dup, 1) := dk_89 (dk_at dksX9_next_2 7 rfl rfl)
theorem dX9_next_55 : decode cX9_next 55 = .ok (.getfield 95, 3) := dk_180 0 95 (dk_at dksX9_next_2 8 rfl rfl)
theorem dX9_next_58 : decode cX9_next 58 = .ok (.iconst 1, 1) := dk_4 (dk_at dksX9_next_2 11 rfl rfl)
theorem dX9_next_59 : decode cX9_next 59 = .ok (.iadd, 1) := dk_96 (dk_at dksX9_next_2 12 rfl rfl)
theorem dX9_next_60 : decode cX9_next 60 = .ok (.putfield 95, 3) := dk_181 0 95 (dk_at dksX9_next_2 13 rfl rfl)
theorem dX9_next_63 : decode cX9_next 63 = .ok (.aload_n 0, 1) := dk_42 (dk_at dksX9_next_2 16 rfl rfl)
theorem dX9_next_64 : decode cX9_next 64 = .ok (.iload_n 1, 1) := dk_27 (dk_at dksX9_next_2 17 rfl rfl)
theorem dX9_next_65 : decode cX9_next 65 = .ok (.putfield 108, 3) := dk_181 0 108 (dk_at dksX9_next_2 18 rfl rfl)
theorem dX9_next_68 : decode cX9_next 68 = .ok (.aload_n 0, 1) := dk_42 (dk_at dksX9_next_2 21 rfl rfl)
theorem dX9_next_69 : decode cX9_next 69 = .ok (.iload_n 1, 1) := dk_27 (dk_at dksX9_next_2 22 rfl rfl)
theorem dX9_next_70 : decode cX9_next 70 = .ok (.bipush 113, 2) := dk_16 113 (dk_at dksX9_next_3 0 rfl rfl)
theorem dX9_next_72 : decode cX9_next 72 = .ok (.if_icmp .eq 27, 3) := dk_159 0 27 (dk_at dksX9_next_3 2 rfl rfl)
theorem dX9_next_75 : decode cX9_next 75 = .ok (.iload_n 1, 1) := dk_27 (dk_at dksX9_next_3 5 rfl rfl)
theorem dX9_next_76 : decode cX9_next 76 = .ok (.bipush 114, 2) := dk_16 114 (dk_at dksX9_next_3 6 rfl rfl)
theorem dX9_next_78 : decode cX9_next 78 = .ok (.if_icmp .eq 21, 3) := dk_159 0 21 (dk_at dksX9_next_3 8 rfl rfl)
theorem dX9_next_81 : decode cX9_next 81 = .ok (.iload_n 1, 1) := dk_27 (dk_at dksX9_next_3 11 rfl rfl)
theorem dX9_next_82 : decode cX9_next 82 = .ok (.bipush 98, 2) := dk_16 98 (dk_at dksX9_next_3 12 rfl rfl)
theorem dX9_next_84 : decode cX9_next 84 = .ok (.if_icmp .eq 15, 3) := dk_159 0 15 (dk_at dksX9_next_3 14 rfl rfl)
theorem dX9_next_87 : decode cX9_next 87 = .ok (.iload_n 1, 1) := dk_27 (dk_at dksX9_next_3 17 rfl rfl)
theorem dX9_next_88 : decode cX9_next 88 = .ok (.bipush 116, 2) := dk_16 116 (dk_at dksX9_next_3 18 rfl rfl)
theorem dX9_next_90 : decode cX9_next 90 = .ok (.if_icmp .eq 9, 3) := dk_159 0 9 (dk_at dksX9_next_3 20 rfl rfl)
theorem dX9_next_93 : decode cX9_next 93 = .ok (.iload_n 1, 1) := dk_27 (dk_at dksX9_next_3 23 rfl rfl)
theorem dX9_next_94 : decode cX9_next 94 = .ok (.bipush 107, 2) := dk_16 107 (dk_at dksX9_next_4 0 rfl rfl)
theorem dX9_next_96 : decode cX9_next 96 = .ok (.if_icmp .ne 7, 3) := dk_160 0 7 (dk_at dksX9_next_4 2 rfl rfl)
theorem dX9_next_99 : decode cX9_next 99 = .ok (.iconst 1, 1) := dk_4 (dk_at dksX9_next_4 5 rfl rfl)
theorem dX9_next_100 : decode cX9_next 100 = .ok (.goto 14, 3) := dk_167 0 14 (dk_at dksX9_next_4 6 rfl rfl)
theorem dX9_next_103 : decode cX9_next 103 = .ok (.iload_n 1, 1) := dk_27 (dk_at dksX9_next_4 9 rfl rfl)
theorem dX9_next_104 : decode cX9_next 104 = .ok (.bipush 59, 2) := dk_16 59 (dk_at dksX9_next_4 10 rfl rfl)
theorem dX9_next_106 : decode cX9_next 106 = .ok (.if_icmp .ne 7, 3) := dk_160 0 7 (dk_at dksX9_next_4 12 rfl rfl)
theorem dX9_next_109 : decode cX9_next 109 = .ok (.iconst 3, 1) := dk_6 (dk_at dksX9_next_4 15 rfl rfl)
theorem dX9_next_110 : decode cX9_next 110 = .ok (.goto 4, 3) := dk_167 0 4 (dk_at dksX9_next_4 16 rfl rfl)
theorem dX9_next_113 : decode cX9_next 113 = .ok (.iconst 4, 1) := dk_7 (dk_at dksX9_next_4 19 rfl rfl)
theorem dX9_next_114 : decode cX9_next 114 = .ok (.putfield 105, 3) := dk_181 0 105 (dk_at dksX9_next_4 20 rfl rfl)
theorem dX9_next_117 : decode cX9_next 117 = .ok (.iload_n 1, 1) := dk_27 (dk_at dksX9_next_4 23 rfl rfl)
theorem dX9_next_118 : decode cX9_next 118 = .ok (.bipush 48, 2) := dk_16 48 (dk_at dksX9_next_5 0 rfl rfl)
theorem dX9_next_120 : decode cX9_next 120 = .ok (.bipush 57, 2) := dk_16 57 (dk_at dksX9_next_5 2 rfl rfl)
theorem dX9_next_122 : decode cX9_next 122 = .ok (.invokestatic 85, 3) := dk_184 0 85 (dk_at dksX9_next_5 4 rfl rfl)
theorem dX9_next_125 : decode cX9_next 125 = .ok (.ifCond .eq 146, 3) := dk_153 0 146 (dk_at dksX9_next_5 7 rfl rfl)
theorem dX9_next_128 : decode cX9_next 128 = .ok (.aload_n 0, 1) := dk_42 (dk_at dksX9_next_5 10 rfl rfl)
theorem dX9_next_129 : decode cX9_next 129 = .ok (.iload_n 1, 1) := dk_27 (dk_at dksX9_next_5 11 rfl rfl)
theorem dX9_next_130 : decode cX9_next 130 = .ok (.bipush 48, 2) := dk_16 48 (dk_at dksX9_next_5 12 rfl rfl)
theorem dX9_next_132 : decode cX9_next 132 = .ok (.isub, 1) := dk_100 (dk_at dksX9_next_5 14 rfl rfl)
theorem dX9_next_133 : decode cX9_next 133 = .ok (.putfield 108, 3) := dk_181 0 108 (dk_at dksX9_next_5 15 rfl rfl)
theorem dX9_next_136 : decode cX9_next 136 = .ok (.aload_n 0, 1) := dk_42 (dk_at dksX9_next_5 18 rfl rfl)
theorem dX9_next_137 : decode cX9_next 137 = .ok (.aload_n 0, 1) := dk_42 (dk_at dksX9_next_5 19 rfl rfl)
theorem dX9_next_138 : decode cX9_next 138 = .ok (.getfield 95, 3) := dk_180 0 95 (dk_at dksX9_next_5 20 rfl rfl)
theorem dX9_next_141 : decode cX9_next 141 = .ok (.invokevirtual 98, 3) := dk_182 0 98 (dk_at dksX9_next_6 0 rfl rfl)
theorem dX9_next_144 : decode cX9_next 144 = .ok (.bipush 48, 2) := dk_16 48 (dk_at dksX9_next_6 3 rfl rfl)
theorem dX9_next_146 : decode cX9_next 146 = .ok (.bipush 57, 2) := dk_16 57 (dk_at dksX9_next_6 5 rfl rfl)
theorem dX9_next_148 : decode cX9_next 148 = .ok (.invokestatic 85, 3) := dk_184 0 85 (dk_at dksX9_next_6 7 rfl rfl)
theorem dX9_next_151 : decode cX9_next 151 = .ok (.ifCond .eq 59, 3) := dk_153 0 59 (dk_at dksX9_next_6 10 rfl rfl)
theorem dX9_next_154 : decode cX9_next 154 = .ok (.aload_n 0, 1) := dk_42 (dk_at dksX9_next_6 13 rfl rfl)
theorem dX9_next_155 : decode cX9_next 155 = .ok (.aload_n 0, 1) := dk_42 (dk_at dksX9_next_6 14 rfl rfl)
theorem dX9_next_156 : decode cX9_next 156 = .ok (.getfield 95, 3) := dk_180 0 95 (dk_at dksX9_next_6 15 rfl rfl)
theorem dX9_next_159 : decode cX9_next 159 = .ok (.aload_n 0, 1) := dk_42 (dk_at dksX9_next_6 18 rfl rfl)
theorem dX9_next_160 : decode cX9_next 160 = .ok (.getfield 102, 3) := dk_180 0 102 (dk_at dksX9_next_6 19 rfl rfl)
theorem dX9_next_163 : decode cX9_next 163 = .ok (.isub, 1) := dk_100 (dk_at dksX9_next_6 22 rfl rfl)
theorem dX9_next_164 : decode cX9_next 164 = .ok (.iconst 4, 1) := dk_7 (dk_at dksX9_next_6 23 rfl rfl)
theorem dX9_next_165 : decode cX9_next 165 = .ok (.if_icmp .ge 25, 3) := dk_162 0 25 (dk_at dksX9_next_7 0 rfl rfl)
theorem dX9_next_168 : decode cX9_next 168 = .ok (.bipush 10, 2) := dk_16 10 (dk_at dksX9_next_7 3 rfl rfl)
theorem dX9_next_170 : decode cX9_next 170 = .ok (.aload_n 0, 1) := dk_42 (dk_at dksX9_next_7 5 rfl rfl)
theorem dX9_next_171 : decode cX9_next 171 = .ok (.getfield 108, 3) := dk_180 0 108 (dk_at dksX9_next_7 6 rfl rfl)
theorem dX9_next_174 : decode cX9_next 174 = .ok (.imul, 1) := dk_104 (dk_at dksX9_next_7 9 rfl rfl)
theorem dX9_next_175 : decode cX9_next 175 = .ok (.aload_n 0, 1) := dk_42 (dk_at dksX9_next_7 10 rfl rfl)
theorem dX9_next_176 : decode cX9_next 176 = .ok (.aload_n 0, 1) := dk_42 (dk_at dksX9_next_7 11 rfl rfl)
theorem dX9_next_177 : decode cX9_next 177 = .ok (.getfield 95, 3) := dk_180 0 95 (dk_at dksX9_next_7 12 rfl rfl)
theorem dX9_next_180 : decode cX9_next 180 = .ok (.invokevirtual 98, 3) := dk_182 0 98 (dk_at dksX9_next_7 15 rfl rfl)
theorem dX9_next_183 : decode cX9_next 183 = .ok (.iadd, 1) := dk_96 (dk_at dksX9_next_7 18 rfl rfl)
theorem dX9_next_184 : decode cX9_next 184 = .ok (.bipush 48, 2) := dk_16 48 (dk_at dksX9_next_7 19 rfl rfl)
theorem dX9_next_186 : decode cX9_next 186 = .ok (.isub, 1) := dk_100 (dk_at dksX9_next_7 21 rfl rfl)
theorem dX9_next_187 : decode cX9_next 187 = .ok (.goto 7, 3) := dk_167 0 7 (dk_at dksX9_next_8 0 rfl rfl)
theorem dX9_next_190 : decode cX9_next 190 = .ok (.aload_n 0, 1) := dk_42 (dk_at dksX9_next_8 3 rfl rfl)
theorem dX9_next_191 : decode cX9_next 191 = .ok (.getfield 108, 3) := dk_180 0 108 (dk_at dksX9_next_8 4 rfl rfl)
theorem dX9_next_194 : decode cX9_next 194 = .ok (.putfield 108, 3) := dk_181 0 108 (dk_at dksX9_next_8 7 rfl rfl)
theorem dX9_next_197 : decode cX9_next 197 = .ok (.aload_n 0, 1) := dk_42 (dk_at dksX9_next_8 10 rfl rfl)
theorem dX9_next_198 : decode cX9_next 198 = .ok (.dup, 1) := dk_89 (dk_at dksX9_next_8 11 rfl rfl)
theorem dX9_next_199 : decode cX9_next 199 = .ok (.getfield 95, 3) := dk_180 0 95 (dk_at dksX9_next_8 12 rfl rfl)
theorem dX9_next_202 : decode cX9_next 202 = .ok (.iconst 1, 1) := dk_4 (dk_at dksX9_next_8 15 rfl rfl)
theorem dX9_next_203 : decode cX9_next 203 = .ok (.iadd, 1) := dk_96 (dk_at dksX9_next_8 16 rfl rfl)
theorem dX9_next_204 : decode cX9_next 204 = .ok (.putfield 95, 3) := dk_181 0 95 (dk_at dksX9_next_8 17 rfl rfl)
theorem dX9_next_207 : decode cX9_next 207 = .ok (.goto (-71), 3) := dk_167 255 185 (dk_at dksX9_next_8 20 rfl rfl)
theorem dX9_next_210 : decode cX9_next 210 = .ok (.aload_n 0, 1) := dk_42 (dk_at dksX9_next_8 23 rfl rfl)
theorem dX9_next_211 : decode cX9_next 211 = .ok (.getfield 95, 3) := dk_180 0 95 (dk_at dksX9_next_9 0 rfl rfl)
theorem dX9_next_214 : decode cX9_next 214 = .ok (.aload_n 0, 1) := dk_42 (dk_at dksX9_next_9 3 rfl rfl)
theorem dX9_next_215 : decode cX9_next 215 = .ok (.getfield 102, 3) := dk_180 0 102 (dk_at dksX9_next_9 4 rfl rfl)
theorem dX9_next_218 : decode cX9_next 218 = .ok (.isub, 1) := dk_100 (dk_at dksX9_next_9 7 rfl rfl)
theorem dX9_next_219 : decode cX9_next 219 = .ok (.iconst 5, 1) := dk_8 (dk_at dksX9_next_9 8 rfl rfl)
theorem dX9_next_220 : decode cX9_next 220 = .ok (.if_icmp .ge 36, 3) := dk_162 0 36 (dk_at dksX9_next_9 9 rfl rfl)
theorem dX9_next_223 : decode cX9_next 223 = .ok (.aload_n 0, 1) := dk_42 (dk_at dksX9_next_9 12 rfl rfl)
theorem dX9_next_224 : decode cX9_next 224 = .ok (.getfield 108, 3) := dk_180 0 108 (dk_at dksX9_next_9 13 rfl rfl)
theorem dX9_next_227 : decode cX9_next 227 = .ok (.sipush 1024, 3) := dk_17 4 0 (dk_at dksX9_next_9 16 rfl rfl)
theorem dX9_next_230 : decode cX9_next 230 = .ok (.if_icmp .ge 26, 3) := dk_162 0 26 (dk_at dksX9_next_9 19 rfl rfl)
theorem dX9_next_233 : decode cX9_next 233 = .ok (.iload_n 1, 1) := dk_27 (dk_at dksX9_next_9 22 rfl rfl)
theorem dX9_next_234 : decode cX9_next 234 = .ok (.bipush 48, 2) := dk_16 48 (dk_at dksX9_next_10 0 rfl rfl)
theorem dX9_next_236 : decode cX9_next 236 = .ok (.if_icmp .ne 16, 3) := dk_160 0 16 (dk_at dksX9_next_10 2 rfl rfl)
theorem dX9_next_239 : decode cX9_next 239 = .ok (.aload_n 0, 1) := dk_42 (dk_at dksX9_next_10 5 rfl rfl)
theorem dX9_next_240 : decode cX9_next 240 = .ok (.getfield 95, 3) := dk_180 0 95 (dk_at dksX9_next_10 6 rfl rfl)
theorem dX9_next_243 : decode cX9_next 243 = .ok (.aload_n 0, 1) := dk_42 (dk_at dksX9_next_10 9 rfl rfl)
theorem dX9_next_244 : decode cX9_next 244 = .ok (.getfield 102, 3) := dk_180 0 102 (dk_at dksX9_next_10 10 rfl rfl)
theorem dX9_next_247 : decode cX9_next 247 = .ok (.isub, 1) := dk_100 (dk_at dksX9_next_10 13 rfl rfl)
theorem dX9_next_248 : decode cX9_next 248 = .ok (.iconst 1, 1) := dk_4 (dk_at dksX9_next_10 14 rfl rfl)
theorem dX9_next_249 : decode cX9_next 249 = .ok (.if_icmp .ne 7, 3) := dk_160 0 7 (dk_at dksX9_next_10 15 rfl rfl)
theorem dX9_next_252 : decode cX9_next 252 = .ok (.iconst 1, 1) := dk_4 (dk_at dksX9_next_10 18 rfl rfl)
theorem dX9_next_253 : decode cX9_next 253 = .ok (.goto 4, 3) := dk_167 0 4 (dk_at dksX9_next_10 19 rfl rfl)
theorem dX9_next_256 : decode cX9_next 256 = .ok (.iconst 0, 1) := dk_3 (dk_at dksX9_next_10 22 rfl rfl)
theorem dX9_next_257 : decode cX9_next 257 = .ok (.istore_n 2, 1) := dk_61 (dk_at dksX9_next_10 23 rfl rfl)
theorem dX9_next_258 : decode cX9_next 258 = .ok (.aload_n 0, 1) := dk_42 (dk_at dksX9_next_11 0 rfl rfl)
theorem dX9_next_259 : decode cX9_next 259 = .ok (.iload_n 2, 1) := dk_28 (dk_at dksX9_next_11 1 rfl rfl)
theorem dX9_next_260 : decode cX9_next 260 = .ok (.ifCond .eq 7, 3) := dk_153 0 7 (dk_at dksX9_next_11 2 rfl rfl)
theorem dX9_next_263 : decode cX9_next 263 = .ok (.iconst 2, 1) := dk_5 (dk_at dksX9_next_11 5 rfl rfl)
theorem dX9_next_264 : decode cX9_next 264 = .ok (.goto 4, 3) := dk_167 0 4 (dk_at dksX9_next_11 6 rfl rfl)
theorem dX9_next_267 : decode cX9_next 267 = .ok (.iconst 4, 1) := dk_7 (dk_at dksX9_next_11 9 rfl rfl)
theorem dX9_next_268 : decode cX9_next 268 = .ok (.putfield 105, 3) := dk_181 0 105 (dk_at dksX9_next_11 10 rfl rfl)
theorem dX9_next_271 : decode cX9_next 271 = .ok (.return_, 1) := dk_177 (dk_at dksX9_next_11 13 rfl rfl)
abbrev cX9_letterAt : ByteArray := prog_13_method_11_code
def yX9_letterAt : MethodName := ⟨RX9, "letterAt", "(I)I"⟩
def dkwX9_letterAt_0 : List UInt8 := [27, 42, 180, 0, 92, 162, 0, 12, 42, 180, 0, 45, 27, 46, 167, 0, 4, 2, 172]
abbrev dktX9_letterAt_0 : List UInt8 := dkwX9_letterAt_0 ++ []
theorem dksX9_letterAt_0 : cX9_letterAt.data.toList.drop 0 = dktX9_letterAt_0 := by decide +kernel
theorem dX9_letterAt_0 : decode cX9_letterAt 0 = .ok (.iload_n 1, 1) := dk_27 (dk_at dksX9_letterAt_0 0 rfl rfl)
theorem dX9_letterAt_1 : decode cX9_letterAt 1 = .ok (.aload_n 0, 1) := dk_42 (dk_at dksX9_letterAt_0 1 rfl rfl)
theorem dX9_letterAt_2 : decode cX9_letterAt 2 = .ok (.getfield 92, 3) := dk_180 0 92 (dk_at dksX9_letterAt_0 2 rfl rfl)
theorem dX9_letterAt_5 : decode cX9_letterAt 5 = .ok (.if_icmp .ge 12, 3) := dk_162 0 12 (dk_at dksX9_letterAt_0 5 rfl rfl)
theorem dX9_letterAt_8 : decode cX9_letterAt 8 = .ok (.aload_n 0, 1) := dk_42 (dk_at dksX9_letterAt_0 8 rfl rfl)
theorem dX9_letterAt_9 : decode cX9_letterAt 9 = .ok (.getfield 45, 3) := dk_180 0 45 (dk_at dksX9_letterAt_0 9 rfl rfl)
theorem dX9_letterAt_12 : decode cX9_letterAt 12 = .ok (.iload_n 1, 1) := dk_27 (dk_at dksX9_letterAt_0 12 rfl rfl)
theorem dX9_letterAt_13 : decode cX9_letterAt 13 = .ok (.iaload, 1) := dk_46 (dk_at dksX9_letterAt_0 13 rfl rfl)
theorem dX9_letterAt_14 : decode cX9_letterAt 14 = .ok (.goto 4, 3) := dk_167 0 4 (dk_at dksX9_letterAt_0 14 rfl rfl)
theorem dX9_letterAt_17 : decode cX9_letterAt 17 = .ok (.iconst (-1), 1) := dk_2 (dk_at dksX9_letterAt_0 17 rfl rfl)
theorem dX9_letterAt_18 : decode cX9_letterAt 18 = .ok (.ireturn, 1) := dk_172 (dk_at dksX9_letterAt_0 18 rfl rfl)
abbrev cX9_readItem : ByteArray := prog_13_method_18_code
def yX9_readItem : MethodName := ⟨RX9, "readItem", "()V"⟩
def dkwX9_readItem_4 : List UInt8 := [177]
abbrev dktX9_readItem_4 : List UInt8 := dkwX9_readItem_4 ++ []
def dkwX9_readItem_3 : List UInt8 := [182, 0, 143, 167, 0, 21, 27, 16, 107, 160, 0, 10, 42, 182, 0, 146, 167, 0, 8, 42, 4, 181, 0, 111]
abbrev dktX9_readItem_3 : List UInt8 := dkwX9_readItem_3 ++ dktX9_readItem_4
def dkwX9_readItem_2 : List UInt8 := [27, 16, 98, 160, 0, 13, 42, 5, 16, 9, 182, 0, 139, 167, 0, 34, 27, 16, 116, 160, 0, 10, 42]
abbrev dktX9_readItem_2 : List UInt8 := dkwX9_readItem_2 ++ dktX9_readItem_3
def dkwX9_readItem_1 : List UInt8 := [3, 16, 40, 182, 0, 139, 167, 0, 65, 27, 16, 114, 160, 0, 12, 42, 4, 6, 182, 0, 139, 167, 0, 50]
abbrev dktX9_readItem_1 : List UInt8 := dkwX9_readItem_1 ++ dktX9_readItem_2
def dkwX9_readItem_0 : List UInt8 := [42, 180, 0, 105, 4, 160, 0, 10, 42, 180, 0, 108, 167, 0, 4, 3, 60, 27, 16, 113, 160, 0, 13, 42]
abbrev dktX9_readItem_0 : List UInt8 := dkwX9_readItem_0 ++ dktX9_readItem_1
theorem dksX9_readItem_0 : cX9_readItem.data.toList.drop 0 = dktX9_readItem_0 := by decide +kernel
theorem dksX9_readItem_1 : cX9_readItem.data.toList.drop 24 = dktX9_readItem_1 := dk_seg dksX9_readItem_0 24 rfl rfl
theorem dksX9_readItem_2 : cX9_readItem.data.toList.drop 48 = dktX9_readItem_2 := dk_seg dksX9_readItem_1 24 rfl rfl
theorem dksX9_readItem_3 : cX9_readItem.data.toList.drop 71 = dktX9_readItem_3 := dk_seg dksX9_readItem_2 23 rfl rfl
theorem dksX9_readItem_4 : cX9_readItem.data.toList.drop 95 = dktX9_readItem_4 := dk_seg dksX9_readItem_3 24 rfl rfl
theorem dX9_readItem_0 : decode cX9_readItem 0 = .ok (.aload_n 0, 1) := dk_42 (dk_at dksX9_readItem_0 0 rfl rfl)
theorem dX9_readItem_1 : decode cX9_readItem 1 = .ok (.getfield 105, 3) := dk_180 0 105 (dk_at dksX9_readItem_0 1 rfl rfl)
theorem dX9_readItem_4 : decode cX9_readItem 4 = .ok (.iconst 1, 1) := dk_4 (dk_at dksX9_readItem_0 4 rfl rfl)
theorem dX9_readItem_5 : decode cX9_readItem 5 = .ok (.if_icmp .ne 10, 3) := dk_160 0 10 (dk_at dksX9_readItem_0 5 rfl rfl)
theorem dX9_readItem_8 : decode cX9_readItem 8 = .ok (.aload_n 0, 1) := dk_42 (dk_at dksX9_readItem_0 8 rfl rfl)
theorem dX9_readItem_9 : decode cX9_readItem 9 = .ok (.getfield 108, 3) := dk_180 0 108 (dk_at dksX9_readItem_0 9 rfl rfl)
theorem dX9_readItem_12 : decode cX9_readItem 12 = .ok (.goto 4, 3) := dk_167 0 4 (dk_at dksX9_readItem_0 12 rfl rfl)
theorem dX9_readItem_15 : decode cX9_readItem 15 = .ok (.iconst 0, 1) := dk_3 (dk_at dksX9_readItem_0 15 rfl rfl)
theorem dX9_readItem_16 : decode cX9_readItem 16 = .ok (.istore_n 1, 1) := dk_60 (dk_at dksX9_readItem_0 16 rfl rfl)
theorem dX9_readItem_17 : decode cX9_readItem 17 = .ok (.iload_n 1, 1) := dk_27 (dk_at dksX9_readItem_0 17 rfl rfl)
theorem dX9_readItem_18 : decode cX9_readItem 18 = .ok (.bipush 113, 2) := dk_16 113 (dk_at dksX9_readItem_0 18 rfl rfl)
theorem dX9_readItem_20 : decode cX9_readItem 20 = .ok (.if_icmp .ne 13, 3) := dk_160 0 13 (dk_at dksX9_readItem_0 20 rfl rfl)
theorem dX9_readItem_23 : decode cX9_readItem 23 = .ok (.aload_n 0, 1) := dk_42 (dk_at dksX9_readItem_0 23 rfl rfl)
theorem dX9_readItem_24 : decode cX9_readItem 24 = .ok (.iconst 0, 1) := dk_3 (dk_at dksX9_readItem_1 0 rfl rfl)
theorem dX9_readItem_25 : decode cX9_readItem 25 = .ok (.bipush 40, 2) := dk_16 40 (dk_at dksX9_readItem_1 1 rfl rfl)
theorem dX9_readItem_27 : decode cX9_readItem 27 = .ok (.invokevirtual 139, 3) := dk_182 0 139 (dk_at dksX9_readItem_1 3 rfl rfl)
theorem dX9_readItem_30 : decode cX9_readItem 30 = .ok (.goto 65, 3) := dk_167 0 65 (dk_at dksX9_readItem_1 6 rfl rfl)
theorem dX9_readItem_33 : decode cX9_readItem 33 = .ok (.iload_n 1, 1) := dk_27 (dk_at dksX9_readItem_1 9 rfl rfl)
theorem dX9_readItem_34 : decode cX9_readItem 34 = .ok (.bipush 114, 2) := dk_16 114 (dk_at dksX9_readItem_1 10 rfl rfl)
theorem dX9_readItem_36 : decode cX9_readItem 36 = .ok (.if_icmp .ne 12, 3) := dk_160 0 12 (dk_at dksX9_readItem_1 12 rfl rfl)
theorem dX9_readItem_39 : decode cX9_readItem 39 = .ok (.aload_n 0, 1) := dk_42 (dk_at dksX9_readItem_1 15 rfl rfl)
theorem dX9_readItem_40 : decode cX9_readItem 40 = .ok (.iconst 1, 1) := dk_4 (dk_at dksX9_readItem_1 16 rfl rfl)
theorem dX9_readItem_41 : decode cX9_readItem 41 = .ok (.iconst 3, 1) := dk_6 (dk_at dksX9_readItem_1 17 rfl rfl)
theorem dX9_readItem_42 : decode cX9_readItem 42 = .ok (.invokevirtual 139, 3) := dk_182 0 139 (dk_at dksX9_readItem_1 18 rfl rfl)
theorem dX9_readItem_45 : decode cX9_readItem 45 = .ok (.goto 50, 3) := dk_167 0 50 (dk_at dksX9_readItem_1 21 rfl rfl)
theorem dX9_readItem_48 : decode cX9_readItem 48 = .ok (.iload_n 1, 1) := dk_27 (dk_at dksX9_readItem_2 0 rfl rfl)
theorem dX9_readItem_49 : decode cX9_readItem 49 = .ok (.bipush 98, 2) := dk_16 98 (dk_at dksX9_readItem_2 1 rfl rfl)
theorem dX9_readItem_51 : decode cX9_readItem 51 = .ok (.if_icmp .ne 13, 3) := dk_160 0 13 (dk_at dksX9_readItem_2 3 rfl rfl)
theorem dX9_readItem_54 : decode cX9_readItem 54 = .ok (.aload_n 0, 1) := dk_42 (dk_at dksX9_readItem_2 6 rfl rfl)
theorem dX9_readItem_55 : decode cX9_readItem 55 = .ok (.iconst 2, 1) := dk_5 (dk_at dksX9_readItem_2 7 rfl rfl)
theorem dX9_readItem_56 : decode cX9_readItem 56 = .ok (.bipush 9, 2) := dk_16 9 (dk_at dksX9_readItem_2 8 rfl rfl)
theorem dX9_readItem_58 : decode cX9_readItem 58 = .ok (.invokevirtual 139, 3) := dk_182 0 139 (dk_at dksX9_readItem_2 10 rfl rfl)
theorem dX9_readItem_61 : decode cX9_readItem 61 = .ok (.goto 34, 3) := dk_167 0 34 (dk_at dksX9_readItem_2 13 rfl rfl)
theorem dX9_readItem_64 : decode cX9_readItem 64 = .ok (.iload_n 1, 1) := dk_27 (dk_at dksX9_readItem_2 16 rfl rfl)
theorem dX9_readItem_65 : decode cX9_readItem 65 = .ok (.bipush 116, 2) := dk_16 116 (dk_at dksX9_readItem_2 17 rfl rfl)
theorem dX9_readItem_67 : decode cX9_readItem 67 = .ok (.if_icmp .ne 10, 3) := dk_160 0 10 (dk_at dksX9_readItem_2 19 rfl rfl)
theorem dX9_readItem_70 : decode cX9_readItem 70 = .ok (.aload_n 0, 1) := dk_42 (dk_at dksX9_readItem_2 22 rfl rfl)
theorem dX9_readItem_71 : decode cX9_readItem 71 = .ok (.invokevirtual 143, 3) := dk_182 0 143 (dk_at dksX9_readItem_3 0 rfl rfl)
theorem dX9_readItem_74 : decode cX9_readItem 74 = .ok (.goto 21, 3) := dk_167 0 21 (dk_at dksX9_readItem_3 3 rfl rfl)
theorem dX9_readItem_77 : decode cX9_readItem 77 = .ok (.iload_n 1, 1) := dk_27 (dk_at dksX9_readItem_3 6 rfl rfl)
theorem dX9_readItem_78 : decode cX9_readItem 78 = .ok (.bipush 107, 2) := dk_16 107 (dk_at dksX9_readItem_3 7 rfl rfl)
theorem dX9_readItem_80 : decode cX9_readItem 80 = .ok (.if_icmp .ne 10, 3) := dk_160 0 10 (dk_at dksX9_readItem_3 9 rfl rfl)
theorem dX9_readItem_83 : decode cX9_readItem 83 = .ok (.aload_n 0, 1) := dk_42 (dk_at dksX9_readItem_3 12 rfl rfl)
theorem dX9_readItem_84 : decode cX9_readItem 84 = .ok (.invokevirtual 146, 3) := dk_182 0 146 (dk_at dksX9_readItem_3 13 rfl rfl)
theorem dX9_readItem_87 : decode cX9_readItem 87 = .ok (.goto 8, 3) := dk_167 0 8 (dk_at dksX9_readItem_3 16 rfl rfl)
theorem dX9_readItem_90 : decode cX9_readItem 90 = .ok (.aload_n 0, 1) := dk_42 (dk_at dksX9_readItem_3 19 rfl rfl)
theorem dX9_readItem_91 : decode cX9_readItem 91 = .ok (.iconst 1, 1) := dk_4 (dk_at dksX9_readItem_3 20 rfl rfl)
theorem dX9_readItem_92 : decode cX9_readItem 92 = .ok (.putfield 111, 3) := dk_181 0 111 (dk_at dksX9_readItem_3 21 rfl rfl)
theorem dX9_readItem_95 : decode cX9_readItem 95 = .ok (.return_, 1) := dk_177 (dk_at dksX9_readItem_4 0 rfl rfl)
abbrev cX9_readOne : ByteArray := prog_13_method_15_code
def yX9_readOne : MethodName := ⟨RX9, "readOne", "(II)V"⟩
def dkwX9_readOne_2 : List UInt8 := [160, 0, 7, 4, 167, 0, 4, 3, 182, 0, 118, 42, 89, 180, 0, 122, 4, 27, 120, 128, 181, 0, 122, 177]
abbrev dktX9_readOne_2 : List UInt8 := dkwX9_readOne_2 ++ []
def dkwX9_readOne_1 : List UInt8 := [153, 0, 4, 177, 42, 42, 180, 0, 54, 27, 4, 28, 182, 0, 129, 87, 42, 42, 180, 0, 105, 6]
abbrev dktX9_readOne_1 : List UInt8 := dkwX9_readOne_1 ++ dktX9_readOne_2
def dkwX9_readOne_0 : List UInt8 := [42, 42, 180, 0, 122, 27, 184, 0, 125, 154, 0, 7, 4, 167, 0, 4, 3, 182, 0, 118, 42, 180, 0, 111]
abbrev dktX9_readOne_0 : List UInt8 := dkwX9_readOne_0 ++ dktX9_readOne_1
theorem dksX9_readOne_0 : cX9_readOne.data.toList.drop 0 = dktX9_readOne_0 := by decide +kernel
theorem dksX9_readOne_1 : cX9_readOne.data.toList.drop 24 = dktX9_readOne_1 := dk_seg dksX9_readOne_0 24 rfl rfl
theorem dksX9_readOne_2 : cX9_readOne.data.toList.drop 46 = dktX9_readOne_2 := dk_seg dksX9_readOne_1 22 rfl rfl
theorem dX9_readOne_0 : decode cX9_readOne 0 = .ok (.aload_n 0, 1) := dk_42 (dk_at dksX9_readOne_0 0 rfl rfl)
theorem dX9_readOne_1 : decode cX9_readOne 1 = .ok (.aload_n 0, 1) := dk_42 (dk_at dksX9_readOne_0 1 rfl rfl)
theorem dX9_readOne_2 : decode cX9_readOne 2 = .ok (.getfield 122, 3) := dk_180 0 122 (dk_at dksX9_readOne_0 2 rfl rfl)
theorem dX9_readOne_5 : decode cX9_readOne 5 = .ok (.iload_n 1, 1) := dk_27 (dk_at dksX9_readOne_0 5 rfl rfl)
theorem dX9_readOne_6 : decode cX9_readOne 6 = .ok (.invokestatic 125, 3) := dk_184 0 125 (dk_at dksX9_readOne_0 6 rfl rfl)
theorem dX9_readOne_9 : decode cX9_readOne 9 = .ok (.ifCond .ne 7, 3) := dk_154 0 7 (dk_at dksX9_readOne_0 9 rfl rfl)
theorem dX9_readOne_12 : decode cX9_readOne 12 = .ok (.iconst 1, 1) := dk_4 (dk_at dksX9_readOne_0 12 rfl rfl)
theorem dX9_readOne_13 : decode cX9_readOne 13 = .ok (.goto 4, 3) := dk_167 0 4 (dk_at dksX9_readOne_0 13 rfl rfl)
theorem dX9_readOne_16 : decode cX9_readOne 16 = .ok (.iconst 0, 1) := dk_3 (dk_at dksX9_readOne_0 16 rfl rfl)
theorem dX9_readOne_17 : decode cX9_readOne 17 = .ok (.invokevirtual 118, 3) := dk_182 0 118 (dk_at dksX9_readOne_0 17 rfl rfl)
theorem dX9_readOne_20 : decode cX9_readOne 20 = .ok (.aload_n 0, 1) := dk_42 (dk_at dksX9_readOne_0 20 rfl rfl)
theorem dX9_readOne_21 : decode cX9_readOne 21 = .ok (.getfield 111, 3) := dk_180 0 111 (dk_at dksX9_readOne_0 21 rfl rfl)
theorem dX9_readOne_24 : decode cX9_readOne 24 = .ok (.ifCond .eq 4, 3) := dk_153 0 4 (dk_at dksX9_readOne_1 0 rfl rfl)
theorem dX9_readOne_27 : decode cX9_readOne 27 = .ok (.return_, 1) := dk_177 (dk_at dksX9_readOne_1 3 rfl rfl)
theorem dX9_readOne_28 : decode cX9_readOne 28 = .ok (.aload_n 0, 1) := dk_42 (dk_at dksX9_readOne_1 4 rfl rfl)
theorem dX9_readOne_29 : decode cX9_readOne 29 = .ok (.aload_n 0, 1) := dk_42 (dk_at dksX9_readOne_1 5 rfl rfl)
theorem dX9_readOne_30 : decode cX9_readOne 30 = .ok (.getfield 54, 3) := dk_180 0 54 (dk_at dksX9_readOne_1 6 rfl rfl)
theorem dX9_readOne_33 : decode cX9_readOne 33 = .ok (.iload_n 1, 1) := dk_27 (dk_at dksX9_readOne_1 9 rfl rfl)
theorem dX9_readOne_34 : decode cX9_readOne 34 = .ok (.iconst 1, 1) := dk_4 (dk_at dksX9_readOne_1 10 rfl rfl)
theorem dX9_readOne_35 : decode cX9_readOne 35 = .ok (.iload_n 2, 1) := dk_28 (dk_at dksX9_readOne_1 11 rfl rfl)
theorem dX9_readOne_36 : decode cX9_readOne 36 = .ok (.invokevirtual 129, 3) := dk_182 0 129 (dk_at dksX9_readOne_1 12 rfl rfl)
theorem dX9_readOne_39 : decode cX9_readOne 39 = .ok (.pop, 1) := dk_87 (dk_at dksX9_readOne_1 15 rfl rfl)
theorem dX9_readOne_40 : decode cX9_readOne 40 = .ok (.aload_n 0, 1) := dk_42 (dk_at dksX9_readOne_1 16 rfl rfl)
theorem dX9_readOne_41 : decode cX9_readOne 41 = .ok (.aload_n 0, 1) := dk_42 (dk_at dksX9_readOne_1 17 rfl rfl)
theorem dX9_readOne_42 : decode cX9_readOne 42 = .ok (.getfield 105, 3) := dk_180 0 105 (dk_at dksX9_readOne_1 18 rfl rfl)
theorem dX9_readOne_45 : decode cX9_readOne 45 = .ok (.iconst 3, 1) := dk_6 (dk_at dksX9_readOne_1 21 rfl rfl)
theorem dX9_readOne_46 : decode cX9_readOne 46 = .ok (.if_icmp .ne 7, 3) := dk_160 0 7 (dk_at dksX9_readOne_2 0 rfl rfl)
theorem dX9_readOne_49 : decode cX9_readOne 49 = .ok (.iconst 1, 1) := dk_4 (dk_at dksX9_readOne_2 3 rfl rfl)
theorem dX9_readOne_50 : decode cX9_readOne 50 = .ok (.goto 4, 3) := dk_167 0 4 (dk_at dksX9_readOne_2 4 rfl rfl)
theorem dX9_readOne_53 : decode cX9_readOne 53 = .ok (.iconst 0, 1) := dk_3 (dk_at dksX9_readOne_2 7 rfl rfl)
theorem dX9_readOne_54 : decode cX9_readOne 54 = .ok (.invokevirtual 118, 3) := dk_182 0 118 (dk_at dksX9_readOne_2 8 rfl rfl)
theorem dX9_readOne_57 : decode cX9_readOne 57 = .ok (.aload_n 0, 1) := dk_42 (dk_at dksX9_readOne_2 11 rfl rfl)
theorem dX9_readOne_58 : decode cX9_readOne 58 = .ok (.dup, 1) := dk_89 (dk_at dksX9_readOne_2 12 rfl rfl)
theorem dX9_readOne_59 : decode cX9_readOne 59 = .ok (.getfield 122, 3) := dk_180 0 122 (dk_at dksX9_readOne_2 13 rfl rfl)
theorem dX9_readOne_62 : decode cX9_readOne 62 = .ok (.iconst 1, 1) := dk_4 (dk_at dksX9_readOne_2 16 rfl rfl)
theorem dX9_readOne_63 : decode cX9_readOne 63 = .ok (.iload_n 1, 1) := dk_27 (dk_at dksX9_readOne_2 17 rfl rfl)
theorem dX9_readOne_64 : decode cX9_readOne 64 = .ok (.ishl, 1) := dk_120 (dk_at dksX9_readOne_2 18 rfl rfl)
theorem dX9_readOne_65 : decode cX9_readOne 65 = .ok (.ior, 1) := dk_128 (dk_at dksX9_readOne_2 19 rfl rfl)
theorem dX9_readOne_66 : decode cX9_readOne 66 = .ok (.putfield 122, 3) := dk_181 0 122 (dk_at dksX9_readOne_2 20 rfl rfl)
theorem dX9_readOne_69 : decode cX9_readOne 69 = .ok (.return_, 1) := dk_177 (dk_at dksX9_readOne_2 23 rfl rfl)
abbrev cX9_has : ByteArray := prog_13_method_4_code
def yX9_has : MethodName := ⟨RX9, "has", "(II)Z"⟩
def dkwX9_has_0 : List UInt8 := [26, 27, 122, 4, 126, 4, 160, 0, 7, 4, 167, 0, 4, 3, 172]
abbrev dktX9_has_0 : List UInt8 := dkwX9_has_0 ++ []
theorem dksX9_has_0 : cX9_has.data.toList.drop 0 = dktX9_has_0 := by decide +kernel
theorem dX9_has_0 : decode cX9_has 0 = .ok (.iload_n 0, 1) := dk_26 (dk_at dksX9_has_0 0 rfl rfl)
theorem dX9_has_1 : decode cX9_has 1 = .ok (.iload_n 1, 1) := dk_27 (dk_at dksX9_has_0 1 rfl rfl)
theorem dX9_has_2 : decode cX9_has 2 = .ok (.ishr, 1) := dk_122 (dk_at dksX9_has_0 2 rfl rfl)
theorem dX9_has_3 : decode cX9_has 3 = .ok (.iconst 1, 1) := dk_4 (dk_at dksX9_has_0 3 rfl rfl)
theorem dX9_has_4 : decode cX9_has 4 = .ok (.iand, 1) := dk_126 (dk_at dksX9_has_0 4 rfl rfl)
theorem dX9_has_5 : decode cX9_has 5 = .ok (.iconst 1, 1) := dk_4 (dk_at dksX9_has_0 5 rfl rfl)
theorem dX9_has_6 : decode cX9_has 6 = .ok (.if_icmp .ne 7, 3) := dk_160 0 7 (dk_at dksX9_has_0 6 rfl rfl)
theorem dX9_has_9 : decode cX9_has 9 = .ok (.iconst 1, 1) := dk_4 (dk_at dksX9_has_0 9 rfl rfl)
theorem dX9_has_10 : decode cX9_has 10 = .ok (.goto 4, 3) := dk_167 0 4 (dk_at dksX9_has_0 10 rfl rfl)
theorem dX9_has_13 : decode cX9_has 13 = .ok (.iconst 0, 1) := dk_3 (dk_at dksX9_has_0 13 rfl rfl)
theorem dX9_has_14 : decode cX9_has 14 = .ok (.ireturn, 1) := dk_172 (dk_at dksX9_has_0 14 rfl rfl)
abbrev cX9_must : ByteArray := prog_13_method_13_code
def yX9_must : MethodName := ⟨RX9, "must", "(Z)V"⟩
def dkwX9_must_1 : List UInt8 := [154, 0, 7, 42, 182, 0, 115, 177]
abbrev dktX9_must_1 : List UInt8 := dkwX9_must_1 ++ []
def dkwX9_must_0 : List UInt8 := [42, 42, 180, 0, 111, 154, 0, 7, 27, 154, 0, 7, 4, 167, 0, 4, 3, 181, 0, 111, 42, 180, 0, 111]
abbrev dktX9_must_0 : List UInt8 := dkwX9_must_0 ++ dktX9_must_1
theorem dksX9_must_0 : cX9_must.data.toList.drop 0 = dktX9_must_0 := by decide +kernel
theorem dksX9_must_1 : cX9_must.data.toList.drop 24 = dktX9_must_1 := dk_seg dksX9_must_0 24 rfl rfl
theorem dX9_must_0 : decode cX9_must 0 = .ok (.aload_n 0, 1) := dk_42 (dk_at dksX9_must_0 0 rfl rfl)
theorem dX9_must_1 : decode cX9_must 1 = .ok (.aload_n 0, 1) := dk_42 (dk_at dksX9_must_0 1 rfl rfl)
theorem dX9_must_2 : decode cX9_must 2 = .ok (.getfield 111, 3) := dk_180 0 111 (dk_at dksX9_must_0 2 rfl rfl)
theorem dX9_must_5 : decode cX9_must 5 = .ok (.ifCond .ne 7, 3) := dk_154 0 7 (dk_at dksX9_must_0 5 rfl rfl)
theorem dX9_must_8 : decode cX9_must 8 = .ok (.iload_n 1, 1) := dk_27 (dk_at dksX9_must_0 8 rfl rfl)
theorem dX9_must_9 : decode cX9_must 9 = .ok (.ifCond .ne 7, 3) := dk_154 0 7 (dk_at dksX9_must_0 9 rfl rfl)
theorem dX9_must_12 : decode cX9_must 12 = .ok (.iconst 1, 1) := dk_4 (dk_at dksX9_must_0 12 rfl rfl)
theorem dX9_must_13 : decode cX9_must 13 = .ok (.goto 4, 3) := dk_167 0 4 (dk_at dksX9_must_0 13 rfl rfl)
theorem dX9_must_16 : decode cX9_must 16 = .ok (.iconst 0, 1) := dk_3 (dk_at dksX9_must_0 16 rfl rfl)
theorem dX9_must_17 : decode cX9_must 17 = .ok (.putfield 111, 3) := dk_181 0 111 (dk_at dksX9_must_0 17 rfl rfl)
theorem dX9_must_20 : decode cX9_must 20 = .ok (.aload_n 0, 1) := dk_42 (dk_at dksX9_must_0 20 rfl rfl)
theorem dX9_must_21 : decode cX9_must 21 = .ok (.getfield 111, 3) := dk_180 0 111 (dk_at dksX9_must_0 21 rfl rfl)
theorem dX9_must_24 : decode cX9_must 24 = .ok (.ifCond .ne 7, 3) := dk_154 0 7 (dk_at dksX9_must_1 0 rfl rfl)
theorem dX9_must_27 : decode cX9_must 27 = .ok (.aload_n 0, 1) := dk_42 (dk_at dksX9_must_1 3 rfl rfl)
theorem dX9_must_28 : decode cX9_must 28 = .ok (.invokevirtual 115, 3) := dk_182 0 115 (dk_at dksX9_must_1 4 rfl rfl)
theorem dX9_must_31 : decode cX9_must 31 = .ok (.return_, 1) := dk_177 (dk_at dksX9_must_1 7 rfl rfl)
abbrev cX9_readInto : ByteArray := prog_13_method_14_code
def yX9_readInto : MethodName := ⟨RX9, "readInto", "([IIII)I"⟩
def dkwX9_readInto_2 : List UInt8 := [21, 5, 172]
abbrev dktX9_readInto_2 : List UInt8 := dkwX9_readInto_2 ++ []
def dkwX9_readInto_1 : List UInt8 := [153, 0, 7, 4, 167, 0, 4, 3, 182, 0, 118, 42, 180, 0, 111, 154, 0, 8, 43, 28, 21, 5, 79]
abbrev dktX9_readInto_1 : List UInt8 := dkwX9_readInto_1 ++ dktX9_readInto_2
def dkwX9_readInto_0 : List UInt8 := [42, 180, 0, 108, 54, 5, 42, 42, 180, 0, 105, 5, 160, 0, 18, 21, 5, 29, 21, 4, 184, 0, 85]
abbrev dktX9_readInto_0 : List UInt8 := dkwX9_readInto_0 ++ dktX9_readInto_1
theorem dksX9_readInto_0 : cX9_readInto.data.toList.drop 0 = dktX9_readInto_0 := by decide +kernel
theorem dksX9_readInto_1 : cX9_readInto.data.toList.drop 23 = dktX9_readInto_1 := dk_seg dksX9_readInto_0 23 rfl rfl
theorem dksX9_readInto_2 : cX9_readInto.data.toList.drop 46 = dktX9_readInto_2 := dk_seg dksX9_readInto_1 23 rfl rfl
theorem dX9_readInto_0 : decode cX9_readInto 0 = .ok (.aload_n 0, 1) := dk_42 (dk_at dksX9_readInto_0 0 rfl rfl)
theorem dX9_readInto_1 : decode cX9_readInto 1 = .ok (.getfield 108, 3) := dk_180 0 108 (dk_at dksX9_readInto_0 1 rfl rfl)
theorem dX9_readInto_4 : decode cX9_readInto 4 = .ok (.istore 5, 2) := dk_54 5 (dk_at dksX9_readInto_0 4 rfl rfl)
theorem dX9_readInto_6 : decode cX9_readInto 6 = .ok (.aload_n 0, 1) := dk_42 (dk_at dksX9_readInto_0 6 rfl rfl)
theorem dX9_readInto_7 : decode cX9_readInto 7 = .ok (.aload_n 0, 1) := dk_42 (dk_at dksX9_readInto_0 7 rfl rfl)
theorem dX9_readInto_8 : decode cX9_readInto 8 = .ok (.getfield 105, 3) := dk_180 0 105 (dk_at dksX9_readInto_0 8 rfl rfl)
theorem dX9_readInto_11 : decode cX9_readInto 11 = .ok (.iconst 2, 1) := dk_5 (dk_at dksX9_readInto_0 11 rfl rfl)
theorem dX9_readInto_12 : decode cX9_readInto 12 = .ok (.if_icmp .ne 18, 3) := dk_160 0 18 (dk_at dksX9_readInto_0 12 rfl rfl)
theorem dX9_readInto_15 : decode cX9_readInto 15 = .ok (.iload 5, 2) := dk_21 5 (dk_at dksX9_readInto_0 15 rfl rfl)
theorem dX9_readInto_17 : decode cX9_readInto 17 = .ok (.iload_n 3, 1) := dk_29 (dk_at dksX9_readInto_0 17 rfl rfl)
theorem dX9_readInto_18 : decode cX9_readInto 18 = .ok (.iload 4, 2) := dk_21 4 (dk_at dksX9_readInto_0 18 rfl rfl)
theorem dX9_readInto_20 : decode cX9_readInto 20 = .ok (.invokestatic 85, 3) := dk_184 0 85 (dk_at dksX9_readInto_0 20 rfl rfl)
theorem dX9_readInto_23 : decode cX9_readInto 23 = .ok (.ifCond .eq 7, 3) := dk_153 0 7 (dk_at dksX9_readInto_1 0 rfl rfl)
theorem dX9_readInto_26 : decode cX9_readInto 26 = .ok (.iconst 1, 1) := dk_4 (dk_at dksX9_readInto_1 3 rfl rfl)
theorem dX9_readInto_27 : decode cX9_readInto 27 = .ok (.goto 4, 3) := dk_167 0 4 (dk_at dksX9_readInto_1 4 rfl rfl)
theorem dX9_readInto_30 : decode cX9_readInto 30 = .ok (.iconst 0, 1) := dk_3 (dk_at dksX9_readInto_1 7 rfl rfl)
theorem dX9_readInto_31 : decode cX9_readInto 31 = .ok (.invokevirtual 118, 3) := dk_182 0 118 (dk_at dksX9_readInto_1 8 rfl rfl)
theorem dX9_readInto_34 : decode cX9_readInto 34 = .ok (.aload_n 0, 1) := dk_42 (dk_at dksX9_readInto_1 11 rfl rfl)
theorem dX9_readInto_35 : decode cX9_readInto 35 = .ok (.getfield 111, 3) := dk_180 0 111 (dk_at dksX9_readInto_1 12 rfl rfl)
theorem dX9_readInto_38 : decode cX9_readInto 38 = .ok (.ifCond .ne 8, 3) := dk_154 0 8 (dk_at dksX9_readInto_1 15 rfl rfl)
theorem dX9_readInto_41 : decode cX9_readInto 41 = .ok (.aload_n 1, 1) := dk_43 (dk_at dksX9_readInto_1 18 rfl rfl)
theorem dX9_readInto_42 : decode cX9_readInto 42 = .ok (.iload_n 2, 1) := dk_28 (dk_at dksX9_readInto_1 19 rfl rfl)
theorem dX9_readInto_43 : decode cX9_readInto 43 = .ok (.iload 5, 2) := dk_21 5 (dk_at dksX9_readInto_1 20 rfl rfl)
theorem dX9_readInto_45 : decode cX9_readInto 45 = .ok (.iastore, 1) := dk_79 (dk_at dksX9_readInto_1 22 rfl rfl)
theorem dX9_readInto_46 : decode cX9_readInto 46 = .ok (.iload 5, 2) := dk_21 5 (dk_at dksX9_readInto_2 0 rfl rfl)
theorem dX9_readInto_48 : decode cX9_readInto 48 = .ok (.ireturn, 1) := dk_172 (dk_at dksX9_readInto_2 2 rfl rfl)
abbrev cX9_readTraveller : ByteArray := prog_13_method_16_code
def yX9_readTraveller : MethodName := ⟨RX9, "readTraveller", "()V"⟩
def dkwX9_readTraveller_3 : List UInt8 := [160, 0, 7, 4, 167, 0, 4, 3, 182, 0, 118, 42, 89, 180, 0, 133, 4, 96, 181, 0, 133, 177]
abbrev dktX9_readTraveller_3 : List UInt8 := dkwX9_readTraveller_3 ++ []
def dkwX9_readTraveller_2 : List UInt8 := [180, 0, 48, 5, 42, 180, 0, 133, 104, 4, 96, 3, 16, 10, 182, 0, 129, 87, 42, 42, 180, 0, 105, 6]
abbrev dktX9_readTraveller_2 : List UInt8 := dkwX9_readTraveller_2 ++ dktX9_readTraveller_3
def dkwX9_readTraveller_1 : List UInt8 := [153, 0, 4, 177, 42, 42, 180, 0, 48, 5, 42, 180, 0, 133, 104, 3, 16, 40, 182, 0, 129, 87, 42, 42]
abbrev dktX9_readTraveller_1 : List UInt8 := dkwX9_readTraveller_1 ++ dktX9_readTraveller_2
def dkwX9_readTraveller_0 : List UInt8 := [42, 42, 180, 0, 133, 16, 6, 162, 0, 7, 4, 167, 0, 4, 3, 182, 0, 118, 42, 180, 0, 111]
abbrev dktX9_readTraveller_0 : List UInt8 := dkwX9_readTraveller_0 ++ dktX9_readTraveller_1
theorem dksX9_readTraveller_0 : cX9_readTraveller.data.toList.drop 0 = dktX9_readTraveller_0 := by decide +kernel
theorem dksX9_readTraveller_1 : cX9_readTraveller.data.toList.drop 22 = dktX9_readTraveller_1 := dk_seg dksX9_readTraveller_0 22 rfl rfl
theorem dksX9_readTraveller_2 : cX9_readTraveller.data.toList.drop 46 = dktX9_readTraveller_2 := dk_seg dksX9_readTraveller_1 24 rfl rfl
theorem dksX9_readTraveller_3 : cX9_readTraveller.data.toList.drop 70 = dktX9_readTraveller_3 := dk_seg dksX9_readTraveller_2 24 rfl rfl
theorem dX9_readTraveller_0 : decode cX9_readTraveller 0 = .ok (.aload_n 0, 1) := dk_42 (dk_at dksX9_readTraveller_0 0 rfl rfl)
theorem dX9_readTraveller_1 : decode cX9_readTraveller 1 = .ok (.aload_n 0, 1) := dk_42 (dk_at dksX9_readTraveller_0 1 rfl rfl)
theorem dX9_readTraveller_2 : decode cX9_readTraveller 2 = .ok (.getfield 133, 3) := dk_180 0 133 (dk_at dksX9_readTraveller_0 2 rfl rfl)
theorem dX9_readTraveller_5 : decode cX9_readTraveller 5 = .ok (.bipush 6, 2) := dk_16 6 (dk_at dksX9_readTraveller_0 5 rfl rfl)
theorem dX9_readTraveller_7 : decode cX9_readTraveller 7 = .ok (.if_icmp .ge 7, 3) := dk_162 0 7 (dk_at dksX9_readTraveller_0 7 rfl rfl)
theorem dX9_readTraveller_10 : decode cX9_readTraveller 10 = .ok (.iconst 1, 1) := dk_4 (dk_at dksX9_readTraveller_0 10 rfl rfl)
theorem dX9_readTraveller_11 : decode cX9_readTraveller 11 = .ok (.goto 4, 3) := dk_167 0 4 (dk_at dksX9_readTraveller_0 11 rfl rfl)
theorem dX9_readTraveller_14 : decode cX9_readTraveller 14 = .ok (.iconst 0, 1) := dk_3 (dk_at dksX9_readTraveller_0 14 rfl rfl)
theorem dX9_readTraveller_15 : decode cX9_readTraveller 15 = .ok (.invokevirtual 118, 3) := dk_182 0 118 (dk_at dksX9_readTraveller_0 15 rfl rfl)
theorem dX9_readTraveller_18 : decode cX9_readTraveller 18 = .ok (.aload_n 0, 1) := dk_42 (dk_at dksX9_readTraveller_0 18 rfl rfl)
theorem dX9_readTraveller_19 : decode cX9_readTraveller 19 = .ok (.getfield 111, 3) := dk_180 0 111 (dk_at dksX9_readTraveller_0 19 rfl rfl)
theorem dX9_readTraveller_22 : decode cX9_readTraveller 22 = .ok (.ifCond .eq 4, 3) := dk_153 0 4 (dk_at dksX9_readTraveller_1 0 rfl rfl)
theorem dX9_readTraveller_25 : decode cX9_readTraveller 25 = .ok (.return_, 1) := dk_177 (dk_at dksX9_readTraveller_1 3 rfl rfl)
theorem dX9_readTraveller_26 : decode cX9_readTraveller 26 = .ok (.aload_n 0, 1) := dk_42 (dk_at dksX9_readTraveller_1 4 rfl rfl)
theorem dX9_readTraveller_27 : decode cX9_readTraveller 27 = .ok (.aload_n 0, 1) := dk_42 (dk_at dksX9_readTraveller_1 5 rfl rfl)
theorem dX9_readTraveller_28 : decode cX9_readTraveller 28 = .ok (.getfield 48, 3) := dk_180 0 48 (dk_at dksX9_readTraveller_1 6 rfl rfl)
theorem dX9_readTraveller_31 : decode cX9_readTraveller 31 = .ok (.iconst 2, 1) := dk_5 (dk_at dksX9_readTraveller_1 9 rfl rfl)
theorem dX9_readTraveller_32 : decode cX9_readTraveller 32 = .ok (.aload_n 0, 1) := dk_42 (dk_at dksX9_readTraveller_1 10 rfl rfl)
theorem dX9_readTraveller_33 : decode cX9_readTraveller 33 = .ok (.getfield 133, 3) := dk_180 0 133 (dk_at dksX9_readTraveller_1 11 rfl rfl)
theorem dX9_readTraveller_36 : decode cX9_readTraveller 36 = .ok (.imul, 1) := dk_104 (dk_at dksX9_readTraveller_1 14 rfl rfl)
theorem dX9_readTraveller_37 : decode cX9_readTraveller 37 = .ok (.iconst 0, 1) := dk_3 (dk_at dksX9_readTraveller_1 15 rfl rfl)
theorem dX9_readTraveller_38 : decode cX9_readTraveller 38 = .ok (.bipush 40, 2) := dk_16 40 (dk_at dksX9_readTraveller_1 16 rfl rfl)
theorem dX9_readTraveller_40 : decode cX9_readTraveller 40 = .ok (.invokevirtual 129, 3) := dk_182 0 129 (dk_at dksX9_readTraveller_1 18 rfl rfl)
theorem dX9_readTraveller_43 : decode cX9_readTraveller 43 = .ok (.pop, 1) := dk_87 (dk_at dksX9_readTraveller_1 21 rfl rfl)
theorem dX9_readTraveller_44 : decode cX9_readTraveller 44 = .ok (.aload_n 0, 1) := dk_42 (dk_at dksX9_readTraveller_1 22 rfl rfl)
theorem dX9_readTraveller_45 : decode cX9_readTraveller 45 = .ok (.aload_n 0, 1) := dk_42 (dk_at dksX9_readTraveller_1 23 rfl rfl)
theorem dX9_readTraveller_46 : decode cX9_readTraveller 46 = .ok (.getfield 48, 3) := dk_180 0 48 (dk_at dksX9_readTraveller_2 0 rfl rfl)
theorem dX9_readTraveller_49 : decode cX9_readTraveller 49 = .ok (.iconst 2, 1) := dk_5 (dk_at dksX9_readTraveller_2 3 rfl rfl)
theorem dX9_readTraveller_50 : decode cX9_readTraveller 50 = .ok (.aload_n 0, 1) := dk_42 (dk_at dksX9_readTraveller_2 4 rfl rfl)
theorem dX9_readTraveller_51 : decode cX9_readTraveller 51 = .ok (.getfield 133, 3) := dk_180 0 133 (dk_at dksX9_readTraveller_2 5 rfl rfl)
theorem dX9_readTraveller_54 : decode cX9_readTraveller 54 = .ok (.imul, 1) := dk_104 (dk_at dksX9_readTraveller_2 8 rfl rfl)
theorem dX9_readTraveller_55 : decode cX9_readTraveller 55 = .ok (.iconst 1, 1) := dk_4 (dk_at dksX9_readTraveller_2 9 rfl rfl)
theorem dX9_readTraveller_56 : decode cX9_readTraveller 56 = .ok (.iadd, 1) := dk_96 (dk_at dksX9_readTraveller_2 10 rfl rfl)
theorem dX9_readTraveller_57 : decode cX9_readTraveller 57 = .ok (.iconst 0, 1) := dk_3 (dk_at dksX9_readTraveller_2 11 rfl rfl)
theorem dX9_readTraveller_58 : decode cX9_readTraveller 58 = .ok (.bipush 10, 2) := dk_16 10 (dk_at dksX9_readTraveller_2 12 rfl rfl)
theorem dX9_readTraveller_60 : decode cX9_readTraveller 60 = .ok (.invokevirtual 129, 3) := dk_182 0 129 (dk_at dksX9_readTraveller_2 14 rfl rfl)
theorem dX9_readTraveller_63 : decode cX9_readTraveller 63 = .ok (.pop, 1) := dk_87 (dk_at dksX9_readTraveller_2 17 rfl rfl)
theorem dX9_readTraveller_64 : decode cX9_readTraveller 64 = .ok (.aload_n 0, 1) := dk_42 (dk_at dksX9_readTraveller_2 18 rfl rfl)
theorem dX9_readTraveller_65 : decode cX9_readTraveller 65 = .ok (.aload_n 0, 1) := dk_42 (dk_at dksX9_readTraveller_2 19 rfl rfl)
theorem dX9_readTraveller_66 : decode cX9_readTraveller 66 = .ok (.getfield 105, 3) := dk_180 0 105 (dk_at dksX9_readTraveller_2 20 rfl rfl)
theorem dX9_readTraveller_69 : decode cX9_readTraveller 69 = .ok (.iconst 3, 1) := dk_6 (dk_at dksX9_readTraveller_2 23 rfl rfl)
theorem dX9_readTraveller_70 : decode cX9_readTraveller 70 = .ok (.if_icmp .ne 7, 3) := dk_160 0 7 (dk_at dksX9_readTraveller_3 0 rfl rfl)
theorem dX9_readTraveller_73 : decode cX9_readTraveller 73 = .ok (.iconst 1, 1) := dk_4 (dk_at dksX9_readTraveller_3 3 rfl rfl)
theorem dX9_readTraveller_74 : decode cX9_readTraveller 74 = .ok (.goto 4, 3) := dk_167 0 4 (dk_at dksX9_readTraveller_3 4 rfl rfl)
theorem dX9_readTraveller_77 : decode cX9_readTraveller 77 = .ok (.iconst 0, 1) := dk_3 (dk_at dksX9_readTraveller_3 7 rfl rfl)
theorem dX9_readTraveller_78 : decode cX9_readTraveller 78 = .ok (.invokevirtual 118, 3) := dk_182 0 118 (dk_at dksX9_readTraveller_3 8 rfl rfl)
theorem dX9_readTraveller_81 : decode cX9_readTraveller 81 = .ok (.aload_n 0, 1) := dk_42 (dk_at dksX9_readTraveller_3 11 rfl rfl)
theorem dX9_readTraveller_82 : decode cX9_readTraveller 82 = .ok (.dup, 1) := dk_89 (dk_at dksX9_readTraveller_3 12 rfl rfl)
theorem dX9_readTraveller_83 : decode cX9_readTraveller 83 = .ok (.getfield 133, 3) := dk_180 0 133 (dk_at dksX9_readTraveller_3 13 rfl rfl)
theorem dX9_readTraveller_86 : decode cX9_readTraveller 86 = .ok (.iconst 1, 1) := dk_4 (dk_at dksX9_readTraveller_3 16 rfl rfl)
theorem dX9_readTraveller_87 : decode cX9_readTraveller 87 = .ok (.iadd, 1) := dk_96 (dk_at dksX9_readTraveller_3 17 rfl rfl)
theorem dX9_readTraveller_88 : decode cX9_readTraveller 88 = .ok (.putfield 133, 3) := dk_181 0 133 (dk_at dksX9_readTraveller_3 18 rfl rfl)
theorem dX9_readTraveller_91 : decode cX9_readTraveller 91 = .ok (.return_, 1) := dk_177 (dk_at dksX9_readTraveller_3 21 rfl rfl)
abbrev cX9_readClerk : ByteArray := prog_13_method_17_code
def yX9_readClerk : MethodName := ⟨RX9, "readClerk", "()V"⟩
def dkwX9_readClerk_6 : List UInt8 := [181, 0, 136, 177]
abbrev dktX9_readClerk_6 : List UInt8 := dkwX9_readClerk_6 ++ []
def dkwX9_readClerk_5 : List UInt8 := [180, 0, 105, 6, 160, 0, 7, 4, 167, 0, 4, 3, 182, 0, 118, 42, 89, 180, 0, 136, 4, 96]
abbrev dktX9_readClerk_5 : List UInt8 := dkwX9_readClerk_5 ++ dktX9_readClerk_6
def dkwX9_readClerk_4 : List UInt8 := [29, 28, 159, 0, 7, 4, 167, 0, 4, 3, 182, 0, 118, 42, 180, 0, 51, 27, 5, 96, 29, 79, 42, 42]
abbrev dktX9_readClerk_4 : List UInt8 := dkwX9_readClerk_4 ++ dktX9_readClerk_5
def dkwX9_readClerk_3 : List UInt8 := [160, 0, 33, 28, 16, 10, 160, 0, 12, 29, 16, 10, 160, 0, 21, 167, 0, 14, 29, 16, 10, 162, 0, 12]
abbrev dktX9_readClerk_3 : List UInt8 := dkwX9_readClerk_3 ++ dktX9_readClerk_4
def dkwX9_readClerk_2 : List UInt8 := [180, 0, 51, 27, 4, 96, 3, 16, 10, 182, 0, 129, 61, 42, 180, 0, 108, 62, 42, 42, 180, 0, 105, 5]
abbrev dktX9_readClerk_2 : List UInt8 := dkwX9_readClerk_2 ++ dktX9_readClerk_3
def dkwX9_readClerk_1 : List UInt8 := [177, 6, 42, 180, 0, 136, 104, 60, 42, 42, 180, 0, 51, 27, 3, 17, 3, 255, 182, 0, 129, 87, 42, 42]
abbrev dktX9_readClerk_1 : List UInt8 := dkwX9_readClerk_1 ++ dktX9_readClerk_2
def dkwX9_readClerk_0 : List UInt8 := [42, 42, 180, 0, 136, 7, 162, 0, 7, 4, 167, 0, 4, 3, 182, 0, 118, 42, 180, 0, 111, 153, 0, 4]
abbrev dktX9_readClerk_0 : List UInt8 := dkwX9_readClerk_0 ++ dktX9_readClerk_1
theorem dksX9_readClerk_0 : cX9_readClerk.data.toList.drop 0 = dktX9_readClerk_0 := by decide +kernel
theorem dksX9_readClerk_1 : cX9_readClerk.data.toList.drop 24 = dktX9_readClerk_1 := dk_seg dksX9_readClerk_0 24 rfl rfl
theorem dksX9_readClerk_2 : cX9_readClerk.data.toList.drop 48 = dktX9_readClerk_2 := dk_seg dksX9_readClerk_1 24 rfl rfl
theorem dksX9_readClerk_3 : cX9_readClerk.data.toList.drop 72 = dktX9_readClerk_3 := dk_seg dksX9_readClerk_2 24 rfl rfl
theorem dksX9_readClerk_4 : cX9_readClerk.data.toList.drop 96 = dktX9_readClerk_4 := dk_seg dksX9_readClerk_3 24 rfl rfl
theorem dksX9_readClerk_5 : cX9_readClerk.data.toList.drop 120 = dktX9_readClerk_5 := dk_seg dksX9_readClerk_4 24 rfl rfl
theorem dksX9_readClerk_6 : cX9_readClerk.data.toList.drop 142 = dktX9_readClerk_6 := dk_seg dksX9_readClerk_5 22 rfl rfl
theorem dX9_readClerk_0 : decode cX9_readClerk 0 = .ok (.aload_n 0, 1) := dk_42 (dk_at dksX9_readClerk_0 0 rfl rfl)
theorem dX9_readClerk_1 : decode cX9_readClerk 1 = .ok (.aload_n 0, 1) := dk_42 (dk_at dksX9_readClerk_0 1 rfl rfl)
theorem dX9_readClerk_2 : decode cX9_readClerk 2 = .ok (.getfield 136, 3) := dk_180 0 136 (dk_at dksX9_readClerk_0 2 rfl rfl)
theorem dX9_readClerk_5 : decode cX9_readClerk 5 = .ok (.iconst 4, 1) := dk_7 (dk_at dksX9_readClerk_0 5 rfl rfl)
theorem dX9_readClerk_6 : decode cX9_readClerk 6 = .ok (.if_icmp .ge 7, 3) := dk_162 0 7 (dk_at dksX9_readClerk_0 6 rfl rfl)
theorem dX9_readClerk_9 : decode cX9_readClerk 9 = .ok (.iconst 1, 1) := dk_4 (dk_at dksX9_readClerk_0 9 rfl rfl)
theorem dX9_readClerk_10 : decode cX9_readClerk 10 = .ok (.goto 4, 3) := dk_167 0 4 (dk_at dksX9_readClerk_0 10 rfl rfl)
theorem dX9_readClerk_13 : decode cX9_readClerk 13 = .ok (.iconst 0, 1) := dk_3 (dk_at dksX9_readClerk_0 13 rfl rfl)
theorem dX9_readClerk_14 : decode cX9_readClerk 14 = .ok (.invokevirtual 118, 3) := dk_182 0 118 (dk_at dksX9_readClerk_0 14 rfl rfl)
theorem dX9_readClerk_17 : decode cX9_readClerk 17 = .ok (.aload_n 0, 1) := dk_42 (dk_at dksX9_readClerk_0 17 rfl rfl)
theorem dX9_readClerk_18 : decode cX9_readClerk 18 = .ok (.getfield 111, 3) := dk_180 0 111 (dk_at dksX9_readClerk_0 18 rfl rfl)
theorem dX9_readClerk_21 : decode cX9_readClerk 21 = .ok (.ifCond .eq 4, 3) := dk_153 0 4 (dk_at dksX9_readClerk_0 21 rfl rfl)
theorem dX9_readClerk_24 : decode cX9_readClerk 24 = .ok (.return_, 1) := dk_177 (dk_at dksX9_readClerk_1 0 rfl rfl)
theorem dX9_readClerk_25 : decode cX9_readClerk 25 = .ok (.iconst 3, 1) := dk_6 (dk_at dksX9_readClerk_1 1 rfl rfl)
theorem dX9_readClerk_26 : decode cX9_readClerk 26 = .ok (.aload_n 0, 1) := dk_42 (dk_at dksX9_readClerk_1 2 rfl rfl)
theorem dX9_readClerk_27 : decode cX9_readClerk 27 = .ok (.getfield 136, 3) := dk_180 0 136 (dk_at dksX9_readClerk_1 3 rfl rfl)
theorem dX9_readClerk_30 : decode cX9_readClerk 30 = .ok (.imul, 1) := dk_104 (dk_at dksX9_readClerk_1 6 rfl rfl)
theorem dX9_readClerk_31 : decode cX9_readClerk 31 = .ok (.istore_n 1, 1) := dk_60 (dk_at dksX9_readClerk_1 7 rfl rfl)
theorem dX9_readClerk_32 : decode cX9_readClerk 32 = .ok (.aload_n 0, 1) := dk_42 (dk_at dksX9_readClerk_1 8 rfl rfl)
theorem dX9_readClerk_33 : decode cX9_readClerk 33 = .ok (.aload_n 0, 1) := dk_42 (dk_at dksX9_readClerk_1 9 rfl rfl)
theorem dX9_readClerk_34 : decode cX9_readClerk 34 = .ok (.getfield 51, 3) := dk_180 0 51 (dk_at dksX9_readClerk_1 10 rfl rfl)
theorem dX9_readClerk_37 : decode cX9_readClerk 37 = .ok (.iload_n 1, 1) := dk_27 (dk_at dksX9_readClerk_1 13 rfl rfl)
theorem dX9_readClerk_38 : decode cX9_readClerk 38 = .ok (.iconst 0, 1) := dk_3 (dk_at dksX9_readClerk_1 14 rfl rfl)
theorem dX9_readClerk_39 : decode cX9_readClerk 39 = .ok (.sipush 1023, 3) := dk_17 3 255 (dk_at dksX9_readClerk_1 15 rfl rfl)
theorem dX9_readClerk_42 : decode cX9_readClerk 42 = .ok (.invokevirtual 129, 3) := dk_182 0 129 (dk_at dksX9_readClerk_1 18 rfl rfl)
theorem dX9_readClerk_45 : decode cX9_readClerk 45 = .ok (.pop, 1) := dk_87 (dk_at dksX9_readClerk_1 21 rfl rfl)
theorem dX9_readClerk_46 : decode cX9_readClerk 46 = .ok (.aload_n 0, 1) := dk_42 (dk_at dksX9_readClerk_1 22 rfl rfl)
theorem dX9_readClerk_47 : decode cX9_readClerk 47 = .ok (.aload_n 0, 1) := dk_42 (dk_at dksX9_readClerk_1 23 rfl rfl)
theorem dX9_readClerk_48 : decode cX9_readClerk 48 = .ok (.getfield 51, 3) := dk_180 0 51 (dk_at dksX9_readClerk_2 0 rfl rfl)
theorem dX9_readClerk_51 : decode cX9_readClerk 51 = .ok (.iload_n 1, 1) := dk_27 (dk_at dksX9_readClerk_2 3 rfl rfl)
theorem dX9_readClerk_52 : decode cX9_readClerk 52 = .ok (.iconst 1, 1) := dk_4 (dk_at dksX9_readClerk_2 4 rfl rfl)
theorem dX9_readClerk_53 : decode cX9_readClerk 53 = .ok (.iadd, 1) := dk_96 (dk_at dksX9_readClerk_2 5 rfl rfl)
theorem dX9_readClerk_54 : decode cX9_readClerk 54 = .ok (.iconst 0, 1) := dk_3 (dk_at dksX9_readClerk_2 6 rfl rfl)
theorem dX9_readClerk_55 : decode cX9_readClerk 55 = .ok (.bipush 10, 2) := dk_16 10 (dk_at dksX9_readClerk_2 7 rfl rfl)
theorem dX9_readClerk_57 : decode cX9_readClerk 57 = .ok (.invokevirtual 129, 3) := dk_182 0 129 (dk_at dksX9_readClerk_2 9 rfl rfl)
theorem dX9_readClerk_60 : decode cX9_readClerk 60 = .ok (.istore_n 2, 1) := dk_61 (dk_at dksX9_readClerk_2 12 rfl rfl)
theorem dX9_readClerk_61 : decode cX9_readClerk 61 = .ok (.aload_n 0, 1) := dk_42 (dk_at dksX9_readClerk_2 13 rfl rfl)
theorem dX9_readClerk_62 : decode cX9_readClerk 62 = .ok (.getfield 108, 3) := dk_180 0 108 (dk_at dksX9_readClerk_2 14 rfl rfl)
theorem dX9_readClerk_65 : decode cX9_readClerk 65 = .ok (.istore_n 3, 1) := dk_62 (dk_at dksX9_readClerk_2 17 rfl rfl)
theorem dX9_readClerk_66 : decode cX9_readClerk 66 = .ok (.aload_n 0, 1) := dk_42 (dk_at dksX9_readClerk_2 18 rfl rfl)
theorem dX9_readClerk_67 : decode cX9_readClerk 67 = .ok (.aload_n 0, 1) := dk_42 (dk_at dksX9_readClerk_2 19 rfl rfl)
theorem dX9_readClerk_68 : decode cX9_readClerk 68 = .ok (.getfield 105, 3) := dk_180 0 105 (dk_at dksX9_readClerk_2 20 rfl rfl)
theorem dX9_readClerk_71 : decode cX9_readClerk 71 = .ok (.iconst 2, 1) := dk_5 (dk_at dksX9_readClerk_2 23 rfl rfl)
theorem dX9_readClerk_72 : decode cX9_readClerk 72 = .ok (.if_icmp .ne 33, 3) := dk_160 0 33 (dk_at dksX9_readClerk_3 0 rfl rfl)
theorem dX9_readClerk_75 : decode cX9_readClerk 75 = .ok (.iload_n 2, 1) := dk_28 (dk_at dksX9_readClerk_3 3 rfl rfl)
theorem dX9_readClerk_76 : decode cX9_readClerk 76 = .ok (.bipush 10, 2) := dk_16 10 (dk_at dksX9_readClerk_3 4 rfl rfl)
theorem dX9_readClerk_78 : decode cX9_readClerk 78 = .ok (.if_icmp .ne 12, 3) := dk_160 0 12 (dk_at dksX9_readClerk_3 6 rfl rfl)
theorem dX9_readClerk_81 : decode cX9_readClerk 81 = .ok (.iload_n 3, 1) := dk_29 (dk_at dksX9_readClerk_3 9 rfl rfl)
theorem dX9_readClerk_82 : decode cX9_readClerk 82 = .ok (.bipush 10, 2) := dk_16 10 (dk_at dksX9_readClerk_3 10 rfl rfl)
theorem dX9_readClerk_84 : decode cX9_readClerk 84 = .ok (.if_icmp .ne 21, 3) := dk_160 0 21 (dk_at dksX9_readClerk_3 12 rfl rfl)
theorem dX9_readClerk_87 : decode cX9_readClerk 87 = .ok (.goto 14, 3) := dk_167 0 14 (dk_at dksX9_readClerk_3 15 rfl rfl)
theorem dX9_readClerk_90 : decode cX9_readClerk 90 = .ok (.iload_n 3, 1) := dk_29 (dk_at dksX9_readClerk_3 18 rfl rfl)
theorem dX9_readClerk_91 : decode cX9_readClerk 91 = .ok (.bipush 10, 2) := dk_16 10 (dk_at dksX9_readClerk_3 19 rfl rfl)
theorem dX9_readClerk_93 : decode cX9_readClerk 93 = .ok (.if_icmp .ge 12, 3) := dk_162 0 12 (dk_at dksX9_readClerk_3 21 rfl rfl)
theorem dX9_readClerk_96 : decode cX9_readClerk 96 = .ok (.iload_n 3, 1) := dk_29 (dk_at dksX9_readClerk_4 0 rfl rfl)
theorem dX9_readClerk_97 : decode cX9_readClerk 97 = .ok (.iload_n 2, 1) := dk_28 (dk_at dksX9_readClerk_4 1 rfl rfl)
theorem dX9_readClerk_98 : decode cX9_readClerk 98 = .ok (.if_icmp .eq 7, 3) := dk_159 0 7 (dk_at dksX9_readClerk_4 2 rfl rfl)
theorem dX9_readClerk_101 : decode cX9_readClerk 101 = .ok (.iconst 1, 1) := dk_4 (dk_at dksX9_readClerk_4 5 rfl rfl)
theorem dX9_readClerk_102 : decode cX9_readClerk 102 = .ok (.goto 4, 3) := dk_167 0 4 (dk_at dksX9_readClerk_4 6 rfl rfl)
theorem dX9_readClerk_105 : decode cX9_readClerk 105 = .ok (.iconst 0, 1) := dk_3 (dk_at dksX9_readClerk_4 9 rfl rfl)
theorem dX9_readClerk_106 : decode cX9_readClerk 106 = .ok (.invokevirtual 118, 3) := dk_182 0 118 (dk_at dksX9_readClerk_4 10 rfl rfl)
theorem dX9_readClerk_109 : decode cX9_readClerk 109 = .ok (.aload_n 0, 1) := dk_42 (dk_at dksX9_readClerk_4 13 rfl rfl)
theorem dX9_readClerk_110 : decode cX9_readClerk 110 = .ok (.getfield 51, 3) := dk_180 0 51 (dk_at dksX9_readClerk_4 14 rfl rfl)
theorem dX9_readClerk_113 : decode cX9_readClerk 113 = .ok (.iload_n 1, 1) := dk_27 (dk_at dksX9_readClerk_4 17 rfl rfl)
theorem dX9_readClerk_114 : decode cX9_readClerk 114 = .ok (.iconst 2, 1) := dk_5 (dk_at dksX9_readClerk_4 18 rfl rfl)
theorem dX9_readClerk_115 : decode cX9_readClerk 115 = .ok (.iadd, 1) := dk_96 (dk_at dksX9_readClerk_4 19 rfl rfl)
theorem dX9_readClerk_116 : decode cX9_readClerk 116 = .ok (.iload_n 3, 1) := dk_29 (dk_at dksX9_readClerk_4 20 rfl rfl)
theorem dX9_readClerk_117 : decode cX9_readClerk 117 = .ok (.iastore, 1) := dk_79 (dk_at dksX9_readClerk_4 21 rfl rfl)
theorem dX9_readClerk_118 : decode cX9_readClerk 118 = .ok (.aload_n 0, 1) := dk_42 (dk_at dksX9_readClerk_4 22 rfl rfl)
theorem dX9_readClerk_119 : decode cX9_readClerk 119 = .ok (.aload_n 0, 1) := dk_42 (dk_at dksX9_readClerk_4 23 rfl rfl)
theorem dX9_readClerk_120 : decode cX9_readClerk 120 = .ok (.getfield 105, 3) := dk_180 0 105 (dk_at dksX9_readClerk_5 0 rfl rfl)
theorem dX9_readClerk_123 : decode cX9_readClerk 123 = .ok (.iconst 3, 1) := dk_6 (dk_at dksX9_readClerk_5 3 rfl rfl)
theorem dX9_readClerk_124 : decode cX9_readClerk 124 = .ok (.if_icmp .ne 7, 3) := dk_160 0 7 (dk_at dksX9_readClerk_5 4 rfl rfl)
theorem dX9_readClerk_127 : decode cX9_readClerk 127 = .ok (.iconst 1, 1) := dk_4 (dk_at dksX9_readClerk_5 7 rfl rfl)
theorem dX9_readClerk_128 : decode cX9_readClerk 128 = .ok (.goto 4, 3) := dk_167 0 4 (dk_at dksX9_readClerk_5 8 rfl rfl)
theorem dX9_readClerk_131 : decode cX9_readClerk 131 = .ok (.iconst 0, 1) := dk_3 (dk_at dksX9_readClerk_5 11 rfl rfl)
theorem dX9_readClerk_132 : decode cX9_readClerk 132 = .ok (.invokevirtual 118, 3) := dk_182 0 118 (dk_at dksX9_readClerk_5 12 rfl rfl)
theorem dX9_readClerk_135 : decode cX9_readClerk 135 = .ok (.aload_n 0, 1) := dk_42 (dk_at dksX9_readClerk_5 15 rfl rfl)
theorem dX9_readClerk_136 : decode cX9_readClerk 136 = .ok (.dup, 1) := dk_89 (dk_at dksX9_readClerk_5 16 rfl rfl)
theorem dX9_readClerk_137 : decode cX9_readClerk 137 = .ok (.getfield 136, 3) := dk_180 0 136 (dk_at dksX9_readClerk_5 17 rfl rfl)
theorem dX9_readClerk_140 : decode cX9_readClerk 140 = .ok (.iconst 1, 1) := dk_4 (dk_at dksX9_readClerk_5 20 rfl rfl)
theorem dX9_readClerk_141 : decode cX9_readClerk 141 = .ok (.iadd, 1) := dk_96 (dk_at dksX9_readClerk_5 21 rfl rfl)
theorem dX9_readClerk_142 : decode cX9_readClerk 142 = .ok (.putfield 136, 3) := dk_181 0 136 (dk_at dksX9_readClerk_6 0 rfl rfl)
theorem dX9_readClerk_145 : decode cX9_readClerk 145 = .ok (.return_, 1) := dk_177 (dk_at dksX9_readClerk_6 3 rfl rfl)
abbrev cX9_traveller : ByteArray := prog_13_method_22_code
def yX9_traveller : MethodName := ⟨RX9, "traveller", "(II)I"⟩
def dkwX9_traveller_3 : List UInt8 := [180, 0, 26, 16, 14, 27, 96, 46, 172]
abbrev dktX9_traveller_3 : List UInt8 := dkwX9_traveller_3 ++ []
def dkwX9_traveller_2 : List UInt8 := [96, 46, 167, 0, 29, 28, 6, 160, 0, 15, 42, 180, 0, 26, 16, 8, 27, 96, 46, 167, 0, 12, 42]
abbrev dktX9_traveller_2 : List UInt8 := dkwX9_traveller_2 ++ dktX9_traveller_3
def dkwX9_traveller_1 : List UInt8 := [42, 180, 0, 19, 5, 27, 104, 28, 96, 46, 167, 0, 45, 28, 5, 160, 0, 14, 42, 180, 0, 26, 5, 27]
abbrev dktX9_traveller_1 : List UInt8 := dkwX9_traveller_1 ++ dktX9_traveller_2
def dkwX9_traveller_0 : List UInt8 := [42, 27, 182, 0, 158, 153, 0, 12, 28, 3, 7, 184, 0, 85, 154, 0, 5, 2, 172, 28, 5, 162, 0, 16]
abbrev dktX9_traveller_0 : List UInt8 := dkwX9_traveller_0 ++ dktX9_traveller_1
theorem dksX9_traveller_0 : cX9_traveller.data.toList.drop 0 = dktX9_traveller_0 := by decide +kernel
theorem dksX9_traveller_1 : cX9_traveller.data.toList.drop 24 = dktX9_traveller_1 := dk_seg dksX9_traveller_0 24 rfl rfl
theorem dksX9_traveller_2 : cX9_traveller.data.toList.drop 48 = dktX9_traveller_2 := dk_seg dksX9_traveller_1 24 rfl rfl
theorem dksX9_traveller_3 : cX9_traveller.data.toList.drop 71 = dktX9_traveller_3 := dk_seg dksX9_traveller_2 23 rfl rfl
theorem dX9_traveller_0 : decode cX9_traveller 0 = .ok (.aload_n 0, 1) := dk_42 (dk_at dksX9_traveller_0 0 rfl rfl)
theorem dX9_traveller_1 : decode cX9_traveller 1 = .ok (.iload_n 1, 1) := dk_27 (dk_at dksX9_traveller_0 1 rfl rfl)
theorem dX9_traveller_2 : decode cX9_traveller 2 = .ok (.invokevirtual 158, 3) := dk_182 0 158 (dk_at dksX9_traveller_0 2 rfl rfl)
theorem dX9_traveller_5 : decode cX9_traveller 5 = .ok (.ifCond .eq 12, 3) := dk_153 0 12 (dk_at dksX9_traveller_0 5 rfl rfl)
theorem dX9_traveller_8 : decode cX9_traveller 8 = .ok (.iload_n 2, 1) := dk_28 (dk_at dksX9_traveller_0 8 rfl rfl)
theorem dX9_traveller_9 : decode cX9_traveller 9 = .ok (.iconst 0, 1) := dk_3 (dk_at dksX9_traveller_0 9 rfl rfl)
theorem dX9_traveller_10 : decode cX9_traveller 10 = .ok (.iconst 4, 1) := dk_7 (dk_at dksX9_traveller_0 10 rfl rfl)
theorem dX9_traveller_11 : decode cX9_traveller 11 = .ok (.invokestatic 85, 3) := dk_184 0 85 (dk_at dksX9_traveller_0 11 rfl rfl)
theorem dX9_traveller_14 : decode cX9_traveller 14 = .ok (.ifCond .ne 5, 3) := dk_154 0 5 (dk_at dksX9_traveller_0 14 rfl rfl)
theorem dX9_traveller_17 : decode cX9_traveller 17 = .ok (.iconst (-1), 1) := dk_2 (dk_at dksX9_traveller_0 17 rfl rfl)
theorem dX9_traveller_18 : decode cX9_traveller 18 = .ok (.ireturn, 1) := dk_172 (dk_at dksX9_traveller_0 18 rfl rfl)
theorem dX9_traveller_19 : decode cX9_traveller 19 = .ok (.iload_n 2, 1) := dk_28 (dk_at dksX9_traveller_0 19 rfl rfl)
theorem dX9_traveller_20 : decode cX9_traveller 20 = .ok (.iconst 2, 1) := dk_5 (dk_at dksX9_traveller_0 20 rfl rfl)
theorem dX9_traveller_21 : decode cX9_traveller 21 = .ok (.if_icmp .ge 16, 3) := dk_162 0 16 (dk_at dksX9_traveller_0 21 rfl rfl)
theorem dX9_traveller_24 : decode cX9_traveller 24 = .ok (.aload_n 0, 1) := dk_42 (dk_at dksX9_traveller_1 0 rfl rfl)
theorem dX9_traveller_25 : decode cX9_traveller 25 = .ok (.getfield 19, 3) := dk_180 0 19 (dk_at dksX9_traveller_1 1 rfl rfl)
theorem dX9_traveller_28 : decode cX9_traveller 28 = .ok (.iconst 2, 1) := dk_5 (dk_at dksX9_traveller_1 4 rfl rfl)
theorem dX9_traveller_29 : decode cX9_traveller 29 = .ok (.iload_n 1, 1) := dk_27 (dk_at dksX9_traveller_1 5 rfl rfl)
theorem dX9_traveller_30 : decode cX9_traveller 30 = .ok (.imul, 1) := dk_104 (dk_at dksX9_traveller_1 6 rfl rfl)
theorem dX9_traveller_31 : decode cX9_traveller 31 = .ok (.iload_n 2, 1) := dk_28 (dk_at dksX9_traveller_1 7 rfl rfl)
theorem dX9_traveller_32 : decode cX9_traveller 32 = .ok (.iadd, 1) := dk_96 (dk_at dksX9_traveller_1 8 rfl rfl)
theorem dX9_traveller_33 : decode cX9_traveller 33 = .ok (.iaload, 1) := dk_46 (dk_at dksX9_traveller_1 9 rfl rfl)
theorem dX9_traveller_34 : decode cX9_traveller 34 = .ok (.goto 45, 3) := dk_167 0 45 (dk_at dksX9_traveller_1 10 rfl rfl)
theorem dX9_traveller_37 : decode cX9_traveller 37 = .ok (.iload_n 2, 1) := dk_28 (dk_at dksX9_traveller_1 13 rfl rfl)
theorem dX9_traveller_38 : decode cX9_traveller 38 = .ok (.iconst 2, 1) := dk_5 (dk_at dksX9_traveller_1 14 rfl rfl)
theorem dX9_traveller_39 : decode cX9_traveller 39 = .ok (.if_icmp .ne 14, 3) := dk_160 0 14 (dk_at dksX9_traveller_1 15 rfl rfl)
theorem dX9_traveller_42 : decode cX9_traveller 42 = .ok (.aload_n 0, 1) := dk_42 (dk_at dksX9_traveller_1 18 rfl rfl)
theorem dX9_traveller_43 : decode cX9_traveller 43 = .ok (.getfield 26, 3) := dk_180 0 26 (dk_at dksX9_traveller_1 19 rfl rfl)
theorem dX9_traveller_46 : decode cX9_traveller 46 = .ok (.iconst 2, 1) := dk_5 (dk_at dksX9_traveller_1 22 rfl rfl)
theorem dX9_traveller_47 : decode cX9_traveller 47 = .ok (.iload_n 1, 1) := dk_27 (dk_at dksX9_traveller_1 23 rfl rfl)
theorem dX9_traveller_48 : decode cX9_traveller 48 = .ok (.iadd, 1) := dk_96 (dk_at dksX9_traveller_2 0 rfl rfl)
theorem dX9_traveller_49 : decode cX9_traveller 49 = .ok (.iaload, 1) := dk_46 (dk_at dksX9_traveller_2 1 rfl rfl)
theorem dX9_traveller_50 : decode cX9_traveller 50 = .ok (.goto 29, 3) := dk_167 0 29 (dk_at dksX9_traveller_2 2 rfl rfl)
theorem dX9_traveller_53 : decode cX9_traveller 53 = .ok (.iload_n 2, 1) := dk_28 (dk_at dksX9_traveller_2 5 rfl rfl)
theorem dX9_traveller_54 : decode cX9_traveller 54 = .ok (.iconst 3, 1) := dk_6 (dk_at dksX9_traveller_2 6 rfl rfl)
theorem dX9_traveller_55 : decode cX9_traveller 55 = .ok (.if_icmp .ne 15, 3) := dk_160 0 15 (dk_at dksX9_traveller_2 7 rfl rfl)
theorem dX9_traveller_58 : decode cX9_traveller 58 = .ok (.aload_n 0, 1) := dk_42 (dk_at dksX9_traveller_2 10 rfl rfl)
theorem dX9_traveller_59 : decode cX9_traveller 59 = .ok (.getfield 26, 3) := dk_180 0 26 (dk_at dksX9_traveller_2 11 rfl rfl)
theorem dX9_traveller_62 : decode cX9_traveller 62 = .ok (.bipush 8, 2) := dk_16 8 (dk_at dksX9_traveller_2 14 rfl rfl)
theorem dX9_traveller_64 : decode cX9_traveller 64 = .ok (.iload_n 1, 1) := dk_27 (dk_at dksX9_traveller_2 16 rfl rfl)
theorem dX9_traveller_65 : decode cX9_traveller 65 = .ok (.iadd, 1) := dk_96 (dk_at dksX9_traveller_2 17 rfl rfl)
theorem dX9_traveller_66 : decode cX9_traveller 66 = .ok (.iaload, 1) := dk_46 (dk_at dksX9_traveller_2 18 rfl rfl)
theorem dX9_traveller_67 : decode cX9_traveller 67 = .ok (.goto 12, 3) := dk_167 0 12 (dk_at dksX9_traveller_2 19 rfl rfl)
theorem dX9_traveller_70 : decode cX9_traveller 70 = .ok (.aload_n 0, 1) := dk_42 (dk_at dksX9_traveller_2 22 rfl rfl)
theorem dX9_traveller_71 : decode cX9_traveller 71 = .ok (.getfield 26, 3) := dk_180 0 26 (dk_at dksX9_traveller_3 0 rfl rfl)
theorem dX9_traveller_74 : decode cX9_traveller 74 = .ok (.bipush 14, 2) := dk_16 14 (dk_at dksX9_traveller_3 3 rfl rfl)
theorem dX9_traveller_76 : decode cX9_traveller 76 = .ok (.iload_n 1, 1) := dk_27 (dk_at dksX9_traveller_3 5 rfl rfl)
theorem dX9_traveller_77 : decode cX9_traveller 77 = .ok (.iadd, 1) := dk_96 (dk_at dksX9_traveller_3 6 rfl rfl)
theorem dX9_traveller_78 : decode cX9_traveller 78 = .ok (.iaload, 1) := dk_46 (dk_at dksX9_traveller_3 7 rfl rfl)
theorem dX9_traveller_79 : decode cX9_traveller 79 = .ok (.ireturn, 1) := dk_172 (dk_at dksX9_traveller_3 8 rfl rfl)
abbrev cX9_isTraveller : ByteArray := prog_13_method_6_code
def yX9_isTraveller : MethodName := ⟨RX9, "isTraveller", "(I)Z"⟩
def dkwX9_isTraveller_0 : List UInt8 := [27, 3, 42, 180, 0, 82, 4, 100, 184, 0, 85, 172]
abbrev dktX9_isTraveller_0 : List UInt8 := dkwX9_isTraveller_0 ++ []
theorem dksX9_isTraveller_0 : cX9_isTraveller.data.toList.drop 0 = dktX9_isTraveller_0 := by decide +kernel
theorem dX9_isTraveller_0 : decode cX9_isTraveller 0 = .ok (.iload_n 1, 1) := dk_27 (dk_at dksX9_isTraveller_0 0 rfl rfl)
theorem dX9_isTraveller_1 : decode cX9_isTraveller 1 = .ok (.iconst 0, 1) := dk_3 (dk_at dksX9_isTraveller_0 1 rfl rfl)
theorem dX9_isTraveller_2 : decode cX9_isTraveller 2 = .ok (.aload_n 0, 1) := dk_42 (dk_at dksX9_isTraveller_0 2 rfl rfl)
theorem dX9_isTraveller_3 : decode cX9_isTraveller 3 = .ok (.getfield 82, 3) := dk_180 0 82 (dk_at dksX9_isTraveller_0 3 rfl rfl)
theorem dX9_isTraveller_6 : decode cX9_isTraveller 6 = .ok (.iconst 1, 1) := dk_4 (dk_at dksX9_isTraveller_0 6 rfl rfl)
theorem dX9_isTraveller_7 : decode cX9_isTraveller 7 = .ok (.isub, 1) := dk_100 (dk_at dksX9_isTraveller_0 7 rfl rfl)
theorem dX9_isTraveller_8 : decode cX9_isTraveller 8 = .ok (.invokestatic 85, 3) := dk_184 0 85 (dk_at dksX9_isTraveller_0 8 rfl rfl)
theorem dX9_isTraveller_11 : decode cX9_isTraveller 11 = .ok (.ireturn, 1) := dk_172 (dk_at dksX9_isTraveller_0 11 rfl rfl)
abbrev cX9_clerk : ByteArray := prog_13_method_23_code
def yX9_clerk : MethodName := ⟨RX9, "clerk", "(II)I"⟩
def dkwX9_clerk_1 : List UInt8 := [28, 96, 46, 167, 0, 4, 2, 172]
abbrev dktX9_clerk_1 : List UInt8 := dkwX9_clerk_1 ++ []
def dkwX9_clerk_0 : List UInt8 := [42, 27, 182, 0, 162, 153, 0, 25, 28, 3, 5, 184, 0, 85, 153, 0, 16, 42, 180, 0, 23, 6, 27, 104]
abbrev dktX9_clerk_0 : List UInt8 := dkwX9_clerk_0 ++ dktX9_clerk_1
theorem dksX9_clerk_0 : cX9_clerk.data.toList.drop 0 = dktX9_clerk_0 := by decide +kernel
theorem dksX9_clerk_1 : cX9_clerk.data.toList.drop 24 = dktX9_clerk_1 := dk_seg dksX9_clerk_0 24 rfl rfl
theorem dX9_clerk_0 : decode cX9_clerk 0 = .ok (.aload_n 0, 1) := dk_42 (dk_at dksX9_clerk_0 0 rfl rfl)
theorem dX9_clerk_1 : decode cX9_clerk 1 = .ok (.iload_n 1, 1) := dk_27 (dk_at dksX9_clerk_0 1 rfl rfl)
theorem dX9_clerk_2 : decode cX9_clerk 2 = .ok (.invokevirtual 162, 3) := dk_182 0 162 (dk_at dksX9_clerk_0 2 rfl rfl)
theorem dX9_clerk_5 : decode cX9_clerk 5 = .ok (.ifCond .eq 25, 3) := dk_153 0 25 (dk_at dksX9_clerk_0 5 rfl rfl)
theorem dX9_clerk_8 : decode cX9_clerk 8 = .ok (.iload_n 2, 1) := dk_28 (dk_at dksX9_clerk_0 8 rfl rfl)
theorem dX9_clerk_9 : decode cX9_clerk 9 = .ok (.iconst 0, 1) := dk_3 (dk_at dksX9_clerk_0 9 rfl rfl)
theorem dX9_clerk_10 : decode cX9_clerk 10 = .ok (.iconst 2, 1) := dk_5 (dk_at dksX9_clerk_0 10 rfl rfl)
theorem dX9_clerk_11 : decode cX9_clerk 11 = .ok (.invokestatic 85, 3) := dk_184 0 85 (dk_at dksX9_clerk_0 11 rfl rfl)
theorem dX9_clerk_14 : decode cX9_clerk 14 = .ok (.ifCond .eq 16, 3) := dk_153 0 16 (dk_at dksX9_clerk_0 14 rfl rfl)
theorem dX9_clerk_17 : decode cX9_clerk 17 = .ok (.aload_n 0, 1) := dk_42 (dk_at dksX9_clerk_0 17 rfl rfl)
theorem dX9_clerk_18 : decode cX9_clerk 18 = .ok (.getfield 23, 3) := dk_180 0 23 (dk_at dksX9_clerk_0 18 rfl rfl)
theorem dX9_clerk_21 : decode cX9_clerk 21 = .ok (.iconst 3, 1) := dk_6 (dk_at dksX9_clerk_0 21 rfl rfl)
theorem dX9_clerk_22 : decode cX9_clerk 22 = .ok (.iload_n 1, 1) := dk_27 (dk_at dksX9_clerk_0 22 rfl rfl)
theorem dX9_clerk_23 : decode cX9_clerk 23 = .ok (.imul, 1) := dk_104 (dk_at dksX9_clerk_0 23 rfl rfl)
theorem dX9_clerk_24 : decode cX9_clerk 24 = .ok (.iload_n 2, 1) := dk_28 (dk_at dksX9_clerk_1 0 rfl rfl)
theorem dX9_clerk_25 : decode cX9_clerk 25 = .ok (.iadd, 1) := dk_96 (dk_at dksX9_clerk_1 1 rfl rfl)
theorem dX9_clerk_26 : decode cX9_clerk 26 = .ok (.iaload, 1) := dk_46 (dk_at dksX9_clerk_1 2 rfl rfl)
theorem dX9_clerk_27 : decode cX9_clerk 27 = .ok (.goto 4, 3) := dk_167 0 4 (dk_at dksX9_clerk_1 3 rfl rfl)
theorem dX9_clerk_30 : decode cX9_clerk 30 = .ok (.iconst (-1), 1) := dk_2 (dk_at dksX9_clerk_1 6 rfl rfl)
theorem dX9_clerk_31 : decode cX9_clerk 31 = .ok (.ireturn, 1) := dk_172 (dk_at dksX9_clerk_1 7 rfl rfl)
abbrev cX9_isClerk : ByteArray := prog_13_method_8_code
def yX9_isClerk : MethodName := ⟨RX9, "isClerk", "(I)Z"⟩
def dkwX9_isClerk_0 : List UInt8 := [27, 3, 42, 180, 0, 89, 4, 100, 184, 0, 85, 172]
abbrev dktX9_isClerk_0 : List UInt8 := dkwX9_isClerk_0 ++ []
theorem dksX9_isClerk_0 : cX9_isClerk.data.toList.drop 0 = dktX9_isClerk_0 := by decide +kernel
theorem dX9_isClerk_0 : decode cX9_isClerk 0 = .ok (.iload_n 1, 1) := dk_27 (dk_at dksX9_isClerk_0 0 rfl rfl)
theorem dX9_isClerk_1 : decode cX9_isClerk 1 = .ok (.iconst 0, 1) := dk_3 (dk_at dksX9_isClerk_0 1 rfl rfl)
theorem dX9_isClerk_2 : decode cX9_isClerk 2 = .ok (.aload_n 0, 1) := dk_42 (dk_at dksX9_isClerk_0 2 rfl rfl)
theorem dX9_isClerk_3 : decode cX9_isClerk 3 = .ok (.getfield 89, 3) := dk_180 0 89 (dk_at dksX9_isClerk_0 3 rfl rfl)
theorem dX9_isClerk_6 : decode cX9_isClerk 6 = .ok (.iconst 1, 1) := dk_4 (dk_at dksX9_isClerk_0 6 rfl rfl)
theorem dX9_isClerk_7 : decode cX9_isClerk 7 = .ok (.isub, 1) := dk_100 (dk_at dksX9_isClerk_0 7 rfl rfl)
theorem dX9_isClerk_8 : decode cX9_isClerk 8 = .ok (.invokestatic 85, 3) := dk_184 0 85 (dk_at dksX9_isClerk_0 8 rfl rfl)
theorem dX9_isClerk_11 : decode cX9_isClerk 11 = .ok (.ireturn, 1) := dk_172 (dk_at dksX9_isClerk_0 11 rfl rfl)
abbrev cX9_now : ByteArray := prog_13_method_26_code
def yX9_now : MethodName := ⟨RX9, "now", "(I)I"⟩
def dkwX9_now_4 : List UInt8 := [2, 172]
abbrev dktX9_now_4 : List UInt8 := dkwX9_now_4 ++ []
def dkwX9_now_3 : List UInt8 := [42, 42, 180, 0, 26, 3, 46, 182, 0, 175, 153, 0, 7, 4, 167, 0, 4, 3, 172, 42, 180, 0, 152, 172]
abbrev dktX9_now_3 : List UInt8 := dkwX9_now_3 ++ dktX9_now_4
def dkwX9_now_2 : List UInt8 := [42, 180, 0, 26, 3, 46, 172, 42, 180, 0, 26, 4, 46, 172, 42, 182, 0, 168, 172, 42, 182, 0, 172, 172]
abbrev dktX9_now_2 : List UInt8 := dkwX9_now_2 ++ dktX9_now_3
def dkwX9_now_1 : List UInt8 := [170, 0, 0, 0, 0, 0, 87, 0, 0, 0, 0, 0, 0, 0, 5, 0, 0, 0, 39, 0, 0, 0, 46, 0, 0, 0, 53, 0, 0, 0, 58, 0, 0, 0, 63, 0, 0, 0, 82]
abbrev dktX9_now_1 : List UInt8 := dkwX9_now_1 ++ dktX9_now_2
def dkwX9_now_0 : List UInt8 := [27]
abbrev dktX9_now_0 : List UInt8 := dkwX9_now_0 ++ dktX9_now_1
theorem dksX9_now_0 : cX9_now.data.toList.drop 0 = dktX9_now_0 := by decide +kernel
theorem dksX9_now_1 : cX9_now.data.toList.drop 1 = dktX9_now_1 := dk_seg dksX9_now_0 1 rfl rfl
theorem dksX9_now_2 : cX9_now.data.toList.drop 40 = dktX9_now_2 := dk_seg dksX9_now_1 39 rfl rfl
theorem dksX9_now_3 : cX9_now.data.toList.drop 64 = dktX9_now_3 := dk_seg dksX9_now_2 24 rfl rfl
theorem dksX9_now_4 : cX9_now.data.toList.drop 88 = dktX9_now_4 := dk_seg dksX9_now_3 24 rfl rfl
theorem dX9_now_0 : decode cX9_now 0 = .ok (.iload_n 1, 1) := dk_27 (dk_at dksX9_now_0 0 rfl rfl)
theorem dX9_now_1 : decode cX9_now 1 = .ok (.tableswitch 87 0 5 #[39, 46, 53, 58, 63, 82], 39) := by decide +kernel
theorem dX9_now_40 : decode cX9_now 40 = .ok (.aload_n 0, 1) := dk_42 (dk_at dksX9_now_2 0 rfl rfl)
theorem dX9_now_41 : decode cX9_now 41 = .ok (.getfield 26, 3) := dk_180 0 26 (dk_at dksX9_now_2 1 rfl rfl)
theorem dX9_now_44 : decode cX9_now 44 = .ok (.iconst 0, 1) := dk_3 (dk_at dksX9_now_2 4 rfl rfl)
theorem dX9_now_45 : decode cX9_now 45 = .ok (.iaload, 1) := dk_46 (dk_at dksX9_now_2 5 rfl rfl)
theorem dX9_now_46 : decode cX9_now 46 = .ok (.ireturn, 1) := dk_172 (dk_at dksX9_now_2 6 rfl rfl)
theorem dX9_now_47 : decode cX9_now 47 = .ok (.aload_n 0, 1) := dk_42 (dk_at dksX9_now_2 7 rfl rfl)
theorem dX9_now_48 : decode cX9_now 48 = .ok (.getfield 26, 3) := dk_180 0 26 (dk_at dksX9_now_2 8 rfl rfl)
theorem dX9_now_51 : decode cX9_now 51 = .ok (.iconst 1, 1) := dk_4 (dk_at dksX9_now_2 11 rfl rfl)
theorem dX9_now_52 : decode cX9_now 52 = .ok (.iaload, 1) := dk_46 (dk_at dksX9_now_2 12 rfl rfl)
theorem dX9_now_53 : decode cX9_now 53 = .ok (.ireturn, 1) := dk_172 (dk_at dksX9_now_2 13 rfl rfl)
theorem dX9_now_54 : decode cX9_now 54 = .ok (.aload_n 0, 1) := dk_42 (dk_at dksX9_now_2 14 rfl rfl)
theorem dX9_now_55 : decode cX9_now 55 = .ok (.invokevirtual 168, 3) := dk_182 0 168 (dk_at dksX9_now_2 15 rfl rfl)
theorem dX9_now_58 : decode cX9_now 58 = .ok (.ireturn, 1) := dk_172 (dk_at dksX9_now_2 18 rfl rfl)
theorem dX9_now_59 : decode cX9_now 59 = .ok (.aload_n 0, 1) := dk_42 (dk_at dksX9_now_2 19 rfl rfl)
theorem dX9_now_60 : decode cX9_now 60 = .ok (.invokevirtual 172, 3) := dk_182 0 172 (dk_at dksX9_now_2 20 rfl rfl)
theorem dX9_now_63 : decode cX9_now 63 = .ok (.ireturn, 1) := dk_172 (dk_at dksX9_now_2 23 rfl rfl)
theorem dX9_now_64 : decode cX9_now 64 = .ok (.aload_n 0, 1) := dk_42 (dk_at dksX9_now_3 0 rfl rfl)
theorem dX9_now_65 : decode cX9_now 65 = .ok (.aload_n 0, 1) := dk_42 (dk_at dksX9_now_3 1 rfl rfl)
theorem dX9_now_66 : decode cX9_now 66 = .ok (.getfield 26, 3) := dk_180 0 26 (dk_at dksX9_now_3 2 rfl rfl)
theorem dX9_now_69 : decode cX9_now 69 = .ok (.iconst 0, 1) := dk_3 (dk_at dksX9_now_3 5 rfl rfl)
theorem dX9_now_70 : decode cX9_now 70 = .ok (.iaload, 1) := dk_46 (dk_at dksX9_now_3 6 rfl rfl)
theorem dX9_now_71 : decode cX9_now 71 = .ok (.invokevirtual 175, 3) := dk_182 0 175 (dk_at dksX9_now_3 7 rfl rfl)
theorem dX9_now_74 : decode cX9_now 74 = .ok (.ifCond .eq 7, 3) := dk_153 0 7 (dk_at dksX9_now_3 10 rfl rfl)
theorem dX9_now_77 : decode cX9_now 77 = .ok (.iconst 1, 1) := dk_4 (dk_at dksX9_now_3 13 rfl rfl)
theorem dX9_now_78 : decode cX9_now 78 = .ok (.goto 4, 3) := dk_167 0 4 (dk_at dksX9_now_3 14 rfl rfl)
theorem dX9_now_81 : decode cX9_now 81 = .ok (.iconst 0, 1) := dk_3 (dk_at dksX9_now_3 17 rfl rfl)
theorem dX9_now_82 : decode cX9_now 82 = .ok (.ireturn, 1) := dk_172 (dk_at dksX9_now_3 18 rfl rfl)
theorem dX9_now_83 : decode cX9_now 83 = .ok (.aload_n 0, 1) := dk_42 (dk_at dksX9_now_3 19 rfl rfl)
theorem dX9_now_84 : decode cX9_now 84 = .ok (.getfield 152, 3) := dk_180 0 152 (dk_at dksX9_now_3 20 rfl rfl)
theorem dX9_now_87 : decode cX9_now 87 = .ok (.ireturn, 1) := dk_172 (dk_at dksX9_now_3 23 rfl rfl)
theorem dX9_now_88 : decode cX9_now 88 = .ok (.iconst (-1), 1) := dk_2 (dk_at dksX9_now_4 0 rfl rfl)
theorem dX9_now_89 : decode cX9_now 89 = .ok (.ireturn, 1) := dk_172 (dk_at dksX9_now_4 1 rfl rfl)
abbrev cX9_leavers : ByteArray := prog_13_method_24_code
def yX9_leavers : MethodName := ⟨RX9, "leavers", "()I"⟩
def dkwX9_leavers_1 : List UInt8 := [167, 0, 4, 3, 128, 60, 132, 2, 1, 167, 255, 227, 27, 172]
abbrev dktX9_leavers_1 : List UInt8 := dkwX9_leavers_1 ++ []
def dkwX9_leavers_0 : List UInt8 := [3, 60, 3, 61, 28, 42, 180, 0, 82, 162, 0, 27, 27, 42, 28, 182, 0, 165, 153, 0, 9, 4, 28, 120]
abbrev dktX9_leavers_0 : List UInt8 := dkwX9_leavers_0 ++ dktX9_leavers_1
theorem dksX9_leavers_0 : cX9_leavers.data.toList.drop 0 = dktX9_leavers_0 := by decide +kernel
theorem dksX9_leavers_1 : cX9_leavers.data.toList.drop 24 = dktX9_leavers_1 := dk_seg dksX9_leavers_0 24 rfl rfl
theorem dX9_leavers_0 : decode cX9_leavers 0 = .ok (.iconst 0, 1) := dk_3 (dk_at dksX9_leavers_0 0 rfl rfl)
theorem dX9_leavers_1 : decode cX9_leavers 1 = .ok (.istore_n 1, 1) := dk_60 (dk_at dksX9_leavers_0 1 rfl rfl)
theorem dX9_leavers_2 : decode cX9_leavers 2 = .ok (.iconst 0, 1) := dk_3 (dk_at dksX9_leavers_0 2 rfl rfl)
theorem dX9_leavers_3 : decode cX9_leavers 3 = .ok (.istore_n 2, 1) := dk_61 (dk_at dksX9_leavers_0 3 rfl rfl)
theorem dX9_leavers_4 : decode cX9_leavers 4 = .ok (.iload_n 2, 1) := dk_28 (dk_at dksX9_leavers_0 4 rfl rfl)
theorem dX9_leavers_5 : decode cX9_leavers 5 = .ok (.aload_n 0, 1) := dk_42 (dk_at dksX9_leavers_0 5 rfl rfl)
theorem dX9_leavers_6 : decode cX9_leavers 6 = .ok (.getfield 82, 3) := dk_180 0 82 (dk_at dksX9_leavers_0 6 rfl rfl)
theorem dX9_leavers_9 : decode cX9_leavers 9 = .ok (.if_icmp .ge 27, 3) := dk_162 0 27 (dk_at dksX9_leavers_0 9 rfl rfl)
theorem dX9_leavers_12 : decode cX9_leavers 12 = .ok (.iload_n 1, 1) := dk_27 (dk_at dksX9_leavers_0 12 rfl rfl)
theorem dX9_leavers_13 : decode cX9_leavers 13 = .ok (.aload_n 0, 1) := dk_42 (dk_at dksX9_leavers_0 13 rfl rfl)
theorem dX9_leavers_14 : decode cX9_leavers 14 = .ok (.iload_n 2, 1) := dk_28 (dk_at dksX9_leavers_0 14 rfl rfl)
theorem dX9_leavers_15 : decode cX9_leavers 15 = .ok (.invokevirtual 165, 3) := dk_182 0 165 (dk_at dksX9_leavers_0 15 rfl rfl)
theorem dX9_leavers_18 : decode cX9_leavers 18 = .ok (.ifCond .eq 9, 3) := dk_153 0 9 (dk_at dksX9_leavers_0 18 rfl rfl)
theorem dX9_leavers_21 : decode cX9_leavers 21 = .ok (.iconst 1, 1) := dk_4 (dk_at dksX9_leavers_0 21 rfl rfl)
theorem dX9_leavers_22 : decode cX9_leavers 22 = .ok (.iload_n 2, 1) := dk_28 (dk_at dksX9_leavers_0 22 rfl rfl)
theorem dX9_leavers_23 : decode cX9_leavers 23 = .ok (.ishl, 1) := dk_120 (dk_at dksX9_leavers_0 23 rfl rfl)
theorem dX9_leavers_24 : decode cX9_leavers 24 = .ok (.goto 4, 3) := dk_167 0 4 (dk_at dksX9_leavers_1 0 rfl rfl)
theorem dX9_leavers_27 : decode cX9_leavers 27 = .ok (.iconst 0, 1) := dk_3 (dk_at dksX9_leavers_1 3 rfl rfl)
theorem dX9_leavers_28 : decode cX9_leavers 28 = .ok (.ior, 1) := dk_128 (dk_at dksX9_leavers_1 4 rfl rfl)
theorem dX9_leavers_29 : decode cX9_leavers 29 = .ok (.istore_n 1, 1) := dk_60 (dk_at dksX9_leavers_1 5 rfl rfl)
theorem dX9_leavers_30 : decode cX9_leavers 30 = .ok (.iinc 2 1, 3) := dk_132 2 1 (dk_at dksX9_leavers_1 6 rfl rfl)
theorem dX9_leavers_33 : decode cX9_leavers 33 = .ok (.goto (-29), 3) := dk_167 255 227 (dk_at dksX9_leavers_1 9 rfl rfl)
theorem dX9_leavers_36 : decode cX9_leavers 36 = .ok (.iload_n 1, 1) := dk_27 (dk_at dksX9_leavers_1 12 rfl rfl)
theorem dX9_leavers_37 : decode cX9_leavers 37 = .ok (.ireturn, 1) := dk_172 (dk_at dksX9_leavers_1 13 rfl rfl)
abbrev cX9_mayLeave : ByteArray := prog_13_method_20_code
def yX9_mayLeave : MethodName := ⟨RX9, "mayLeave", "(I)Z"⟩
def dkwX9_mayLeave_1 : List UInt8 := [180, 0, 7, 161, 0, 7, 4, 167, 0, 4, 3, 172]
abbrev dktX9_mayLeave_1 : List UInt8 := dkwX9_mayLeave_1 ++ []
def dkwX9_mayLeave_0 : List UInt8 := [42, 180, 0, 26, 5, 27, 96, 46, 16, 247, 159, 0, 23, 42, 180, 0, 26, 16, 8, 27, 96, 46, 42]
abbrev dktX9_mayLeave_0 : List UInt8 := dkwX9_mayLeave_0 ++ dktX9_mayLeave_1
theorem dksX9_mayLeave_0 : cX9_mayLeave.data.toList.drop 0 = dktX9_mayLeave_0 := by decide +kernel
theorem dksX9_mayLeave_1 : cX9_mayLeave.data.toList.drop 23 = dktX9_mayLeave_1 := dk_seg dksX9_mayLeave_0 23 rfl rfl
theorem dX9_mayLeave_0 : decode cX9_mayLeave 0 = .ok (.aload_n 0, 1) := dk_42 (dk_at dksX9_mayLeave_0 0 rfl rfl)
theorem dX9_mayLeave_1 : decode cX9_mayLeave 1 = .ok (.getfield 26, 3) := dk_180 0 26 (dk_at dksX9_mayLeave_0 1 rfl rfl)
theorem dX9_mayLeave_4 : decode cX9_mayLeave 4 = .ok (.iconst 2, 1) := dk_5 (dk_at dksX9_mayLeave_0 4 rfl rfl)
theorem dX9_mayLeave_5 : decode cX9_mayLeave 5 = .ok (.iload_n 1, 1) := dk_27 (dk_at dksX9_mayLeave_0 5 rfl rfl)
theorem dX9_mayLeave_6 : decode cX9_mayLeave 6 = .ok (.iadd, 1) := dk_96 (dk_at dksX9_mayLeave_0 6 rfl rfl)
theorem dX9_mayLeave_7 : decode cX9_mayLeave 7 = .ok (.iaload, 1) := dk_46 (dk_at dksX9_mayLeave_0 7 rfl rfl)
theorem dX9_mayLeave_8 : decode cX9_mayLeave 8 = .ok (.bipush (-9), 2) := dk_16 247 (dk_at dksX9_mayLeave_0 8 rfl rfl)
theorem dX9_mayLeave_10 : decode cX9_mayLeave 10 = .ok (.if_icmp .eq 23, 3) := dk_159 0 23 (dk_at dksX9_mayLeave_0 10 rfl rfl)
theorem dX9_mayLeave_13 : decode cX9_mayLeave 13 = .ok (.aload_n 0, 1) := dk_42 (dk_at dksX9_mayLeave_0 13 rfl rfl)
theorem dX9_mayLeave_14 : decode cX9_mayLeave 14 = .ok (.getfield 26, 3) := dk_180 0 26 (dk_at dksX9_mayLeave_0 14 rfl rfl)
theorem dX9_mayLeave_17 : decode cX9_mayLeave 17 = .ok (.bipush 8, 2) := dk_16 8 (dk_at dksX9_mayLeave_0 17 rfl rfl)
theorem dX9_mayLeave_19 : decode cX9_mayLeave 19 = .ok (.iload_n 1, 1) := dk_27 (dk_at dksX9_mayLeave_0 19 rfl rfl)
theorem dX9_mayLeave_20 : decode cX9_mayLeave 20 = .ok (.iadd, 1) := dk_96 (dk_at dksX9_mayLeave_0 20 rfl rfl)
theorem dX9_mayLeave_21 : decode cX9_mayLeave 21 = .ok (.iaload, 1) := dk_46 (dk_at dksX9_mayLeave_0 21 rfl rfl)
theorem dX9_mayLeave_22 : decode cX9_mayLeave 22 = .ok (.aload_n 0, 1) := dk_42 (dk_at dksX9_mayLeave_0 22 rfl rfl)
theorem dX9_mayLeave_23 : decode cX9_mayLeave 23 = .ok (.getfield 7, 3) := dk_180 0 7 (dk_at dksX9_mayLeave_1 0 rfl rfl)
theorem dX9_mayLeave_26 : decode cX9_mayLeave 26 = .ok (.if_icmp .lt 7, 3) := dk_161 0 7 (dk_at dksX9_mayLeave_1 3 rfl rfl)
theorem dX9_mayLeave_29 : decode cX9_mayLeave 29 = .ok (.iconst 1, 1) := dk_4 (dk_at dksX9_mayLeave_1 6 rfl rfl)
theorem dX9_mayLeave_30 : decode cX9_mayLeave 30 = .ok (.goto 4, 3) := dk_167 0 4 (dk_at dksX9_mayLeave_1 7 rfl rfl)
theorem dX9_mayLeave_33 : decode cX9_mayLeave 33 = .ok (.iconst 0, 1) := dk_3 (dk_at dksX9_mayLeave_1 10 rfl rfl)
theorem dX9_mayLeave_34 : decode cX9_mayLeave 34 = .ok (.ireturn, 1) := dk_172 (dk_at dksX9_mayLeave_1 11 rfl rfl)
abbrev cX9_goneSet : ByteArray := prog_13_method_25_code
def yX9_goneSet : MethodName := ⟨RX9, "goneSet", "()I"⟩
def dkwX9_goneSet_1 : List UInt8 := [128, 60, 132, 2, 1, 167, 255, 231, 27, 172]
abbrev dktX9_goneSet_1 : List UInt8 := dkwX9_goneSet_1 ++ []
def dkwX9_goneSet_0 : List UInt8 := [3, 60, 3, 61, 28, 42, 180, 0, 82, 162, 0, 23, 27, 42, 180, 0, 26, 16, 14, 28, 96, 46, 28, 120]
abbrev dktX9_goneSet_0 : List UInt8 := dkwX9_goneSet_0 ++ dktX9_goneSet_1
theorem dksX9_goneSet_0 : cX9_goneSet.data.toList.drop 0 = dktX9_goneSet_0 := by decide +kernel
theorem dksX9_goneSet_1 : cX9_goneSet.data.toList.drop 24 = dktX9_goneSet_1 := dk_seg dksX9_goneSet_0 24 rfl rfl
theorem dX9_goneSet_0 : decode cX9_goneSet 0 = .ok (.iconst 0, 1) := dk_3 (dk_at dksX9_goneSet_0 0 rfl rfl)
theorem dX9_goneSet_1 : decode cX9_goneSet 1 = .ok (.istore_n 1, 1) := dk_60 (dk_at dksX9_goneSet_0 1 rfl rfl)
theorem dX9_goneSet_2 : decode cX9_goneSet 2 = .ok (.iconst 0, 1) := dk_3 (dk_at dksX9_goneSet_0 2 rfl rfl)
theorem dX9_goneSet_3 : decode cX9_goneSet 3 = .ok (.istore_n 2, 1) := dk_61 (dk_at dksX9_goneSet_0 3 rfl rfl)
theorem dX9_goneSet_4 : decode cX9_goneSet 4 = .ok (.iload_n 2, 1) := dk_28 (dk_at dksX9_goneSet_0 4 rfl rfl)
theorem dX9_goneSet_5 : decode cX9_goneSet 5 = .ok (.aload_n 0, 1) := dk_42 (dk_at dksX9_goneSet_0 5 rfl rfl)
theorem dX9_goneSet_6 : decode cX9_goneSet 6 = .ok (.getfield 82, 3) := dk_180 0 82 (dk_at dksX9_goneSet_0 6 rfl rfl)
theorem dX9_goneSet_9 : decode cX9_goneSet 9 = .ok (.if_icmp .ge 23, 3) := dk_162 0 23 (dk_at dksX9_goneSet_0 9 rfl rfl)
theorem dX9_goneSet_12 : decode cX9_goneSet 12 = .ok (.iload_n 1, 1) := dk_27 (dk_at dksX9_goneSet_0 12 rfl rfl)
theorem dX9_goneSet_13 : decode cX9_goneSet 13 = .ok (.aload_n 0, 1) := dk_42 (dk_at dksX9_goneSet_0 13 rfl rfl)
theorem dX9_goneSet_14 : decode cX9_goneSet 14 = .ok (.getfield 26, 3) := dk_180 0 26 (dk_at dksX9_goneSet_0 14 rfl rfl)
theorem dX9_goneSet_17 : decode cX9_goneSet 17 = .ok (.bipush 14, 2) := dk_16 14 (dk_at dksX9_goneSet_0 17 rfl rfl)
theorem dX9_goneSet_19 : decode cX9_goneSet 19 = .ok (.iload_n 2, 1) := dk_28 (dk_at dksX9_goneSet_0 19 rfl rfl)
theorem dX9_goneSet_20 : decode cX9_goneSet 20 = .ok (.iadd, 1) := dk_96 (dk_at dksX9_goneSet_0 20 rfl rfl)
theorem dX9_goneSet_21 : decode cX9_goneSet 21 = .ok (.iaload, 1) := dk_46 (dk_at dksX9_goneSet_0 21 rfl rfl)
theorem dX9_goneSet_22 : decode cX9_goneSet 22 = .ok (.iload_n 2, 1) := dk_28 (dk_at dksX9_goneSet_0 22 rfl rfl)
theorem dX9_goneSet_23 : decode cX9_goneSet 23 = .ok (.ishl, 1) := dk_120 (dk_at dksX9_goneSet_0 23 rfl rfl)
theorem dX9_goneSet_24 : decode cX9_goneSet 24 = .ok (.ior, 1) := dk_128 (dk_at dksX9_goneSet_1 0 rfl rfl)
theorem dX9_goneSet_25 : decode cX9_goneSet 25 = .ok (.istore_n 1, 1) := dk_60 (dk_at dksX9_goneSet_1 1 rfl rfl)
theorem dX9_goneSet_26 : decode cX9_goneSet 26 = .ok (.iinc 2 1, 3) := dk_132 2 1 (dk_at dksX9_goneSet_1 2 rfl rfl)
theorem dX9_goneSet_29 : decode cX9_goneSet 29 = .ok (.goto (-25), 3) := dk_167 255 231 (dk_at dksX9_goneSet_1 5 rfl rfl)
theorem dX9_goneSet_32 : decode cX9_goneSet 32 = .ok (.iload_n 1, 1) := dk_27 (dk_at dksX9_goneSet_1 8 rfl rfl)
theorem dX9_goneSet_33 : decode cX9_goneSet 33 = .ok (.ireturn, 1) := dk_172 (dk_at dksX9_goneSet_1 9 rfl rfl)
abbrev cX9_sailsOn : ByteArray := prog_13_method_21_code
def yX9_sailsOn : MethodName := ⟨RX9, "sailsOn", "(I)Z"⟩
def dkwX9_sailsOn_0 : List UInt8 := [27, 42, 180, 0, 16, 112, 154, 0, 7, 4, 167, 0, 4, 3, 172]
abbrev dktX9_sailsOn_0 : List UInt8 := dkwX9_sailsOn_0 ++ []
theorem dksX9_sailsOn_0 : cX9_sailsOn.data.toList.drop 0 = dktX9_sailsOn_0 := by decide +kernel
theorem dX9_sailsOn_0 : decode cX9_sailsOn 0 = .ok (.iload_n 1, 1) := dk_27 (dk_at dksX9_sailsOn_0 0 rfl rfl)
theorem dX9_sailsOn_1 : decode cX9_sailsOn 1 = .ok (.aload_n 0, 1) := dk_42 (dk_at dksX9_sailsOn_0 1 rfl rfl)
theorem dX9_sailsOn_2 : decode cX9_sailsOn 2 = .ok (.getfield 16, 3) := dk_180 0 16 (dk_at dksX9_sailsOn_0 2 rfl rfl)
theorem dX9_sailsOn_5 : decode cX9_sailsOn 5 = .ok (.irem, 1) := dk_112 (dk_at dksX9_sailsOn_0 5 rfl rfl)
theorem dX9_sailsOn_6 : decode cX9_sailsOn 6 = .ok (.ifCond .ne 7, 3) := dk_154 0 7 (dk_at dksX9_sailsOn_0 6 rfl rfl)
theorem dX9_sailsOn_9 : decode cX9_sailsOn 9 = .ok (.iconst 1, 1) := dk_4 (dk_at dksX9_sailsOn_0 9 rfl rfl)
theorem dX9_sailsOn_10 : decode cX9_sailsOn 10 = .ok (.goto 4, 3) := dk_167 0 4 (dk_at dksX9_sailsOn_0 10 rfl rfl)
theorem dX9_sailsOn_13 : decode cX9_sailsOn 13 = .ok (.iconst 0, 1) := dk_3 (dk_at dksX9_sailsOn_0 13 rfl rfl)
theorem dX9_sailsOn_14 : decode cX9_sailsOn 14 = .ok (.ireturn, 1) := dk_172 (dk_at dksX9_sailsOn_0 14 rfl rfl)
abbrev cX9_puts : ByteArray := prog_13_method_28_code
def yX9_puts : MethodName := ⟨RX9, "puts", "(II)I"⟩
def dkwX9_puts_6 : List UInt8 := [153, 0, 7, 4, 167, 0, 4, 3, 96, 62, 132, 4, 1, 167, 255, 182, 29, 172]
abbrev dktX9_puts_6 : List UInt8 := dkwX9_puts_6 ++ []
def dkwX9_puts_5 : List UInt8 := [21, 5, 153, 0, 7, 3, 167, 0, 13, 42, 180, 0, 26, 16, 8, 21, 4, 96, 46, 79, 29, 21, 5]
abbrev dktX9_puts_5 : List UInt8 := dkwX9_puts_5 ++ dktX9_puts_6
def dkwX9_puts_4 : List UInt8 := [21, 4, 96, 46, 28, 160, 0, 7, 4, 167, 0, 4, 3, 54, 5, 42, 180, 0, 26, 16, 8, 21, 4, 96]
abbrev dktX9_puts_4 : List UInt8 := dkwX9_puts_4 ++ dktX9_puts_5
def dkwX9_puts_3 : List UInt8 := [5, 27, 96, 28, 79, 3, 62, 3, 54, 4, 21, 4, 42, 180, 0, 82, 162, 0, 71, 42, 180, 0, 26, 5]
abbrev dktX9_puts_3 : List UInt8 := dkwX9_puts_3 ++ dktX9_puts_4
def dkwX9_puts_2 : List UInt8 := [42, 180, 0, 26, 16, 14, 27, 96, 46, 4, 160, 0, 6, 16, 254, 172, 42, 182, 0, 181, 42, 180, 0, 26]
abbrev dktX9_puts_2 : List UInt8 := dkwX9_puts_2 ++ dktX9_puts_3
def dkwX9_puts_1 : List UInt8 := [104, 46, 42, 180, 0, 26, 3, 46, 163, 0, 29, 42, 180, 0, 26, 5, 27, 96, 46, 16, 247, 160, 0, 16]
abbrev dktX9_puts_1 : List UInt8 := dkwX9_puts_1 ++ dktX9_puts_2
def dkwX9_puts_0 : List UInt8 := [42, 27, 182, 0, 158, 153, 0, 11, 42, 28, 182, 0, 178, 154, 0, 5, 2, 172, 42, 180, 0, 19, 5, 27]
abbrev dktX9_puts_0 : List UInt8 := dkwX9_puts_0 ++ dktX9_puts_1
theorem dksX9_puts_0 : cX9_puts.data.toList.drop 0 = dktX9_puts_0 := by decide +kernel
theorem dksX9_puts_1 : cX9_puts.data.toList.drop 24 = dktX9_puts_1 := dk_seg dksX9_puts_0 24 rfl rfl
theorem dksX9_puts_2 : cX9_puts.data.toList.drop 48 = dktX9_puts_2 := dk_seg dksX9_puts_1 24 rfl rfl
theorem dksX9_puts_3 : cX9_puts.data.toList.drop 72 = dktX9_puts_3 := dk_seg dksX9_puts_2 24 rfl rfl
theorem dksX9_puts_4 : cX9_puts.data.toList.drop 96 = dktX9_puts_4 := dk_seg dksX9_puts_3 24 rfl rfl
theorem dksX9_puts_5 : cX9_puts.data.toList.drop 120 = dktX9_puts_5 := dk_seg dksX9_puts_4 24 rfl rfl
theorem dksX9_puts_6 : cX9_puts.data.toList.drop 143 = dktX9_puts_6 := dk_seg dksX9_puts_5 23 rfl rfl
theorem dX9_puts_0 : decode cX9_puts 0 = .ok (.aload_n 0, 1) := dk_42 (dk_at dksX9_puts_0 0 rfl rfl)
theorem dX9_puts_1 : decode cX9_puts 1 = .ok (.iload_n 1, 1) := dk_27 (dk_at dksX9_puts_0 1 rfl rfl)
theorem dX9_puts_2 : decode cX9_puts 2 = .ok (.invokevirtual 158, 3) := dk_182 0 158 (dk_at dksX9_puts_0 2 rfl rfl)
theorem dX9_puts_5 : decode cX9_puts 5 = .ok (.ifCond .eq 11, 3) := dk_153 0 11 (dk_at dksX9_puts_0 5 rfl rfl)
theorem dX9_puts_8 : decode cX9_puts 8 = .ok (.aload_n 0, 1) := dk_42 (dk_at dksX9_puts_0 8 rfl rfl)
theorem dX9_puts_9 : decode cX9_puts 9 = .ok (.iload_n 2, 1) := dk_28 (dk_at dksX9_puts_0 9 rfl rfl)
theorem dX9_puts_10 : decode cX9_puts 10 = .ok (.invokevirtual 178, 3) := dk_182 0 178 (dk_at dksX9_puts_0 10 rfl rfl)
theorem dX9_puts_13 : decode cX9_puts 13 = .ok (.ifCond .ne 5, 3) := dk_154 0 5 (dk_at dksX9_puts_0 13 rfl rfl)
theorem dX9_puts_16 : decode cX9_puts 16 = .ok (.iconst (-1), 1) := dk_2 (dk_at dksX9_puts_0 16 rfl rfl)
theorem dX9_puts_17 : decode cX9_puts 17 = .ok (.ireturn, 1) := dk_172 (dk_at dksX9_puts_0 17 rfl rfl)
theorem dX9_puts_18 : decode cX9_puts 18 = .ok (.aload_n 0, 1) := dk_42 (dk_at dksX9_puts_0 18 rfl rfl)
theorem dX9_puts_19 : decode cX9_puts 19 = .ok (.getfield 19, 3) := dk_180 0 19 (dk_at dksX9_puts_0 19 rfl rfl)
theorem dX9_puts_22 : decode cX9_puts 22 = .ok (.iconst 2, 1) := dk_5 (dk_at dksX9_puts_0 22 rfl rfl)
theorem dX9_puts_23 : decode cX9_puts 23 = .ok (.iload_n 1, 1) := dk_27 (dk_at dksX9_puts_0 23 rfl rfl)
theorem dX9_puts_24 : decode cX9_puts 24 = .ok (.imul, 1) := dk_104 (dk_at dksX9_puts_1 0 rfl rfl)
theorem dX9_puts_25 : decode cX9_puts 25 = .ok (.iaload, 1) := dk_46 (dk_at dksX9_puts_1 1 rfl rfl)
theorem dX9_puts_26 : decode cX9_puts 26 = .ok (.aload_n 0, 1) := dk_42 (dk_at dksX9_puts_1 2 rfl rfl)
theorem dX9_puts_27 : decode cX9_puts 27 = .ok (.getfield 26, 3) := dk_180 0 26 (dk_at dksX9_puts_1 3 rfl rfl)
theorem dX9_puts_30 : decode cX9_puts 30 = .ok (.iconst 0, 1) := dk_3 (dk_at dksX9_puts_1 6 rfl rfl)
theorem dX9_puts_31 : decode cX9_puts 31 = .ok (.iaload, 1) := dk_46 (dk_at dksX9_puts_1 7 rfl rfl)
theorem dX9_puts_32 : decode cX9_puts 32 = .ok (.if_icmp .gt 29, 3) := dk_163 0 29 (dk_at dksX9_puts_1 8 rfl rfl)
theorem dX9_puts_35 : decode cX9_puts 35 = .ok (.aload_n 0, 1) := dk_42 (dk_at dksX9_puts_1 11 rfl rfl)
theorem dX9_puts_36 : decode cX9_puts 36 = .ok (.getfield 26, 3) := dk_180 0 26 (dk_at dksX9_puts_1 12 rfl rfl)
theorem dX9_puts_39 : decode cX9_puts 39 = .ok (.iconst 2, 1) := dk_5 (dk_at dksX9_puts_1 15 rfl rfl)
theorem dX9_puts_40 : decode cX9_puts 40 = .ok (.iload_n 1, 1) := dk_27 (dk_at dksX9_puts_1 16 rfl rfl)
theorem dX9_puts_41 : decode cX9_puts 41 = .ok (.iadd, 1) := dk_96 (dk_at dksX9_puts_1 17 rfl rfl)
theorem dX9_puts_42 : decode cX9_puts 42 = .ok (.iaload, 1) := dk_46 (dk_at dksX9_puts_1 18 rfl rfl)
theorem dX9_puts_43 : decode cX9_puts 43 = .ok (.bipush (-9), 2) := dk_16 247 (dk_at dksX9_puts_1 19 rfl rfl)
theorem dX9_puts_45 : decode cX9_puts 45 = .ok (.if_icmp .ne 16, 3) := dk_160 0 16 (dk_at dksX9_puts_1 21 rfl rfl)
theorem dX9_puts_48 : decode cX9_puts 48 = .ok (.aload_n 0, 1) := dk_42 (dk_at dksX9_puts_2 0 rfl rfl)
theorem dX9_puts_49 : decode cX9_puts 49 = .ok (.getfield 26, 3) := dk_180 0 26 (dk_at dksX9_puts_2 1 rfl rfl)
theorem dX9_puts_52 : decode cX9_puts 52 = .ok (.bipush 14, 2) := dk_16 14 (dk_at dksX9_puts_2 4 rfl rfl)
theorem dX9_puts_54 : decode cX9_puts 54 = .ok (.iload_n 1, 1) := dk_27 (dk_at dksX9_puts_2 6 rfl rfl)
theorem dX9_puts_55 : decode cX9_puts 55 = .ok (.iadd, 1) := dk_96 (dk_at dksX9_puts_2 7 rfl rfl)
theorem dX9_puts_56 : decode cX9_puts 56 = .ok (.iaload, 1) := dk_46 (dk_at dksX9_puts_2 8 rfl rfl)
theorem dX9_puts_57 : decode cX9_puts 57 = .ok (.iconst 1, 1) := dk_4 (dk_at dksX9_puts_2 9 rfl rfl)
theorem dX9_puts_58 : decode cX9_puts 58 = .ok (.if_icmp .ne 6, 3) := dk_160 0 6 (dk_at dksX9_puts_2 10 rfl rfl)
theorem dX9_puts_61 : decode cX9_puts 61 = .ok (.bipush (-2), 2) := dk_16 254 (dk_at dksX9_puts_2 13 rfl rfl)
theorem dX9_puts_63 : decode cX9_puts 63 = .ok (.ireturn, 1) := dk_172 (dk_at dksX9_puts_2 15 rfl rfl)
theorem dX9_puts_64 : decode cX9_puts 64 = .ok (.aload_n 0, 1) := dk_42 (dk_at dksX9_puts_2 16 rfl rfl)
theorem dX9_puts_65 : decode cX9_puts 65 = .ok (.invokevirtual 181, 3) := dk_182 0 181 (dk_at dksX9_puts_2 17 rfl rfl)
theorem dX9_puts_68 : decode cX9_puts 68 = .ok (.aload_n 0, 1) := dk_42 (dk_at dksX9_puts_2 20 rfl rfl)
theorem dX9_puts_69 : decode cX9_puts 69 = .ok (.getfield 26, 3) := dk_180 0 26 (dk_at dksX9_puts_2 21 rfl rfl)
theorem dX9_puts_72 : decode cX9_puts 72 = .ok (.iconst 2, 1) := dk_5 (dk_at dksX9_puts_3 0 rfl rfl)
theorem dX9_puts_73 : decode cX9_puts 73 = .ok (.iload_n 1, 1) := dk_27 (dk_at dksX9_puts_3 1 rfl rfl)
theorem dX9_puts_74 : decode cX9_puts 74 = .ok (.iadd, 1) := dk_96 (dk_at dksX9_puts_3 2 rfl rfl)
theorem dX9_puts_75 : decode cX9_puts 75 = .ok (.iload_n 2, 1) := dk_28 (dk_at dksX9_puts_3 3 rfl rfl)
theorem dX9_puts_76 : decode cX9_puts 76 = .ok (.iastore, 1) := dk_79 (dk_at dksX9_puts_3 4 rfl rfl)
theorem dX9_puts_77 : decode cX9_puts 77 = .ok (.iconst 0, 1) := dk_3 (dk_at dksX9_puts_3 5 rfl rfl)
theorem dX9_puts_78 : decode cX9_puts 78 = .ok (.istore_n 3, 1) := dk_62 (dk_at dksX9_puts_3 6 rfl rfl)
theorem dX9_puts_79 : decode cX9_puts 79 = .ok (.iconst 0, 1) := dk_3 (dk_at dksX9_puts_3 7 rfl rfl)
theorem dX9_puts_80 : decode cX9_puts 80 = .ok (.istore 4, 2) := dk_54 4 (dk_at dksX9_puts_3 8 rfl rfl)
theorem dX9_puts_82 : decode cX9_puts 82 = .ok (.iload 4, 2) := dk_21 4 (dk_at dksX9_puts_3 10 rfl rfl)
theorem dX9_puts_84 : decode cX9_puts 84 = .ok (.aload_n 0, 1) := dk_42 (dk_at dksX9_puts_3 12 rfl rfl)
theorem dX9_puts_85 : decode cX9_puts 85 = .ok (.getfield 82, 3) := dk_180 0 82 (dk_at dksX9_puts_3 13 rfl rfl)
theorem dX9_puts_88 : decode cX9_puts 88 = .ok (.if_icmp .ge 71, 3) := dk_162 0 71 (dk_at dksX9_puts_3 16 rfl rfl)
theorem dX9_puts_91 : decode cX9_puts 91 = .ok (.aload_n 0, 1) := dk_42 (dk_at dksX9_puts_3 19 rfl rfl)
theorem dX9_puts_92 : decode cX9_puts 92 = .ok (.getfield 26, 3) := dk_180 0 26 (dk_at dksX9_puts_3 20 rfl rfl)
theorem dX9_puts_95 : decode cX9_puts 95 = .ok (.iconst 2, 1) := dk_5 (dk_at dksX9_puts_3 23 rfl rfl)
theorem dX9_puts_96 : decode cX9_puts 96 = .ok (.iload 4, 2) := dk_21 4 (dk_at dksX9_puts_4 0 rfl rfl)
theorem dX9_puts_98 : decode cX9_puts 98 = .ok (.iadd, 1) := dk_96 (dk_at dksX9_puts_4 2 rfl rfl)
theorem dX9_puts_99 : decode cX9_puts 99 = .ok (.iaload, 1) := dk_46 (dk_at dksX9_puts_4 3 rfl rfl)
theorem dX9_puts_100 : decode cX9_puts 100 = .ok (.iload_n 2, 1) := dk_28 (dk_at dksX9_puts_4 4 rfl rfl)
theorem dX9_puts_101 : decode cX9_puts 101 = .ok (.if_icmp .ne 7, 3) := dk_160 0 7 (dk_at dksX9_puts_4 5 rfl rfl)
theorem dX9_puts_104 : decode cX9_puts 104 = .ok (.iconst 1, 1) := dk_4 (dk_at dksX9_puts_4 8 rfl rfl)
theorem dX9_puts_105 : decode cX9_puts 105 = .ok (.goto 4, 3) := dk_167 0 4 (dk_at dksX9_puts_4 9 rfl rfl)
theorem dX9_puts_108 : decode cX9_puts 108 = .ok (.iconst 0, 1) := dk_3 (dk_at dksX9_puts_4 12 rfl rfl)
theorem dX9_puts_109 : decode cX9_puts 109 = .ok (.istore 5, 2) := dk_54 5 (dk_at dksX9_puts_4 13 rfl rfl)
theorem dX9_puts_111 : decode cX9_puts 111 = .ok (.aload_n 0, 1) := dk_42 (dk_at dksX9_puts_4 15 rfl rfl)
theorem dX9_puts_112 : decode cX9_puts 112 = .ok (.getfield 26, 3) := dk_180 0 26 (dk_at dksX9_puts_4 16 rfl rfl)
theorem dX9_puts_115 : decode cX9_puts 115 = .ok (.bipush 8, 2) := dk_16 8 (dk_at dksX9_puts_4 19 rfl rfl)
theorem dX9_puts_117 : decode cX9_puts 117 = .ok (.iload 4, 2) := dk_21 4 (dk_at dksX9_puts_4 21 rfl rfl)
theorem dX9_puts_119 : decode cX9_puts 119 = .ok (.iadd, 1) := dk_96 (dk_at dksX9_puts_4 23 rfl rfl)
theorem dX9_puts_120 : decode cX9_puts 120 = .ok (.iload 5, 2) := dk_21 5 (dk_at dksX9_puts_5 0 rfl rfl)
theorem dX9_puts_122 : decode cX9_puts 122 = .ok (.ifCond .eq 7, 3) := dk_153 0 7 (dk_at dksX9_puts_5 2 rfl rfl)
theorem dX9_puts_125 : decode cX9_puts 125 = .ok (.iconst 0, 1) := dk_3 (dk_at dksX9_puts_5 5 rfl rfl)
theorem dX9_puts_126 : decode cX9_puts 126 = .ok (.goto 13, 3) := dk_167 0 13 (dk_at dksX9_puts_5 6 rfl rfl)
theorem dX9_puts_129 : decode cX9_puts 129 = .ok (.aload_n 0, 1) := dk_42 (dk_at dksX9_puts_5 9 rfl rfl)
theorem dX9_puts_130 : decode cX9_puts 130 = .ok (.getfield 26, 3) := dk_180 0 26 (dk_at dksX9_puts_5 10 rfl rfl)
theorem dX9_puts_133 : decode cX9_puts 133 = .ok (.bipush 8, 2) := dk_16 8 (dk_at dksX9_puts_5 13 rfl rfl)
theorem dX9_puts_135 : decode cX9_puts 135 = .ok (.iload 4, 2) := dk_21 4 (dk_at dksX9_puts_5 15 rfl rfl)
theorem dX9_puts_137 : decode cX9_puts 137 = .ok (.iadd, 1) := dk_96 (dk_at dksX9_puts_5 17 rfl rfl)
theorem dX9_puts_138 : decode cX9_puts 138 = .ok (.iaload, 1) := dk_46 (dk_at dksX9_puts_5 18 rfl rfl)
theorem dX9_puts_139 : decode cX9_puts 139 = .ok (.iastore, 1) := dk_79 (dk_at dksX9_puts_5 19 rfl rfl)
theorem dX9_puts_140 : decode cX9_puts 140 = .ok (.iload_n 3, 1) := dk_29 (dk_at dksX9_puts_5 20 rfl rfl)
theorem dX9_puts_141 : decode cX9_puts 141 = .ok (.iload 5, 2) := dk_21 5 (dk_at dksX9_puts_5 21 rfl rfl)
theorem dX9_puts_143 : decode cX9_puts 143 = .ok (.ifCond .eq 7, 3) := dk_153 0 7 (dk_at dksX9_puts_6 0 rfl rfl)
theorem dX9_puts_146 : decode cX9_puts 146 = .ok (.iconst 1, 1) := dk_4 (dk_at dksX9_puts_6 3 rfl rfl)
theorem dX9_puts_147 : decode cX9_puts 147 = .ok (.goto 4, 3) := dk_167 0 4 (dk_at dksX9_puts_6 4 rfl rfl)
theorem dX9_puts_150 : decode cX9_puts 150 = .ok (.iconst 0, 1) := dk_3 (dk_at dksX9_puts_6 7 rfl rfl)
theorem dX9_puts_151 : decode cX9_puts 151 = .ok (.iadd, 1) := dk_96 (dk_at dksX9_puts_6 8 rfl rfl)
theorem dX9_puts_152 : decode cX9_puts 152 = .ok (.istore_n 3, 1) := dk_62 (dk_at dksX9_puts_6 9 rfl rfl)
theorem dX9_puts_153 : decode cX9_puts 153 = .ok (.iinc 4 1, 3) := dk_132 4 1 (dk_at dksX9_puts_6 10 rfl rfl)
theorem dX9_puts_156 : decode cX9_puts 156 = .ok (.goto (-74), 3) := dk_167 255 182 (dk_at dksX9_puts_6 13 rfl rfl)
theorem dX9_puts_159 : decode cX9_puts 159 = .ok (.iload_n 3, 1) := dk_29 (dk_at dksX9_puts_6 16 rfl rfl)
theorem dX9_puts_160 : decode cX9_puts 160 = .ok (.ireturn, 1) := dk_172 (dk_at dksX9_puts_6 17 rfl rfl)
abbrev cX9_isRow : ByteArray := prog_13_method_7_code
def yX9_isRow : MethodName := ⟨RX9, "isRow", "(I)Z"⟩
def dkwX9_isRow_0 : List UInt8 := [27, 3, 42, 180, 0, 13, 4, 100, 184, 0, 85, 172]
abbrev dktX9_isRow_0 : List UInt8 := dkwX9_isRow_0 ++ []
theorem dksX9_isRow_0 : cX9_isRow.data.toList.drop 0 = dktX9_isRow_0 := by decide +kernel
theorem dX9_isRow_0 : decode cX9_isRow 0 = .ok (.iload_n 1, 1) := dk_27 (dk_at dksX9_isRow_0 0 rfl rfl)
theorem dX9_isRow_1 : decode cX9_isRow 1 = .ok (.iconst 0, 1) := dk_3 (dk_at dksX9_isRow_0 1 rfl rfl)
theorem dX9_isRow_2 : decode cX9_isRow 2 = .ok (.aload_n 0, 1) := dk_42 (dk_at dksX9_isRow_0 2 rfl rfl)
theorem dX9_isRow_3 : decode cX9_isRow 3 = .ok (.getfield 13, 3) := dk_180 0 13 (dk_at dksX9_isRow_0 3 rfl rfl)
theorem dX9_isRow_6 : decode cX9_isRow 6 = .ok (.iconst 1, 1) := dk_4 (dk_at dksX9_isRow_0 6 rfl rfl)
theorem dX9_isRow_7 : decode cX9_isRow 7 = .ok (.isub, 1) := dk_100 (dk_at dksX9_isRow_0 7 rfl rfl)
theorem dX9_isRow_8 : decode cX9_isRow 8 = .ok (.invokestatic 85, 3) := dk_184 0 85 (dk_at dksX9_isRow_0 8 rfl rfl)
theorem dX9_isRow_11 : decode cX9_isRow 11 = .ok (.ireturn, 1) := dk_172 (dk_at dksX9_isRow_0 11 rfl rfl)
abbrev cX9_remembers : ByteArray := prog_13_method_27_code
def yX9_remembers : MethodName := ⟨RX9, "remembers", "()V"⟩
def dkwX9_remembers_3 : List UInt8 := [42, 180, 0, 26, 27, 46, 79, 132, 1, 1, 167, 255, 227, 42, 89, 180, 0, 152, 4, 96, 181, 0, 152, 177]
abbrev dktX9_remembers_3 : List UInt8 := dkwX9_remembers_3 ++ []
def dkwX9_remembers_2 : List UInt8 := [181, 0, 152, 3, 60, 27, 16, 26, 162, 0, 29, 42, 180, 0, 29, 16, 26, 42, 180, 0, 152, 104, 27, 96]
abbrev dktX9_remembers_2 : List UInt8 := dkwX9_remembers_2 ++ dktX9_remembers_3
def dkwX9_remembers_1 : List UInt8 := [180, 0, 29, 27, 16, 26, 96, 46, 79, 132, 1, 1, 167, 255, 231, 42, 89, 180, 0, 152, 4, 100]
abbrev dktX9_remembers_1 : List UInt8 := dkwX9_remembers_1 ++ dktX9_remembers_2
def dkwX9_remembers_0 : List UInt8 := [42, 180, 0, 152, 16, 10, 160, 0, 43, 3, 60, 27, 17, 0, 234, 162, 0, 24, 42, 180, 0, 29, 27, 42]
abbrev dktX9_remembers_0 : List UInt8 := dkwX9_remembers_0 ++ dktX9_remembers_1
theorem dksX9_remembers_0 : cX9_remembers.data.toList.drop 0 = dktX9_remembers_0 := by decide +kernel
theorem dksX9_remembers_1 : cX9_remembers.data.toList.drop 24 = dktX9_remembers_1 := dk_seg dksX9_remembers_0 24 rfl rfl
theorem dksX9_remembers_2 : cX9_remembers.data.toList.drop 46 = dktX9_remembers_2 := dk_seg dksX9_remembers_1 22 rfl rfl
theorem dksX9_remembers_3 : cX9_remembers.data.toList.drop 70 = dktX9_remembers_3 := dk_seg dksX9_remembers_2 24 rfl rfl
theorem dX9_remembers_0 : decode cX9_remembers 0 = .ok (.aload_n 0, 1) := dk_42 (dk_at dksX9_remembers_0 0 rfl rfl)
theorem dX9_remembers_1 : decode cX9_remembers 1 = .ok (.getfield 152, 3) := dk_180 0 152 (dk_at dksX9_remembers_0 1 rfl rfl)
theorem dX9_remembers_4 : decode cX9_remembers 4 = .ok (.bipush 10, 2) := dk_16 10 (dk_at dksX9_remembers_0 4 rfl rfl)
theorem dX9_remembers_6 : decode cX9_remembers 6 = .ok (.if_icmp .ne 43, 3) := dk_160 0 43 (dk_at dksX9_remembers_0 6 rfl rfl)
theorem dX9_remembers_9 : decode cX9_remembers 9 = .ok (.iconst 0, 1) := dk_3 (dk_at dksX9_remembers_0 9 rfl rfl)
theorem dX9_remembers_10 : decode cX9_remembers 10 = .ok (.istore_n 1, 1) := dk_60 (dk_at dksX9_remembers_0 10 rfl rfl)
theorem dX9_remembers_11 : decode cX9_remembers 11 = .ok (.iload_n 1, 1) := dk_27 (dk_at dksX9_remembers_0 11 rfl rfl)
theorem dX9_remembers_12 : decode cX9_remembers 12 = .ok (.sipush 234, 3) := dk_17 0 234 (dk_at dksX9_remembers_0 12 rfl rfl)
theorem dX9_remembers_15 : decode cX9_remembers 15 = .ok (.if_icmp .ge 24, 3) := dk_162 0 24 (dk_at dksX9_remembers_0 15 rfl rfl)
theorem dX9_remembers_18 : decode cX9_remembers 18 = .ok (.aload_n 0, 1) := dk_42 (dk_at dksX9_remembers_0 18 rfl rfl)
theorem dX9_remembers_19 : decode cX9_remembers 19 = .ok (.getfield 29, 3) := dk_180 0 29 (dk_at dksX9_remembers_0 19 rfl rfl)
theorem dX9_remembers_22 : decode cX9_remembers 22 = .ok (.iload_n 1, 1) := dk_27 (dk_at dksX9_remembers_0 22 rfl rfl)
theorem dX9_remembers_23 : decode cX9_remembers 23 = .ok (.aload_n 0, 1) := dk_42 (dk_at dksX9_remembers_0 23 rfl rfl)
theorem dX9_remembers_24 : decode cX9_remembers 24 = .ok (.getfield 29, 3) := dk_180 0 29 (dk_at dksX9_remembers_1 0 rfl rfl)
theorem dX9_remembers_27 : decode cX9_remembers 27 = .ok (.iload_n 1, 1) := dk_27 (dk_at dksX9_remembers_1 3 rfl rfl)
theorem dX9_remembers_28 : decode cX9_remembers 28 = .ok (.bipush 26, 2) := dk_16 26 (dk_at dksX9_remembers_1 4 rfl rfl)
theorem dX9_remembers_30 : decode cX9_remembers 30 = .ok (.iadd, 1) := dk_96 (dk_at dksX9_remembers_1 6 rfl rfl)
theorem dX9_remembers_31 : decode cX9_remembers 31 = .ok (.iaload, 1) := dk_46 (dk_at dksX9_remembers_1 7 rfl rfl)
theorem dX9_remembers_32 : decode cX9_remembers 32 = .ok (.iastore, 1) := dk_79 (dk_at dksX9_remembers_1 8 rfl rfl)
theorem dX9_remembers_33 : decode cX9_remembers 33 = .ok (.iinc 1 1, 3) := dk_132 1 1 (dk_at dksX9_remembers_1 9 rfl rfl)
theorem dX9_remembers_36 : decode cX9_remembers 36 = .ok (.goto (-25), 3) := dk_167 255 231 (dk_at dksX9_remembers_1 12 rfl rfl)
theorem dX9_remembers_39 : decode cX9_remembers 39 = .ok (.aload_n 0, 1) := dk_42 (dk_at dksX9_remembers_1 15 rfl rfl)
theorem dX9_remembers_40 : decode cX9_remembers 40 = .ok (.dup, 1) := dk_89 (dk_at dksX9_remembers_1 16 rfl rfl)
theorem dX9_remembers_41 : decode cX9_remembers 41 = .ok (.getfield 152, 3) := dk_180 0 152 (dk_at dksX9_remembers_1 17 rfl rfl)
theorem dX9_remembers_44 : decode cX9_remembers 44 = .ok (.iconst 1, 1) := dk_4 (dk_at dksX9_remembers_1 20 rfl rfl)
theorem dX9_remembers_45 : decode cX9_remembers 45 = .ok (.isub, 1) := dk_100 (dk_at dksX9_remembers_1 21 rfl rfl)
theorem dX9_remembers_46 : decode cX9_remembers 46 = .ok (.putfield 152, 3) := dk_181 0 152 (dk_at dksX9_remembers_2 0 rfl rfl)
theorem dX9_remembers_49 : decode cX9_remembers 49 = .ok (.iconst 0, 1) := dk_3 (dk_at dksX9_remembers_2 3 rfl rfl)
theorem dX9_remembers_50 : decode cX9_remembers 50 = .ok (.istore_n 1, 1) := dk_60 (dk_at dksX9_remembers_2 4 rfl rfl)
theorem dX9_remembers_51 : decode cX9_remembers 51 = .ok (.iload_n 1, 1) := dk_27 (dk_at dksX9_remembers_2 5 rfl rfl)
theorem dX9_remembers_52 : decode cX9_remembers 52 = .ok (.bipush 26, 2) := dk_16 26 (dk_at dksX9_remembers_2 6 rfl rfl)
theorem dX9_remembers_54 : decode cX9_remembers 54 = .ok (.if_icmp .ge 29, 3) := dk_162 0 29 (dk_at dksX9_remembers_2 8 rfl rfl)
theorem dX9_remembers_57 : decode cX9_remembers 57 = .ok (.aload_n 0, 1) := dk_42 (dk_at dksX9_remembers_2 11 rfl rfl)
theorem dX9_remembers_58 : decode cX9_remembers 58 = .ok (.getfield 29, 3) := dk_180 0 29 (dk_at dksX9_remembers_2 12 rfl rfl)
theorem dX9_remembers_61 : decode cX9_remembers 61 = .ok (.bipush 26, 2) := dk_16 26 (dk_at dksX9_remembers_2 15 rfl rfl)
theorem dX9_remembers_63 : decode cX9_remembers 63 = .ok (.aload_n 0, 1) := dk_42 (dk_at dksX9_remembers_2 17 rfl rfl)
theorem dX9_remembers_64 : decode cX9_remembers 64 = .ok (.getfield 152, 3) := dk_180 0 152 (dk_at dksX9_remembers_2 18 rfl rfl)
theorem dX9_remembers_67 : decode cX9_remembers 67 = .ok (.imul, 1) := dk_104 (dk_at dksX9_remembers_2 21 rfl rfl)
theorem dX9_remembers_68 : decode cX9_remembers 68 = .ok (.iload_n 1, 1) := dk_27 (dk_at dksX9_remembers_2 22 rfl rfl)
theorem dX9_remembers_69 : decode cX9_remembers 69 = .ok (.iadd, 1) := dk_96 (dk_at dksX9_remembers_2 23 rfl rfl)
theorem dX9_remembers_70 : decode cX9_remembers 70 = .ok (.aload_n 0, 1) := dk_42 (dk_at dksX9_remembers_3 0 rfl rfl)
theorem dX9_remembers_71 : decode cX9_remembers 71 = .ok (.getfield 26, 3) := dk_180 0 26 (dk_at dksX9_remembers_3 1 rfl rfl)
theorem dX9_remembers_74 : decode cX9_remembers 74 = .ok (.iload_n 1, 1) := dk_27 (dk_at dksX9_remembers_3 4 rfl rfl)
theorem dX9_remembers_75 : decode cX9_remembers 75 = .ok (.iaload, 1) := dk_46 (dk_at dksX9_remembers_3 5 rfl rfl)
theorem dX9_remembers_76 : decode cX9_remembers 76 = .ok (.iastore, 1) := dk_79 (dk_at dksX9_remembers_3 6 rfl rfl)
theorem dX9_remembers_77 : decode cX9_remembers 77 = .ok (.iinc 1 1, 3) := dk_132 1 1 (dk_at dksX9_remembers_3 7 rfl rfl)
theorem dX9_remembers_80 : decode cX9_remembers 80 = .ok (.goto (-29), 3) := dk_167 255 227 (dk_at dksX9_remembers_3 10 rfl rfl)
theorem dX9_remembers_83 : decode cX9_remembers 83 = .ok (.aload_n 0, 1) := dk_42 (dk_at dksX9_remembers_3 13 rfl rfl)
theorem dX9_remembers_84 : decode cX9_remembers 84 = .ok (.dup, 1) := dk_89 (dk_at dksX9_remembers_3 14 rfl rfl)
theorem dX9_remembers_85 : decode cX9_remembers 85 = .ok (.getfield 152, 3) := dk_180 0 152 (dk_at dksX9_remembers_3 15 rfl rfl)
theorem dX9_remembers_88 : decode cX9_remembers 88 = .ok (.iconst 1, 1) := dk_4 (dk_at dksX9_remembers_3 18 rfl rfl)
theorem dX9_remembers_89 : decode cX9_remembers 89 = .ok (.iadd, 1) := dk_96 (dk_at dksX9_remembers_3 19 rfl rfl)
theorem dX9_remembers_90 : decode cX9_remembers 90 = .ok (.putfield 152, 3) := dk_181 0 152 (dk_at dksX9_remembers_3 20 rfl rfl)
theorem dX9_remembers_93 : decode cX9_remembers 93 = .ok (.return_, 1) := dk_177 (dk_at dksX9_remembers_3 23 rfl rfl)
abbrev cX9_day : ByteArray := prog_13_method_30_code
def yX9_day : MethodName := ⟨RX9, "day", "()I"⟩
def dkwX9_day_4 : List UInt8 := [182, 0, 168, 172]
abbrev dktX9_day_4 : List UInt8 := dkwX9_day_4 ++ []
def dkwX9_day_3 : List UInt8 := [27, 96, 46, 16, 247, 160, 0, 7, 3, 167, 0, 4, 4, 96, 79, 132, 1, 1, 167, 255, 215, 42]
abbrev dktX9_day_3 : List UInt8 := dkwX9_day_3 ++ dktX9_day_4
def dkwX9_day_2 : List UInt8 := [60, 27, 42, 180, 0, 82, 162, 0, 39, 42, 180, 0, 26, 16, 8, 27, 96, 92, 46, 42, 180, 0, 26, 5]
abbrev dktX9_day_2 : List UInt8 := dkwX9_day_2 ++ dktX9_day_3
def dkwX9_day_1 : List UInt8 := [92, 46, 42, 42, 180, 0, 26, 5, 182, 0, 184, 96, 79, 42, 180, 0, 26, 3, 92, 46, 4, 96, 79, 3]
abbrev dktX9_day_1 : List UInt8 := dkwX9_day_1 ++ dktX9_day_2
def dkwX9_day_0 : List UInt8 := [42, 180, 0, 26, 3, 46, 17, 0, 200, 160, 0, 6, 16, 254, 172, 42, 182, 0, 181, 42, 180, 0, 26, 4]
abbrev dktX9_day_0 : List UInt8 := dkwX9_day_0 ++ dktX9_day_1
theorem dksX9_day_0 : cX9_day.data.toList.drop 0 = dktX9_day_0 := by decide +kernel
theorem dksX9_day_1 : cX9_day.data.toList.drop 24 = dktX9_day_1 := dk_seg dksX9_day_0 24 rfl rfl
theorem dksX9_day_2 : cX9_day.data.toList.drop 48 = dktX9_day_2 := dk_seg dksX9_day_1 24 rfl rfl
theorem dksX9_day_3 : cX9_day.data.toList.drop 72 = dktX9_day_3 := dk_seg dksX9_day_2 24 rfl rfl
theorem dksX9_day_4 : cX9_day.data.toList.drop 94 = dktX9_day_4 := dk_seg dksX9_day_3 22 rfl rfl
theorem dX9_day_0 : decode cX9_day 0 = .ok (.aload_n 0, 1) := dk_42 (dk_at dksX9_day_0 0 rfl rfl)
theorem dX9_day_1 : decode cX9_day 1 = .ok (.getfield 26, 3) := dk_180 0 26 (dk_at dksX9_day_0 1 rfl rfl)
theorem dX9_day_4 : decode cX9_day 4 = .ok (.iconst 0, 1) := dk_3 (dk_at dksX9_day_0 4 rfl rfl)
theorem dX9_day_5 : decode cX9_day 5 = .ok (.iaload, 1) := dk_46 (dk_at dksX9_day_0 5 rfl rfl)
theorem dX9_day_6 : decode cX9_day 6 = .ok (.sipush 200, 3) := dk_17 0 200 (dk_at dksX9_day_0 6 rfl rfl)
theorem dX9_day_9 : decode cX9_day 9 = .ok (.if_icmp .ne 6, 3) := dk_160 0 6 (dk_at dksX9_day_0 9 rfl rfl)
theorem dX9_day_12 : decode cX9_day 12 = .ok (.bipush (-2), 2) := dk_16 254 (dk_at dksX9_day_0 12 rfl rfl)
theorem dX9_day_14 : decode cX9_day 14 = .ok (.ireturn, 1) := dk_172 (dk_at dksX9_day_0 14 rfl rfl)
theorem dX9_day_15 : decode cX9_day 15 = .ok (.aload_n 0, 1) := dk_42 (dk_at dksX9_day_0 15 rfl rfl)
theorem dX9_day_16 : decode cX9_day 16 = .ok (.invokevirtual 181, 3) := dk_182 0 181 (dk_at dksX9_day_0 16 rfl rfl)
theorem dX9_day_19 : decode cX9_day 19 = .ok (.aload_n 0, 1) := dk_42 (dk_at dksX9_day_0 19 rfl rfl)
theorem dX9_day_20 : decode cX9_day 20 = .ok (.getfield 26, 3) := dk_180 0 26 (dk_at dksX9_day_0 20 rfl rfl)
theorem dX9_day_23 : decode cX9_day 23 = .ok (.iconst 1, 1) := dk_4 (dk_at dksX9_day_0 23 rfl rfl)
theorem dX9_day_24 : decode cX9_day 24 = .ok (.dup2, 1) := dk_92 (dk_at dksX9_day_1 0 rfl rfl)
theorem dX9_day_25 : decode cX9_day 25 = .ok (.iaload, 1) := dk_46 (dk_at dksX9_day_1 1 rfl rfl)
theorem dX9_day_26 : decode cX9_day 26 = .ok (.aload_n 0, 1) := dk_42 (dk_at dksX9_day_1 2 rfl rfl)
theorem dX9_day_27 : decode cX9_day 27 = .ok (.aload_n 0, 1) := dk_42 (dk_at dksX9_day_1 3 rfl rfl)
theorem dX9_day_28 : decode cX9_day 28 = .ok (.getfield 26, 3) := dk_180 0 26 (dk_at dksX9_day_1 4 rfl rfl)
theorem dX9_day_31 : decode cX9_day 31 = .ok (.iconst 2, 1) := dk_5 (dk_at dksX9_day_1 7 rfl rfl)
theorem dX9_day_32 : decode cX9_day 32 = .ok (.invokevirtual 184, 3) := dk_182 0 184 (dk_at dksX9_day_1 8 rfl rfl)
theorem dX9_day_35 : decode cX9_day 35 = .ok (.iadd, 1) := dk_96 (dk_at dksX9_day_1 11 rfl rfl)
theorem dX9_day_36 : decode cX9_day 36 = .ok (.iastore, 1) := dk_79 (dk_at dksX9_day_1 12 rfl rfl)
theorem dX9_day_37 : decode cX9_day 37 = .ok (.aload_n 0, 1) := dk_42 (dk_at dksX9_day_1 13 rfl rfl)
theorem dX9_day_38 : decode cX9_day 38 = .ok (.getfield 26, 3) := dk_180 0 26 (dk_at dksX9_day_1 14 rfl rfl)
theorem dX9_day_41 : decode cX9_day 41 = .ok (.iconst 0, 1) := dk_3 (dk_at dksX9_day_1 17 rfl rfl)
theorem dX9_day_42 : decode cX9_day 42 = .ok (.dup2, 1) := dk_92 (dk_at dksX9_day_1 18 rfl rfl)
theorem dX9_day_43 : decode cX9_day 43 = .ok (.iaload, 1) := dk_46 (dk_at dksX9_day_1 19 rfl rfl)
theorem dX9_day_44 : decode cX9_day 44 = .ok (.iconst 1, 1) := dk_4 (dk_at dksX9_day_1 20 rfl rfl)
theorem dX9_day_45 : decode cX9_day 45 = .ok (.iadd, 1) := dk_96 (dk_at dksX9_day_1 21 rfl rfl)
theorem dX9_day_46 : decode cX9_day 46 = .ok (.iastore, 1) := dk_79 (dk_at dksX9_day_1 22 rfl rfl)
theorem dX9_day_47 : decode cX9_day 47 = .ok (.iconst 0, 1) := dk_3 (dk_at dksX9_day_1 23 rfl rfl)
theorem dX9_day_48 : decode cX9_day 48 = .ok (.istore_n 1, 1) := dk_60 (dk_at dksX9_day_2 0 rfl rfl)
theorem dX9_day_49 : decode cX9_day 49 = .ok (.iload_n 1, 1) := dk_27 (dk_at dksX9_day_2 1 rfl rfl)
theorem dX9_day_50 : decode cX9_day 50 = .ok (.aload_n 0, 1) := dk_42 (dk_at dksX9_day_2 2 rfl rfl)
theorem dX9_day_51 : decode cX9_day 51 = .ok (.getfield 82, 3) := dk_180 0 82 (dk_at dksX9_day_2 3 rfl rfl)
theorem dX9_day_54 : decode cX9_day 54 = .ok (.if_icmp .ge 39, 3) := dk_162 0 39 (dk_at dksX9_day_2 6 rfl rfl)
theorem dX9_day_57 : decode cX9_day 57 = .ok (.aload_n 0, 1) := dk_42 (dk_at dksX9_day_2 9 rfl rfl)
theorem dX9_day_58 : decode cX9_day 58 = .ok (.getfield 26, 3) := dk_180 0 26 (dk_at dksX9_day_2 10 rfl rfl)
theorem dX9_day_61 : decode cX9_day 61 = .ok (.bipush 8, 2) := dk_16 8 (dk_at dksX9_day_2 13 rfl rfl)
theorem dX9_day_63 : decode cX9_day 63 = .ok (.iload_n 1, 1) := dk_27 (dk_at dksX9_day_2 15 rfl rfl)
theorem dX9_day_64 : decode cX9_day 64 = .ok (.iadd, 1) := dk_96 (dk_at dksX9_day_2 16 rfl rfl)
theorem dX9_day_65 : decode cX9_day 65 = .ok (.dup2, 1) := dk_92 (dk_at dksX9_day_2 17 rfl rfl)
theorem dX9_day_66 : decode cX9_day 66 = .ok (.iaload, 1) := dk_46 (dk_at dksX9_day_2 18 rfl rfl)
theorem dX9_day_67 : decode cX9_day 67 = .ok (.aload_n 0, 1) := dk_42 (dk_at dksX9_day_2 19 rfl rfl)
theorem dX9_day_68 : decode cX9_day 68 = .ok (.getfield 26, 3) := dk_180 0 26 (dk_at dksX9_day_2 20 rfl rfl)
theorem dX9_day_71 : decode cX9_day 71 = .ok (.iconst 2, 1) := dk_5 (dk_at dksX9_day_2 23 rfl rfl)
theorem dX9_day_72 : decode cX9_day 72 = .ok (.iload_n 1, 1) := dk_27 (dk_at dksX9_day_3 0 rfl rfl)
theorem dX9_day_73 : decode cX9_day 73 = .ok (.iadd, 1) := dk_96 (dk_at dksX9_day_3 1 rfl rfl)
theorem dX9_day_74 : decode cX9_day 74 = .ok (.iaload, 1) := dk_46 (dk_at dksX9_day_3 2 rfl rfl)
theorem dX9_day_75 : decode cX9_day 75 = .ok (.bipush (-9), 2) := dk_16 247 (dk_at dksX9_day_3 3 rfl rfl)
theorem dX9_day_77 : decode cX9_day 77 = .ok (.if_icmp .ne 7, 3) := dk_160 0 7 (dk_at dksX9_day_3 5 rfl rfl)
theorem dX9_day_80 : decode cX9_day 80 = .ok (.iconst 0, 1) := dk_3 (dk_at dksX9_day_3 8 rfl rfl)
theorem dX9_day_81 : decode cX9_day 81 = .ok (.goto 4, 3) := dk_167 0 4 (dk_at dksX9_day_3 9 rfl rfl)
theorem dX9_day_84 : decode cX9_day 84 = .ok (.iconst 1, 1) := dk_4 (dk_at dksX9_day_3 12 rfl rfl)
theorem dX9_day_85 : decode cX9_day 85 = .ok (.iadd, 1) := dk_96 (dk_at dksX9_day_3 13 rfl rfl)
theorem dX9_day_86 : decode cX9_day 86 = .ok (.iastore, 1) := dk_79 (dk_at dksX9_day_3 14 rfl rfl)
theorem dX9_day_87 : decode cX9_day 87 = .ok (.iinc 1 1, 3) := dk_132 1 1 (dk_at dksX9_day_3 15 rfl rfl)
theorem dX9_day_90 : decode cX9_day 90 = .ok (.goto (-41), 3) := dk_167 255 215 (dk_at dksX9_day_3 18 rfl rfl)
theorem dX9_day_93 : decode cX9_day 93 = .ok (.aload_n 0, 1) := dk_42 (dk_at dksX9_day_3 21 rfl rfl)
theorem dX9_day_94 : decode cX9_day 94 = .ok (.invokevirtual 168, 3) := dk_182 0 168 (dk_at dksX9_day_4 0 rfl rfl)
theorem dX9_day_97 : decode cX9_day 97 = .ok (.ireturn, 1) := dk_172 (dk_at dksX9_day_4 3 rfl rfl)
abbrev cX9_vinegar : ByteArray := prog_13_method_29_code
def yX9_vinegar : MethodName := ⟨RX9, "vinegar", "([II)I"⟩
def dkwX9_vinegar_3 : List UInt8 := [96, 96, 62, 132, 4, 1, 167, 255, 184, 29, 172]
abbrev dktX9_vinegar_3 : List UInt8 := dkwX9_vinegar_3 ++ []
def dkwX9_vinegar_2 : List UInt8 := [96, 54, 5, 132, 6, 1, 167, 255, 223, 29, 21, 5, 154, 0, 7, 3, 167, 0, 9, 4, 21, 5, 5, 108]
abbrev dktX9_vinegar_2 : List UInt8 := dkwX9_vinegar_2 ++ dktX9_vinegar_3
def dkwX9_vinegar_1 : List UInt8 := [180, 0, 82, 162, 0, 30, 21, 5, 43, 28, 21, 6, 96, 46, 21, 4, 160, 0, 7, 4, 167, 0, 4, 3]
abbrev dktX9_vinegar_1 : List UInt8 := dkwX9_vinegar_1 ++ dktX9_vinegar_2
def dkwX9_vinegar_0 : List UInt8 := [3, 62, 3, 54, 4, 21, 4, 42, 180, 0, 13, 162, 0, 69, 3, 54, 5, 3, 54, 6, 21, 6, 42]
abbrev dktX9_vinegar_0 : List UInt8 := dkwX9_vinegar_0 ++ dktX9_vinegar_1
theorem dksX9_vinegar_0 : cX9_vinegar.data.toList.drop 0 = dktX9_vinegar_0 := by decide +kernel
theorem dksX9_vinegar_1 : cX9_vinegar.data.toList.drop 23 = dktX9_vinegar_1 := dk_seg dksX9_vinegar_0 23 rfl rfl
theorem dksX9_vinegar_2 : cX9_vinegar.data.toList.drop 47 = dktX9_vinegar_2 := dk_seg dksX9_vinegar_1 24 rfl rfl
theorem dksX9_vinegar_3 : cX9_vinegar.data.toList.drop 71 = dktX9_vinegar_3 := dk_seg dksX9_vinegar_2 24 rfl rfl
theorem dX9_vinegar_0 : decode cX9_vinegar 0 = .ok (.iconst 0, 1) := dk_3 (dk_at dksX9_vinegar_0 0 rfl rfl)
theorem dX9_vinegar_1 : decode cX9_vinegar 1 = .ok (.istore_n 3, 1) := dk_62 (dk_at dksX9_vinegar_0 1 rfl rfl)
theorem dX9_vinegar_2 : decode cX9_vinegar 2 = .ok (.iconst 0, 1) := dk_3 (dk_at dksX9_vinegar_0 2 rfl rfl)
theorem dX9_vinegar_3 : decode cX9_vinegar 3 = .ok (.istore 4, 2) := dk_54 4 (dk_at dksX9_vinegar_0 3 rfl rfl)
theorem dX9_vinegar_5 : decode cX9_vinegar 5 = .ok (.iload 4, 2) := dk_21 4 (dk_at dksX9_vinegar_0 5 rfl rfl)
theorem dX9_vinegar_7 : decode cX9_vinegar 7 = .ok (.aload_n 0, 1) := dk_42 (dk_at dksX9_vinegar_0 7 rfl rfl)
theorem dX9_vinegar_8 : decode cX9_vinegar 8 = .ok (.getfield 13, 3) := dk_180 0 13 (dk_at dksX9_vinegar_0 8 rfl rfl)
theorem dX9_vinegar_11 : decode cX9_vinegar 11 = .ok (.if_icmp .ge 69, 3) := dk_162 0 69 (dk_at dksX9_vinegar_0 11 rfl rfl)
theorem dX9_vinegar_14 : decode cX9_vinegar 14 = .ok (.iconst 0, 1) := dk_3 (dk_at dksX9_vinegar_0 14 rfl rfl)
theorem dX9_vinegar_15 : decode cX9_vinegar 15 = .ok (.istore 5, 2) := dk_54 5 (dk_at dksX9_vinegar_0 15 rfl rfl)
theorem dX9_vinegar_17 : decode cX9_vinegar 17 = .ok (.iconst 0, 1) := dk_3 (dk_at dksX9_vinegar_0 17 rfl rfl)
theorem dX9_vinegar_18 : decode cX9_vinegar 18 = .ok (.istore 6, 2) := dk_54 6 (dk_at dksX9_vinegar_0 18 rfl rfl)
theorem dX9_vinegar_20 : decode cX9_vinegar 20 = .ok (.iload 6, 2) := dk_21 6 (dk_at dksX9_vinegar_0 20 rfl rfl)
theorem dX9_vinegar_22 : decode cX9_vinegar 22 = .ok (.aload_n 0, 1) := dk_42 (dk_at dksX9_vinegar_0 22 rfl rfl)
theorem dX9_vinegar_23 : decode cX9_vinegar 23 = .ok (.getfield 82, 3) := dk_180 0 82 (dk_at dksX9_vinegar_1 0 rfl rfl)
theorem dX9_vinegar_26 : decode cX9_vinegar 26 = .ok (.if_icmp .ge 30, 3) := dk_162 0 30 (dk_at dksX9_vinegar_1 3 rfl rfl)
theorem dX9_vinegar_29 : decode cX9_vinegar 29 = .ok (.iload 5, 2) := dk_21 5 (dk_at dksX9_vinegar_1 6 rfl rfl)
theorem dX9_vinegar_31 : decode cX9_vinegar 31 = .ok (.aload_n 1, 1) := dk_43 (dk_at dksX9_vinegar_1 8 rfl rfl)
theorem dX9_vinegar_32 : decode cX9_vinegar 32 = .ok (.iload_n 2, 1) := dk_28 (dk_at dksX9_vinegar_1 9 rfl rfl)
theorem dX9_vinegar_33 : decode cX9_vinegar 33 = .ok (.iload 6, 2) := dk_21 6 (dk_at dksX9_vinegar_1 10 rfl rfl)
theorem dX9_vinegar_35 : decode cX9_vinegar 35 = .ok (.iadd, 1) := dk_96 (dk_at dksX9_vinegar_1 12 rfl rfl)
theorem dX9_vinegar_36 : decode cX9_vinegar 36 = .ok (.iaload, 1) := dk_46 (dk_at dksX9_vinegar_1 13 rfl rfl)
theorem dX9_vinegar_37 : decode cX9_vinegar 37 = .ok (.iload 4, 2) := dk_21 4 (dk_at dksX9_vinegar_1 14 rfl rfl)
theorem dX9_vinegar_39 : decode cX9_vinegar 39 = .ok (.if_icmp .ne 7, 3) := dk_160 0 7 (dk_at dksX9_vinegar_1 16 rfl rfl)
theorem dX9_vinegar_42 : decode cX9_vinegar 42 = .ok (.iconst 1, 1) := dk_4 (dk_at dksX9_vinegar_1 19 rfl rfl)
theorem dX9_vinegar_43 : decode cX9_vinegar 43 = .ok (.goto 4, 3) := dk_167 0 4 (dk_at dksX9_vinegar_1 20 rfl rfl)
theorem dX9_vinegar_46 : decode cX9_vinegar 46 = .ok (.iconst 0, 1) := dk_3 (dk_at dksX9_vinegar_1 23 rfl rfl)
theorem dX9_vinegar_47 : decode cX9_vinegar 47 = .ok (.iadd, 1) := dk_96 (dk_at dksX9_vinegar_2 0 rfl rfl)
theorem dX9_vinegar_48 : decode cX9_vinegar 48 = .ok (.istore 5, 2) := dk_54 5 (dk_at dksX9_vinegar_2 1 rfl rfl)
theorem dX9_vinegar_50 : decode cX9_vinegar 50 = .ok (.iinc 6 1, 3) := dk_132 6 1 (dk_at dksX9_vinegar_2 3 rfl rfl)
theorem dX9_vinegar_53 : decode cX9_vinegar 53 = .ok (.goto (-33), 3) := dk_167 255 223 (dk_at dksX9_vinegar_2 6 rfl rfl)
theorem dX9_vinegar_56 : decode cX9_vinegar 56 = .ok (.iload_n 3, 1) := dk_29 (dk_at dksX9_vinegar_2 9 rfl rfl)
theorem dX9_vinegar_57 : decode cX9_vinegar 57 = .ok (.iload 5, 2) := dk_21 5 (dk_at dksX9_vinegar_2 10 rfl rfl)
theorem dX9_vinegar_59 : decode cX9_vinegar 59 = .ok (.ifCond .ne 7, 3) := dk_154 0 7 (dk_at dksX9_vinegar_2 12 rfl rfl)
theorem dX9_vinegar_62 : decode cX9_vinegar 62 = .ok (.iconst 0, 1) := dk_3 (dk_at dksX9_vinegar_2 15 rfl rfl)
theorem dX9_vinegar_63 : decode cX9_vinegar 63 = .ok (.goto 9, 3) := dk_167 0 9 (dk_at dksX9_vinegar_2 16 rfl rfl)
theorem dX9_vinegar_66 : decode cX9_vinegar 66 = .ok (.iconst 1, 1) := dk_4 (dk_at dksX9_vinegar_2 19 rfl rfl)
theorem dX9_vinegar_67 : decode cX9_vinegar 67 = .ok (.iload 5, 2) := dk_21 5 (dk_at dksX9_vinegar_2 20 rfl rfl)
theorem dX9_vinegar_69 : decode cX9_vinegar 69 = .ok (.iconst 2, 1) := dk_5 (dk_at dksX9_vinegar_2 22 rfl rfl)
theorem dX9_vinegar_70 : decode cX9_vinegar 70 = .ok (.idiv, 1) := dk_108 (dk_at dksX9_vinegar_2 23 rfl rfl)
theorem dX9_vinegar_71 : decode cX9_vinegar 71 = .ok (.iadd, 1) := dk_96 (dk_at dksX9_vinegar_3 0 rfl rfl)
theorem dX9_vinegar_72 : decode cX9_vinegar 72 = .ok (.iadd, 1) := dk_96 (dk_at dksX9_vinegar_3 1 rfl rfl)
theorem dX9_vinegar_73 : decode cX9_vinegar 73 = .ok (.istore_n 3, 1) := dk_62 (dk_at dksX9_vinegar_3 2 rfl rfl)
theorem dX9_vinegar_74 : decode cX9_vinegar 74 = .ok (.iinc 4 1, 3) := dk_132 4 1 (dk_at dksX9_vinegar_3 3 rfl rfl)
theorem dX9_vinegar_77 : decode cX9_vinegar 77 = .ok (.goto (-72), 3) := dk_167 255 184 (dk_at dksX9_vinegar_3 6 rfl rfl)
theorem dX9_vinegar_80 : decode cX9_vinegar 80 = .ok (.iload_n 3, 1) := dk_29 (dk_at dksX9_vinegar_3 9 rfl rfl)
theorem dX9_vinegar_81 : decode cX9_vinegar 81 = .ok (.ireturn, 1) := dk_172 (dk_at dksX9_vinegar_3 10 rfl rfl)
abbrev cX9_sails : ByteArray := prog_13_method_31_code
def yX9_sails : MethodName := ⟨RX9, "sails", "(I)I"⟩
def dkwX9_sails_3 : List UInt8 := [184, 0, 188, 172]
abbrev dktX9_sails_3 : List UInt8 := dkwX9_sails_3 ++ []
def dkwX9_sails_2 : List UInt8 := [42, 180, 0, 26, 16, 8, 27, 96, 3, 79, 42, 180, 0, 26, 16, 14, 27, 96, 4, 79, 42, 182, 0, 172]
abbrev dktX9_sails_2 : List UInt8 := dkwX9_sails_2 ++ dktX9_sails_3
def dkwX9_sails_1 : List UInt8 := [46, 182, 0, 175, 154, 0, 6, 16, 254, 172, 42, 182, 0, 181, 42, 180, 0, 26, 5, 27, 96, 16, 247, 79]
abbrev dktX9_sails_1 : List UInt8 := dkwX9_sails_1 ++ dktX9_sails_2
def dkwX9_sails_0 : List UInt8 := [42, 27, 182, 0, 158, 154, 0, 5, 2, 172, 42, 27, 182, 0, 165, 153, 0, 16, 42, 42, 180, 0, 26, 3]
abbrev dktX9_sails_0 : List UInt8 := dkwX9_sails_0 ++ dktX9_sails_1
theorem dksX9_sails_0 : cX9_sails.data.toList.drop 0 = dktX9_sails_0 := by decide +kernel
theorem dksX9_sails_1 : cX9_sails.data.toList.drop 24 = dktX9_sails_1 := dk_seg dksX9_sails_0 24 rfl rfl
theorem dksX9_sails_2 : cX9_sails.data.toList.drop 48 = dktX9_sails_2 := dk_seg dksX9_sails_1 24 rfl rfl
theorem dksX9_sails_3 : cX9_sails.data.toList.drop 72 = dktX9_sails_3 := dk_seg dksX9_sails_2 24 rfl rfl
theorem dX9_sails_0 : decode cX9_sails 0 = .ok (.aload_n 0, 1) := dk_42 (dk_at dksX9_sails_0 0 rfl rfl)
theorem dX9_sails_1 : decode cX9_sails 1 = .ok (.iload_n 1, 1) := dk_27 (dk_at dksX9_sails_0 1 rfl rfl)
theorem dX9_sails_2 : decode cX9_sails 2 = .ok (.invokevirtual 158, 3) := dk_182 0 158 (dk_at dksX9_sails_0 2 rfl rfl)
theorem dX9_sails_5 : decode cX9_sails 5 = .ok (.ifCond .ne 5, 3) := dk_154 0 5 (dk_at dksX9_sails_0 5 rfl rfl)
theorem dX9_sails_8 : decode cX9_sails 8 = .ok (.iconst (-1), 1) := dk_2 (dk_at dksX9_sails_0 8 rfl rfl)
theorem dX9_sails_9 : decode cX9_sails 9 = .ok (.ireturn, 1) := dk_172 (dk_at dksX9_sails_0 9 rfl rfl)
theorem dX9_sails_10 : decode cX9_sails 10 = .ok (.aload_n 0, 1) := dk_42 (dk_at dksX9_sails_0 10 rfl rfl)
theorem dX9_sails_11 : decode cX9_sails 11 = .ok (.iload_n 1, 1) := dk_27 (dk_at dksX9_sails_0 11 rfl rfl)
theorem dX9_sails_12 : decode cX9_sails 12 = .ok (.invokevirtual 165, 3) := dk_182 0 165 (dk_at dksX9_sails_0 12 rfl rfl)
theorem dX9_sails_15 : decode cX9_sails 15 = .ok (.ifCond .eq 16, 3) := dk_153 0 16 (dk_at dksX9_sails_0 15 rfl rfl)
theorem dX9_sails_18 : decode cX9_sails 18 = .ok (.aload_n 0, 1) := dk_42 (dk_at dksX9_sails_0 18 rfl rfl)
theorem dX9_sails_19 : decode cX9_sails 19 = .ok (.aload_n 0, 1) := dk_42 (dk_at dksX9_sails_0 19 rfl rfl)
theorem dX9_sails_20 : decode cX9_sails 20 = .ok (.getfield 26, 3) := dk_180 0 26 (dk_at dksX9_sails_0 20 rfl rfl)
theorem dX9_sails_23 : decode cX9_sails 23 = .ok (.iconst 0, 1) := dk_3 (dk_at dksX9_sails_0 23 rfl rfl)
theorem dX9_sails_24 : decode cX9_sails 24 = .ok (.iaload, 1) := dk_46 (dk_at dksX9_sails_1 0 rfl rfl)
theorem dX9_sails_25 : decode cX9_sails 25 = .ok (.invokevirtual 175, 3) := dk_182 0 175 (dk_at dksX9_sails_1 1 rfl rfl)
theorem dX9_sails_28 : decode cX9_sails 28 = .ok (.ifCond .ne 6, 3) := dk_154 0 6 (dk_at dksX9_sails_1 4 rfl rfl)
theorem dX9_sails_31 : decode cX9_sails 31 = .ok (.bipush (-2), 2) := dk_16 254 (dk_at dksX9_sails_1 7 rfl rfl)
theorem dX9_sails_33 : decode cX9_sails 33 = .ok (.ireturn, 1) := dk_172 (dk_at dksX9_sails_1 9 rfl rfl)
theorem dX9_sails_34 : decode cX9_sails 34 = .ok (.aload_n 0, 1) := dk_42 (dk_at dksX9_sails_1 10 rfl rfl)
theorem dX9_sails_35 : decode cX9_sails 35 = .ok (.invokevirtual 181, 3) := dk_182 0 181 (dk_at dksX9_sails_1 11 rfl rfl)
theorem dX9_sails_38 : decode cX9_sails 38 = .ok (.aload_n 0, 1) := dk_42 (dk_at dksX9_sails_1 14 rfl rfl)
theorem dX9_sails_39 : decode cX9_sails 39 = .ok (.getfield 26, 3) := dk_180 0 26 (dk_at dksX9_sails_1 15 rfl rfl)
theorem dX9_sails_42 : decode cX9_sails 42 = .ok (.iconst 2, 1) := dk_5 (dk_at dksX9_sails_1 18 rfl rfl)
theorem dX9_sails_43 : decode cX9_sails 43 = .ok (.iload_n 1, 1) := dk_27 (dk_at dksX9_sails_1 19 rfl rfl)
theorem dX9_sails_44 : decode cX9_sails 44 = .ok (.iadd, 1) := dk_96 (dk_at dksX9_sails_1 20 rfl rfl)
theorem dX9_sails_45 : decode cX9_sails 45 = .ok (.bipush (-9), 2) := dk_16 247 (dk_at dksX9_sails_1 21 rfl rfl)
theorem dX9_sails_47 : decode cX9_sails 47 = .ok (.iastore, 1) := dk_79 (dk_at dksX9_sails_1 23 rfl rfl)
theorem dX9_sails_48 : decode cX9_sails 48 = .ok (.aload_n 0, 1) := dk_42 (dk_at dksX9_sails_2 0 rfl rfl)
theorem dX9_sails_49 : decode cX9_sails 49 = .ok (.getfield 26, 3) := dk_180 0 26 (dk_at dksX9_sails_2 1 rfl rfl)
theorem dX9_sails_52 : decode cX9_sails 52 = .ok (.bipush 8, 2) := dk_16 8 (dk_at dksX9_sails_2 4 rfl rfl)
theorem dX9_sails_54 : decode cX9_sails 54 = .ok (.iload_n 1, 1) := dk_27 (dk_at dksX9_sails_2 6 rfl rfl)
theorem dX9_sails_55 : decode cX9_sails 55 = .ok (.iadd, 1) := dk_96 (dk_at dksX9_sails_2 7 rfl rfl)
theorem dX9_sails_56 : decode cX9_sails 56 = .ok (.iconst 0, 1) := dk_3 (dk_at dksX9_sails_2 8 rfl rfl)
theorem dX9_sails_57 : decode cX9_sails 57 = .ok (.iastore, 1) := dk_79 (dk_at dksX9_sails_2 9 rfl rfl)
theorem dX9_sails_58 : decode cX9_sails 58 = .ok (.aload_n 0, 1) := dk_42 (dk_at dksX9_sails_2 10 rfl rfl)
theorem dX9_sails_59 : decode cX9_sails 59 = .ok (.getfield 26, 3) := dk_180 0 26 (dk_at dksX9_sails_2 11 rfl rfl)
theorem dX9_sails_62 : decode cX9_sails 62 = .ok (.bipush 14, 2) := dk_16 14 (dk_at dksX9_sails_2 14 rfl rfl)
theorem dX9_sails_64 : decode cX9_sails 64 = .ok (.iload_n 1, 1) := dk_27 (dk_at dksX9_sails_2 16 rfl rfl)
theorem dX9_sails_65 : decode cX9_sails 65 = .ok (.iadd, 1) := dk_96 (dk_at dksX9_sails_2 17 rfl rfl)
theorem dX9_sails_66 : decode cX9_sails 66 = .ok (.iconst 1, 1) := dk_4 (dk_at dksX9_sails_2 18 rfl rfl)
theorem dX9_sails_67 : decode cX9_sails 67 = .ok (.iastore, 1) := dk_79 (dk_at dksX9_sails_2 19 rfl rfl)
theorem dX9_sails_68 : decode cX9_sails 68 = .ok (.aload_n 0, 1) := dk_42 (dk_at dksX9_sails_2 20 rfl rfl)
theorem dX9_sails_69 : decode cX9_sails 69 = .ok (.invokevirtual 172, 3) := dk_182 0 172 (dk_at dksX9_sails_2 21 rfl rfl)
theorem dX9_sails_72 : decode cX9_sails 72 = .ok (.invokestatic 188, 3) := dk_184 0 188 (dk_at dksX9_sails_3 0 rfl rfl)
theorem dX9_sails_75 : decode cX9_sails 75 = .ok (.ireturn, 1) := dk_172 (dk_at dksX9_sails_3 3 rfl rfl)
abbrev cX9_bits : ByteArray := prog_13_method_5_code
def yX9_bits : MethodName := ⟨RX9, "bits", "(I)I"⟩
def dkwX9_bits_0 : List UInt8 := [3, 60, 26, 61, 28, 158, 0, 15, 132, 1, 1, 28, 28, 4, 100, 126, 61, 167, 255, 243, 27, 172]
abbrev dktX9_bits_0 : List UInt8 := dkwX9_bits_0 ++ []
theorem dksX9_bits_0 : cX9_bits.data.toList.drop 0 = dktX9_bits_0 := by decide +kernel
theorem dX9_bits_0 : decode cX9_bits 0 = .ok (.iconst 0, 1) := dk_3 (dk_at dksX9_bits_0 0 rfl rfl)
theorem dX9_bits_1 : decode cX9_bits 1 = .ok (.istore_n 1, 1) := dk_60 (dk_at dksX9_bits_0 1 rfl rfl)
theorem dX9_bits_2 : decode cX9_bits 2 = .ok (.iload_n 0, 1) := dk_26 (dk_at dksX9_bits_0 2 rfl rfl)
theorem dX9_bits_3 : decode cX9_bits 3 = .ok (.istore_n 2, 1) := dk_61 (dk_at dksX9_bits_0 3 rfl rfl)
theorem dX9_bits_4 : decode cX9_bits 4 = .ok (.iload_n 2, 1) := dk_28 (dk_at dksX9_bits_0 4 rfl rfl)
theorem dX9_bits_5 : decode cX9_bits 5 = .ok (.ifCond .le 15, 3) := dk_158 0 15 (dk_at dksX9_bits_0 5 rfl rfl)
theorem dX9_bits_8 : decode cX9_bits 8 = .ok (.iinc 1 1, 3) := dk_132 1 1 (dk_at dksX9_bits_0 8 rfl rfl)
theorem dX9_bits_11 : decode cX9_bits 11 = .ok (.iload_n 2, 1) := dk_28 (dk_at dksX9_bits_0 11 rfl rfl)
theorem dX9_bits_12 : decode cX9_bits 12 = .ok (.iload_n 2, 1) := dk_28 (dk_at dksX9_bits_0 12 rfl rfl)
theorem dX9_bits_13 : decode cX9_bits 13 = .ok (.iconst 1, 1) := dk_4 (dk_at dksX9_bits_0 13 rfl rfl)
theorem dX9_bits_14 : decode cX9_bits 14 = .ok (.isub, 1) := dk_100 (dk_at dksX9_bits_0 14 rfl rfl)
theorem dX9_bits_15 : decode cX9_bits 15 = .ok (.iand, 1) := dk_126 (dk_at dksX9_bits_0 15 rfl rfl)
theorem dX9_bits_16 : decode cX9_bits 16 = .ok (.istore_n 2, 1) := dk_61 (dk_at dksX9_bits_0 16 rfl rfl)
theorem dX9_bits_17 : decode cX9_bits 17 = .ok (.goto (-13), 3) := dk_167 255 243 (dk_at dksX9_bits_0 17 rfl rfl)
theorem dX9_bits_20 : decode cX9_bits 20 = .ok (.iload_n 1, 1) := dk_27 (dk_at dksX9_bits_0 20 rfl rfl)
theorem dX9_bits_21 : decode cX9_bits 21 = .ok (.ireturn, 1) := dk_172 (dk_at dksX9_bits_0 21 rfl rfl)
abbrev cX9_undo : ByteArray := prog_13_method_32_code
def yX9_undo : MethodName := ⟨RX9, "undo", "()I"⟩
def dkwX9_undo_2 : List UInt8 := [79, 132, 1, 1, 167, 255, 227, 42, 180, 0, 152, 172]
abbrev dktX9_undo_2 : List UInt8 := dkwX9_undo_2 ++ []
def dkwX9_undo_1 : List UInt8 := [16, 26, 162, 0, 29, 42, 180, 0, 26, 27, 42, 180, 0, 29, 16, 26, 42, 180, 0, 152, 104, 27, 96, 46]
abbrev dktX9_undo_1 : List UInt8 := dkwX9_undo_1 ++ dktX9_undo_2
def dkwX9_undo_0 : List UInt8 := [42, 180, 0, 152, 154, 0, 6, 16, 254, 172, 42, 89, 180, 0, 152, 4, 100, 181, 0, 152, 3, 60, 27]
abbrev dktX9_undo_0 : List UInt8 := dkwX9_undo_0 ++ dktX9_undo_1
theorem dksX9_undo_0 : cX9_undo.data.toList.drop 0 = dktX9_undo_0 := by decide +kernel
theorem dksX9_undo_1 : cX9_undo.data.toList.drop 23 = dktX9_undo_1 := dk_seg dksX9_undo_0 23 rfl rfl
theorem dksX9_undo_2 : cX9_undo.data.toList.drop 47 = dktX9_undo_2 := dk_seg dksX9_undo_1 24 rfl rfl
theorem dX9_undo_0 : decode cX9_undo 0 = .ok (.aload_n 0, 1) := dk_42 (dk_at dksX9_undo_0 0 rfl rfl)
theorem dX9_undo_1 : decode cX9_undo 1 = .ok (.getfield 152, 3) := dk_180 0 152 (dk_at dksX9_undo_0 1 rfl rfl)
theorem dX9_undo_4 : decode cX9_undo 4 = .ok (.ifCond .ne 6, 3) := dk_154 0 6 (dk_at dksX9_undo_0 4 rfl rfl)
theorem dX9_undo_7 : decode cX9_undo 7 = .ok (.bipush (-2), 2) := dk_16 254 (dk_at dksX9_undo_0 7 rfl rfl)
theorem dX9_undo_9 : decode cX9_undo 9 = .ok (.ireturn, 1) := dk_172 (dk_at dksX9_undo_0 9 rfl rfl)
theorem dX9_undo_10 : decode cX9_undo 10 = .ok (.aload_n 0, 1) := dk_42 (dk_at dksX9_undo_0 10 rfl rfl)
theorem dX9_undo_11 : decode cX9_undo 11 = .ok (.dup, 1) := dk_89 (dk_at dksX9_undo_0 11 rfl rfl)
theorem dX9_undo_12 : decode cX9_undo 12 = .ok (.getfield 152, 3) := dk_180 0 152 (dk_at dksX9_undo_0 12 rfl rfl)
theorem dX9_undo_15 : decode cX9_undo 15 = .ok (.iconst 1, 1) := dk_4 (dk_at dksX9_undo_0 15 rfl rfl)
theorem dX9_undo_16 : decode cX9_undo 16 = .ok (.isub, 1) := dk_100 (dk_at dksX9_undo_0 16 rfl rfl)
theorem dX9_undo_17 : decode cX9_undo 17 = .ok (.putfield 152, 3) := dk_181 0 152 (dk_at dksX9_undo_0 17 rfl rfl)
theorem dX9_undo_20 : decode cX9_undo 20 = .ok (.iconst 0, 1) := dk_3 (dk_at dksX9_undo_0 20 rfl rfl)
theorem dX9_undo_21 : decode cX9_undo 21 = .ok (.istore_n 1, 1) := dk_60 (dk_at dksX9_undo_0 21 rfl rfl)
theorem dX9_undo_22 : decode cX9_undo 22 = .ok (.iload_n 1, 1) := dk_27 (dk_at dksX9_undo_0 22 rfl rfl)
theorem dX9_undo_23 : decode cX9_undo 23 = .ok (.bipush 26, 2) := dk_16 26 (dk_at dksX9_undo_1 0 rfl rfl)
theorem dX9_undo_25 : decode cX9_undo 25 = .ok (.if_icmp .ge 29, 3) := dk_162 0 29 (dk_at dksX9_undo_1 2 rfl rfl)
theorem dX9_undo_28 : decode cX9_undo 28 = .ok (.aload_n 0, 1) := dk_42 (dk_at dksX9_undo_1 5 rfl rfl)
theorem dX9_undo_29 : decode cX9_undo 29 = .ok (.getfield 26, 3) := dk_180 0 26 (dk_at dksX9_undo_1 6 rfl rfl)
theorem dX9_undo_32 : decode cX9_undo 32 = .ok (.iload_n 1, 1) := dk_27 (dk_at dksX9_undo_1 9 rfl rfl)
theorem dX9_undo_33 : decode cX9_undo 33 = .ok (.aload_n 0, 1) := dk_42 (dk_at dksX9_undo_1 10 rfl rfl)
theorem dX9_undo_34 : decode cX9_undo 34 = .ok (.getfield 29, 3) := dk_180 0 29 (dk_at dksX9_undo_1 11 rfl rfl)
theorem dX9_undo_37 : decode cX9_undo 37 = .ok (.bipush 26, 2) := dk_16 26 (dk_at dksX9_undo_1 14 rfl rfl)
theorem dX9_undo_39 : decode cX9_undo 39 = .ok (.aload_n 0, 1) := dk_42 (dk_at dksX9_undo_1 16 rfl rfl)
theorem dX9_undo_40 : decode cX9_undo 40 = .ok (.getfield 152, 3) := dk_180 0 152 (dk_at dksX9_undo_1 17 rfl rfl)
theorem dX9_undo_43 : decode cX9_undo 43 = .ok (.imul, 1) := dk_104 (dk_at dksX9_undo_1 20 rfl rfl)
theorem dX9_undo_44 : decode cX9_undo 44 = .ok (.iload_n 1, 1) := dk_27 (dk_at dksX9_undo_1 21 rfl rfl)
theorem dX9_undo_45 : decode cX9_undo 45 = .ok (.iadd, 1) := dk_96 (dk_at dksX9_undo_1 22 rfl rfl)
theorem dX9_undo_46 : decode cX9_undo 46 = .ok (.iaload, 1) := dk_46 (dk_at dksX9_undo_1 23 rfl rfl)
theorem dX9_undo_47 : decode cX9_undo 47 = .ok (.iastore, 1) := dk_79 (dk_at dksX9_undo_2 0 rfl rfl)
theorem dX9_undo_48 : decode cX9_undo 48 = .ok (.iinc 1 1, 3) := dk_132 1 1 (dk_at dksX9_undo_2 1 rfl rfl)
theorem dX9_undo_51 : decode cX9_undo 51 = .ok (.goto (-29), 3) := dk_167 255 227 (dk_at dksX9_undo_2 4 rfl rfl)
theorem dX9_undo_54 : decode cX9_undo 54 = .ok (.aload_n 0, 1) := dk_42 (dk_at dksX9_undo_2 7 rfl rfl)
theorem dX9_undo_55 : decode cX9_undo 55 = .ok (.getfield 152, 3) := dk_180 0 152 (dk_at dksX9_undo_2 8 rfl rfl)
theorem dX9_undo_58 : decode cX9_undo 58 = .ok (.ireturn, 1) := dk_172 (dk_at dksX9_undo_2 11 rfl rfl)
abbrev cX9_most : ByteArray := prog_13_method_38_code
def yX9_most : MethodName := ⟨RX9, "most", "(II)I"⟩
def dkwX9_most_5 : List UInt8 := [160, 0, 8, 21, 4, 167, 0, 9, 42, 180, 0, 57, 28, 46, 172]
abbrev dktX9_most_5 : List UInt8 := dkwX9_most_5 ++ []
def dkwX9_most_4 : List UInt8 := [182, 0, 205, 167, 0, 5, 21, 4, 54, 4, 132, 5, 1, 167, 255, 186, 42, 29, 182, 0, 199, 28, 16, 247]
abbrev dktX9_most_4 : List UInt8 := dkwX9_most_4 ++ dktX9_most_5
def dkwX9_most_3 : List UInt8 := [164, 0, 8, 21, 5, 167, 0, 4, 29, 62, 42, 27, 182, 0, 205, 21, 4, 164, 0, 11, 42, 27]
abbrev dktX9_most_3 : List UInt8 := dkwX9_most_3 ++ dktX9_most_4
def dkwX9_most_2 : List UInt8 := [182, 0, 195, 162, 0, 59, 42, 21, 5, 182, 0, 199, 42, 182, 0, 202, 87, 42, 27, 182, 0, 205, 21, 4]
abbrev dktX9_most_2 : List UInt8 := dkwX9_most_2 ++ dktX9_most_3
def dkwX9_most_1 : List UInt8 := [154, 0, 5, 2, 172, 3, 62, 2, 54, 4, 3, 54, 5, 21, 5, 42, 42, 180, 0, 13, 42, 180, 0, 82]
abbrev dktX9_most_1 : List UInt8 := dkwX9_most_1 ++ dktX9_most_2
def dkwX9_most_0 : List UInt8 := [27, 3, 17, 0, 200, 184, 0, 85, 153, 0, 17, 28, 16, 247, 159, 0, 13, 42, 28, 182, 0, 158]
abbrev dktX9_most_0 : List UInt8 := dkwX9_most_0 ++ dktX9_most_1
theorem dksX9_most_0 : cX9_most.data.toList.drop 0 = dktX9_most_0 := by decide +kernel
theorem dksX9_most_1 : cX9_most.data.toList.drop 22 = dktX9_most_1 := dk_seg dksX9_most_0 22 rfl rfl
theorem dksX9_most_2 : cX9_most.data.toList.drop 46 = dktX9_most_2 := dk_seg dksX9_most_1 24 rfl rfl
theorem dksX9_most_3 : cX9_most.data.toList.drop 70 = dktX9_most_3 := dk_seg dksX9_most_2 24 rfl rfl
theorem dksX9_most_4 : cX9_most.data.toList.drop 92 = dktX9_most_4 := dk_seg dksX9_most_3 22 rfl rfl
theorem dksX9_most_5 : cX9_most.data.toList.drop 116 = dktX9_most_5 := dk_seg dksX9_most_4 24 rfl rfl
theorem dX9_most_0 : decode cX9_most 0 = .ok (.iload_n 1, 1) := dk_27 (dk_at dksX9_most_0 0 rfl rfl)
theorem dX9_most_1 : decode cX9_most 1 = .ok (.iconst 0, 1) := dk_3 (dk_at dksX9_most_0 1 rfl rfl)
theorem dX9_most_2 : decode cX9_most 2 = .ok (.sipush 200, 3) := dk_17 0 200 (dk_at dksX9_most_0 2 rfl rfl)
theorem dX9_most_5 : decode cX9_most 5 = .ok (.invokestatic 85, 3) := dk_184 0 85 (dk_at dksX9_most_0 5 rfl rfl)
theorem dX9_most_8 : decode cX9_most 8 = .ok (.ifCond .eq 17, 3) := dk_153 0 17 (dk_at dksX9_most_0 8 rfl rfl)
theorem dX9_most_11 : decode cX9_most 11 = .ok (.iload_n 2, 1) := dk_28 (dk_at dksX9_most_0 11 rfl rfl)
theorem dX9_most_12 : decode cX9_most 12 = .ok (.bipush (-9), 2) := dk_16 247 (dk_at dksX9_most_0 12 rfl rfl)
theorem dX9_most_14 : decode cX9_most 14 = .ok (.if_icmp .eq 13, 3) := dk_159 0 13 (dk_at dksX9_most_0 14 rfl rfl)
theorem dX9_most_17 : decode cX9_most 17 = .ok (.aload_n 0, 1) := dk_42 (dk_at dksX9_most_0 17 rfl rfl)
theorem dX9_most_18 : decode cX9_most 18 = .ok (.iload_n 2, 1) := dk_28 (dk_at dksX9_most_0 18 rfl rfl)
theorem dX9_most_19 : decode cX9_most 19 = .ok (.invokevirtual 158, 3) := dk_182 0 158 (dk_at dksX9_most_0 19 rfl rfl)
theorem dX9_most_22 : decode cX9_most 22 = .ok (.ifCond .ne 5, 3) := dk_154 0 5 (dk_at dksX9_most_1 0 rfl rfl)
theorem dX9_most_25 : decode cX9_most 25 = .ok (.iconst (-1), 1) := dk_2 (dk_at dksX9_most_1 3 rfl rfl)
theorem dX9_most_26 : decode cX9_most 26 = .ok (.ireturn, 1) := dk_172 (dk_at dksX9_most_1 4 rfl rfl)
theorem dX9_most_27 : decode cX9_most 27 = .ok (.iconst 0, 1) := dk_3 (dk_at dksX9_most_1 5 rfl rfl)
theorem dX9_most_28 : decode cX9_most 28 = .ok (.istore_n 3, 1) := dk_62 (dk_at dksX9_most_1 6 rfl rfl)
theorem dX9_most_29 : decode cX9_most 29 = .ok (.iconst (-1), 1) := dk_2 (dk_at dksX9_most_1 7 rfl rfl)
theorem dX9_most_30 : decode cX9_most 30 = .ok (.istore 4, 2) := dk_54 4 (dk_at dksX9_most_1 8 rfl rfl)
theorem dX9_most_32 : decode cX9_most 32 = .ok (.iconst 0, 1) := dk_3 (dk_at dksX9_most_1 10 rfl rfl)
theorem dX9_most_33 : decode cX9_most 33 = .ok (.istore 5, 2) := dk_54 5 (dk_at dksX9_most_1 11 rfl rfl)
theorem dX9_most_35 : decode cX9_most 35 = .ok (.iload 5, 2) := dk_21 5 (dk_at dksX9_most_1 13 rfl rfl)
theorem dX9_most_37 : decode cX9_most 37 = .ok (.aload_n 0, 1) := dk_42 (dk_at dksX9_most_1 15 rfl rfl)
theorem dX9_most_38 : decode cX9_most 38 = .ok (.aload_n 0, 1) := dk_42 (dk_at dksX9_most_1 16 rfl rfl)
theorem dX9_most_39 : decode cX9_most 39 = .ok (.getfield 13, 3) := dk_180 0 13 (dk_at dksX9_most_1 17 rfl rfl)
theorem dX9_most_42 : decode cX9_most 42 = .ok (.aload_n 0, 1) := dk_42 (dk_at dksX9_most_1 20 rfl rfl)
theorem dX9_most_43 : decode cX9_most 43 = .ok (.getfield 82, 3) := dk_180 0 82 (dk_at dksX9_most_1 21 rfl rfl)
theorem dX9_most_46 : decode cX9_most 46 = .ok (.invokevirtual 195, 3) := dk_182 0 195 (dk_at dksX9_most_2 0 rfl rfl)
theorem dX9_most_49 : decode cX9_most 49 = .ok (.if_icmp .ge 59, 3) := dk_162 0 59 (dk_at dksX9_most_2 3 rfl rfl)
theorem dX9_most_52 : decode cX9_most 52 = .ok (.aload_n 0, 1) := dk_42 (dk_at dksX9_most_2 6 rfl rfl)
theorem dX9_most_53 : decode cX9_most 53 = .ok (.iload 5, 2) := dk_21 5 (dk_at dksX9_most_2 7 rfl rfl)
theorem dX9_most_55 : decode cX9_most 55 = .ok (.invokevirtual 199, 3) := dk_182 0 199 (dk_at dksX9_most_2 9 rfl rfl)
theorem dX9_most_58 : decode cX9_most 58 = .ok (.aload_n 0, 1) := dk_42 (dk_at dksX9_most_2 12 rfl rfl)
theorem dX9_most_59 : decode cX9_most 59 = .ok (.invokevirtual 202, 3) := dk_182 0 202 (dk_at dksX9_most_2 13 rfl rfl)
theorem dX9_most_62 : decode cX9_most 62 = .ok (.pop, 1) := dk_87 (dk_at dksX9_most_2 16 rfl rfl)
theorem dX9_most_63 : decode cX9_most 63 = .ok (.aload_n 0, 1) := dk_42 (dk_at dksX9_most_2 17 rfl rfl)
theorem dX9_most_64 : decode cX9_most 64 = .ok (.iload_n 1, 1) := dk_27 (dk_at dksX9_most_2 18 rfl rfl)
theorem dX9_most_65 : decode cX9_most 65 = .ok (.invokevirtual 205, 3) := dk_182 0 205 (dk_at dksX9_most_2 19 rfl rfl)
theorem dX9_most_68 : decode cX9_most 68 = .ok (.iload 4, 2) := dk_21 4 (dk_at dksX9_most_2 22 rfl rfl)
theorem dX9_most_70 : decode cX9_most 70 = .ok (.if_icmp .le 8, 3) := dk_164 0 8 (dk_at dksX9_most_3 0 rfl rfl)
theorem dX9_most_73 : decode cX9_most 73 = .ok (.iload 5, 2) := dk_21 5 (dk_at dksX9_most_3 3 rfl rfl)
theorem dX9_most_75 : decode cX9_most 75 = .ok (.goto 4, 3) := dk_167 0 4 (dk_at dksX9_most_3 5 rfl rfl)
theorem dX9_most_78 : decode cX9_most 78 = .ok (.iload_n 3, 1) := dk_29 (dk_at dksX9_most_3 8 rfl rfl)
theorem dX9_most_79 : decode cX9_most 79 = .ok (.istore_n 3, 1) := dk_62 (dk_at dksX9_most_3 9 rfl rfl)
theorem dX9_most_80 : decode cX9_most 80 = .ok (.aload_n 0, 1) := dk_42 (dk_at dksX9_most_3 10 rfl rfl)
theorem dX9_most_81 : decode cX9_most 81 = .ok (.iload_n 1, 1) := dk_27 (dk_at dksX9_most_3 11 rfl rfl)
theorem dX9_most_82 : decode cX9_most 82 = .ok (.invokevirtual 205, 3) := dk_182 0 205 (dk_at dksX9_most_3 12 rfl rfl)
theorem dX9_most_85 : decode cX9_most 85 = .ok (.iload 4, 2) := dk_21 4 (dk_at dksX9_most_3 15 rfl rfl)
theorem dX9_most_87 : decode cX9_most 87 = .ok (.if_icmp .le 11, 3) := dk_164 0 11 (dk_at dksX9_most_3 17 rfl rfl)
theorem dX9_most_90 : decode cX9_most 90 = .ok (.aload_n 0, 1) := dk_42 (dk_at dksX9_most_3 20 rfl rfl)
theorem dX9_most_91 : decode cX9_most 91 = .ok (.iload_n 1, 1) := dk_27 (dk_at dksX9_most_3 21 rfl rfl)
theorem dX9_most_92 : decode cX9_most 92 = .ok (.invokevirtual 205, 3) := dk_182 0 205 (dk_at dksX9_most_4 0 rfl rfl)
theorem dX9_most_95 : decode cX9_most 95 = .ok (.goto 5, 3) := dk_167 0 5 (dk_at dksX9_most_4 3 rfl rfl)
theorem dX9_most_98 : decode cX9_most 98 = .ok (.iload 4, 2) := dk_21 4 (dk_at dksX9_most_4 6 rfl rfl)
theorem dX9_most_100 : decode cX9_most 100 = .ok (.istore 4, 2) := dk_54 4 (dk_at dksX9_most_4 8 rfl rfl)
theorem dX9_most_102 : decode cX9_most 102 = .ok (.iinc 5 1, 3) := dk_132 5 1 (dk_at dksX9_most_4 10 rfl rfl)
theorem dX9_most_105 : decode cX9_most 105 = .ok (.goto (-70), 3) := dk_167 255 186 (dk_at dksX9_most_4 13 rfl rfl)
theorem dX9_most_108 : decode cX9_most 108 = .ok (.aload_n 0, 1) := dk_42 (dk_at dksX9_most_4 16 rfl rfl)
theorem dX9_most_109 : decode cX9_most 109 = .ok (.iload_n 3, 1) := dk_29 (dk_at dksX9_most_4 17 rfl rfl)
theorem dX9_most_110 : decode cX9_most 110 = .ok (.invokevirtual 199, 3) := dk_182 0 199 (dk_at dksX9_most_4 18 rfl rfl)
theorem dX9_most_113 : decode cX9_most 113 = .ok (.iload_n 2, 1) := dk_28 (dk_at dksX9_most_4 21 rfl rfl)
theorem dX9_most_114 : decode cX9_most 114 = .ok (.bipush (-9), 2) := dk_16 247 (dk_at dksX9_most_4 22 rfl rfl)
theorem dX9_most_116 : decode cX9_most 116 = .ok (.if_icmp .ne 8, 3) := dk_160 0 8 (dk_at dksX9_most_5 0 rfl rfl)
theorem dX9_most_119 : decode cX9_most 119 = .ok (.iload 4, 2) := dk_21 4 (dk_at dksX9_most_5 3 rfl rfl)
theorem dX9_most_121 : decode cX9_most 121 = .ok (.goto 9, 3) := dk_167 0 9 (dk_at dksX9_most_5 5 rfl rfl)
theorem dX9_most_124 : decode cX9_most 124 = .ok (.aload_n 0, 1) := dk_42 (dk_at dksX9_most_5 8 rfl rfl)
theorem dX9_most_125 : decode cX9_most 125 = .ok (.getfield 57, 3) := dk_180 0 57 (dk_at dksX9_most_5 9 rfl rfl)
theorem dX9_most_128 : decode cX9_most 128 = .ok (.iload_n 2, 1) := dk_28 (dk_at dksX9_most_5 12 rfl rfl)
theorem dX9_most_129 : decode cX9_most 129 = .ok (.iaload, 1) := dk_46 (dk_at dksX9_most_5 13 rfl rfl)
theorem dX9_most_130 : decode cX9_most 130 = .ok (.ireturn, 1) := dk_172 (dk_at dksX9_most_5 14 rfl rfl)
abbrev cX9_power : ByteArray := prog_13_method_35_code
def yX9_power : MethodName := ⟨RX9, "power", "(II)I"⟩
def dkwX9_power_0 : List UInt8 := [4, 62, 3, 54, 4, 21, 4, 28, 162, 0, 13, 29, 27, 104, 62, 132, 4, 1, 167, 255, 243, 29, 172]
abbrev dktX9_power_0 : List UInt8 := dkwX9_power_0 ++ []
theorem dksX9_power_0 : cX9_power.data.toList.drop 0 = dktX9_power_0 := by decide +kernel
theorem dX9_power_0 : decode cX9_power 0 = .ok (.iconst 1, 1) := dk_4 (dk_at dksX9_power_0 0 rfl rfl)
theorem dX9_power_1 : decode cX9_power 1 = .ok (.istore_n 3, 1) := dk_62 (dk_at dksX9_power_0 1 rfl rfl)
theorem dX9_power_2 : decode cX9_power 2 = .ok (.iconst 0, 1) := dk_3 (dk_at dksX9_power_0 2 rfl rfl)
theorem dX9_power_3 : decode cX9_power 3 = .ok (.istore 4, 2) := dk_54 4 (dk_at dksX9_power_0 3 rfl rfl)
theorem dX9_power_5 : decode cX9_power 5 = .ok (.iload 4, 2) := dk_21 4 (dk_at dksX9_power_0 5 rfl rfl)
theorem dX9_power_7 : decode cX9_power 7 = .ok (.iload_n 2, 1) := dk_28 (dk_at dksX9_power_0 7 rfl rfl)
theorem dX9_power_8 : decode cX9_power 8 = .ok (.if_icmp .ge 13, 3) := dk_162 0 13 (dk_at dksX9_power_0 8 rfl rfl)
theorem dX9_power_11 : decode cX9_power 11 = .ok (.iload_n 3, 1) := dk_29 (dk_at dksX9_power_0 11 rfl rfl)
theorem dX9_power_12 : decode cX9_power 12 = .ok (.iload_n 1, 1) := dk_27 (dk_at dksX9_power_0 12 rfl rfl)
theorem dX9_power_13 : decode cX9_power 13 = .ok (.imul, 1) := dk_104 (dk_at dksX9_power_0 13 rfl rfl)
theorem dX9_power_14 : decode cX9_power 14 = .ok (.istore_n 3, 1) := dk_62 (dk_at dksX9_power_0 14 rfl rfl)
theorem dX9_power_15 : decode cX9_power 15 = .ok (.iinc 4 1, 3) := dk_132 4 1 (dk_at dksX9_power_0 15 rfl rfl)
theorem dX9_power_18 : decode cX9_power 18 = .ok (.goto (-13), 3) := dk_167 255 243 (dk_at dksX9_power_0 18 rfl rfl)
theorem dX9_power_21 : decode cX9_power 21 = .ok (.iload_n 3, 1) := dk_29 (dk_at dksX9_power_0 21 rfl rfl)
theorem dX9_power_22 : decode cX9_power 22 = .ok (.ireturn, 1) := dk_172 (dk_at dksX9_power_0 22 rfl rfl)
abbrev cX9_lays : ByteArray := prog_13_method_36_code
def yX9_lays : MethodName := ⟨RX9, "lays", "(I)V"⟩
def dkwX9_lays_1 : List UInt8 := [79, 28, 42, 180, 0, 13, 108, 61, 132, 3, 255, 167, 255, 230, 177]
abbrev dktX9_lays_1 : List UInt8 := dkwX9_lays_1 ++ []
def dkwX9_lays_0 : List UInt8 := [27, 61, 42, 180, 0, 82, 4, 100, 62, 29, 155, 0, 28, 42, 180, 0, 57, 29, 28, 42, 180, 0, 13, 112]
abbrev dktX9_lays_0 : List UInt8 := dkwX9_lays_0 ++ dktX9_lays_1
theorem dksX9_lays_0 : cX9_lays.data.toList.drop 0 = dktX9_lays_0 := by decide +kernel
theorem dksX9_lays_1 : cX9_lays.data.toList.drop 24 = dktX9_lays_1 := dk_seg dksX9_lays_0 24 rfl rfl
theorem dX9_lays_0 : decode cX9_lays 0 = .ok (.iload_n 1, 1) := dk_27 (dk_at dksX9_lays_0 0 rfl rfl)
theorem dX9_lays_1 : decode cX9_lays 1 = .ok (.istore_n 2, 1) := dk_61 (dk_at dksX9_lays_0 1 rfl rfl)
theorem dX9_lays_2 : decode cX9_lays 2 = .ok (.aload_n 0, 1) := dk_42 (dk_at dksX9_lays_0 2 rfl rfl)
theorem dX9_lays_3 : decode cX9_lays 3 = .ok (.getfield 82, 3) := dk_180 0 82 (dk_at dksX9_lays_0 3 rfl rfl)
theorem dX9_lays_6 : decode cX9_lays 6 = .ok (.iconst 1, 1) := dk_4 (dk_at dksX9_lays_0 6 rfl rfl)
theorem dX9_lays_7 : decode cX9_lays 7 = .ok (.isub, 1) := dk_100 (dk_at dksX9_lays_0 7 rfl rfl)
theorem dX9_lays_8 : decode cX9_lays 8 = .ok (.istore_n 3, 1) := dk_62 (dk_at dksX9_lays_0 8 rfl rfl)
theorem dX9_lays_9 : decode cX9_lays 9 = .ok (.iload_n 3, 1) := dk_29 (dk_at dksX9_lays_0 9 rfl rfl)
theorem dX9_lays_10 : decode cX9_lays 10 = .ok (.ifCond .lt 28, 3) := dk_155 0 28 (dk_at dksX9_lays_0 10 rfl rfl)
theorem dX9_lays_13 : decode cX9_lays 13 = .ok (.aload_n 0, 1) := dk_42 (dk_at dksX9_lays_0 13 rfl rfl)
theorem dX9_lays_14 : decode cX9_lays 14 = .ok (.getfield 57, 3) := dk_180 0 57 (dk_at dksX9_lays_0 14 rfl rfl)
theorem dX9_lays_17 : decode cX9_lays 17 = .ok (.iload_n 3, 1) := dk_29 (dk_at dksX9_lays_0 17 rfl rfl)
theorem dX9_lays_18 : decode cX9_lays 18 = .ok (.iload_n 2, 1) := dk_28 (dk_at dksX9_lays_0 18 rfl rfl)
theorem dX9_lays_19 : decode cX9_lays 19 = .ok (.aload_n 0, 1) := dk_42 (dk_at dksX9_lays_0 19 rfl rfl)
theorem dX9_lays_20 : decode cX9_lays 20 = .ok (.getfield 13, 3) := dk_180 0 13 (dk_at dksX9_lays_0 20 rfl rfl)
theorem dX9_lays_23 : decode cX9_lays 23 = .ok (.irem, 1) := dk_112 (dk_at dksX9_lays_0 23 rfl rfl)
theorem dX9_lays_24 : decode cX9_lays 24 = .ok (.iastore, 1) := dk_79 (dk_at dksX9_lays_1 0 rfl rfl)
theorem dX9_lays_25 : decode cX9_lays 25 = .ok (.iload_n 2, 1) := dk_28 (dk_at dksX9_lays_1 1 rfl rfl)
theorem dX9_lays_26 : decode cX9_lays 26 = .ok (.aload_n 0, 1) := dk_42 (dk_at dksX9_lays_1 2 rfl rfl)
theorem dX9_lays_27 : decode cX9_lays 27 = .ok (.getfield 13, 3) := dk_180 0 13 (dk_at dksX9_lays_1 3 rfl rfl)
theorem dX9_lays_30 : decode cX9_lays 30 = .ok (.idiv, 1) := dk_108 (dk_at dksX9_lays_1 6 rfl rfl)
theorem dX9_lays_31 : decode cX9_lays 31 = .ok (.istore_n 2, 1) := dk_61 (dk_at dksX9_lays_1 7 rfl rfl)
theorem dX9_lays_32 : decode cX9_lays 32 = .ok (.iinc 3 (-1), 3) := dk_132 3 255 (dk_at dksX9_lays_1 8 rfl rfl)
theorem dX9_lays_35 : decode cX9_lays 35 = .ok (.goto (-26), 3) := dk_167 255 230 (dk_at dksX9_lays_1 11 rfl rfl)
theorem dX9_lays_38 : decode cX9_lays 38 = .ok (.return_, 1) := dk_177 (dk_at dksX9_lays_1 14 rfl rfl)
abbrev cX9_goes : ByteArray := prog_13_method_34_code
def yX9_goes : MethodName := ⟨RX9, "goes", "()I"⟩
def dkwX9_goes_9 : List UInt8 := [96, 61, 132, 3, 1, 167, 255, 89, 28, 172]
abbrev dktX9_goes_9 : List UInt8 := dkwX9_goes_9 ++ []
def dkwX9_goes_8 : List UInt8 := [132, 4, 1, 167, 255, 225, 28, 27, 158, 0, 15, 42, 42, 180, 0, 60, 3, 182, 0, 184, 167, 0, 4, 3]
abbrev dktX9_goes_8 : List UInt8 := dkwX9_goes_8 ++ dktX9_goes_9
def dkwX9_goes_7 : List UInt8 := [162, 0, 28, 42, 180, 0, 19, 5, 21, 4, 104, 46, 29, 160, 0, 9, 42, 21, 4, 182, 0, 191]
abbrev dktX9_goes_7 : List UInt8 := dkwX9_goes_7 ++ dktX9_goes_8
def dkwX9_goes_6 : List UInt8 := [21, 4, 16, 247, 79, 132, 1, 255, 132, 4, 1, 167, 255, 159, 3, 54, 4, 21, 4, 42, 180, 0, 82]
abbrev dktX9_goes_6 : List UInt8 := dkwX9_goes_6 ++ dktX9_goes_7
def dkwX9_goes_5 : List UInt8 := [161, 0, 31, 42, 29, 182, 0, 175, 153, 0, 23, 42, 180, 0, 66, 21, 4, 29, 79, 42, 180, 0, 60]
abbrev dktX9_goes_5 : List UInt8 := dkwX9_goes_5 ++ dktX9_goes_6
def dkwX9_goes_4 : List UInt8 := [180, 0, 60, 21, 4, 46, 16, 247, 159, 0, 45, 42, 180, 0, 63, 21, 4, 46, 42, 180, 0, 7]
abbrev dktX9_goes_4 : List UInt8 := dkwX9_goes_4 ++ dktX9_goes_5
def dkwX9_goes_3 : List UInt8 := [180, 0, 60, 21, 4, 46, 16, 247, 159, 0, 7, 29, 154, 0, 7, 3, 167, 0, 4, 4, 96, 79, 42]
abbrev dktX9_goes_3 : List UInt8 := dkwX9_goes_3 ++ dktX9_goes_4
def dkwX9_goes_2 : List UInt8 := [158, 0, 169, 3, 54, 4, 21, 4, 42, 180, 0, 82, 162, 0, 94, 42, 180, 0, 63, 21, 4, 92, 46, 42]
abbrev dktX9_goes_2 : List UInt8 := dkwX9_goes_2 ++ dktX9_goes_3
def dkwX9_goes_1 : List UInt8 := [180, 0, 66, 27, 16, 247, 79, 132, 1, 1, 167, 255, 224, 42, 180, 0, 82, 60, 3, 61, 3, 62, 27]
abbrev dktX9_goes_1 : List UInt8 := dkwX9_goes_1 ++ dktX9_goes_2
def dkwX9_goes_0 : List UInt8 := [3, 60, 27, 16, 6, 162, 0, 32, 42, 180, 0, 60, 27, 16, 247, 79, 42, 180, 0, 63, 27, 3, 79, 42]
abbrev dktX9_goes_0 : List UInt8 := dkwX9_goes_0 ++ dktX9_goes_1
theorem dksX9_goes_0 : cX9_goes.data.toList.drop 0 = dktX9_goes_0 := by decide +kernel
theorem dksX9_goes_1 : cX9_goes.data.toList.drop 24 = dktX9_goes_1 := dk_seg dksX9_goes_0 24 rfl rfl
theorem dksX9_goes_2 : cX9_goes.data.toList.drop 47 = dktX9_goes_2 := dk_seg dksX9_goes_1 23 rfl rfl
theorem dksX9_goes_3 : cX9_goes.data.toList.drop 71 = dktX9_goes_3 := dk_seg dksX9_goes_2 24 rfl rfl
theorem dksX9_goes_4 : cX9_goes.data.toList.drop 94 = dktX9_goes_4 := dk_seg dksX9_goes_3 23 rfl rfl
theorem dksX9_goes_5 : cX9_goes.data.toList.drop 116 = dktX9_goes_5 := dk_seg dksX9_goes_4 22 rfl rfl
theorem dksX9_goes_6 : cX9_goes.data.toList.drop 139 = dktX9_goes_6 := dk_seg dksX9_goes_5 23 rfl rfl
theorem dksX9_goes_7 : cX9_goes.data.toList.drop 162 = dktX9_goes_7 := dk_seg dksX9_goes_6 23 rfl rfl
theorem dksX9_goes_8 : cX9_goes.data.toList.drop 184 = dktX9_goes_8 := dk_seg dksX9_goes_7 22 rfl rfl
theorem dksX9_goes_9 : cX9_goes.data.toList.drop 208 = dktX9_goes_9 := dk_seg dksX9_goes_8 24 rfl rfl
theorem dX9_goes_0 : decode cX9_goes 0 = .ok (.iconst 0, 1) := dk_3 (dk_at dksX9_goes_0 0 rfl rfl)
theorem dX9_goes_1 : decode cX9_goes 1 = .ok (.istore_n 1, 1) := dk_60 (dk_at dksX9_goes_0 1 rfl rfl)
theorem dX9_goes_2 : decode cX9_goes 2 = .ok (.iload_n 1, 1) := dk_27 (dk_at dksX9_goes_0 2 rfl rfl)
theorem dX9_goes_3 : decode cX9_goes 3 = .ok (.bipush 6, 2) := dk_16 6 (dk_at dksX9_goes_0 3 rfl rfl)
theorem dX9_goes_5 : decode cX9_goes 5 = .ok (.if_icmp .ge 32, 3) := dk_162 0 32 (dk_at dksX9_goes_0 5 rfl rfl)
theorem dX9_goes_8 : decode cX9_goes 8 = .ok (.aload_n 0, 1) := dk_42 (dk_at dksX9_goes_0 8 rfl rfl)
theorem dX9_goes_9 : decode cX9_goes 9 = .ok (.getfield 60, 3) := dk_180 0 60 (dk_at dksX9_goes_0 9 rfl rfl)
theorem dX9_goes_12 : decode cX9_goes 12 = .ok (.iload_n 1, 1) := dk_27 (dk_at dksX9_goes_0 12 rfl rfl)
theorem dX9_goes_13 : decode cX9_goes 13 = .ok (.bipush (-9), 2) := dk_16 247 (dk_at dksX9_goes_0 13 rfl rfl)
theorem dX9_goes_15 : decode cX9_goes 15 = .ok (.iastore, 1) := dk_79 (dk_at dksX9_goes_0 15 rfl rfl)
theorem dX9_goes_16 : decode cX9_goes 16 = .ok (.aload_n 0, 1) := dk_42 (dk_at dksX9_goes_0 16 rfl rfl)
theorem dX9_goes_17 : decode cX9_goes 17 = .ok (.getfield 63, 3) := dk_180 0 63 (dk_at dksX9_goes_0 17 rfl rfl)
theorem dX9_goes_20 : decode cX9_goes 20 = .ok (.iload_n 1, 1) := dk_27 (dk_at dksX9_goes_0 20 rfl rfl)
theorem dX9_goes_21 : decode cX9_goes 21 = .ok (.iconst 0, 1) := dk_3 (dk_at dksX9_goes_0 21 rfl rfl)
theorem dX9_goes_22 : decode cX9_goes 22 = .ok (.iastore, 1) := dk_79 (dk_at dksX9_goes_0 22 rfl rfl)
theorem dX9_goes_23 : decode cX9_goes 23 = .ok (.aload_n 0, 1) := dk_42 (dk_at dksX9_goes_0 23 rfl rfl)
theorem dX9_goes_24 : decode cX9_goes 24 = .ok (.getfield 66, 3) := dk_180 0 66 (dk_at dksX9_goes_1 0 rfl rfl)
theorem dX9_goes_27 : decode cX9_goes 27 = .ok (.iload_n 1, 1) := dk_27 (dk_at dksX9_goes_1 3 rfl rfl)
theorem dX9_goes_28 : decode cX9_goes 28 = .ok (.bipush (-9), 2) := dk_16 247 (dk_at dksX9_goes_1 4 rfl rfl)
theorem dX9_goes_30 : decode cX9_goes 30 = .ok (.iastore, 1) := dk_79 (dk_at dksX9_goes_1 6 rfl rfl)
theorem dX9_goes_31 : decode cX9_goes 31 = .ok (.iinc 1 1, 3) := dk_132 1 1 (dk_at dksX9_goes_1 7 rfl rfl)
theorem dX9_goes_34 : decode cX9_goes 34 = .ok (.goto (-32), 3) := dk_167 255 224 (dk_at dksX9_goes_1 10 rfl rfl)
theorem dX9_goes_37 : decode cX9_goes 37 = .ok (.aload_n 0, 1) := dk_42 (dk_at dksX9_goes_1 13 rfl rfl)
theorem dX9_goes_38 : decode cX9_goes 38 = .ok (.getfield 82, 3) := dk_180 0 82 (dk_at dksX9_goes_1 14 rfl rfl)
theorem dX9_goes_41 : decode cX9_goes 41 = .ok (.istore_n 1, 1) := dk_60 (dk_at dksX9_goes_1 17 rfl rfl)
theorem dX9_goes_42 : decode cX9_goes 42 = .ok (.iconst 0, 1) := dk_3 (dk_at dksX9_goes_1 18 rfl rfl)
theorem dX9_goes_43 : decode cX9_goes 43 = .ok (.istore_n 2, 1) := dk_61 (dk_at dksX9_goes_1 19 rfl rfl)
theorem dX9_goes_44 : decode cX9_goes 44 = .ok (.iconst 0, 1) := dk_3 (dk_at dksX9_goes_1 20 rfl rfl)
theorem dX9_goes_45 : decode cX9_goes 45 = .ok (.istore_n 3, 1) := dk_62 (dk_at dksX9_goes_1 21 rfl rfl)
theorem dX9_goes_46 : decode cX9_goes 46 = .ok (.iload_n 1, 1) := dk_27 (dk_at dksX9_goes_1 22 rfl rfl)
theorem dX9_goes_47 : decode cX9_goes 47 = .ok (.ifCond .le 169, 3) := dk_158 0 169 (dk_at dksX9_goes_2 0 rfl rfl)
theorem dX9_goes_50 : decode cX9_goes 50 = .ok (.iconst 0, 1) := dk_3 (dk_at dksX9_goes_2 3 rfl rfl)
theorem dX9_goes_51 : decode cX9_goes 51 = .ok (.istore 4, 2) := dk_54 4 (dk_at dksX9_goes_2 4 rfl rfl)
theorem dX9_goes_53 : decode cX9_goes 53 = .ok (.iload 4, 2) := dk_21 4 (dk_at dksX9_goes_2 6 rfl rfl)
theorem dX9_goes_55 : decode cX9_goes 55 = .ok (.aload_n 0, 1) := dk_42 (dk_at dksX9_goes_2 8 rfl rfl)
theorem dX9_goes_56 : decode cX9_goes 56 = .ok (.getfield 82, 3) := dk_180 0 82 (dk_at dksX9_goes_2 9 rfl rfl)
theorem dX9_goes_59 : decode cX9_goes 59 = .ok (.if_icmp .ge 94, 3) := dk_162 0 94 (dk_at dksX9_goes_2 12 rfl rfl)
theorem dX9_goes_62 : decode cX9_goes 62 = .ok (.aload_n 0, 1) := dk_42 (dk_at dksX9_goes_2 15 rfl rfl)
theorem dX9_goes_63 : decode cX9_goes 63 = .ok (.getfield 63, 3) := dk_180 0 63 (dk_at dksX9_goes_2 16 rfl rfl)
theorem dX9_goes_66 : decode cX9_goes 66 = .ok (.iload 4, 2) := dk_21 4 (dk_at dksX9_goes_2 19 rfl rfl)
theorem dX9_goes_68 : decode cX9_goes 68 = .ok (.dup2, 1) := dk_92 (dk_at dksX9_goes_2 21 rfl rfl)
theorem dX9_goes_69 : decode cX9_goes 69 = .ok (.iaload, 1) := dk_46 (dk_at dksX9_goes_2 22 rfl rfl)
theorem dX9_goes_70 : decode cX9_goes 70 = .ok (.aload_n 0, 1) := dk_42 (dk_at dksX9_goes_2 23 rfl rfl)
theorem dX9_goes_71 : decode cX9_goes 71 = .ok (.getfield 60, 3) := dk_180 0 60 (dk_at dksX9_goes_3 0 rfl rfl)
theorem dX9_goes_74 : decode cX9_goes 74 = .ok (.iload 4, 2) := dk_21 4 (dk_at dksX9_goes_3 3 rfl rfl)
theorem dX9_goes_76 : decode cX9_goes 76 = .ok (.iaload, 1) := dk_46 (dk_at dksX9_goes_3 5 rfl rfl)
theorem dX9_goes_77 : decode cX9_goes 77 = .ok (.bipush (-9), 2) := dk_16 247 (dk_at dksX9_goes_3 6 rfl rfl)
theorem dX9_goes_79 : decode cX9_goes 79 = .ok (.if_icmp .eq 7, 3) := dk_159 0 7 (dk_at dksX9_goes_3 8 rfl rfl)
theorem dX9_goes_82 : decode cX9_goes 82 = .ok (.iload_n 3, 1) := dk_29 (dk_at dksX9_goes_3 11 rfl rfl)
theorem dX9_goes_83 : decode cX9_goes 83 = .ok (.ifCond .ne 7, 3) := dk_154 0 7 (dk_at dksX9_goes_3 12 rfl rfl)
theorem dX9_goes_86 : decode cX9_goes 86 = .ok (.iconst 0, 1) := dk_3 (dk_at dksX9_goes_3 15 rfl rfl)
theorem dX9_goes_87 : decode cX9_goes 87 = .ok (.goto 4, 3) := dk_167 0 4 (dk_at dksX9_goes_3 16 rfl rfl)
theorem dX9_goes_90 : decode cX9_goes 90 = .ok (.iconst 1, 1) := dk_4 (dk_at dksX9_goes_3 19 rfl rfl)
theorem dX9_goes_91 : decode cX9_goes 91 = .ok (.iadd, 1) := dk_96 (dk_at dksX9_goes_3 20 rfl rfl)
theorem dX9_goes_92 : decode cX9_goes 92 = .ok (.iastore, 1) := dk_79 (dk_at dksX9_goes_3 21 rfl rfl)
theorem dX9_goes_93 : decode cX9_goes 93 = .ok (.aload_n 0, 1) := dk_42 (dk_at dksX9_goes_3 22 rfl rfl)
theorem dX9_goes_94 : decode cX9_goes 94 = .ok (.getfield 60, 3) := dk_180 0 60 (dk_at dksX9_goes_4 0 rfl rfl)
theorem dX9_goes_97 : decode cX9_goes 97 = .ok (.iload 4, 2) := dk_21 4 (dk_at dksX9_goes_4 3 rfl rfl)
theorem dX9_goes_99 : decode cX9_goes 99 = .ok (.iaload, 1) := dk_46 (dk_at dksX9_goes_4 5 rfl rfl)
theorem dX9_goes_100 : decode cX9_goes 100 = .ok (.bipush (-9), 2) := dk_16 247 (dk_at dksX9_goes_4 6 rfl rfl)
theorem dX9_goes_102 : decode cX9_goes 102 = .ok (.if_icmp .eq 45, 3) := dk_159 0 45 (dk_at dksX9_goes_4 8 rfl rfl)
theorem dX9_goes_105 : decode cX9_goes 105 = .ok (.aload_n 0, 1) := dk_42 (dk_at dksX9_goes_4 11 rfl rfl)
theorem dX9_goes_106 : decode cX9_goes 106 = .ok (.getfield 63, 3) := dk_180 0 63 (dk_at dksX9_goes_4 12 rfl rfl)
theorem dX9_goes_109 : decode cX9_goes 109 = .ok (.iload 4, 2) := dk_21 4 (dk_at dksX9_goes_4 15 rfl rfl)
theorem dX9_goes_111 : decode cX9_goes 111 = .ok (.iaload, 1) := dk_46 (dk_at dksX9_goes_4 17 rfl rfl)
theorem dX9_goes_112 : decode cX9_goes 112 = .ok (.aload_n 0, 1) := dk_42 (dk_at dksX9_goes_4 18 rfl rfl)
theorem dX9_goes_113 : decode cX9_goes 113 = .ok (.getfield 7, 3) := dk_180 0 7 (dk_at dksX9_goes_4 19 rfl rfl)
theorem dX9_goes_116 : decode cX9_goes 116 = .ok (.if_icmp .lt 31, 3) := dk_161 0 31 (dk_at dksX9_goes_5 0 rfl rfl)
theorem dX9_goes_119 : decode cX9_goes 119 = .ok (.aload_n 0, 1) := dk_42 (dk_at dksX9_goes_5 3 rfl rfl)
theorem dX9_goes_120 : decode cX9_goes 120 = .ok (.iload_n 3, 1) := dk_29 (dk_at dksX9_goes_5 4 rfl rfl)
theorem dX9_goes_121 : decode cX9_goes 121 = .ok (.invokevirtual 175, 3) := dk_182 0 175 (dk_at dksX9_goes_5 5 rfl rfl)
theorem dX9_goes_124 : decode cX9_goes 124 = .ok (.ifCond .eq 23, 3) := dk_153 0 23 (dk_at dksX9_goes_5 8 rfl rfl)
theorem dX9_goes_127 : decode cX9_goes 127 = .ok (.aload_n 0, 1) := dk_42 (dk_at dksX9_goes_5 11 rfl rfl)
theorem dX9_goes_128 : decode cX9_goes 128 = .ok (.getfield 66, 3) := dk_180 0 66 (dk_at dksX9_goes_5 12 rfl rfl)
theorem dX9_goes_131 : decode cX9_goes 131 = .ok (.iload 4, 2) := dk_21 4 (dk_at dksX9_goes_5 15 rfl rfl)
theorem dX9_goes_133 : decode cX9_goes 133 = .ok (.iload_n 3, 1) := dk_29 (dk_at dksX9_goes_5 17 rfl rfl)
theorem dX9_goes_134 : decode cX9_goes 134 = .ok (.iastore, 1) := dk_79 (dk_at dksX9_goes_5 18 rfl rfl)
theorem dX9_goes_135 : decode cX9_goes 135 = .ok (.aload_n 0, 1) := dk_42 (dk_at dksX9_goes_5 19 rfl rfl)
theorem dX9_goes_136 : decode cX9_goes 136 = .ok (.getfield 60, 3) := dk_180 0 60 (dk_at dksX9_goes_5 20 rfl rfl)
theorem dX9_goes_139 : decode cX9_goes 139 = .ok (.iload 4, 2) := dk_21 4 (dk_at dksX9_goes_6 0 rfl rfl)
theorem dX9_goes_141 : decode cX9_goes 141 = .ok (.bipush (-9), 2) := dk_16 247 (dk_at dksX9_goes_6 2 rfl rfl)
theorem dX9_goes_143 : decode cX9_goes 143 = .ok (.iastore, 1) := dk_79 (dk_at dksX9_goes_6 4 rfl rfl)
theorem dX9_goes_144 : decode cX9_goes 144 = .ok (.iinc 1 (-1), 3) := dk_132 1 255 (dk_at dksX9_goes_6 5 rfl rfl)
theorem dX9_goes_147 : decode cX9_goes 147 = .ok (.iinc 4 1, 3) := dk_132 4 1 (dk_at dksX9_goes_6 8 rfl rfl)
theorem dX9_goes_150 : decode cX9_goes 150 = .ok (.goto (-97), 3) := dk_167 255 159 (dk_at dksX9_goes_6 11 rfl rfl)
theorem dX9_goes_153 : decode cX9_goes 153 = .ok (.iconst 0, 1) := dk_3 (dk_at dksX9_goes_6 14 rfl rfl)
theorem dX9_goes_154 : decode cX9_goes 154 = .ok (.istore 4, 2) := dk_54 4 (dk_at dksX9_goes_6 15 rfl rfl)
theorem dX9_goes_156 : decode cX9_goes 156 = .ok (.iload 4, 2) := dk_21 4 (dk_at dksX9_goes_6 17 rfl rfl)
theorem dX9_goes_158 : decode cX9_goes 158 = .ok (.aload_n 0, 1) := dk_42 (dk_at dksX9_goes_6 19 rfl rfl)
theorem dX9_goes_159 : decode cX9_goes 159 = .ok (.getfield 82, 3) := dk_180 0 82 (dk_at dksX9_goes_6 20 rfl rfl)
theorem dX9_goes_162 : decode cX9_goes 162 = .ok (.if_icmp .ge 28, 3) := dk_162 0 28 (dk_at dksX9_goes_7 0 rfl rfl)
theorem dX9_goes_165 : decode cX9_goes 165 = .ok (.aload_n 0, 1) := dk_42 (dk_at dksX9_goes_7 3 rfl rfl)
theorem dX9_goes_166 : decode cX9_goes 166 = .ok (.getfield 19, 3) := dk_180 0 19 (dk_at dksX9_goes_7 4 rfl rfl)
theorem dX9_goes_169 : decode cX9_goes 169 = .ok (.iconst 2, 1) := dk_5 (dk_at dksX9_goes_7 7 rfl rfl)
theorem dX9_goes_170 : decode cX9_goes 170 = .ok (.iload 4, 2) := dk_21 4 (dk_at dksX9_goes_7 8 rfl rfl)
theorem dX9_goes_172 : decode cX9_goes 172 = .ok (.imul, 1) := dk_104 (dk_at dksX9_goes_7 10 rfl rfl)
theorem dX9_goes_173 : decode cX9_goes 173 = .ok (.iaload, 1) := dk_46 (dk_at dksX9_goes_7 11 rfl rfl)
theorem dX9_goes_174 : decode cX9_goes 174 = .ok (.iload_n 3, 1) := dk_29 (dk_at dksX9_goes_7 12 rfl rfl)
theorem dX9_goes_175 : decode cX9_goes 175 = .ok (.if_icmp .ne 9, 3) := dk_160 0 9 (dk_at dksX9_goes_7 13 rfl rfl)
theorem dX9_goes_178 : decode cX9_goes 178 = .ok (.aload_n 0, 1) := dk_42 (dk_at dksX9_goes_7 16 rfl rfl)
theorem dX9_goes_179 : decode cX9_goes 179 = .ok (.iload 4, 2) := dk_21 4 (dk_at dksX9_goes_7 17 rfl rfl)
theorem dX9_goes_181 : decode cX9_goes 181 = .ok (.invokevirtual 191, 3) := dk_182 0 191 (dk_at dksX9_goes_7 19 rfl rfl)
theorem dX9_goes_184 : decode cX9_goes 184 = .ok (.iinc 4 1, 3) := dk_132 4 1 (dk_at dksX9_goes_8 0 rfl rfl)
theorem dX9_goes_187 : decode cX9_goes 187 = .ok (.goto (-31), 3) := dk_167 255 225 (dk_at dksX9_goes_8 3 rfl rfl)
theorem dX9_goes_190 : decode cX9_goes 190 = .ok (.iload_n 2, 1) := dk_28 (dk_at dksX9_goes_8 6 rfl rfl)
theorem dX9_goes_191 : decode cX9_goes 191 = .ok (.iload_n 1, 1) := dk_27 (dk_at dksX9_goes_8 7 rfl rfl)
theorem dX9_goes_192 : decode cX9_goes 192 = .ok (.ifCond .le 15, 3) := dk_158 0 15 (dk_at dksX9_goes_8 8 rfl rfl)
theorem dX9_goes_195 : decode cX9_goes 195 = .ok (.aload_n 0, 1) := dk_42 (dk_at dksX9_goes_8 11 rfl rfl)
theorem dX9_goes_196 : decode cX9_goes 196 = .ok (.aload_n 0, 1) := dk_42 (dk_at dksX9_goes_8 12 rfl rfl)
theorem dX9_goes_197 : decode cX9_goes 197 = .ok (.getfield 60, 3) := dk_180 0 60 (dk_at dksX9_goes_8 13 rfl rfl)
theorem dX9_goes_200 : decode cX9_goes 200 = .ok (.iconst 0, 1) := dk_3 (dk_at dksX9_goes_8 16 rfl rfl)
theorem dX9_goes_201 : decode cX9_goes 201 = .ok (.invokevirtual 184, 3) := dk_182 0 184 (dk_at dksX9_goes_8 17 rfl rfl)
theorem dX9_goes_204 : decode cX9_goes 204 = .ok (.goto 4, 3) := dk_167 0 4 (dk_at dksX9_goes_8 20 rfl rfl)
theorem dX9_goes_207 : decode cX9_goes 207 = .ok (.iconst 0, 1) := dk_3 (dk_at dksX9_goes_8 23 rfl rfl)
theorem dX9_goes_208 : decode cX9_goes 208 = .ok (.iadd, 1) := dk_96 (dk_at dksX9_goes_9 0 rfl rfl)
theorem dX9_goes_209 : decode cX9_goes 209 = .ok (.istore_n 2, 1) := dk_61 (dk_at dksX9_goes_9 1 rfl rfl)
theorem dX9_goes_210 : decode cX9_goes 210 = .ok (.iinc 3 1, 3) := dk_132 3 1 (dk_at dksX9_goes_9 2 rfl rfl)
theorem dX9_goes_213 : decode cX9_goes 213 = .ok (.goto (-167), 3) := dk_167 255 89 (dk_at dksX9_goes_9 5 rfl rfl)
theorem dX9_goes_216 : decode cX9_goes 216 = .ok (.iload_n 2, 1) := dk_28 (dk_at dksX9_goes_9 8 rfl rfl)
theorem dX9_goes_217 : decode cX9_goes 217 = .ok (.ireturn, 1) := dk_172 (dk_at dksX9_goes_9 9 rfl rfl)
abbrev cX9_comes : ByteArray := prog_13_method_33_code
def yX9_comes : MethodName := ⟨RX9, "comes", "(I)V"⟩
def dkwX9_comes_2 : List UInt8 := [180, 0, 63, 28, 46, 79, 132, 2, 1, 167, 255, 214, 177]
abbrev dktX9_comes_2 : List UInt8 := dkwX9_comes_2 ++ []
def dkwX9_comes_1 : List UInt8 := [180, 0, 63, 28, 42, 180, 0, 60, 28, 46, 42, 180, 0, 57, 27, 46, 160, 0, 7, 3, 167, 0, 9, 42]
abbrev dktX9_comes_1 : List UInt8 := dkwX9_comes_1 ++ dktX9_comes_2
def dkwX9_comes_0 : List UInt8 := [42, 180, 0, 60, 27, 42, 180, 0, 57, 27, 46, 79, 3, 61, 28, 42, 180, 0, 82, 162, 0, 40, 42]
abbrev dktX9_comes_0 : List UInt8 := dkwX9_comes_0 ++ dktX9_comes_1
theorem dksX9_comes_0 : cX9_comes.data.toList.drop 0 = dktX9_comes_0 := by decide +kernel
theorem dksX9_comes_1 : cX9_comes.data.toList.drop 23 = dktX9_comes_1 := dk_seg dksX9_comes_0 23 rfl rfl
theorem dksX9_comes_2 : cX9_comes.data.toList.drop 47 = dktX9_comes_2 := dk_seg dksX9_comes_1 24 rfl rfl
theorem dX9_comes_0 : decode cX9_comes 0 = .ok (.aload_n 0, 1) := dk_42 (dk_at dksX9_comes_0 0 rfl rfl)
theorem dX9_comes_1 : decode cX9_comes 1 = .ok (.getfield 60, 3) := dk_180 0 60 (dk_at dksX9_comes_0 1 rfl rfl)
theorem dX9_comes_4 : decode cX9_comes 4 = .ok (.iload_n 1, 1) := dk_27 (dk_at dksX9_comes_0 4 rfl rfl)
theorem dX9_comes_5 : decode cX9_comes 5 = .ok (.aload_n 0, 1) := dk_42 (dk_at dksX9_comes_0 5 rfl rfl)
theorem dX9_comes_6 : decode cX9_comes 6 = .ok (.getfield 57, 3) := dk_180 0 57 (dk_at dksX9_comes_0 6 rfl rfl)
theorem dX9_comes_9 : decode cX9_comes 9 = .ok (.iload_n 1, 1) := dk_27 (dk_at dksX9_comes_0 9 rfl rfl)
theorem dX9_comes_10 : decode cX9_comes 10 = .ok (.iaload, 1) := dk_46 (dk_at dksX9_comes_0 10 rfl rfl)
theorem dX9_comes_11 : decode cX9_comes 11 = .ok (.iastore, 1) := dk_79 (dk_at dksX9_comes_0 11 rfl rfl)
theorem dX9_comes_12 : decode cX9_comes 12 = .ok (.iconst 0, 1) := dk_3 (dk_at dksX9_comes_0 12 rfl rfl)
theorem dX9_comes_13 : decode cX9_comes 13 = .ok (.istore_n 2, 1) := dk_61 (dk_at dksX9_comes_0 13 rfl rfl)
theorem dX9_comes_14 : decode cX9_comes 14 = .ok (.iload_n 2, 1) := dk_28 (dk_at dksX9_comes_0 14 rfl rfl)
theorem dX9_comes_15 : decode cX9_comes 15 = .ok (.aload_n 0, 1) := dk_42 (dk_at dksX9_comes_0 15 rfl rfl)
theorem dX9_comes_16 : decode cX9_comes 16 = .ok (.getfield 82, 3) := dk_180 0 82 (dk_at dksX9_comes_0 16 rfl rfl)
theorem dX9_comes_19 : decode cX9_comes 19 = .ok (.if_icmp .ge 40, 3) := dk_162 0 40 (dk_at dksX9_comes_0 19 rfl rfl)
theorem dX9_comes_22 : decode cX9_comes 22 = .ok (.aload_n 0, 1) := dk_42 (dk_at dksX9_comes_0 22 rfl rfl)
theorem dX9_comes_23 : decode cX9_comes 23 = .ok (.getfield 63, 3) := dk_180 0 63 (dk_at dksX9_comes_1 0 rfl rfl)
theorem dX9_comes_26 : decode cX9_comes 26 = .ok (.iload_n 2, 1) := dk_28 (dk_at dksX9_comes_1 3 rfl rfl)
theorem dX9_comes_27 : decode cX9_comes 27 = .ok (.aload_n 0, 1) := dk_42 (dk_at dksX9_comes_1 4 rfl rfl)
theorem dX9_comes_28 : decode cX9_comes 28 = .ok (.getfield 60, 3) := dk_180 0 60 (dk_at dksX9_comes_1 5 rfl rfl)
theorem dX9_comes_31 : decode cX9_comes 31 = .ok (.iload_n 2, 1) := dk_28 (dk_at dksX9_comes_1 8 rfl rfl)
theorem dX9_comes_32 : decode cX9_comes 32 = .ok (.iaload, 1) := dk_46 (dk_at dksX9_comes_1 9 rfl rfl)
theorem dX9_comes_33 : decode cX9_comes 33 = .ok (.aload_n 0, 1) := dk_42 (dk_at dksX9_comes_1 10 rfl rfl)
theorem dX9_comes_34 : decode cX9_comes 34 = .ok (.getfield 57, 3) := dk_180 0 57 (dk_at dksX9_comes_1 11 rfl rfl)
theorem dX9_comes_37 : decode cX9_comes 37 = .ok (.iload_n 1, 1) := dk_27 (dk_at dksX9_comes_1 14 rfl rfl)
theorem dX9_comes_38 : decode cX9_comes 38 = .ok (.iaload, 1) := dk_46 (dk_at dksX9_comes_1 15 rfl rfl)
theorem dX9_comes_39 : decode cX9_comes 39 = .ok (.if_icmp .ne 7, 3) := dk_160 0 7 (dk_at dksX9_comes_1 16 rfl rfl)
theorem dX9_comes_42 : decode cX9_comes 42 = .ok (.iconst 0, 1) := dk_3 (dk_at dksX9_comes_1 19 rfl rfl)
theorem dX9_comes_43 : decode cX9_comes 43 = .ok (.goto 9, 3) := dk_167 0 9 (dk_at dksX9_comes_1 20 rfl rfl)
theorem dX9_comes_46 : decode cX9_comes 46 = .ok (.aload_n 0, 1) := dk_42 (dk_at dksX9_comes_1 23 rfl rfl)
theorem dX9_comes_47 : decode cX9_comes 47 = .ok (.getfield 63, 3) := dk_180 0 63 (dk_at dksX9_comes_2 0 rfl rfl)
theorem dX9_comes_50 : decode cX9_comes 50 = .ok (.iload_n 2, 1) := dk_28 (dk_at dksX9_comes_2 3 rfl rfl)
theorem dX9_comes_51 : decode cX9_comes 51 = .ok (.iaload, 1) := dk_46 (dk_at dksX9_comes_2 4 rfl rfl)
theorem dX9_comes_52 : decode cX9_comes 52 = .ok (.iastore, 1) := dk_79 (dk_at dksX9_comes_2 5 rfl rfl)
theorem dX9_comes_53 : decode cX9_comes 53 = .ok (.iinc 2 1, 3) := dk_132 2 1 (dk_at dksX9_comes_2 6 rfl rfl)
theorem dX9_comes_56 : decode cX9_comes 56 = .ok (.goto (-42), 3) := dk_167 255 214 (dk_at dksX9_comes_2 9 rfl rfl)
theorem dX9_comes_59 : decode cX9_comes 59 = .ok (.return_, 1) := dk_177 (dk_at dksX9_comes_2 12 rfl rfl)
abbrev cX9_sailedBy : ByteArray := prog_13_method_37_code
def yX9_sailedBy : MethodName := ⟨RX9, "sailedBy", "(I)I"⟩
def dkwX9_sailedBy_1 : List UInt8 := [167, 0, 4, 3, 96, 61, 132, 3, 1, 167, 255, 227, 28, 172]
abbrev dktX9_sailedBy_1 : List UInt8 := dkwX9_sailedBy_1 ++ []
def dkwX9_sailedBy_0 : List UInt8 := [3, 61, 3, 62, 29, 42, 180, 0, 82, 162, 0, 27, 28, 42, 180, 0, 66, 29, 46, 27, 163, 0, 7, 4]
abbrev dktX9_sailedBy_0 : List UInt8 := dkwX9_sailedBy_0 ++ dktX9_sailedBy_1
theorem dksX9_sailedBy_0 : cX9_sailedBy.data.toList.drop 0 = dktX9_sailedBy_0 := by decide +kernel
theorem dksX9_sailedBy_1 : cX9_sailedBy.data.toList.drop 24 = dktX9_sailedBy_1 := dk_seg dksX9_sailedBy_0 24 rfl rfl
theorem dX9_sailedBy_0 : decode cX9_sailedBy 0 = .ok (.iconst 0, 1) := dk_3 (dk_at dksX9_sailedBy_0 0 rfl rfl)
theorem dX9_sailedBy_1 : decode cX9_sailedBy 1 = .ok (.istore_n 2, 1) := dk_61 (dk_at dksX9_sailedBy_0 1 rfl rfl)
theorem dX9_sailedBy_2 : decode cX9_sailedBy 2 = .ok (.iconst 0, 1) := dk_3 (dk_at dksX9_sailedBy_0 2 rfl rfl)
theorem dX9_sailedBy_3 : decode cX9_sailedBy 3 = .ok (.istore_n 3, 1) := dk_62 (dk_at dksX9_sailedBy_0 3 rfl rfl)
theorem dX9_sailedBy_4 : decode cX9_sailedBy 4 = .ok (.iload_n 3, 1) := dk_29 (dk_at dksX9_sailedBy_0 4 rfl rfl)
theorem dX9_sailedBy_5 : decode cX9_sailedBy 5 = .ok (.aload_n 0, 1) := dk_42 (dk_at dksX9_sailedBy_0 5 rfl rfl)
theorem dX9_sailedBy_6 : decode cX9_sailedBy 6 = .ok (.getfield 82, 3) := dk_180 0 82 (dk_at dksX9_sailedBy_0 6 rfl rfl)
theorem dX9_sailedBy_9 : decode cX9_sailedBy 9 = .ok (.if_icmp .ge 27, 3) := dk_162 0 27 (dk_at dksX9_sailedBy_0 9 rfl rfl)
theorem dX9_sailedBy_12 : decode cX9_sailedBy 12 = .ok (.iload_n 2, 1) := dk_28 (dk_at dksX9_sailedBy_0 12 rfl rfl)
theorem dX9_sailedBy_13 : decode cX9_sailedBy 13 = .ok (.aload_n 0, 1) := dk_42 (dk_at dksX9_sailedBy_0 13 rfl rfl)
theorem dX9_sailedBy_14 : decode cX9_sailedBy 14 = .ok (.getfield 66, 3) := dk_180 0 66 (dk_at dksX9_sailedBy_0 14 rfl rfl)
theorem dX9_sailedBy_17 : decode cX9_sailedBy 17 = .ok (.iload_n 3, 1) := dk_29 (dk_at dksX9_sailedBy_0 17 rfl rfl)
theorem dX9_sailedBy_18 : decode cX9_sailedBy 18 = .ok (.iaload, 1) := dk_46 (dk_at dksX9_sailedBy_0 18 rfl rfl)
theorem dX9_sailedBy_19 : decode cX9_sailedBy 19 = .ok (.iload_n 1, 1) := dk_27 (dk_at dksX9_sailedBy_0 19 rfl rfl)
theorem dX9_sailedBy_20 : decode cX9_sailedBy 20 = .ok (.if_icmp .gt 7, 3) := dk_163 0 7 (dk_at dksX9_sailedBy_0 20 rfl rfl)
theorem dX9_sailedBy_23 : decode cX9_sailedBy 23 = .ok (.iconst 1, 1) := dk_4 (dk_at dksX9_sailedBy_0 23 rfl rfl)
theorem dX9_sailedBy_24 : decode cX9_sailedBy 24 = .ok (.goto 4, 3) := dk_167 0 4 (dk_at dksX9_sailedBy_1 0 rfl rfl)
theorem dX9_sailedBy_27 : decode cX9_sailedBy 27 = .ok (.iconst 0, 1) := dk_3 (dk_at dksX9_sailedBy_1 3 rfl rfl)
theorem dX9_sailedBy_28 : decode cX9_sailedBy 28 = .ok (.iadd, 1) := dk_96 (dk_at dksX9_sailedBy_1 4 rfl rfl)
theorem dX9_sailedBy_29 : decode cX9_sailedBy 29 = .ok (.istore_n 2, 1) := dk_61 (dk_at dksX9_sailedBy_1 5 rfl rfl)
theorem dX9_sailedBy_30 : decode cX9_sailedBy 30 = .ok (.iinc 3 1, 3) := dk_132 3 1 (dk_at dksX9_sailedBy_1 6 rfl rfl)
theorem dX9_sailedBy_33 : decode cX9_sailedBy 33 = .ok (.goto (-29), 3) := dk_167 255 227 (dk_at dksX9_sailedBy_1 9 rfl rfl)
theorem dX9_sailedBy_36 : decode cX9_sailedBy 36 = .ok (.iload_n 2, 1) := dk_28 (dk_at dksX9_sailedBy_1 12 rfl rfl)
theorem dX9_sailedBy_37 : decode cX9_sailedBy 37 = .ok (.ireturn, 1) := dk_172 (dk_at dksX9_sailedBy_1 13 rfl rfl)
abbrev cX9_soonest : ByteArray := prog_13_method_40_code
def yX9_soonest : MethodName := ⟨RX9, "soonest", "(I)I"⟩
def dkwX9_soonest_4 : List UInt8 := [16, 247, 160, 0, 11, 29, 17, 39, 16, 108, 167, 0, 9, 42, 180, 0, 57, 27, 46, 172]
abbrev dktX9_soonest_4 : List UInt8 := dkwX9_soonest_4 ++ []
def dkwX9_soonest_3 : List UInt8 := [162, 0, 10, 42, 182, 0, 209, 167, 0, 4, 29, 62, 132, 4, 1, 167, 255, 193, 42, 28, 182, 0, 199, 27]
abbrev dktX9_soonest_3 : List UInt8 := dkwX9_soonest_3 ++ dktX9_soonest_4
def dkwX9_soonest_2 : List UInt8 := [182, 0, 202, 87, 42, 182, 0, 209, 29, 162, 0, 8, 21, 4, 167, 0, 4, 28, 61, 42, 182, 0, 209, 29]
abbrev dktX9_soonest_2 : List UInt8 := dkwX9_soonest_2 ++ dktX9_soonest_3
def dkwX9_soonest_1 : List UInt8 := [21, 4, 42, 42, 180, 0, 13, 42, 180, 0, 82, 182, 0, 195, 162, 0, 52, 42, 21, 4, 182, 0, 199, 42]
abbrev dktX9_soonest_1 : List UInt8 := dkwX9_soonest_1 ++ dktX9_soonest_2
def dkwX9_soonest_0 : List UInt8 := [27, 16, 247, 159, 0, 13, 42, 27, 182, 0, 158, 154, 0, 5, 2, 172, 3, 61, 18, 208, 62, 3, 54, 4]
abbrev dktX9_soonest_0 : List UInt8 := dkwX9_soonest_0 ++ dktX9_soonest_1
theorem dksX9_soonest_0 : cX9_soonest.data.toList.drop 0 = dktX9_soonest_0 := by decide +kernel
theorem dksX9_soonest_1 : cX9_soonest.data.toList.drop 24 = dktX9_soonest_1 := dk_seg dksX9_soonest_0 24 rfl rfl
theorem dksX9_soonest_2 : cX9_soonest.data.toList.drop 48 = dktX9_soonest_2 := dk_seg dksX9_soonest_1 24 rfl rfl
theorem dksX9_soonest_3 : cX9_soonest.data.toList.drop 72 = dktX9_soonest_3 := dk_seg dksX9_soonest_2 24 rfl rfl
theorem dksX9_soonest_4 : cX9_soonest.data.toList.drop 96 = dktX9_soonest_4 := dk_seg dksX9_soonest_3 24 rfl rfl
theorem dX9_soonest_0 : decode cX9_soonest 0 = .ok (.iload_n 1, 1) := dk_27 (dk_at dksX9_soonest_0 0 rfl rfl)
theorem dX9_soonest_1 : decode cX9_soonest 1 = .ok (.bipush (-9), 2) := dk_16 247 (dk_at dksX9_soonest_0 1 rfl rfl)
theorem dX9_soonest_3 : decode cX9_soonest 3 = .ok (.if_icmp .eq 13, 3) := dk_159 0 13 (dk_at dksX9_soonest_0 3 rfl rfl)
theorem dX9_soonest_6 : decode cX9_soonest 6 = .ok (.aload_n 0, 1) := dk_42 (dk_at dksX9_soonest_0 6 rfl rfl)
theorem dX9_soonest_7 : decode cX9_soonest 7 = .ok (.iload_n 1, 1) := dk_27 (dk_at dksX9_soonest_0 7 rfl rfl)
theorem dX9_soonest_8 : decode cX9_soonest 8 = .ok (.invokevirtual 158, 3) := dk_182 0 158 (dk_at dksX9_soonest_0 8 rfl rfl)
theorem dX9_soonest_11 : decode cX9_soonest 11 = .ok (.ifCond .ne 5, 3) := dk_154 0 5 (dk_at dksX9_soonest_0 11 rfl rfl)
theorem dX9_soonest_14 : decode cX9_soonest 14 = .ok (.iconst (-1), 1) := dk_2 (dk_at dksX9_soonest_0 14 rfl rfl)
theorem dX9_soonest_15 : decode cX9_soonest 15 = .ok (.ireturn, 1) := dk_172 (dk_at dksX9_soonest_0 15 rfl rfl)
theorem dX9_soonest_16 : decode cX9_soonest 16 = .ok (.iconst 0, 1) := dk_3 (dk_at dksX9_soonest_0 16 rfl rfl)
theorem dX9_soonest_17 : decode cX9_soonest 17 = .ok (.istore_n 2, 1) := dk_61 (dk_at dksX9_soonest_0 17 rfl rfl)
theorem dX9_soonest_18 : decode cX9_soonest 18 = .ok (.ldc 208, 2) := dk_18 208 (dk_at dksX9_soonest_0 18 rfl rfl)
theorem dX9_soonest_20 : decode cX9_soonest 20 = .ok (.istore_n 3, 1) := dk_62 (dk_at dksX9_soonest_0 20 rfl rfl)
theorem dX9_soonest_21 : decode cX9_soonest 21 = .ok (.iconst 0, 1) := dk_3 (dk_at dksX9_soonest_0 21 rfl rfl)
theorem dX9_soonest_22 : decode cX9_soonest 22 = .ok (.istore 4, 2) := dk_54 4 (dk_at dksX9_soonest_0 22 rfl rfl)
theorem dX9_soonest_24 : decode cX9_soonest 24 = .ok (.iload 4, 2) := dk_21 4 (dk_at dksX9_soonest_1 0 rfl rfl)
theorem dX9_soonest_26 : decode cX9_soonest 26 = .ok (.aload_n 0, 1) := dk_42 (dk_at dksX9_soonest_1 2 rfl rfl)
theorem dX9_soonest_27 : decode cX9_soonest 27 = .ok (.aload_n 0, 1) := dk_42 (dk_at dksX9_soonest_1 3 rfl rfl)
theorem dX9_soonest_28 : decode cX9_soonest 28 = .ok (.getfield 13, 3) := dk_180 0 13 (dk_at dksX9_soonest_1 4 rfl rfl)
theorem dX9_soonest_31 : decode cX9_soonest 31 = .ok (.aload_n 0, 1) := dk_42 (dk_at dksX9_soonest_1 7 rfl rfl)
theorem dX9_soonest_32 : decode cX9_soonest 32 = .ok (.getfield 82, 3) := dk_180 0 82 (dk_at dksX9_soonest_1 8 rfl rfl)
theorem dX9_soonest_35 : decode cX9_soonest 35 = .ok (.invokevirtual 195, 3) := dk_182 0 195 (dk_at dksX9_soonest_1 11 rfl rfl)
theorem dX9_soonest_38 : decode cX9_soonest 38 = .ok (.if_icmp .ge 52, 3) := dk_162 0 52 (dk_at dksX9_soonest_1 14 rfl rfl)
theorem dX9_soonest_41 : decode cX9_soonest 41 = .ok (.aload_n 0, 1) := dk_42 (dk_at dksX9_soonest_1 17 rfl rfl)
theorem dX9_soonest_42 : decode cX9_soonest 42 = .ok (.iload 4, 2) := dk_21 4 (dk_at dksX9_soonest_1 18 rfl rfl)
theorem dX9_soonest_44 : decode cX9_soonest 44 = .ok (.invokevirtual 199, 3) := dk_182 0 199 (dk_at dksX9_soonest_1 20 rfl rfl)
theorem dX9_soonest_47 : decode cX9_soonest 47 = .ok (.aload_n 0, 1) := dk_42 (dk_at dksX9_soonest_1 23 rfl rfl)
theorem dX9_soonest_48 : decode cX9_soonest 48 = .ok (.invokevirtual 202, 3) := dk_182 0 202 (dk_at dksX9_soonest_2 0 rfl rfl)
theorem dX9_soonest_51 : decode cX9_soonest 51 = .ok (.pop, 1) := dk_87 (dk_at dksX9_soonest_2 3 rfl rfl)
theorem dX9_soonest_52 : decode cX9_soonest 52 = .ok (.aload_n 0, 1) := dk_42 (dk_at dksX9_soonest_2 4 rfl rfl)
theorem dX9_soonest_53 : decode cX9_soonest 53 = .ok (.invokevirtual 209, 3) := dk_182 0 209 (dk_at dksX9_soonest_2 5 rfl rfl)
theorem dX9_soonest_56 : decode cX9_soonest 56 = .ok (.iload_n 3, 1) := dk_29 (dk_at dksX9_soonest_2 8 rfl rfl)
theorem dX9_soonest_57 : decode cX9_soonest 57 = .ok (.if_icmp .ge 8, 3) := dk_162 0 8 (dk_at dksX9_soonest_2 9 rfl rfl)
theorem dX9_soonest_60 : decode cX9_soonest 60 = .ok (.iload 4, 2) := dk_21 4 (dk_at dksX9_soonest_2 12 rfl rfl)
theorem dX9_soonest_62 : decode cX9_soonest 62 = .ok (.goto 4, 3) := dk_167 0 4 (dk_at dksX9_soonest_2 14 rfl rfl)
theorem dX9_soonest_65 : decode cX9_soonest 65 = .ok (.iload_n 2, 1) := dk_28 (dk_at dksX9_soonest_2 17 rfl rfl)
theorem dX9_soonest_66 : decode cX9_soonest 66 = .ok (.istore_n 2, 1) := dk_61 (dk_at dksX9_soonest_2 18 rfl rfl)
theorem dX9_soonest_67 : decode cX9_soonest 67 = .ok (.aload_n 0, 1) := dk_42 (dk_at dksX9_soonest_2 19 rfl rfl)
theorem dX9_soonest_68 : decode cX9_soonest 68 = .ok (.invokevirtual 209, 3) := dk_182 0 209 (dk_at dksX9_soonest_2 20 rfl rfl)
theorem dX9_soonest_71 : decode cX9_soonest 71 = .ok (.iload_n 3, 1) := dk_29 (dk_at dksX9_soonest_2 23 rfl rfl)
theorem dX9_soonest_72 : decode cX9_soonest 72 = .ok (.if_icmp .ge 10, 3) := dk_162 0 10 (dk_at dksX9_soonest_3 0 rfl rfl)
theorem dX9_soonest_75 : decode cX9_soonest 75 = .ok (.aload_n 0, 1) := dk_42 (dk_at dksX9_soonest_3 3 rfl rfl)
theorem dX9_soonest_76 : decode cX9_soonest 76 = .ok (.invokevirtual 209, 3) := dk_182 0 209 (dk_at dksX9_soonest_3 4 rfl rfl)
theorem dX9_soonest_79 : decode cX9_soonest 79 = .ok (.goto 4, 3) := dk_167 0 4 (dk_at dksX9_soonest_3 7 rfl rfl)
theorem dX9_soonest_82 : decode cX9_soonest 82 = .ok (.iload_n 3, 1) := dk_29 (dk_at dksX9_soonest_3 10 rfl rfl)
theorem dX9_soonest_83 : decode cX9_soonest 83 = .ok (.istore_n 3, 1) := dk_62 (dk_at dksX9_soonest_3 11 rfl rfl)
theorem dX9_soonest_84 : decode cX9_soonest 84 = .ok (.iinc 4 1, 3) := dk_132 4 1 (dk_at dksX9_soonest_3 12 rfl rfl)
theorem dX9_soonest_87 : decode cX9_soonest 87 = .ok (.goto (-63), 3) := dk_167 255 193 (dk_at dksX9_soonest_3 15 rfl rfl)
theorem dX9_soonest_90 : decode cX9_soonest 90 = .ok (.aload_n 0, 1) := dk_42 (dk_at dksX9_soonest_3 18 rfl rfl)
theorem dX9_soonest_91 : decode cX9_soonest 91 = .ok (.iload_n 2, 1) := dk_28 (dk_at dksX9_soonest_3 19 rfl rfl)
theorem dX9_soonest_92 : decode cX9_soonest 92 = .ok (.invokevirtual 199, 3) := dk_182 0 199 (dk_at dksX9_soonest_3 20 rfl rfl)
theorem dX9_soonest_95 : decode cX9_soonest 95 = .ok (.iload_n 1, 1) := dk_27 (dk_at dksX9_soonest_3 23 rfl rfl)
theorem dX9_soonest_96 : decode cX9_soonest 96 = .ok (.bipush (-9), 2) := dk_16 247 (dk_at dksX9_soonest_4 0 rfl rfl)
theorem dX9_soonest_98 : decode cX9_soonest 98 = .ok (.if_icmp .ne 11, 3) := dk_160 0 11 (dk_at dksX9_soonest_4 2 rfl rfl)
theorem dX9_soonest_101 : decode cX9_soonest 101 = .ok (.iload_n 3, 1) := dk_29 (dk_at dksX9_soonest_4 5 rfl rfl)
theorem dX9_soonest_102 : decode cX9_soonest 102 = .ok (.sipush 10000, 3) := dk_17 39 16 (dk_at dksX9_soonest_4 6 rfl rfl)
theorem dX9_soonest_105 : decode cX9_soonest 105 = .ok (.idiv, 1) := dk_108 (dk_at dksX9_soonest_4 9 rfl rfl)
theorem dX9_soonest_106 : decode cX9_soonest 106 = .ok (.goto 9, 3) := dk_167 0 9 (dk_at dksX9_soonest_4 10 rfl rfl)
theorem dX9_soonest_109 : decode cX9_soonest 109 = .ok (.aload_n 0, 1) := dk_42 (dk_at dksX9_soonest_4 13 rfl rfl)
theorem dX9_soonest_110 : decode cX9_soonest 110 = .ok (.getfield 57, 3) := dk_180 0 57 (dk_at dksX9_soonest_4 14 rfl rfl)
theorem dX9_soonest_113 : decode cX9_soonest 113 = .ok (.iload_n 1, 1) := dk_27 (dk_at dksX9_soonest_4 17 rfl rfl)
theorem dX9_soonest_114 : decode cX9_soonest 114 = .ok (.iaload, 1) := dk_46 (dk_at dksX9_soonest_4 18 rfl rfl)
theorem dX9_soonest_115 : decode cX9_soonest 115 = .ok (.ireturn, 1) := dk_172 (dk_at dksX9_soonest_4 19 rfl rfl)
abbrev cX9_late : ByteArray := prog_13_method_39_code
def yX9_late : MethodName := ⟨RX9, "late", "()I"⟩
def dkwX9_late_2 : List UInt8 := [167, 255, 215, 17, 39, 16, 27, 104, 28, 96, 172]
abbrev dktX9_late_2 : List UInt8 := dkwX9_late_2 ++ []
def dkwX9_late_1 : List UInt8 := [42, 180, 0, 66, 29, 46, 167, 0, 4, 27, 60, 28, 42, 180, 0, 66, 29, 46, 96, 61, 132, 3, 1]
abbrev dktX9_late_1 : List UInt8 := dkwX9_late_1 ++ dktX9_late_2
def dkwX9_late_0 : List UInt8 := [3, 60, 3, 61, 3, 62, 29, 42, 180, 0, 82, 162, 0, 39, 42, 180, 0, 66, 29, 46, 27, 164, 0, 12]
abbrev dktX9_late_0 : List UInt8 := dkwX9_late_0 ++ dktX9_late_1
theorem dksX9_late_0 : cX9_late.data.toList.drop 0 = dktX9_late_0 := by decide +kernel
theorem dksX9_late_1 : cX9_late.data.toList.drop 24 = dktX9_late_1 := dk_seg dksX9_late_0 24 rfl rfl
theorem dksX9_late_2 : cX9_late.data.toList.drop 47 = dktX9_late_2 := dk_seg dksX9_late_1 23 rfl rfl
theorem dX9_late_0 : decode cX9_late 0 = .ok (.iconst 0, 1) := dk_3 (dk_at dksX9_late_0 0 rfl rfl)
theorem dX9_late_1 : decode cX9_late 1 = .ok (.istore_n 1, 1) := dk_60 (dk_at dksX9_late_0 1 rfl rfl)
theorem dX9_late_2 : decode cX9_late 2 = .ok (.iconst 0, 1) := dk_3 (dk_at dksX9_late_0 2 rfl rfl)
theorem dX9_late_3 : decode cX9_late 3 = .ok (.istore_n 2, 1) := dk_61 (dk_at dksX9_late_0 3 rfl rfl)
theorem dX9_late_4 : decode cX9_late 4 = .ok (.iconst 0, 1) := dk_3 (dk_at dksX9_late_0 4 rfl rfl)
theorem dX9_late_5 : decode cX9_late 5 = .ok (.istore_n 3, 1) := dk_62 (dk_at dksX9_late_0 5 rfl rfl)
theorem dX9_late_6 : decode cX9_late 6 = .ok (.iload_n 3, 1) := dk_29 (dk_at dksX9_late_0 6 rfl rfl)
theorem dX9_late_7 : decode cX9_late 7 = .ok (.aload_n 0, 1) := dk_42 (dk_at dksX9_late_0 7 rfl rfl)
theorem dX9_late_8 : decode cX9_late 8 = .ok (.getfield 82, 3) := dk_180 0 82 (dk_at dksX9_late_0 8 rfl rfl)
theorem dX9_late_11 : decode cX9_late 11 = .ok (.if_icmp .ge 39, 3) := dk_162 0 39 (dk_at dksX9_late_0 11 rfl rfl)
theorem dX9_late_14 : decode cX9_late 14 = .ok (.aload_n 0, 1) := dk_42 (dk_at dksX9_late_0 14 rfl rfl)
theorem dX9_late_15 : decode cX9_late 15 = .ok (.getfield 66, 3) := dk_180 0 66 (dk_at dksX9_late_0 15 rfl rfl)
theorem dX9_late_18 : decode cX9_late 18 = .ok (.iload_n 3, 1) := dk_29 (dk_at dksX9_late_0 18 rfl rfl)
theorem dX9_late_19 : decode cX9_late 19 = .ok (.iaload, 1) := dk_46 (dk_at dksX9_late_0 19 rfl rfl)
theorem dX9_late_20 : decode cX9_late 20 = .ok (.iload_n 1, 1) := dk_27 (dk_at dksX9_late_0 20 rfl rfl)
theorem dX9_late_21 : decode cX9_late 21 = .ok (.if_icmp .le 12, 3) := dk_164 0 12 (dk_at dksX9_late_0 21 rfl rfl)
theorem dX9_late_24 : decode cX9_late 24 = .ok (.aload_n 0, 1) := dk_42 (dk_at dksX9_late_1 0 rfl rfl)
theorem dX9_late_25 : decode cX9_late 25 = .ok (.getfield 66, 3) := dk_180 0 66 (dk_at dksX9_late_1 1 rfl rfl)
theorem dX9_late_28 : decode cX9_late 28 = .ok (.iload_n 3, 1) := dk_29 (dk_at dksX9_late_1 4 rfl rfl)
theorem dX9_late_29 : decode cX9_late 29 = .ok (.iaload, 1) := dk_46 (dk_at dksX9_late_1 5 rfl rfl)
theorem dX9_late_30 : decode cX9_late 30 = .ok (.goto 4, 3) := dk_167 0 4 (dk_at dksX9_late_1 6 rfl rfl)
theorem dX9_late_33 : decode cX9_late 33 = .ok (.iload_n 1, 1) := dk_27 (dk_at dksX9_late_1 9 rfl rfl)
theorem dX9_late_34 : decode cX9_late 34 = .ok (.istore_n 1, 1) := dk_60 (dk_at dksX9_late_1 10 rfl rfl)
theorem dX9_late_35 : decode cX9_late 35 = .ok (.iload_n 2, 1) := dk_28 (dk_at dksX9_late_1 11 rfl rfl)
theorem dX9_late_36 : decode cX9_late 36 = .ok (.aload_n 0, 1) := dk_42 (dk_at dksX9_late_1 12 rfl rfl)
theorem dX9_late_37 : decode cX9_late 37 = .ok (.getfield 66, 3) := dk_180 0 66 (dk_at dksX9_late_1 13 rfl rfl)
theorem dX9_late_40 : decode cX9_late 40 = .ok (.iload_n 3, 1) := dk_29 (dk_at dksX9_late_1 16 rfl rfl)
theorem dX9_late_41 : decode cX9_late 41 = .ok (.iaload, 1) := dk_46 (dk_at dksX9_late_1 17 rfl rfl)
theorem dX9_late_42 : decode cX9_late 42 = .ok (.iadd, 1) := dk_96 (dk_at dksX9_late_1 18 rfl rfl)
theorem dX9_late_43 : decode cX9_late 43 = .ok (.istore_n 2, 1) := dk_61 (dk_at dksX9_late_1 19 rfl rfl)
theorem dX9_late_44 : decode cX9_late 44 = .ok (.iinc 3 1, 3) := dk_132 3 1 (dk_at dksX9_late_1 20 rfl rfl)
theorem dX9_late_47 : decode cX9_late 47 = .ok (.goto (-41), 3) := dk_167 255 215 (dk_at dksX9_late_2 0 rfl rfl)
theorem dX9_late_50 : decode cX9_late 50 = .ok (.sipush 10000, 3) := dk_17 39 16 (dk_at dksX9_late_2 3 rfl rfl)
theorem dX9_late_53 : decode cX9_late 53 = .ok (.iload_n 1, 1) := dk_27 (dk_at dksX9_late_2 6 rfl rfl)
theorem dX9_late_54 : decode cX9_late 54 = .ok (.imul, 1) := dk_104 (dk_at dksX9_late_2 7 rfl rfl)
theorem dX9_late_55 : decode cX9_late 55 = .ok (.iload_n 2, 1) := dk_28 (dk_at dksX9_late_2 8 rfl rfl)
theorem dX9_late_56 : decode cX9_late 56 = .ok (.iadd, 1) := dk_96 (dk_at dksX9_late_2 9 rfl rfl)
theorem dX9_late_57 : decode cX9_late 57 = .ok (.ireturn, 1) := dk_172 (dk_at dksX9_late_2 10 rfl rfl)
abbrev cX9_plan : ByteArray := prog_13_method_41_code
def yX9_plan : MethodName := ⟨RX9, "plan", "(II)I"⟩
def dkwX9_plan_4 : List UInt8 := [54, 4, 28, 16, 247, 160, 0, 8, 21, 4, 167, 0, 9, 42, 180, 0, 66, 28, 46, 172]
abbrev dktX9_plan_4 : List UInt8 := dkwX9_plan_4 ++ []
def dkwX9_plan_3 : List UInt8 := [182, 0, 178, 154, 0, 5, 2, 172, 29, 16, 10, 108, 62, 132, 4, 1, 167, 255, 212, 42, 182, 0, 202]
abbrev dktX9_plan_3 : List UInt8 := dkwX9_plan_3 ++ dktX9_plan_4
def dkwX9_plan_2 : List UInt8 := [162, 0, 41, 42, 180, 0, 57, 21, 4, 29, 16, 10, 112, 79, 42, 42, 180, 0, 57, 21, 4, 46]
abbrev dktX9_plan_2 : List UInt8 := dkwX9_plan_2 ++ dktX9_plan_3
def dkwX9_plan_1 : List UInt8 := [182, 0, 195, 4, 100, 184, 0, 85, 154, 0, 5, 2, 172, 27, 62, 3, 54, 4, 21, 4, 42, 180, 0, 82]
abbrev dktX9_plan_1 : List UInt8 := dkwX9_plan_1 ++ dktX9_plan_2
def dkwX9_plan_0 : List UInt8 := [28, 16, 247, 159, 0, 11, 42, 28, 182, 0, 158, 153, 0, 23, 27, 3, 42, 16, 10, 42, 180, 0, 82]
abbrev dktX9_plan_0 : List UInt8 := dkwX9_plan_0 ++ dktX9_plan_1
theorem dksX9_plan_0 : cX9_plan.data.toList.drop 0 = dktX9_plan_0 := by decide +kernel
theorem dksX9_plan_1 : cX9_plan.data.toList.drop 23 = dktX9_plan_1 := dk_seg dksX9_plan_0 23 rfl rfl
theorem dksX9_plan_2 : cX9_plan.data.toList.drop 47 = dktX9_plan_2 := dk_seg dksX9_plan_1 24 rfl rfl
theorem dksX9_plan_3 : cX9_plan.data.toList.drop 69 = dktX9_plan_3 := dk_seg dksX9_plan_2 22 rfl rfl
theorem dksX9_plan_4 : cX9_plan.data.toList.drop 92 = dktX9_plan_4 := dk_seg dksX9_plan_3 23 rfl rfl
theorem dX9_plan_0 : decode cX9_plan 0 = .ok (.iload_n 2, 1) := dk_28 (dk_at dksX9_plan_0 0 rfl rfl)
theorem dX9_plan_1 : decode cX9_plan 1 = .ok (.bipush (-9), 2) := dk_16 247 (dk_at dksX9_plan_0 1 rfl rfl)
theorem dX9_plan_3 : decode cX9_plan 3 = .ok (.if_icmp .eq 11, 3) := dk_159 0 11 (dk_at dksX9_plan_0 3 rfl rfl)
theorem dX9_plan_6 : decode cX9_plan 6 = .ok (.aload_n 0, 1) := dk_42 (dk_at dksX9_plan_0 6 rfl rfl)
theorem dX9_plan_7 : decode cX9_plan 7 = .ok (.iload_n 2, 1) := dk_28 (dk_at dksX9_plan_0 7 rfl rfl)
theorem dX9_plan_8 : decode cX9_plan 8 = .ok (.invokevirtual 158, 3) := dk_182 0 158 (dk_at dksX9_plan_0 8 rfl rfl)
theorem dX9_plan_11 : decode cX9_plan 11 = .ok (.ifCond .eq 23, 3) := dk_153 0 23 (dk_at dksX9_plan_0 11 rfl rfl)
theorem dX9_plan_14 : decode cX9_plan 14 = .ok (.iload_n 1, 1) := dk_27 (dk_at dksX9_plan_0 14 rfl rfl)
theorem dX9_plan_15 : decode cX9_plan 15 = .ok (.iconst 0, 1) := dk_3 (dk_at dksX9_plan_0 15 rfl rfl)
theorem dX9_plan_16 : decode cX9_plan 16 = .ok (.aload_n 0, 1) := dk_42 (dk_at dksX9_plan_0 16 rfl rfl)
theorem dX9_plan_17 : decode cX9_plan 17 = .ok (.bipush 10, 2) := dk_16 10 (dk_at dksX9_plan_0 17 rfl rfl)
theorem dX9_plan_19 : decode cX9_plan 19 = .ok (.aload_n 0, 1) := dk_42 (dk_at dksX9_plan_0 19 rfl rfl)
theorem dX9_plan_20 : decode cX9_plan 20 = .ok (.getfield 82, 3) := dk_180 0 82 (dk_at dksX9_plan_0 20 rfl rfl)
theorem dX9_plan_23 : decode cX9_plan 23 = .ok (.invokevirtual 195, 3) := dk_182 0 195 (dk_at dksX9_plan_1 0 rfl rfl)
theorem dX9_plan_26 : decode cX9_plan 26 = .ok (.iconst 1, 1) := dk_4 (dk_at dksX9_plan_1 3 rfl rfl)
theorem dX9_plan_27 : decode cX9_plan 27 = .ok (.isub, 1) := dk_100 (dk_at dksX9_plan_1 4 rfl rfl)
theorem dX9_plan_28 : decode cX9_plan 28 = .ok (.invokestatic 85, 3) := dk_184 0 85 (dk_at dksX9_plan_1 5 rfl rfl)
theorem dX9_plan_31 : decode cX9_plan 31 = .ok (.ifCond .ne 5, 3) := dk_154 0 5 (dk_at dksX9_plan_1 8 rfl rfl)
theorem dX9_plan_34 : decode cX9_plan 34 = .ok (.iconst (-1), 1) := dk_2 (dk_at dksX9_plan_1 11 rfl rfl)
theorem dX9_plan_35 : decode cX9_plan 35 = .ok (.ireturn, 1) := dk_172 (dk_at dksX9_plan_1 12 rfl rfl)
theorem dX9_plan_36 : decode cX9_plan 36 = .ok (.iload_n 1, 1) := dk_27 (dk_at dksX9_plan_1 13 rfl rfl)
theorem dX9_plan_37 : decode cX9_plan 37 = .ok (.istore_n 3, 1) := dk_62 (dk_at dksX9_plan_1 14 rfl rfl)
theorem dX9_plan_38 : decode cX9_plan 38 = .ok (.iconst 0, 1) := dk_3 (dk_at dksX9_plan_1 15 rfl rfl)
theorem dX9_plan_39 : decode cX9_plan 39 = .ok (.istore 4, 2) := dk_54 4 (dk_at dksX9_plan_1 16 rfl rfl)
theorem dX9_plan_41 : decode cX9_plan 41 = .ok (.iload 4, 2) := dk_21 4 (dk_at dksX9_plan_1 18 rfl rfl)
theorem dX9_plan_43 : decode cX9_plan 43 = .ok (.aload_n 0, 1) := dk_42 (dk_at dksX9_plan_1 20 rfl rfl)
theorem dX9_plan_44 : decode cX9_plan 44 = .ok (.getfield 82, 3) := dk_180 0 82 (dk_at dksX9_plan_1 21 rfl rfl)
theorem dX9_plan_47 : decode cX9_plan 47 = .ok (.if_icmp .ge 41, 3) := dk_162 0 41 (dk_at dksX9_plan_2 0 rfl rfl)
theorem dX9_plan_50 : decode cX9_plan 50 = .ok (.aload_n 0, 1) := dk_42 (dk_at dksX9_plan_2 3 rfl rfl)
theorem dX9_plan_51 : decode cX9_plan 51 = .ok (.getfield 57, 3) := dk_180 0 57 (dk_at dksX9_plan_2 4 rfl rfl)
theorem dX9_plan_54 : decode cX9_plan 54 = .ok (.iload 4, 2) := dk_21 4 (dk_at dksX9_plan_2 7 rfl rfl)
theorem dX9_plan_56 : decode cX9_plan 56 = .ok (.iload_n 3, 1) := dk_29 (dk_at dksX9_plan_2 9 rfl rfl)
theorem dX9_plan_57 : decode cX9_plan 57 = .ok (.bipush 10, 2) := dk_16 10 (dk_at dksX9_plan_2 10 rfl rfl)
theorem dX9_plan_59 : decode cX9_plan 59 = .ok (.irem, 1) := dk_112 (dk_at dksX9_plan_2 12 rfl rfl)
theorem dX9_plan_60 : decode cX9_plan 60 = .ok (.iastore, 1) := dk_79 (dk_at dksX9_plan_2 13 rfl rfl)
theorem dX9_plan_61 : decode cX9_plan 61 = .ok (.aload_n 0, 1) := dk_42 (dk_at dksX9_plan_2 14 rfl rfl)
theorem dX9_plan_62 : decode cX9_plan 62 = .ok (.aload_n 0, 1) := dk_42 (dk_at dksX9_plan_2 15 rfl rfl)
theorem dX9_plan_63 : decode cX9_plan 63 = .ok (.getfield 57, 3) := dk_180 0 57 (dk_at dksX9_plan_2 16 rfl rfl)
theorem dX9_plan_66 : decode cX9_plan 66 = .ok (.iload 4, 2) := dk_21 4 (dk_at dksX9_plan_2 19 rfl rfl)
theorem dX9_plan_68 : decode cX9_plan 68 = .ok (.iaload, 1) := dk_46 (dk_at dksX9_plan_2 21 rfl rfl)
theorem dX9_plan_69 : decode cX9_plan 69 = .ok (.invokevirtual 178, 3) := dk_182 0 178 (dk_at dksX9_plan_3 0 rfl rfl)
theorem dX9_plan_72 : decode cX9_plan 72 = .ok (.ifCond .ne 5, 3) := dk_154 0 5 (dk_at dksX9_plan_3 3 rfl rfl)
theorem dX9_plan_75 : decode cX9_plan 75 = .ok (.iconst (-1), 1) := dk_2 (dk_at dksX9_plan_3 6 rfl rfl)
theorem dX9_plan_76 : decode cX9_plan 76 = .ok (.ireturn, 1) := dk_172 (dk_at dksX9_plan_3 7 rfl rfl)
theorem dX9_plan_77 : decode cX9_plan 77 = .ok (.iload_n 3, 1) := dk_29 (dk_at dksX9_plan_3 8 rfl rfl)
theorem dX9_plan_78 : decode cX9_plan 78 = .ok (.bipush 10, 2) := dk_16 10 (dk_at dksX9_plan_3 9 rfl rfl)
theorem dX9_plan_80 : decode cX9_plan 80 = .ok (.idiv, 1) := dk_108 (dk_at dksX9_plan_3 11 rfl rfl)
theorem dX9_plan_81 : decode cX9_plan 81 = .ok (.istore_n 3, 1) := dk_62 (dk_at dksX9_plan_3 12 rfl rfl)
theorem dX9_plan_82 : decode cX9_plan 82 = .ok (.iinc 4 1, 3) := dk_132 4 1 (dk_at dksX9_plan_3 13 rfl rfl)
theorem dX9_plan_85 : decode cX9_plan 85 = .ok (.goto (-44), 3) := dk_167 255 212 (dk_at dksX9_plan_3 16 rfl rfl)
theorem dX9_plan_88 : decode cX9_plan 88 = .ok (.aload_n 0, 1) := dk_42 (dk_at dksX9_plan_3 19 rfl rfl)
theorem dX9_plan_89 : decode cX9_plan 89 = .ok (.invokevirtual 202, 3) := dk_182 0 202 (dk_at dksX9_plan_3 20 rfl rfl)
theorem dX9_plan_92 : decode cX9_plan 92 = .ok (.istore 4, 2) := dk_54 4 (dk_at dksX9_plan_4 0 rfl rfl)
theorem dX9_plan_94 : decode cX9_plan 94 = .ok (.iload_n 2, 1) := dk_28 (dk_at dksX9_plan_4 2 rfl rfl)
theorem dX9_plan_95 : decode cX9_plan 95 = .ok (.bipush (-9), 2) := dk_16 247 (dk_at dksX9_plan_4 3 rfl rfl)
theorem dX9_plan_97 : decode cX9_plan 97 = .ok (.if_icmp .ne 8, 3) := dk_160 0 8 (dk_at dksX9_plan_4 5 rfl rfl)
theorem dX9_plan_100 : decode cX9_plan 100 = .ok (.iload 4, 2) := dk_21 4 (dk_at dksX9_plan_4 8 rfl rfl)
theorem dX9_plan_102 : decode cX9_plan 102 = .ok (.goto 9, 3) := dk_167 0 9 (dk_at dksX9_plan_4 10 rfl rfl)
theorem dX9_plan_105 : decode cX9_plan 105 = .ok (.aload_n 0, 1) := dk_42 (dk_at dksX9_plan_4 13 rfl rfl)
theorem dX9_plan_106 : decode cX9_plan 106 = .ok (.getfield 66, 3) := dk_180 0 66 (dk_at dksX9_plan_4 14 rfl rfl)
theorem dX9_plan_109 : decode cX9_plan 109 = .ok (.iload_n 2, 1) := dk_28 (dk_at dksX9_plan_4 17 rfl rfl)
theorem dX9_plan_110 : decode cX9_plan 110 = .ok (.iaload, 1) := dk_46 (dk_at dksX9_plan_4 18 rfl rfl)
theorem dX9_plan_111 : decode cX9_plan 111 = .ok (.ireturn, 1) := dk_172 (dk_at dksX9_plan_4 19 rfl rfl)
abbrev cX9_waits : ByteArray := prog_13_method_42_code
def yX9_waits : MethodName := ⟨RX9, "waits", "(I)I"⟩
def dkwX9_waits_2 : List UInt8 := [180, 0, 26, 16, 8, 27, 96, 46, 100, 167, 0, 4, 3, 172]
abbrev dktX9_waits_2 : List UInt8 := dkwX9_waits_2 ++ []
def dkwX9_waits_1 : List UInt8 := [16, 254, 172, 42, 180, 0, 26, 16, 8, 27, 96, 46, 42, 180, 0, 7, 162, 0, 20, 42, 180, 0, 7, 42]
abbrev dktX9_waits_1 : List UInt8 := dkwX9_waits_1 ++ dktX9_waits_2
def dkwX9_waits_0 : List UInt8 := [42, 27, 182, 0, 158, 154, 0, 5, 2, 172, 42, 180, 0, 26, 5, 27, 96, 46, 16, 247, 160, 0, 6]
abbrev dktX9_waits_0 : List UInt8 := dkwX9_waits_0 ++ dktX9_waits_1
theorem dksX9_waits_0 : cX9_waits.data.toList.drop 0 = dktX9_waits_0 := by decide +kernel
theorem dksX9_waits_1 : cX9_waits.data.toList.drop 23 = dktX9_waits_1 := dk_seg dksX9_waits_0 23 rfl rfl
theorem dksX9_waits_2 : cX9_waits.data.toList.drop 47 = dktX9_waits_2 := dk_seg dksX9_waits_1 24 rfl rfl
theorem dX9_waits_0 : decode cX9_waits 0 = .ok (.aload_n 0, 1) := dk_42 (dk_at dksX9_waits_0 0 rfl rfl)
theorem dX9_waits_1 : decode cX9_waits 1 = .ok (.iload_n 1, 1) := dk_27 (dk_at dksX9_waits_0 1 rfl rfl)
theorem dX9_waits_2 : decode cX9_waits 2 = .ok (.invokevirtual 158, 3) := dk_182 0 158 (dk_at dksX9_waits_0 2 rfl rfl)
theorem dX9_waits_5 : decode cX9_waits 5 = .ok (.ifCond .ne 5, 3) := dk_154 0 5 (dk_at dksX9_waits_0 5 rfl rfl)
theorem dX9_waits_8 : decode cX9_waits 8 = .ok (.iconst (-1), 1) := dk_2 (dk_at dksX9_waits_0 8 rfl rfl)
theorem dX9_waits_9 : decode cX9_waits 9 = .ok (.ireturn, 1) := dk_172 (dk_at dksX9_waits_0 9 rfl rfl)
theorem dX9_waits_10 : decode cX9_waits 10 = .ok (.aload_n 0, 1) := dk_42 (dk_at dksX9_waits_0 10 rfl rfl)
theorem dX9_waits_11 : decode cX9_waits 11 = .ok (.getfield 26, 3) := dk_180 0 26 (dk_at dksX9_waits_0 11 rfl rfl)
theorem dX9_waits_14 : decode cX9_waits 14 = .ok (.iconst 2, 1) := dk_5 (dk_at dksX9_waits_0 14 rfl rfl)
theorem dX9_waits_15 : decode cX9_waits 15 = .ok (.iload_n 1, 1) := dk_27 (dk_at dksX9_waits_0 15 rfl rfl)
theorem dX9_waits_16 : decode cX9_waits 16 = .ok (.iadd, 1) := dk_96 (dk_at dksX9_waits_0 16 rfl rfl)
theorem dX9_waits_17 : decode cX9_waits 17 = .ok (.iaload, 1) := dk_46 (dk_at dksX9_waits_0 17 rfl rfl)
theorem dX9_waits_18 : decode cX9_waits 18 = .ok (.bipush (-9), 2) := dk_16 247 (dk_at dksX9_waits_0 18 rfl rfl)
theorem dX9_waits_20 : decode cX9_waits 20 = .ok (.if_icmp .ne 6, 3) := dk_160 0 6 (dk_at dksX9_waits_0 20 rfl rfl)
theorem dX9_waits_23 : decode cX9_waits 23 = .ok (.bipush (-2), 2) := dk_16 254 (dk_at dksX9_waits_1 0 rfl rfl)
theorem dX9_waits_25 : decode cX9_waits 25 = .ok (.ireturn, 1) := dk_172 (dk_at dksX9_waits_1 2 rfl rfl)
theorem dX9_waits_26 : decode cX9_waits 26 = .ok (.aload_n 0, 1) := dk_42 (dk_at dksX9_waits_1 3 rfl rfl)
theorem dX9_waits_27 : decode cX9_waits 27 = .ok (.getfield 26, 3) := dk_180 0 26 (dk_at dksX9_waits_1 4 rfl rfl)
theorem dX9_waits_30 : decode cX9_waits 30 = .ok (.bipush 8, 2) := dk_16 8 (dk_at dksX9_waits_1 7 rfl rfl)
theorem dX9_waits_32 : decode cX9_waits 32 = .ok (.iload_n 1, 1) := dk_27 (dk_at dksX9_waits_1 9 rfl rfl)
theorem dX9_waits_33 : decode cX9_waits 33 = .ok (.iadd, 1) := dk_96 (dk_at dksX9_waits_1 10 rfl rfl)
theorem dX9_waits_34 : decode cX9_waits 34 = .ok (.iaload, 1) := dk_46 (dk_at dksX9_waits_1 11 rfl rfl)
theorem dX9_waits_35 : decode cX9_waits 35 = .ok (.aload_n 0, 1) := dk_42 (dk_at dksX9_waits_1 12 rfl rfl)
theorem dX9_waits_36 : decode cX9_waits 36 = .ok (.getfield 7, 3) := dk_180 0 7 (dk_at dksX9_waits_1 13 rfl rfl)
theorem dX9_waits_39 : decode cX9_waits 39 = .ok (.if_icmp .ge 20, 3) := dk_162 0 20 (dk_at dksX9_waits_1 16 rfl rfl)
theorem dX9_waits_42 : decode cX9_waits 42 = .ok (.aload_n 0, 1) := dk_42 (dk_at dksX9_waits_1 19 rfl rfl)
theorem dX9_waits_43 : decode cX9_waits 43 = .ok (.getfield 7, 3) := dk_180 0 7 (dk_at dksX9_waits_1 20 rfl rfl)
theorem dX9_waits_46 : decode cX9_waits 46 = .ok (.aload_n 0, 1) := dk_42 (dk_at dksX9_waits_1 23 rfl rfl)
theorem dX9_waits_47 : decode cX9_waits 47 = .ok (.getfield 26, 3) := dk_180 0 26 (dk_at dksX9_waits_2 0 rfl rfl)
theorem dX9_waits_50 : decode cX9_waits 50 = .ok (.bipush 8, 2) := dk_16 8 (dk_at dksX9_waits_2 3 rfl rfl)
theorem dX9_waits_52 : decode cX9_waits 52 = .ok (.iload_n 1, 1) := dk_27 (dk_at dksX9_waits_2 5 rfl rfl)
theorem dX9_waits_53 : decode cX9_waits 53 = .ok (.iadd, 1) := dk_96 (dk_at dksX9_waits_2 6 rfl rfl)
theorem dX9_waits_54 : decode cX9_waits 54 = .ok (.iaload, 1) := dk_46 (dk_at dksX9_waits_2 7 rfl rfl)
theorem dX9_waits_55 : decode cX9_waits 55 = .ok (.isub, 1) := dk_100 (dk_at dksX9_waits_2 8 rfl rfl)
theorem dX9_waits_56 : decode cX9_waits 56 = .ok (.goto 4, 3) := dk_167 0 4 (dk_at dksX9_waits_2 9 rfl rfl)
theorem dX9_waits_59 : decode cX9_waits 59 = .ok (.iconst 0, 1) := dk_3 (dk_at dksX9_waits_2 12 rfl rfl)
theorem dX9_waits_60 : decode cX9_waits 60 = .ok (.ireturn, 1) := dk_172 (dk_at dksX9_waits_2 13 rfl rfl)
abbrev cX9_boat : ByteArray := prog_13_method_43_code
def yX9_boat : MethodName := ⟨RX9, "boat", "(II)I"⟩
def dkwX9_boat_8 : List UInt8 := [167, 0, 5, 21, 4, 172]
abbrev dktX9_boat_8 : List UInt8 := dkwX9_boat_8 ++ []
def dkwX9_boat_7 : List UInt8 := [132, 5, 1, 167, 255, 119, 29, 16, 247, 160, 0, 8, 16, 247, 167, 0, 13, 28, 154, 0, 7, 29]
abbrev dktX9_boat_7 : List UInt8 := dkwX9_boat_7 ++ dktX9_boat_8
def dkwX9_boat_6 : List UInt8 := [21, 5, 96, 167, 0, 4, 29, 62, 21, 7, 153, 0, 8, 21, 6, 167, 0, 5, 21, 4, 54, 4]
abbrev dktX9_boat_6 : List UInt8 := dkwX9_boat_6 ++ dktX9_boat_7
def dkwX9_boat_5 : List UInt8 := [21, 4, 164, 0, 7, 4, 167, 0, 4, 3, 54, 7, 21, 7, 153, 0, 15, 42, 180, 0, 26, 3, 46]
abbrev dktX9_boat_5 : List UInt8 := dkwX9_boat_5 ++ dktX9_boat_6
def dkwX9_boat_4 : List UInt8 := [132, 7, 1, 167, 255, 200, 42, 42, 180, 0, 26, 3, 46, 21, 5, 96, 182, 0, 175, 153, 0, 14, 21, 6]
abbrev dktX9_boat_4 : List UInt8 := dkwX9_boat_4 ++ dktX9_boat_5
def dkwX9_boat_3 : List UInt8 := [16, 8, 21, 7, 96, 46, 21, 5, 96, 42, 180, 0, 7, 161, 0, 7, 4, 167, 0, 4, 3, 96, 54, 6]
abbrev dktX9_boat_3 : List UInt8 := dkwX9_boat_3 ++ dktX9_boat_4
def dkwX9_boat_2 : List UInt8 := [162, 0, 53, 21, 6, 42, 180, 0, 26, 5, 21, 7, 96, 46, 16, 247, 159, 0, 27, 42, 180, 0, 26]
abbrev dktX9_boat_2 : List UInt8 := dkwX9_boat_2 ++ dktX9_boat_3
def dkwX9_boat_1 : List UInt8 := [3, 54, 4, 3, 54, 5, 21, 5, 27, 163, 0, 137, 3, 54, 6, 3, 54, 7, 21, 7, 42, 180, 0, 82]
abbrev dktX9_boat_1 : List UInt8 := dkwX9_boat_1 ++ dktX9_boat_2
def dkwX9_boat_0 : List UInt8 := [27, 4, 16, 60, 184, 0, 85, 153, 0, 12, 28, 3, 4, 184, 0, 85, 154, 0, 5, 2, 172, 16, 247, 62]
abbrev dktX9_boat_0 : List UInt8 := dkwX9_boat_0 ++ dktX9_boat_1
theorem dksX9_boat_0 : cX9_boat.data.toList.drop 0 = dktX9_boat_0 := by decide +kernel
theorem dksX9_boat_1 : cX9_boat.data.toList.drop 24 = dktX9_boat_1 := dk_seg dksX9_boat_0 24 rfl rfl
theorem dksX9_boat_2 : cX9_boat.data.toList.drop 48 = dktX9_boat_2 := dk_seg dksX9_boat_1 24 rfl rfl
theorem dksX9_boat_3 : cX9_boat.data.toList.drop 71 = dktX9_boat_3 := dk_seg dksX9_boat_2 23 rfl rfl
theorem dksX9_boat_4 : cX9_boat.data.toList.drop 95 = dktX9_boat_4 := dk_seg dksX9_boat_3 24 rfl rfl
theorem dksX9_boat_5 : cX9_boat.data.toList.drop 119 = dktX9_boat_5 := dk_seg dksX9_boat_4 24 rfl rfl
theorem dksX9_boat_6 : cX9_boat.data.toList.drop 142 = dktX9_boat_6 := dk_seg dksX9_boat_5 23 rfl rfl
theorem dksX9_boat_7 : cX9_boat.data.toList.drop 164 = dktX9_boat_7 := dk_seg dksX9_boat_6 22 rfl rfl
theorem dksX9_boat_8 : cX9_boat.data.toList.drop 186 = dktX9_boat_8 := dk_seg dksX9_boat_7 22 rfl rfl
theorem dX9_boat_0 : decode cX9_boat 0 = .ok (.iload_n 1, 1) := dk_27 (dk_at dksX9_boat_0 0 rfl rfl)
theorem dX9_boat_1 : decode cX9_boat 1 = .ok (.iconst 1, 1) := dk_4 (dk_at dksX9_boat_0 1 rfl rfl)
theorem dX9_boat_2 : decode cX9_boat 2 = .ok (.bipush 60, 2) := dk_16 60 (dk_at dksX9_boat_0 2 rfl rfl)
theorem dX9_boat_4 : decode cX9_boat 4 = .ok (.invokestatic 85, 3) := dk_184 0 85 (dk_at dksX9_boat_0 4 rfl rfl)
theorem dX9_boat_7 : decode cX9_boat 7 = .ok (.ifCond .eq 12, 3) := dk_153 0 12 (dk_at dksX9_boat_0 7 rfl rfl)
theorem dX9_boat_10 : decode cX9_boat 10 = .ok (.iload_n 2, 1) := dk_28 (dk_at dksX9_boat_0 10 rfl rfl)
theorem dX9_boat_11 : decode cX9_boat 11 = .ok (.iconst 0, 1) := dk_3 (dk_at dksX9_boat_0 11 rfl rfl)
theorem dX9_boat_12 : decode cX9_boat 12 = .ok (.iconst 1, 1) := dk_4 (dk_at dksX9_boat_0 12 rfl rfl)
theorem dX9_boat_13 : decode cX9_boat 13 = .ok (.invokestatic 85, 3) := dk_184 0 85 (dk_at dksX9_boat_0 13 rfl rfl)
theorem dX9_boat_16 : decode cX9_boat 16 = .ok (.ifCond .ne 5, 3) := dk_154 0 5 (dk_at dksX9_boat_0 16 rfl rfl)
theorem dX9_boat_19 : decode cX9_boat 19 = .ok (.iconst (-1), 1) := dk_2 (dk_at dksX9_boat_0 19 rfl rfl)
theorem dX9_boat_20 : decode cX9_boat 20 = .ok (.ireturn, 1) := dk_172 (dk_at dksX9_boat_0 20 rfl rfl)
theorem dX9_boat_21 : decode cX9_boat 21 = .ok (.bipush (-9), 2) := dk_16 247 (dk_at dksX9_boat_0 21 rfl rfl)
theorem dX9_boat_23 : decode cX9_boat 23 = .ok (.istore_n 3, 1) := dk_62 (dk_at dksX9_boat_0 23 rfl rfl)
theorem dX9_boat_24 : decode cX9_boat 24 = .ok (.iconst 0, 1) := dk_3 (dk_at dksX9_boat_1 0 rfl rfl)
theorem dX9_boat_25 : decode cX9_boat 25 = .ok (.istore 4, 2) := dk_54 4 (dk_at dksX9_boat_1 1 rfl rfl)
theorem dX9_boat_27 : decode cX9_boat 27 = .ok (.iconst 0, 1) := dk_3 (dk_at dksX9_boat_1 3 rfl rfl)
theorem dX9_boat_28 : decode cX9_boat 28 = .ok (.istore 5, 2) := dk_54 5 (dk_at dksX9_boat_1 4 rfl rfl)
theorem dX9_boat_30 : decode cX9_boat 30 = .ok (.iload 5, 2) := dk_21 5 (dk_at dksX9_boat_1 6 rfl rfl)
theorem dX9_boat_32 : decode cX9_boat 32 = .ok (.iload_n 1, 1) := dk_27 (dk_at dksX9_boat_1 8 rfl rfl)
theorem dX9_boat_33 : decode cX9_boat 33 = .ok (.if_icmp .gt 137, 3) := dk_163 0 137 (dk_at dksX9_boat_1 9 rfl rfl)
theorem dX9_boat_36 : decode cX9_boat 36 = .ok (.iconst 0, 1) := dk_3 (dk_at dksX9_boat_1 12 rfl rfl)
theorem dX9_boat_37 : decode cX9_boat 37 = .ok (.istore 6, 2) := dk_54 6 (dk_at dksX9_boat_1 13 rfl rfl)
theorem dX9_boat_39 : decode cX9_boat 39 = .ok (.iconst 0, 1) := dk_3 (dk_at dksX9_boat_1 15 rfl rfl)
theorem dX9_boat_40 : decode cX9_boat 40 = .ok (.istore 7, 2) := dk_54 7 (dk_at dksX9_boat_1 16 rfl rfl)
theorem dX9_boat_42 : decode cX9_boat 42 = .ok (.iload 7, 2) := dk_21 7 (dk_at dksX9_boat_1 18 rfl rfl)
theorem dX9_boat_44 : decode cX9_boat 44 = .ok (.aload_n 0, 1) := dk_42 (dk_at dksX9_boat_1 20 rfl rfl)
theorem dX9_boat_45 : decode cX9_boat 45 = .ok (.getfield 82, 3) := dk_180 0 82 (dk_at dksX9_boat_1 21 rfl rfl)
theorem dX9_boat_48 : decode cX9_boat 48 = .ok (.if_icmp .ge 53, 3) := dk_162 0 53 (dk_at dksX9_boat_2 0 rfl rfl)
theorem dX9_boat_51 : decode cX9_boat 51 = .ok (.iload 6, 2) := dk_21 6 (dk_at dksX9_boat_2 3 rfl rfl)
theorem dX9_boat_53 : decode cX9_boat 53 = .ok (.aload_n 0, 1) := dk_42 (dk_at dksX9_boat_2 5 rfl rfl)
theorem dX9_boat_54 : decode cX9_boat 54 = .ok (.getfield 26, 3) := dk_180 0 26 (dk_at dksX9_boat_2 6 rfl rfl)
theorem dX9_boat_57 : decode cX9_boat 57 = .ok (.iconst 2, 1) := dk_5 (dk_at dksX9_boat_2 9 rfl rfl)
theorem dX9_boat_58 : decode cX9_boat 58 = .ok (.iload 7, 2) := dk_21 7 (dk_at dksX9_boat_2 10 rfl rfl)
theorem dX9_boat_60 : decode cX9_boat 60 = .ok (.iadd, 1) := dk_96 (dk_at dksX9_boat_2 12 rfl rfl)
theorem dX9_boat_61 : decode cX9_boat 61 = .ok (.iaload, 1) := dk_46 (dk_at dksX9_boat_2 13 rfl rfl)
theorem dX9_boat_62 : decode cX9_boat 62 = .ok (.bipush (-9), 2) := dk_16 247 (dk_at dksX9_boat_2 14 rfl rfl)
theorem dX9_boat_64 : decode cX9_boat 64 = .ok (.if_icmp .eq 27, 3) := dk_159 0 27 (dk_at dksX9_boat_2 16 rfl rfl)
theorem dX9_boat_67 : decode cX9_boat 67 = .ok (.aload_n 0, 1) := dk_42 (dk_at dksX9_boat_2 19 rfl rfl)
theorem dX9_boat_68 : decode cX9_boat 68 = .ok (.getfield 26, 3) := dk_180 0 26 (dk_at dksX9_boat_2 20 rfl rfl)
theorem dX9_boat_71 : decode cX9_boat 71 = .ok (.bipush 8, 2) := dk_16 8 (dk_at dksX9_boat_3 0 rfl rfl)
theorem dX9_boat_73 : decode cX9_boat 73 = .ok (.iload 7, 2) := dk_21 7 (dk_at dksX9_boat_3 2 rfl rfl)
theorem dX9_boat_75 : decode cX9_boat 75 = .ok (.iadd, 1) := dk_96 (dk_at dksX9_boat_3 4 rfl rfl)
theorem dX9_boat_76 : decode cX9_boat 76 = .ok (.iaload, 1) := dk_46 (dk_at dksX9_boat_3 5 rfl rfl)
theorem dX9_boat_77 : decode cX9_boat 77 = .ok (.iload 5, 2) := dk_21 5 (dk_at dksX9_boat_3 6 rfl rfl)
theorem dX9_boat_79 : decode cX9_boat 79 = .ok (.iadd, 1) := dk_96 (dk_at dksX9_boat_3 8 rfl rfl)
theorem dX9_boat_80 : decode cX9_boat 80 = .ok (.aload_n 0, 1) := dk_42 (dk_at dksX9_boat_3 9 rfl rfl)
theorem dX9_boat_81 : decode cX9_boat 81 = .ok (.getfield 7, 3) := dk_180 0 7 (dk_at dksX9_boat_3 10 rfl rfl)
theorem dX9_boat_84 : decode cX9_boat 84 = .ok (.if_icmp .lt 7, 3) := dk_161 0 7 (dk_at dksX9_boat_3 13 rfl rfl)
theorem dX9_boat_87 : decode cX9_boat 87 = .ok (.iconst 1, 1) := dk_4 (dk_at dksX9_boat_3 16 rfl rfl)
theorem dX9_boat_88 : decode cX9_boat 88 = .ok (.goto 4, 3) := dk_167 0 4 (dk_at dksX9_boat_3 17 rfl rfl)
theorem dX9_boat_91 : decode cX9_boat 91 = .ok (.iconst 0, 1) := dk_3 (dk_at dksX9_boat_3 20 rfl rfl)
theorem dX9_boat_92 : decode cX9_boat 92 = .ok (.iadd, 1) := dk_96 (dk_at dksX9_boat_3 21 rfl rfl)
theorem dX9_boat_93 : decode cX9_boat 93 = .ok (.istore 6, 2) := dk_54 6 (dk_at dksX9_boat_3 22 rfl rfl)
theorem dX9_boat_95 : decode cX9_boat 95 = .ok (.iinc 7 1, 3) := dk_132 7 1 (dk_at dksX9_boat_4 0 rfl rfl)
theorem dX9_boat_98 : decode cX9_boat 98 = .ok (.goto (-56), 3) := dk_167 255 200 (dk_at dksX9_boat_4 3 rfl rfl)
theorem dX9_boat_101 : decode cX9_boat 101 = .ok (.aload_n 0, 1) := dk_42 (dk_at dksX9_boat_4 6 rfl rfl)
theorem dX9_boat_102 : decode cX9_boat 102 = .ok (.aload_n 0, 1) := dk_42 (dk_at dksX9_boat_4 7 rfl rfl)
theorem dX9_boat_103 : decode cX9_boat 103 = .ok (.getfield 26, 3) := dk_180 0 26 (dk_at dksX9_boat_4 8 rfl rfl)
theorem dX9_boat_106 : decode cX9_boat 106 = .ok (.iconst 0, 1) := dk_3 (dk_at dksX9_boat_4 11 rfl rfl)
theorem dX9_boat_107 : decode cX9_boat 107 = .ok (.iaload, 1) := dk_46 (dk_at dksX9_boat_4 12 rfl rfl)
theorem dX9_boat_108 : decode cX9_boat 108 = .ok (.iload 5, 2) := dk_21 5 (dk_at dksX9_boat_4 13 rfl rfl)
theorem dX9_boat_110 : decode cX9_boat 110 = .ok (.iadd, 1) := dk_96 (dk_at dksX9_boat_4 15 rfl rfl)
theorem dX9_boat_111 : decode cX9_boat 111 = .ok (.invokevirtual 175, 3) := dk_182 0 175 (dk_at dksX9_boat_4 16 rfl rfl)
theorem dX9_boat_114 : decode cX9_boat 114 = .ok (.ifCond .eq 14, 3) := dk_153 0 14 (dk_at dksX9_boat_4 19 rfl rfl)
theorem dX9_boat_117 : decode cX9_boat 117 = .ok (.iload 6, 2) := dk_21 6 (dk_at dksX9_boat_4 22 rfl rfl)
theorem dX9_boat_119 : decode cX9_boat 119 = .ok (.iload 4, 2) := dk_21 4 (dk_at dksX9_boat_5 0 rfl rfl)
theorem dX9_boat_121 : decode cX9_boat 121 = .ok (.if_icmp .le 7, 3) := dk_164 0 7 (dk_at dksX9_boat_5 2 rfl rfl)
theorem dX9_boat_124 : decode cX9_boat 124 = .ok (.iconst 1, 1) := dk_4 (dk_at dksX9_boat_5 5 rfl rfl)
theorem dX9_boat_125 : decode cX9_boat 125 = .ok (.goto 4, 3) := dk_167 0 4 (dk_at dksX9_boat_5 6 rfl rfl)
theorem dX9_boat_128 : decode cX9_boat 128 = .ok (.iconst 0, 1) := dk_3 (dk_at dksX9_boat_5 9 rfl rfl)
theorem dX9_boat_129 : decode cX9_boat 129 = .ok (.istore 7, 2) := dk_54 7 (dk_at dksX9_boat_5 10 rfl rfl)
theorem dX9_boat_131 : decode cX9_boat 131 = .ok (.iload 7, 2) := dk_21 7 (dk_at dksX9_boat_5 12 rfl rfl)
theorem dX9_boat_133 : decode cX9_boat 133 = .ok (.ifCond .eq 15, 3) := dk_153 0 15 (dk_at dksX9_boat_5 14 rfl rfl)
theorem dX9_boat_136 : decode cX9_boat 136 = .ok (.aload_n 0, 1) := dk_42 (dk_at dksX9_boat_5 17 rfl rfl)
theorem dX9_boat_137 : decode cX9_boat 137 = .ok (.getfield 26, 3) := dk_180 0 26 (dk_at dksX9_boat_5 18 rfl rfl)
theorem dX9_boat_140 : decode cX9_boat 140 = .ok (.iconst 0, 1) := dk_3 (dk_at dksX9_boat_5 21 rfl rfl)
theorem dX9_boat_141 : decode cX9_boat 141 = .ok (.iaload, 1) := dk_46 (dk_at dksX9_boat_5 22 rfl rfl)
theorem dX9_boat_142 : decode cX9_boat 142 = .ok (.iload 5, 2) := dk_21 5 (dk_at dksX9_boat_6 0 rfl rfl)
theorem dX9_boat_144 : decode cX9_boat 144 = .ok (.iadd, 1) := dk_96 (dk_at dksX9_boat_6 2 rfl rfl)
theorem dX9_boat_145 : decode cX9_boat 145 = .ok (.goto 4, 3) := dk_167 0 4 (dk_at dksX9_boat_6 3 rfl rfl)
theorem dX9_boat_148 : decode cX9_boat 148 = .ok (.iload_n 3, 1) := dk_29 (dk_at dksX9_boat_6 6 rfl rfl)
theorem dX9_boat_149 : decode cX9_boat 149 = .ok (.istore_n 3, 1) := dk_62 (dk_at dksX9_boat_6 7 rfl rfl)
theorem dX9_boat_150 : decode cX9_boat 150 = .ok (.iload 7, 2) := dk_21 7 (dk_at dksX9_boat_6 8 rfl rfl)
theorem dX9_boat_152 : decode cX9_boat 152 = .ok (.ifCond .eq 8, 3) := dk_153 0 8 (dk_at dksX9_boat_6 10 rfl rfl)
theorem dX9_boat_155 : decode cX9_boat 155 = .ok (.iload 6, 2) := dk_21 6 (dk_at dksX9_boat_6 13 rfl rfl)
theorem dX9_boat_157 : decode cX9_boat 157 = .ok (.goto 5, 3) := dk_167 0 5 (dk_at dksX9_boat_6 15 rfl rfl)
theorem dX9_boat_160 : decode cX9_boat 160 = .ok (.iload 4, 2) := dk_21 4 (dk_at dksX9_boat_6 18 rfl rfl)
theorem dX9_boat_162 : decode cX9_boat 162 = .ok (.istore 4, 2) := dk_54 4 (dk_at dksX9_boat_6 20 rfl rfl)
theorem dX9_boat_164 : decode cX9_boat 164 = .ok (.iinc 5 1, 3) := dk_132 5 1 (dk_at dksX9_boat_7 0 rfl rfl)
theorem dX9_boat_167 : decode cX9_boat 167 = .ok (.goto (-137), 3) := dk_167 255 119 (dk_at dksX9_boat_7 3 rfl rfl)
theorem dX9_boat_170 : decode cX9_boat 170 = .ok (.iload_n 3, 1) := dk_29 (dk_at dksX9_boat_7 6 rfl rfl)
theorem dX9_boat_171 : decode cX9_boat 171 = .ok (.bipush (-9), 2) := dk_16 247 (dk_at dksX9_boat_7 7 rfl rfl)
theorem dX9_boat_173 : decode cX9_boat 173 = .ok (.if_icmp .ne 8, 3) := dk_160 0 8 (dk_at dksX9_boat_7 9 rfl rfl)
theorem dX9_boat_176 : decode cX9_boat 176 = .ok (.bipush (-9), 2) := dk_16 247 (dk_at dksX9_boat_7 12 rfl rfl)
theorem dX9_boat_178 : decode cX9_boat 178 = .ok (.goto 13, 3) := dk_167 0 13 (dk_at dksX9_boat_7 14 rfl rfl)
theorem dX9_boat_181 : decode cX9_boat 181 = .ok (.iload_n 2, 1) := dk_28 (dk_at dksX9_boat_7 17 rfl rfl)
theorem dX9_boat_182 : decode cX9_boat 182 = .ok (.ifCond .ne 7, 3) := dk_154 0 7 (dk_at dksX9_boat_7 18 rfl rfl)
theorem dX9_boat_185 : decode cX9_boat 185 = .ok (.iload_n 3, 1) := dk_29 (dk_at dksX9_boat_7 21 rfl rfl)
theorem dX9_boat_186 : decode cX9_boat 186 = .ok (.goto 5, 3) := dk_167 0 5 (dk_at dksX9_boat_8 0 rfl rfl)
theorem dX9_boat_189 : decode cX9_boat 189 = .ok (.iload 4, 2) := dk_21 4 (dk_at dksX9_boat_8 3 rfl rfl)
theorem dX9_boat_191 : decode cX9_boat 191 = .ok (.ireturn, 1) := dk_172 (dk_at dksX9_boat_8 5 rfl rfl)
abbrev cX9_clean : ByteArray := prog_13_method_45_code
def yX9_clean : MethodName := ⟨RX9, "clean", "(II)J"⟩
def dkwX9_clean_3 : List UInt8 := [20, 0, 214, 105, 55, 5, 132, 7, 1, 167, 255, 205, 33, 22, 5, 28, 184, 0, 216, 173]
abbrev dktX9_clean_3 : List UInt8 := dkwX9_clean_3 ++ []
def dkwX9_clean_2 : List UInt8 := [160, 0, 29, 33, 16, 10, 42, 180, 0, 19, 5, 21, 7, 104, 4, 96, 46, 100, 133, 105, 66, 22, 5]
abbrev dktX9_clean_2 : List UInt8 := dkwX9_clean_2 ++ dktX9_clean_3
def dkwX9_clean_1 : List UInt8 := [55, 5, 3, 54, 7, 21, 7, 42, 180, 0, 82, 162, 0, 48, 42, 180, 0, 26, 5, 21, 7, 96, 46, 27]
abbrev dktX9_clean_1 : List UInt8 := dkwX9_clean_1 ++ dktX9_clean_2
def dkwX9_clean_0 : List UInt8 := [42, 27, 182, 0, 178, 153, 0, 12, 28, 3, 4, 184, 0, 85, 154, 0, 7, 20, 0, 212, 173, 10, 66, 10]
abbrev dktX9_clean_0 : List UInt8 := dkwX9_clean_0 ++ dktX9_clean_1
theorem dksX9_clean_0 : cX9_clean.data.toList.drop 0 = dktX9_clean_0 := by decide +kernel
theorem dksX9_clean_1 : cX9_clean.data.toList.drop 24 = dktX9_clean_1 := dk_seg dksX9_clean_0 24 rfl rfl
theorem dksX9_clean_2 : cX9_clean.data.toList.drop 48 = dktX9_clean_2 := dk_seg dksX9_clean_1 24 rfl rfl
theorem dksX9_clean_3 : cX9_clean.data.toList.drop 71 = dktX9_clean_3 := dk_seg dksX9_clean_2 23 rfl rfl
theorem dX9_clean_0 : decode cX9_clean 0 = .ok (.aload_n 0, 1) := dk_42 (dk_at dksX9_clean_0 0 rfl rfl)
theorem dX9_clean_1 : decode cX9_clean 1 = .ok (.iload_n 1, 1) := dk_27 (dk_at dksX9_clean_0 1 rfl rfl)
theorem dX9_clean_2 : decode cX9_clean 2 = .ok (.invokevirtual 178, 3) := dk_182 0 178 (dk_at dksX9_clean_0 2 rfl rfl)
theorem dX9_clean_5 : decode cX9_clean 5 = .ok (.ifCond .eq 12, 3) := dk_153 0 12 (dk_at dksX9_clean_0 5 rfl rfl)
theorem dX9_clean_8 : decode cX9_clean 8 = .ok (.iload_n 2, 1) := dk_28 (dk_at dksX9_clean_0 8 rfl rfl)
theorem dX9_clean_9 : decode cX9_clean 9 = .ok (.iconst 0, 1) := dk_3 (dk_at dksX9_clean_0 9 rfl rfl)
theorem dX9_clean_10 : decode cX9_clean 10 = .ok (.iconst 1, 1) := dk_4 (dk_at dksX9_clean_0 10 rfl rfl)
theorem dX9_clean_11 : decode cX9_clean 11 = .ok (.invokestatic 85, 3) := dk_184 0 85 (dk_at dksX9_clean_0 11 rfl rfl)
theorem dX9_clean_14 : decode cX9_clean 14 = .ok (.ifCond .ne 7, 3) := dk_154 0 7 (dk_at dksX9_clean_0 14 rfl rfl)
theorem dX9_clean_17 : decode cX9_clean 17 = .ok (.ldc2_w 212, 3) := dk_20 0 212 (dk_at dksX9_clean_0 17 rfl rfl)
theorem dX9_clean_20 : decode cX9_clean 20 = .ok (.lreturn, 1) := dk_173 (dk_at dksX9_clean_0 20 rfl rfl)
theorem dX9_clean_21 : decode cX9_clean 21 = .ok (.lconst 1, 1) := dk_10 (dk_at dksX9_clean_0 21 rfl rfl)
theorem dX9_clean_22 : decode cX9_clean 22 = .ok (.lstore_n 3, 1) := dk_66 (dk_at dksX9_clean_0 22 rfl rfl)
theorem dX9_clean_23 : decode cX9_clean 23 = .ok (.lconst 1, 1) := dk_10 (dk_at dksX9_clean_0 23 rfl rfl)
theorem dX9_clean_24 : decode cX9_clean 24 = .ok (.lstore 5, 2) := dk_55 5 (dk_at dksX9_clean_1 0 rfl rfl)
theorem dX9_clean_26 : decode cX9_clean 26 = .ok (.iconst 0, 1) := dk_3 (dk_at dksX9_clean_1 2 rfl rfl)
theorem dX9_clean_27 : decode cX9_clean 27 = .ok (.istore 7, 2) := dk_54 7 (dk_at dksX9_clean_1 3 rfl rfl)
theorem dX9_clean_29 : decode cX9_clean 29 = .ok (.iload 7, 2) := dk_21 7 (dk_at dksX9_clean_1 5 rfl rfl)
theorem dX9_clean_31 : decode cX9_clean 31 = .ok (.aload_n 0, 1) := dk_42 (dk_at dksX9_clean_1 7 rfl rfl)
theorem dX9_clean_32 : decode cX9_clean 32 = .ok (.getfield 82, 3) := dk_180 0 82 (dk_at dksX9_clean_1 8 rfl rfl)
theorem dX9_clean_35 : decode cX9_clean 35 = .ok (.if_icmp .ge 48, 3) := dk_162 0 48 (dk_at dksX9_clean_1 11 rfl rfl)
theorem dX9_clean_38 : decode cX9_clean 38 = .ok (.aload_n 0, 1) := dk_42 (dk_at dksX9_clean_1 14 rfl rfl)
theorem dX9_clean_39 : decode cX9_clean 39 = .ok (.getfield 26, 3) := dk_180 0 26 (dk_at dksX9_clean_1 15 rfl rfl)
theorem dX9_clean_42 : decode cX9_clean 42 = .ok (.iconst 2, 1) := dk_5 (dk_at dksX9_clean_1 18 rfl rfl)
theorem dX9_clean_43 : decode cX9_clean 43 = .ok (.iload 7, 2) := dk_21 7 (dk_at dksX9_clean_1 19 rfl rfl)
theorem dX9_clean_45 : decode cX9_clean 45 = .ok (.iadd, 1) := dk_96 (dk_at dksX9_clean_1 21 rfl rfl)
theorem dX9_clean_46 : decode cX9_clean 46 = .ok (.iaload, 1) := dk_46 (dk_at dksX9_clean_1 22 rfl rfl)
theorem dX9_clean_47 : decode cX9_clean 47 = .ok (.iload_n 1, 1) := dk_27 (dk_at dksX9_clean_1 23 rfl rfl)
theorem dX9_clean_48 : decode cX9_clean 48 = .ok (.if_icmp .ne 29, 3) := dk_160 0 29 (dk_at dksX9_clean_2 0 rfl rfl)
theorem dX9_clean_51 : decode cX9_clean 51 = .ok (.lload_n 3, 1) := dk_33 (dk_at dksX9_clean_2 3 rfl rfl)
theorem dX9_clean_52 : decode cX9_clean 52 = .ok (.bipush 10, 2) := dk_16 10 (dk_at dksX9_clean_2 4 rfl rfl)
theorem dX9_clean_54 : decode cX9_clean 54 = .ok (.aload_n 0, 1) := dk_42 (dk_at dksX9_clean_2 6 rfl rfl)
theorem dX9_clean_55 : decode cX9_clean 55 = .ok (.getfield 19, 3) := dk_180 0 19 (dk_at dksX9_clean_2 7 rfl rfl)
theorem dX9_clean_58 : decode cX9_clean 58 = .ok (.iconst 2, 1) := dk_5 (dk_at dksX9_clean_2 10 rfl rfl)
theorem dX9_clean_59 : decode cX9_clean 59 = .ok (.iload 7, 2) := dk_21 7 (dk_at dksX9_clean_2 11 rfl rfl)
theorem dX9_clean_61 : decode cX9_clean 61 = .ok (.imul, 1) := dk_104 (dk_at dksX9_clean_2 13 rfl rfl)
theorem dX9_clean_62 : decode cX9_clean 62 = .ok (.iconst 1, 1) := dk_4 (dk_at dksX9_clean_2 14 rfl rfl)
theorem dX9_clean_63 : decode cX9_clean 63 = .ok (.iadd, 1) := dk_96 (dk_at dksX9_clean_2 15 rfl rfl)
theorem dX9_clean_64 : decode cX9_clean 64 = .ok (.iaload, 1) := dk_46 (dk_at dksX9_clean_2 16 rfl rfl)
theorem dX9_clean_65 : decode cX9_clean 65 = .ok (.isub, 1) := dk_100 (dk_at dksX9_clean_2 17 rfl rfl)
theorem dX9_clean_66 : decode cX9_clean 66 = .ok (.i2l, 1) := dk_133 (dk_at dksX9_clean_2 18 rfl rfl)
theorem dX9_clean_67 : decode cX9_clean 67 = .ok (.lmul, 1) := dk_105 (dk_at dksX9_clean_2 19 rfl rfl)
theorem dX9_clean_68 : decode cX9_clean 68 = .ok (.lstore_n 3, 1) := dk_66 (dk_at dksX9_clean_2 20 rfl rfl)
theorem dX9_clean_69 : decode cX9_clean 69 = .ok (.lload 5, 2) := dk_22 5 (dk_at dksX9_clean_2 21 rfl rfl)
theorem dX9_clean_71 : decode cX9_clean 71 = .ok (.ldc2_w 214, 3) := dk_20 0 214 (dk_at dksX9_clean_3 0 rfl rfl)
theorem dX9_clean_74 : decode cX9_clean 74 = .ok (.lmul, 1) := dk_105 (dk_at dksX9_clean_3 3 rfl rfl)
theorem dX9_clean_75 : decode cX9_clean 75 = .ok (.lstore 5, 2) := dk_55 5 (dk_at dksX9_clean_3 4 rfl rfl)
theorem dX9_clean_77 : decode cX9_clean 77 = .ok (.iinc 7 1, 3) := dk_132 7 1 (dk_at dksX9_clean_3 6 rfl rfl)
theorem dX9_clean_80 : decode cX9_clean 80 = .ok (.goto (-51), 3) := dk_167 255 205 (dk_at dksX9_clean_3 9 rfl rfl)
theorem dX9_clean_83 : decode cX9_clean 83 = .ok (.lload_n 3, 1) := dk_33 (dk_at dksX9_clean_3 12 rfl rfl)
theorem dX9_clean_84 : decode cX9_clean 84 = .ok (.lload 5, 2) := dk_22 5 (dk_at dksX9_clean_3 13 rfl rfl)
theorem dX9_clean_86 : decode cX9_clean 86 = .ok (.iload_n 2, 1) := dk_28 (dk_at dksX9_clean_3 15 rfl rfl)
theorem dX9_clean_87 : decode cX9_clean 87 = .ok (.invokestatic 216, 3) := dk_184 0 216 (dk_at dksX9_clean_3 16 rfl rfl)
theorem dX9_clean_90 : decode cX9_clean 90 = .ok (.lreturn, 1) := dk_173 (dk_at dksX9_clean_3 19 rfl rfl)
abbrev cX9_share : ByteArray := prog_13_method_44_code
def yX9_share : MethodName := ⟨RX9, "share", "(JJI)J"⟩
def dkwX9_share_1 : List UInt8 := [22, 9, 55, 7, 167, 255, 234, 21, 4, 154, 0, 7, 30, 167, 0, 4, 32, 22, 5, 109, 173]
abbrev dktX9_share_1 : List UInt8 := dkwX9_share_1 ++ []
def dkwX9_share_0 : List UInt8 := [30, 55, 5, 32, 55, 7, 22, 7, 9, 148, 158, 0, 21, 22, 5, 22, 7, 113, 55, 9, 22, 7, 55, 5]
abbrev dktX9_share_0 : List UInt8 := dkwX9_share_0 ++ dktX9_share_1
theorem dksX9_share_0 : cX9_share.data.toList.drop 0 = dktX9_share_0 := by decide +kernel
theorem dksX9_share_1 : cX9_share.data.toList.drop 24 = dktX9_share_1 := dk_seg dksX9_share_0 24 rfl rfl
theorem dX9_share_0 : decode cX9_share 0 = .ok (.lload_n 0, 1) := dk_30 (dk_at dksX9_share_0 0 rfl rfl)
theorem dX9_share_1 : decode cX9_share 1 = .ok (.lstore 5, 2) := dk_55 5 (dk_at dksX9_share_0 1 rfl rfl)
theorem dX9_share_3 : decode cX9_share 3 = .ok (.lload_n 2, 1) := dk_32 (dk_at dksX9_share_0 3 rfl rfl)
theorem dX9_share_4 : decode cX9_share 4 = .ok (.lstore 7, 2) := dk_55 7 (dk_at dksX9_share_0 4 rfl rfl)
theorem dX9_share_6 : decode cX9_share 6 = .ok (.lload 7, 2) := dk_22 7 (dk_at dksX9_share_0 6 rfl rfl)
theorem dX9_share_8 : decode cX9_share 8 = .ok (.lconst 0, 1) := dk_9 (dk_at dksX9_share_0 8 rfl rfl)
theorem dX9_share_9 : decode cX9_share 9 = .ok (.lcmp, 1) := dk_148 (dk_at dksX9_share_0 9 rfl rfl)
theorem dX9_share_10 : decode cX9_share 10 = .ok (.ifCond .le 21, 3) := dk_158 0 21 (dk_at dksX9_share_0 10 rfl rfl)
theorem dX9_share_13 : decode cX9_share 13 = .ok (.lload 5, 2) := dk_22 5 (dk_at dksX9_share_0 13 rfl rfl)
theorem dX9_share_15 : decode cX9_share 15 = .ok (.lload 7, 2) := dk_22 7 (dk_at dksX9_share_0 15 rfl rfl)
theorem dX9_share_17 : decode cX9_share 17 = .ok (.lrem, 1) := dk_113 (dk_at dksX9_share_0 17 rfl rfl)
theorem dX9_share_18 : decode cX9_share 18 = .ok (.lstore 9, 2) := dk_55 9 (dk_at dksX9_share_0 18 rfl rfl)
theorem dX9_share_20 : decode cX9_share 20 = .ok (.lload 7, 2) := dk_22 7 (dk_at dksX9_share_0 20 rfl rfl)
theorem dX9_share_22 : decode cX9_share 22 = .ok (.lstore 5, 2) := dk_55 5 (dk_at dksX9_share_0 22 rfl rfl)
theorem dX9_share_24 : decode cX9_share 24 = .ok (.lload 9, 2) := dk_22 9 (dk_at dksX9_share_1 0 rfl rfl)
theorem dX9_share_26 : decode cX9_share 26 = .ok (.lstore 7, 2) := dk_55 7 (dk_at dksX9_share_1 2 rfl rfl)
theorem dX9_share_28 : decode cX9_share 28 = .ok (.goto (-22), 3) := dk_167 255 234 (dk_at dksX9_share_1 4 rfl rfl)
theorem dX9_share_31 : decode cX9_share 31 = .ok (.iload 4, 2) := dk_21 4 (dk_at dksX9_share_1 7 rfl rfl)
theorem dX9_share_33 : decode cX9_share 33 = .ok (.ifCond .ne 7, 3) := dk_154 0 7 (dk_at dksX9_share_1 9 rfl rfl)
theorem dX9_share_36 : decode cX9_share 36 = .ok (.lload_n 0, 1) := dk_30 (dk_at dksX9_share_1 12 rfl rfl)
theorem dX9_share_37 : decode cX9_share 37 = .ok (.goto 4, 3) := dk_167 0 4 (dk_at dksX9_share_1 13 rfl rfl)
theorem dX9_share_40 : decode cX9_share 40 = .ok (.lload_n 2, 1) := dk_32 (dk_at dksX9_share_1 16 rfl rfl)
theorem dX9_share_41 : decode cX9_share 41 = .ok (.lload 5, 2) := dk_22 5 (dk_at dksX9_share_1 17 rfl rfl)
theorem dX9_share_43 : decode cX9_share 43 = .ok (.ldiv, 1) := dk_109 (dk_at dksX9_share_1 19 rfl rfl)
theorem dX9_share_44 : decode cX9_share 44 = .ok (.lreturn, 1) := dk_173 (dk_at dksX9_share_1 20 rfl rfl)
abbrev cX9_well : ByteArray := prog_13_method_47_code
def yX9_well : MethodName := ⟨RX9, "well", "(III)J"⟩
def dkwX9_well_3 : List UInt8 := [55, 6, 22, 6, 9, 148, 154, 0, 9, 20, 0, 223, 167, 0, 11, 22, 4, 22, 6, 29, 184, 0, 216, 173]
abbrev dktX9_well_3 : List UInt8 := dkwX9_well_3 ++ []
def dkwX9_well_2 : List UInt8 := [5, 27, 104, 4, 96, 46, 100, 133, 105, 55, 4, 42, 16, 247, 182, 0, 220, 42, 180, 0, 69, 28, 47]
abbrev dktX9_well_2 : List UInt8 := dkwX9_well_2 ++ dktX9_well_3
def dkwX9_well_1 : List UInt8 := [154, 0, 7, 20, 0, 212, 173, 42, 27, 182, 0, 220, 42, 180, 0, 69, 28, 47, 16, 10, 42, 180, 0, 19]
abbrev dktX9_well_1 : List UInt8 := dkwX9_well_1 ++ dktX9_well_2
def dkwX9_well_0 : List UInt8 := [42, 27, 182, 0, 158, 153, 0, 22, 28, 3, 16, 6, 184, 0, 85, 153, 0, 12, 29, 3, 4, 184, 0, 85]
abbrev dktX9_well_0 : List UInt8 := dkwX9_well_0 ++ dktX9_well_1
theorem dksX9_well_0 : cX9_well.data.toList.drop 0 = dktX9_well_0 := by decide +kernel
theorem dksX9_well_1 : cX9_well.data.toList.drop 24 = dktX9_well_1 := dk_seg dksX9_well_0 24 rfl rfl
theorem dksX9_well_2 : cX9_well.data.toList.drop 48 = dktX9_well_2 := dk_seg dksX9_well_1 24 rfl rfl
theorem dksX9_well_3 : cX9_well.data.toList.drop 71 = dktX9_well_3 := dk_seg dksX9_well_2 23 rfl rfl
theorem dX9_well_0 : decode cX9_well 0 = .ok (.aload_n 0, 1) := dk_42 (dk_at dksX9_well_0 0 rfl rfl)
theorem dX9_well_1 : decode cX9_well 1 = .ok (.iload_n 1, 1) := dk_27 (dk_at dksX9_well_0 1 rfl rfl)
theorem dX9_well_2 : decode cX9_well 2 = .ok (.invokevirtual 158, 3) := dk_182 0 158 (dk_at dksX9_well_0 2 rfl rfl)
theorem dX9_well_5 : decode cX9_well 5 = .ok (.ifCond .eq 22, 3) := dk_153 0 22 (dk_at dksX9_well_0 5 rfl rfl)
theorem dX9_well_8 : decode cX9_well 8 = .ok (.iload_n 2, 1) := dk_28 (dk_at dksX9_well_0 8 rfl rfl)
theorem dX9_well_9 : decode cX9_well 9 = .ok (.iconst 0, 1) := dk_3 (dk_at dksX9_well_0 9 rfl rfl)
theorem dX9_well_10 : decode cX9_well 10 = .ok (.bipush 6, 2) := dk_16 6 (dk_at dksX9_well_0 10 rfl rfl)
theorem dX9_well_12 : decode cX9_well 12 = .ok (.invokestatic 85, 3) := dk_184 0 85 (dk_at dksX9_well_0 12 rfl rfl)
theorem dX9_well_15 : decode cX9_well 15 = .ok (.ifCond .eq 12, 3) := dk_153 0 12 (dk_at dksX9_well_0 15 rfl rfl)
theorem dX9_well_18 : decode cX9_well 18 = .ok (.iload_n 3, 1) := dk_29 (dk_at dksX9_well_0 18 rfl rfl)
theorem dX9_well_19 : decode cX9_well 19 = .ok (.iconst 0, 1) := dk_3 (dk_at dksX9_well_0 19 rfl rfl)
theorem dX9_well_20 : decode cX9_well 20 = .ok (.iconst 1, 1) := dk_4 (dk_at dksX9_well_0 20 rfl rfl)
theorem dX9_well_21 : decode cX9_well 21 = .ok (.invokestatic 85, 3) := dk_184 0 85 (dk_at dksX9_well_0 21 rfl rfl)
theorem dX9_well_24 : decode cX9_well 24 = .ok (.ifCond .ne 7, 3) := dk_154 0 7 (dk_at dksX9_well_1 0 rfl rfl)
theorem dX9_well_27 : decode cX9_well 27 = .ok (.ldc2_w 212, 3) := dk_20 0 212 (dk_at dksX9_well_1 3 rfl rfl)
theorem dX9_well_30 : decode cX9_well 30 = .ok (.lreturn, 1) := dk_173 (dk_at dksX9_well_1 6 rfl rfl)
theorem dX9_well_31 : decode cX9_well 31 = .ok (.aload_n 0, 1) := dk_42 (dk_at dksX9_well_1 7 rfl rfl)
theorem dX9_well_32 : decode cX9_well 32 = .ok (.iload_n 1, 1) := dk_27 (dk_at dksX9_well_1 8 rfl rfl)
theorem dX9_well_33 : decode cX9_well 33 = .ok (.invokevirtual 220, 3) := dk_182 0 220 (dk_at dksX9_well_1 9 rfl rfl)
theorem dX9_well_36 : decode cX9_well 36 = .ok (.aload_n 0, 1) := dk_42 (dk_at dksX9_well_1 12 rfl rfl)
theorem dX9_well_37 : decode cX9_well 37 = .ok (.getfield 69, 3) := dk_180 0 69 (dk_at dksX9_well_1 13 rfl rfl)
theorem dX9_well_40 : decode cX9_well 40 = .ok (.iload_n 2, 1) := dk_28 (dk_at dksX9_well_1 16 rfl rfl)
theorem dX9_well_41 : decode cX9_well 41 = .ok (.laload, 1) := dk_47 (dk_at dksX9_well_1 17 rfl rfl)
theorem dX9_well_42 : decode cX9_well 42 = .ok (.bipush 10, 2) := dk_16 10 (dk_at dksX9_well_1 18 rfl rfl)
theorem dX9_well_44 : decode cX9_well 44 = .ok (.aload_n 0, 1) := dk_42 (dk_at dksX9_well_1 20 rfl rfl)
theorem dX9_well_45 : decode cX9_well 45 = .ok (.getfield 19, 3) := dk_180 0 19 (dk_at dksX9_well_1 21 rfl rfl)
theorem dX9_well_48 : decode cX9_well 48 = .ok (.iconst 2, 1) := dk_5 (dk_at dksX9_well_2 0 rfl rfl)
theorem dX9_well_49 : decode cX9_well 49 = .ok (.iload_n 1, 1) := dk_27 (dk_at dksX9_well_2 1 rfl rfl)
theorem dX9_well_50 : decode cX9_well 50 = .ok (.imul, 1) := dk_104 (dk_at dksX9_well_2 2 rfl rfl)
theorem dX9_well_51 : decode cX9_well 51 = .ok (.iconst 1, 1) := dk_4 (dk_at dksX9_well_2 3 rfl rfl)
theorem dX9_well_52 : decode cX9_well 52 = .ok (.iadd, 1) := dk_96 (dk_at dksX9_well_2 4 rfl rfl)
theorem dX9_well_53 : decode cX9_well 53 = .ok (.iaload, 1) := dk_46 (dk_at dksX9_well_2 5 rfl rfl)
theorem dX9_well_54 : decode cX9_well 54 = .ok (.isub, 1) := dk_100 (dk_at dksX9_well_2 6 rfl rfl)
theorem dX9_well_55 : decode cX9_well 55 = .ok (.i2l, 1) := dk_133 (dk_at dksX9_well_2 7 rfl rfl)
theorem dX9_well_56 : decode cX9_well 56 = .ok (.lmul, 1) := dk_105 (dk_at dksX9_well_2 8 rfl rfl)
theorem dX9_well_57 : decode cX9_well 57 = .ok (.lstore 4, 2) := dk_55 4 (dk_at dksX9_well_2 9 rfl rfl)
theorem dX9_well_59 : decode cX9_well 59 = .ok (.aload_n 0, 1) := dk_42 (dk_at dksX9_well_2 11 rfl rfl)
theorem dX9_well_60 : decode cX9_well 60 = .ok (.bipush (-9), 2) := dk_16 247 (dk_at dksX9_well_2 12 rfl rfl)
theorem dX9_well_62 : decode cX9_well 62 = .ok (.invokevirtual 220, 3) := dk_182 0 220 (dk_at dksX9_well_2 14 rfl rfl)
theorem dX9_well_65 : decode cX9_well 65 = .ok (.aload_n 0, 1) := dk_42 (dk_at dksX9_well_2 17 rfl rfl)
theorem dX9_well_66 : decode cX9_well 66 = .ok (.getfield 69, 3) := dk_180 0 69 (dk_at dksX9_well_2 18 rfl rfl)
theorem dX9_well_69 : decode cX9_well 69 = .ok (.iload_n 2, 1) := dk_28 (dk_at dksX9_well_2 21 rfl rfl)
theorem dX9_well_70 : decode cX9_well 70 = .ok (.laload, 1) := dk_47 (dk_at dksX9_well_2 22 rfl rfl)
theorem dX9_well_71 : decode cX9_well 71 = .ok (.lstore 6, 2) := dk_55 6 (dk_at dksX9_well_3 0 rfl rfl)
theorem dX9_well_73 : decode cX9_well 73 = .ok (.lload 6, 2) := dk_22 6 (dk_at dksX9_well_3 2 rfl rfl)
theorem dX9_well_75 : decode cX9_well 75 = .ok (.lconst 0, 1) := dk_9 (dk_at dksX9_well_3 4 rfl rfl)
theorem dX9_well_76 : decode cX9_well 76 = .ok (.lcmp, 1) := dk_148 (dk_at dksX9_well_3 5 rfl rfl)
theorem dX9_well_77 : decode cX9_well 77 = .ok (.ifCond .ne 9, 3) := dk_154 0 9 (dk_at dksX9_well_3 6 rfl rfl)
theorem dX9_well_80 : decode cX9_well 80 = .ok (.ldc2_w 223, 3) := dk_20 0 223 (dk_at dksX9_well_3 9 rfl rfl)
theorem dX9_well_83 : decode cX9_well 83 = .ok (.goto 11, 3) := dk_167 0 11 (dk_at dksX9_well_3 12 rfl rfl)
theorem dX9_well_86 : decode cX9_well 86 = .ok (.lload 4, 2) := dk_22 4 (dk_at dksX9_well_3 15 rfl rfl)
theorem dX9_well_88 : decode cX9_well 88 = .ok (.lload 6, 2) := dk_22 6 (dk_at dksX9_well_3 17 rfl rfl)
theorem dX9_well_90 : decode cX9_well 90 = .ok (.iload_n 3, 1) := dk_29 (dk_at dksX9_well_3 19 rfl rfl)
theorem dX9_well_91 : decode cX9_well 91 = .ok (.invokestatic 216, 3) := dk_184 0 216 (dk_at dksX9_well_3 20 rfl rfl)
theorem dX9_well_94 : decode cX9_well 94 = .ok (.lreturn, 1) := dk_173 (dk_at dksX9_well_3 23 rfl rfl)
abbrev cX9_findSick : ByteArray := prog_13_method_46_code
def yX9_findSick : MethodName := ⟨RX9, "findSick", "(I)V"⟩
def dkwX9_findSick_5 : List UInt8 := [167, 255, 172, 177]
abbrev dktX9_findSick_5 : List UInt8 := dkwX9_findSick_5 ++ []
def dkwX9_findSick_4 : List UInt8 := [180, 0, 69, 21, 4, 4, 100, 47, 29, 133, 105, 97, 80, 132, 4, 255, 167, 255, 201, 132, 2, 1]
abbrev dktX9_findSick_4 : List UInt8 := dkwX9_findSick_4 ++ dktX9_findSick_5
def dkwX9_findSick_3 : List UInt8 := [180, 0, 69, 21, 4, 47, 16, 10, 29, 100, 133, 105, 21, 4, 154, 0, 7, 9, 167, 0, 15, 42]
abbrev dktX9_findSick_3 : List UInt8 := dkwX9_findSick_3 ++ dktX9_findSick_4
def dkwX9_findSick_2 : List UInt8 := [96, 46, 62, 16, 6, 54, 4, 21, 4, 155, 0, 56, 28, 27, 159, 0, 51, 42, 180, 0, 69, 21, 4, 42]
abbrev dktX9_findSick_2 : List UInt8 := dkwX9_findSick_2 ++ dktX9_findSick_3
def dkwX9_findSick_1 : List UInt8 := [132, 2, 1, 167, 255, 232, 3, 61, 28, 42, 180, 0, 82, 162, 0, 82, 42, 180, 0, 19, 5, 28, 104, 4]
abbrev dktX9_findSick_1 : List UInt8 := dkwX9_findSick_1 ++ dktX9_findSick_2
def dkwX9_findSick_0 : List UInt8 := [3, 61, 28, 16, 7, 162, 0, 24, 42, 180, 0, 69, 28, 28, 154, 0, 7, 10, 167, 0, 4, 9, 80]
abbrev dktX9_findSick_0 : List UInt8 := dkwX9_findSick_0 ++ dktX9_findSick_1
theorem dksX9_findSick_0 : cX9_findSick.data.toList.drop 0 = dktX9_findSick_0 := by decide +kernel
theorem dksX9_findSick_1 : cX9_findSick.data.toList.drop 23 = dktX9_findSick_1 := dk_seg dksX9_findSick_0 23 rfl rfl
theorem dksX9_findSick_2 : cX9_findSick.data.toList.drop 47 = dktX9_findSick_2 := dk_seg dksX9_findSick_1 24 rfl rfl
theorem dksX9_findSick_3 : cX9_findSick.data.toList.drop 71 = dktX9_findSick_3 := dk_seg dksX9_findSick_2 24 rfl rfl
theorem dksX9_findSick_4 : cX9_findSick.data.toList.drop 93 = dktX9_findSick_4 := dk_seg dksX9_findSick_3 22 rfl rfl
theorem dksX9_findSick_5 : cX9_findSick.data.toList.drop 115 = dktX9_findSick_5 := dk_seg dksX9_findSick_4 22 rfl rfl
theorem dX9_findSick_0 : decode cX9_findSick 0 = .ok (.iconst 0, 1) := dk_3 (dk_at dksX9_findSick_0 0 rfl rfl)
theorem dX9_findSick_1 : decode cX9_findSick 1 = .ok (.istore_n 2, 1) := dk_61 (dk_at dksX9_findSick_0 1 rfl rfl)
theorem dX9_findSick_2 : decode cX9_findSick 2 = .ok (.iload_n 2, 1) := dk_28 (dk_at dksX9_findSick_0 2 rfl rfl)
theorem dX9_findSick_3 : decode cX9_findSick 3 = .ok (.bipush 7, 2) := dk_16 7 (dk_at dksX9_findSick_0 3 rfl rfl)
theorem dX9_findSick_5 : decode cX9_findSick 5 = .ok (.if_icmp .ge 24, 3) := dk_162 0 24 (dk_at dksX9_findSick_0 5 rfl rfl)
theorem dX9_findSick_8 : decode cX9_findSick 8 = .ok (.aload_n 0, 1) := dk_42 (dk_at dksX9_findSick_0 8 rfl rfl)
theorem dX9_findSick_9 : decode cX9_findSick 9 = .ok (.getfield 69, 3) := dk_180 0 69 (dk_at dksX9_findSick_0 9 rfl rfl)
theorem dX9_findSick_12 : decode cX9_findSick 12 = .ok (.iload_n 2, 1) := dk_28 (dk_at dksX9_findSick_0 12 rfl rfl)
theorem dX9_findSick_13 : decode cX9_findSick 13 = .ok (.iload_n 2, 1) := dk_28 (dk_at dksX9_findSick_0 13 rfl rfl)
theorem dX9_findSick_14 : decode cX9_findSick 14 = .ok (.ifCond .ne 7, 3) := dk_154 0 7 (dk_at dksX9_findSick_0 14 rfl rfl)
theorem dX9_findSick_17 : decode cX9_findSick 17 = .ok (.lconst 1, 1) := dk_10 (dk_at dksX9_findSick_0 17 rfl rfl)
theorem dX9_findSick_18 : decode cX9_findSick 18 = .ok (.goto 4, 3) := dk_167 0 4 (dk_at dksX9_findSick_0 18 rfl rfl)
theorem dX9_findSick_21 : decode cX9_findSick 21 = .ok (.lconst 0, 1) := dk_9 (dk_at dksX9_findSick_0 21 rfl rfl)
theorem dX9_findSick_22 : decode cX9_findSick 22 = .ok (.lastore, 1) := dk_80 (dk_at dksX9_findSick_0 22 rfl rfl)
theorem dX9_findSick_23 : decode cX9_findSick 23 = .ok (.iinc 2 1, 3) := dk_132 2 1 (dk_at dksX9_findSick_1 0 rfl rfl)
theorem dX9_findSick_26 : decode cX9_findSick 26 = .ok (.goto (-24), 3) := dk_167 255 232 (dk_at dksX9_findSick_1 3 rfl rfl)
theorem dX9_findSick_29 : decode cX9_findSick 29 = .ok (.iconst 0, 1) := dk_3 (dk_at dksX9_findSick_1 6 rfl rfl)
theorem dX9_findSick_30 : decode cX9_findSick 30 = .ok (.istore_n 2, 1) := dk_61 (dk_at dksX9_findSick_1 7 rfl rfl)
theorem dX9_findSick_31 : decode cX9_findSick 31 = .ok (.iload_n 2, 1) := dk_28 (dk_at dksX9_findSick_1 8 rfl rfl)
theorem dX9_findSick_32 : decode cX9_findSick 32 = .ok (.aload_n 0, 1) := dk_42 (dk_at dksX9_findSick_1 9 rfl rfl)
theorem dX9_findSick_33 : decode cX9_findSick 33 = .ok (.getfield 82, 3) := dk_180 0 82 (dk_at dksX9_findSick_1 10 rfl rfl)
theorem dX9_findSick_36 : decode cX9_findSick 36 = .ok (.if_icmp .ge 82, 3) := dk_162 0 82 (dk_at dksX9_findSick_1 13 rfl rfl)
theorem dX9_findSick_39 : decode cX9_findSick 39 = .ok (.aload_n 0, 1) := dk_42 (dk_at dksX9_findSick_1 16 rfl rfl)
theorem dX9_findSick_40 : decode cX9_findSick 40 = .ok (.getfield 19, 3) := dk_180 0 19 (dk_at dksX9_findSick_1 17 rfl rfl)
theorem dX9_findSick_43 : decode cX9_findSick 43 = .ok (.iconst 2, 1) := dk_5 (dk_at dksX9_findSick_1 20 rfl rfl)
theorem dX9_findSick_44 : decode cX9_findSick 44 = .ok (.iload_n 2, 1) := dk_28 (dk_at dksX9_findSick_1 21 rfl rfl)
theorem dX9_findSick_45 : decode cX9_findSick 45 = .ok (.imul, 1) := dk_104 (dk_at dksX9_findSick_1 22 rfl rfl)
theorem dX9_findSick_46 : decode cX9_findSick 46 = .ok (.iconst 1, 1) := dk_4 (dk_at dksX9_findSick_1 23 rfl rfl)
theorem dX9_findSick_47 : decode cX9_findSick 47 = .ok (.iadd, 1) := dk_96 (dk_at dksX9_findSick_2 0 rfl rfl)
theorem dX9_findSick_48 : decode cX9_findSick 48 = .ok (.iaload, 1) := dk_46 (dk_at dksX9_findSick_2 1 rfl rfl)
theorem dX9_findSick_49 : decode cX9_findSick 49 = .ok (.istore_n 3, 1) := dk_62 (dk_at dksX9_findSick_2 2 rfl rfl)
theorem dX9_findSick_50 : decode cX9_findSick 50 = .ok (.bipush 6, 2) := dk_16 6 (dk_at dksX9_findSick_2 3 rfl rfl)
theorem dX9_findSick_52 : decode cX9_findSick 52 = .ok (.istore 4, 2) := dk_54 4 (dk_at dksX9_findSick_2 5 rfl rfl)
theorem dX9_findSick_54 : decode cX9_findSick 54 = .ok (.iload 4, 2) := dk_21 4 (dk_at dksX9_findSick_2 7 rfl rfl)
theorem dX9_findSick_56 : decode cX9_findSick 56 = .ok (.ifCond .lt 56, 3) := dk_155 0 56 (dk_at dksX9_findSick_2 9 rfl rfl)
theorem dX9_findSick_59 : decode cX9_findSick 59 = .ok (.iload_n 2, 1) := dk_28 (dk_at dksX9_findSick_2 12 rfl rfl)
theorem dX9_findSick_60 : decode cX9_findSick 60 = .ok (.iload_n 1, 1) := dk_27 (dk_at dksX9_findSick_2 13 rfl rfl)
theorem dX9_findSick_61 : decode cX9_findSick 61 = .ok (.if_icmp .eq 51, 3) := dk_159 0 51 (dk_at dksX9_findSick_2 14 rfl rfl)
theorem dX9_findSick_64 : decode cX9_findSick 64 = .ok (.aload_n 0, 1) := dk_42 (dk_at dksX9_findSick_2 17 rfl rfl)
theorem dX9_findSick_65 : decode cX9_findSick 65 = .ok (.getfield 69, 3) := dk_180 0 69 (dk_at dksX9_findSick_2 18 rfl rfl)
theorem dX9_findSick_68 : decode cX9_findSick 68 = .ok (.iload 4, 2) := dk_21 4 (dk_at dksX9_findSick_2 21 rfl rfl)
theorem dX9_findSick_70 : decode cX9_findSick 70 = .ok (.aload_n 0, 1) := dk_42 (dk_at dksX9_findSick_2 23 rfl rfl)
theorem dX9_findSick_71 : decode cX9_findSick 71 = .ok (.getfield 69, 3) := dk_180 0 69 (dk_at dksX9_findSick_3 0 rfl rfl)
theorem dX9_findSick_74 : decode cX9_findSick 74 = .ok (.iload 4, 2) := dk_21 4 (dk_at dksX9_findSick_3 3 rfl rfl)
theorem dX9_findSick_76 : decode cX9_findSick 76 = .ok (.laload, 1) := dk_47 (dk_at dksX9_findSick_3 5 rfl rfl)
theorem dX9_findSick_77 : decode cX9_findSick 77 = .ok (.bipush 10, 2) := dk_16 10 (dk_at dksX9_findSick_3 6 rfl rfl)
theorem dX9_findSick_79 : decode cX9_findSick 79 = .ok (.iload_n 3, 1) := dk_29 (dk_at dksX9_findSick_3 8 rfl rfl)
theorem dX9_findSick_80 : decode cX9_findSick 80 = .ok (.isub, 1) := dk_100 (dk_at dksX9_findSick_3 9 rfl rfl)
theorem dX9_findSick_81 : decode cX9_findSick 81 = .ok (.i2l, 1) := dk_133 (dk_at dksX9_findSick_3 10 rfl rfl)
theorem dX9_findSick_82 : decode cX9_findSick 82 = .ok (.lmul, 1) := dk_105 (dk_at dksX9_findSick_3 11 rfl rfl)
theorem dX9_findSick_83 : decode cX9_findSick 83 = .ok (.iload 4, 2) := dk_21 4 (dk_at dksX9_findSick_3 12 rfl rfl)
theorem dX9_findSick_85 : decode cX9_findSick 85 = .ok (.ifCond .ne 7, 3) := dk_154 0 7 (dk_at dksX9_findSick_3 14 rfl rfl)
theorem dX9_findSick_88 : decode cX9_findSick 88 = .ok (.lconst 0, 1) := dk_9 (dk_at dksX9_findSick_3 17 rfl rfl)
theorem dX9_findSick_89 : decode cX9_findSick 89 = .ok (.goto 15, 3) := dk_167 0 15 (dk_at dksX9_findSick_3 18 rfl rfl)
theorem dX9_findSick_92 : decode cX9_findSick 92 = .ok (.aload_n 0, 1) := dk_42 (dk_at dksX9_findSick_3 21 rfl rfl)
theorem dX9_findSick_93 : decode cX9_findSick 93 = .ok (.getfield 69, 3) := dk_180 0 69 (dk_at dksX9_findSick_4 0 rfl rfl)
theorem dX9_findSick_96 : decode cX9_findSick 96 = .ok (.iload 4, 2) := dk_21 4 (dk_at dksX9_findSick_4 3 rfl rfl)
theorem dX9_findSick_98 : decode cX9_findSick 98 = .ok (.iconst 1, 1) := dk_4 (dk_at dksX9_findSick_4 5 rfl rfl)
theorem dX9_findSick_99 : decode cX9_findSick 99 = .ok (.isub, 1) := dk_100 (dk_at dksX9_findSick_4 6 rfl rfl)
theorem dX9_findSick_100 : decode cX9_findSick 100 = .ok (.laload, 1) := dk_47 (dk_at dksX9_findSick_4 7 rfl rfl)
theorem dX9_findSick_101 : decode cX9_findSick 101 = .ok (.iload_n 3, 1) := dk_29 (dk_at dksX9_findSick_4 8 rfl rfl)
theorem dX9_findSick_102 : decode cX9_findSick 102 = .ok (.i2l, 1) := dk_133 (dk_at dksX9_findSick_4 9 rfl rfl)
theorem dX9_findSick_103 : decode cX9_findSick 103 = .ok (.lmul, 1) := dk_105 (dk_at dksX9_findSick_4 10 rfl rfl)
theorem dX9_findSick_104 : decode cX9_findSick 104 = .ok (.ladd, 1) := dk_97 (dk_at dksX9_findSick_4 11 rfl rfl)
theorem dX9_findSick_105 : decode cX9_findSick 105 = .ok (.lastore, 1) := dk_80 (dk_at dksX9_findSick_4 12 rfl rfl)
theorem dX9_findSick_106 : decode cX9_findSick 106 = .ok (.iinc 4 (-1), 3) := dk_132 4 255 (dk_at dksX9_findSick_4 13 rfl rfl)
theorem dX9_findSick_109 : decode cX9_findSick 109 = .ok (.goto (-55), 3) := dk_167 255 201 (dk_at dksX9_findSick_4 16 rfl rfl)
theorem dX9_findSick_112 : decode cX9_findSick 112 = .ok (.iinc 2 1, 3) := dk_132 2 1 (dk_at dksX9_findSick_4 19 rfl rfl)
theorem dX9_findSick_115 : decode cX9_findSick 115 = .ok (.goto (-84), 3) := dk_167 255 172 (dk_at dksX9_findSick_5 0 rfl rfl)
theorem dX9_findSick_118 : decode cX9_findSick 118 = .ok (.return_, 1) := dk_177 (dk_at dksX9_findSick_5 3 rfl rfl)
abbrev cX9_writes : ByteArray := prog_13_method_48_code
def yX9_writes : MethodName := ⟨RX9, "writes", "(I)I"⟩
def dkwX9_writes_2 : List UInt8 := [180, 0, 26, 16, 20, 92, 46, 4, 96, 79, 42, 180, 0, 26, 16, 20, 46, 172]
abbrev dktX9_writes_2 : List UInt8 := dkwX9_writes_2 ++ []
def dkwX9_writes_1 : List UInt8 := [16, 253, 172, 42, 182, 0, 181, 42, 180, 0, 26, 16, 21, 42, 180, 0, 26, 16, 20, 46, 96, 27, 79, 42]
abbrev dktX9_writes_1 : List UInt8 := dkwX9_writes_1 ++ dktX9_writes_2
def dkwX9_writes_0 : List UInt8 := [27, 3, 16, 9, 184, 0, 85, 154, 0, 5, 2, 172, 42, 180, 0, 26, 16, 20, 46, 8, 160, 0, 6]
abbrev dktX9_writes_0 : List UInt8 := dkwX9_writes_0 ++ dktX9_writes_1
theorem dksX9_writes_0 : cX9_writes.data.toList.drop 0 = dktX9_writes_0 := by decide +kernel
theorem dksX9_writes_1 : cX9_writes.data.toList.drop 23 = dktX9_writes_1 := dk_seg dksX9_writes_0 23 rfl rfl
theorem dksX9_writes_2 : cX9_writes.data.toList.drop 47 = dktX9_writes_2 := dk_seg dksX9_writes_1 24 rfl rfl
theorem dX9_writes_0 : decode cX9_writes 0 = .ok (.iload_n 1, 1) := dk_27 (dk_at dksX9_writes_0 0 rfl rfl)
theorem dX9_writes_1 : decode cX9_writes 1 = .ok (.iconst 0, 1) := dk_3 (dk_at dksX9_writes_0 1 rfl rfl)
theorem dX9_writes_2 : decode cX9_writes 2 = .ok (.bipush 9, 2) := dk_16 9 (dk_at dksX9_writes_0 2 rfl rfl)
theorem dX9_writes_4 : decode cX9_writes 4 = .ok (.invokestatic 85, 3) := dk_184 0 85 (dk_at dksX9_writes_0 4 rfl rfl)
theorem dX9_writes_7 : decode cX9_writes 7 = .ok (.ifCond .ne 5, 3) := dk_154 0 5 (dk_at dksX9_writes_0 7 rfl rfl)
theorem dX9_writes_10 : decode cX9_writes 10 = .ok (.iconst (-1), 1) := dk_2 (dk_at dksX9_writes_0 10 rfl rfl)
theorem dX9_writes_11 : decode cX9_writes 11 = .ok (.ireturn, 1) := dk_172 (dk_at dksX9_writes_0 11 rfl rfl)
theorem dX9_writes_12 : decode cX9_writes 12 = .ok (.aload_n 0, 1) := dk_42 (dk_at dksX9_writes_0 12 rfl rfl)
theorem dX9_writes_13 : decode cX9_writes 13 = .ok (.getfield 26, 3) := dk_180 0 26 (dk_at dksX9_writes_0 13 rfl rfl)
theorem dX9_writes_16 : decode cX9_writes 16 = .ok (.bipush 20, 2) := dk_16 20 (dk_at dksX9_writes_0 16 rfl rfl)
theorem dX9_writes_18 : decode cX9_writes 18 = .ok (.iaload, 1) := dk_46 (dk_at dksX9_writes_0 18 rfl rfl)
theorem dX9_writes_19 : decode cX9_writes 19 = .ok (.iconst 5, 1) := dk_8 (dk_at dksX9_writes_0 19 rfl rfl)
theorem dX9_writes_20 : decode cX9_writes 20 = .ok (.if_icmp .ne 6, 3) := dk_160 0 6 (dk_at dksX9_writes_0 20 rfl rfl)
theorem dX9_writes_23 : decode cX9_writes 23 = .ok (.bipush (-3), 2) := dk_16 253 (dk_at dksX9_writes_1 0 rfl rfl)
theorem dX9_writes_25 : decode cX9_writes 25 = .ok (.ireturn, 1) := dk_172 (dk_at dksX9_writes_1 2 rfl rfl)
theorem dX9_writes_26 : decode cX9_writes 26 = .ok (.aload_n 0, 1) := dk_42 (dk_at dksX9_writes_1 3 rfl rfl)
theorem dX9_writes_27 : decode cX9_writes 27 = .ok (.invokevirtual 181, 3) := dk_182 0 181 (dk_at dksX9_writes_1 4 rfl rfl)
theorem dX9_writes_30 : decode cX9_writes 30 = .ok (.aload_n 0, 1) := dk_42 (dk_at dksX9_writes_1 7 rfl rfl)
theorem dX9_writes_31 : decode cX9_writes 31 = .ok (.getfield 26, 3) := dk_180 0 26 (dk_at dksX9_writes_1 8 rfl rfl)
theorem dX9_writes_34 : decode cX9_writes 34 = .ok (.bipush 21, 2) := dk_16 21 (dk_at dksX9_writes_1 11 rfl rfl)
theorem dX9_writes_36 : decode cX9_writes 36 = .ok (.aload_n 0, 1) := dk_42 (dk_at dksX9_writes_1 13 rfl rfl)
theorem dX9_writes_37 : decode cX9_writes 37 = .ok (.getfield 26, 3) := dk_180 0 26 (dk_at dksX9_writes_1 14 rfl rfl)
theorem dX9_writes_40 : decode cX9_writes 40 = .ok (.bipush 20, 2) := dk_16 20 (dk_at dksX9_writes_1 17 rfl rfl)
theorem dX9_writes_42 : decode cX9_writes 42 = .ok (.iaload, 1) := dk_46 (dk_at dksX9_writes_1 19 rfl rfl)
theorem dX9_writes_43 : decode cX9_writes 43 = .ok (.iadd, 1) := dk_96 (dk_at dksX9_writes_1 20 rfl rfl)
theorem dX9_writes_44 : decode cX9_writes 44 = .ok (.iload_n 1, 1) := dk_27 (dk_at dksX9_writes_1 21 rfl rfl)
theorem dX9_writes_45 : decode cX9_writes 45 = .ok (.iastore, 1) := dk_79 (dk_at dksX9_writes_1 22 rfl rfl)
theorem dX9_writes_46 : decode cX9_writes 46 = .ok (.aload_n 0, 1) := dk_42 (dk_at dksX9_writes_1 23 rfl rfl)
theorem dX9_writes_47 : decode cX9_writes 47 = .ok (.getfield 26, 3) := dk_180 0 26 (dk_at dksX9_writes_2 0 rfl rfl)
theorem dX9_writes_50 : decode cX9_writes 50 = .ok (.bipush 20, 2) := dk_16 20 (dk_at dksX9_writes_2 3 rfl rfl)
theorem dX9_writes_52 : decode cX9_writes 52 = .ok (.dup2, 1) := dk_92 (dk_at dksX9_writes_2 5 rfl rfl)
theorem dX9_writes_53 : decode cX9_writes 53 = .ok (.iaload, 1) := dk_46 (dk_at dksX9_writes_2 6 rfl rfl)
theorem dX9_writes_54 : decode cX9_writes 54 = .ok (.iconst 1, 1) := dk_4 (dk_at dksX9_writes_2 7 rfl rfl)
theorem dX9_writes_55 : decode cX9_writes 55 = .ok (.iadd, 1) := dk_96 (dk_at dksX9_writes_2 8 rfl rfl)
theorem dX9_writes_56 : decode cX9_writes 56 = .ok (.iastore, 1) := dk_79 (dk_at dksX9_writes_2 9 rfl rfl)
theorem dX9_writes_57 : decode cX9_writes 57 = .ok (.aload_n 0, 1) := dk_42 (dk_at dksX9_writes_2 10 rfl rfl)
theorem dX9_writes_58 : decode cX9_writes 58 = .ok (.getfield 26, 3) := dk_180 0 26 (dk_at dksX9_writes_2 11 rfl rfl)
theorem dX9_writes_61 : decode cX9_writes 61 = .ok (.bipush 20, 2) := dk_16 20 (dk_at dksX9_writes_2 14 rfl rfl)
theorem dX9_writes_63 : decode cX9_writes 63 = .ok (.iaload, 1) := dk_46 (dk_at dksX9_writes_2 16 rfl rfl)
theorem dX9_writes_64 : decode cX9_writes 64 = .ok (.ireturn, 1) := dk_172 (dk_at dksX9_writes_2 17 rfl rfl)
abbrev cX9_tears : ByteArray := prog_13_method_49_code
def yX9_tears : MethodName := ⟨RX9, "tears", "()I"⟩
def dkwX9_tears_1 : List UInt8 := [16, 21, 28, 96, 3, 79, 132, 2, 1, 167, 255, 238, 42, 180, 0, 26, 16, 20, 3, 79, 27, 172]
abbrev dktX9_tears_1 : List UInt8 := dkwX9_tears_1 ++ []
def dkwX9_tears_0 : List UInt8 := [42, 182, 0, 181, 42, 180, 0, 26, 16, 20, 46, 60, 3, 61, 28, 8, 162, 0, 19, 42, 180, 0, 26]
abbrev dktX9_tears_0 : List UInt8 := dkwX9_tears_0 ++ dktX9_tears_1
theorem dksX9_tears_0 : cX9_tears.data.toList.drop 0 = dktX9_tears_0 := by decide +kernel
theorem dksX9_tears_1 : cX9_tears.data.toList.drop 23 = dktX9_tears_1 := dk_seg dksX9_tears_0 23 rfl rfl
theorem dX9_tears_0 : decode cX9_tears 0 = .ok (.aload_n 0, 1) := dk_42 (dk_at dksX9_tears_0 0 rfl rfl)
theorem dX9_tears_1 : decode cX9_tears 1 = .ok (.invokevirtual 181, 3) := dk_182 0 181 (dk_at dksX9_tears_0 1 rfl rfl)
theorem dX9_tears_4 : decode cX9_tears 4 = .ok (.aload_n 0, 1) := dk_42 (dk_at dksX9_tears_0 4 rfl rfl)
theorem dX9_tears_5 : decode cX9_tears 5 = .ok (.getfield 26, 3) := dk_180 0 26 (dk_at dksX9_tears_0 5 rfl rfl)
theorem dX9_tears_8 : decode cX9_tears 8 = .ok (.bipush 20, 2) := dk_16 20 (dk_at dksX9_tears_0 8 rfl rfl)
theorem dX9_tears_10 : decode cX9_tears 10 = .ok (.iaload, 1) := dk_46 (dk_at dksX9_tears_0 10 rfl rfl)
theorem dX9_tears_11 : decode cX9_tears 11 = .ok (.istore_n 1, 1) := dk_60 (dk_at dksX9_tears_0 11 rfl rfl)
theorem dX9_tears_12 : decode cX9_tears 12 = .ok (.iconst 0, 1) := dk_3 (dk_at dksX9_tears_0 12 rfl rfl)
theorem dX9_tears_13 : decode cX9_tears 13 = .ok (.istore_n 2, 1) := dk_61 (dk_at dksX9_tears_0 13 rfl rfl)
theorem dX9_tears_14 : decode cX9_tears 14 = .ok (.iload_n 2, 1) := dk_28 (dk_at dksX9_tears_0 14 rfl rfl)
theorem dX9_tears_15 : decode cX9_tears 15 = .ok (.iconst 5, 1) := dk_8 (dk_at dksX9_tears_0 15 rfl rfl)
theorem dX9_tears_16 : decode cX9_tears 16 = .ok (.if_icmp .ge 19, 3) := dk_162 0 19 (dk_at dksX9_tears_0 16 rfl rfl)
theorem dX9_tears_19 : decode cX9_tears 19 = .ok (.aload_n 0, 1) := dk_42 (dk_at dksX9_tears_0 19 rfl rfl)
theorem dX9_tears_20 : decode cX9_tears 20 = .ok (.getfield 26, 3) := dk_180 0 26 (dk_at dksX9_tears_0 20 rfl rfl)
theorem dX9_tears_23 : decode cX9_tears 23 = .ok (.bipush 21, 2) := dk_16 21 (dk_at dksX9_tears_1 0 rfl rfl)
theorem dX9_tears_25 : decode cX9_tears 25 = .ok (.iload_n 2, 1) := dk_28 (dk_at dksX9_tears_1 2 rfl rfl)
theorem dX9_tears_26 : decode cX9_tears 26 = .ok (.iadd, 1) := dk_96 (dk_at dksX9_tears_1 3 rfl rfl)
theorem dX9_tears_27 : decode cX9_tears 27 = .ok (.iconst 0, 1) := dk_3 (dk_at dksX9_tears_1 4 rfl rfl)
theorem dX9_tears_28 : decode cX9_tears 28 = .ok (.iastore, 1) := dk_79 (dk_at dksX9_tears_1 5 rfl rfl)
theorem dX9_tears_29 : decode cX9_tears 29 = .ok (.iinc 2 1, 3) := dk_132 2 1 (dk_at dksX9_tears_1 6 rfl rfl)
theorem dX9_tears_32 : decode cX9_tears 32 = .ok (.goto (-18), 3) := dk_167 255 238 (dk_at dksX9_tears_1 9 rfl rfl)
theorem dX9_tears_35 : decode cX9_tears 35 = .ok (.aload_n 0, 1) := dk_42 (dk_at dksX9_tears_1 12 rfl rfl)
theorem dX9_tears_36 : decode cX9_tears 36 = .ok (.getfield 26, 3) := dk_180 0 26 (dk_at dksX9_tears_1 13 rfl rfl)
theorem dX9_tears_39 : decode cX9_tears 39 = .ok (.bipush 20, 2) := dk_16 20 (dk_at dksX9_tears_1 16 rfl rfl)
theorem dX9_tears_41 : decode cX9_tears 41 = .ok (.iconst 0, 1) := dk_3 (dk_at dksX9_tears_1 18 rfl rfl)
theorem dX9_tears_42 : decode cX9_tears 42 = .ok (.iastore, 1) := dk_79 (dk_at dksX9_tears_1 19 rfl rfl)
theorem dX9_tears_43 : decode cX9_tears 43 = .ok (.iload_n 1, 1) := dk_27 (dk_at dksX9_tears_1 20 rfl rfl)
theorem dX9_tears_44 : decode cX9_tears 44 = .ok (.ireturn, 1) := dk_172 (dk_at dksX9_tears_1 21 rfl rfl)
abbrev cX9_smokes : ByteArray := prog_13_method_51_code
def yX9_smokes : MethodName := ⟨RX9, "smokes", "(I)I"⟩
def dkwX9_smokes_3 : List UInt8 := [3, 96, 61, 132, 3, 1, 167, 255, 197, 28, 172]
abbrev dktX9_smokes_3 : List UInt8 := dkwX9_smokes_3 ++ []
def dkwX9_smokes_2 : List UInt8 := [46, 182, 0, 225, 79, 28, 42, 180, 0, 26, 16, 21, 29, 96, 46, 16, 10, 160, 0, 7, 4, 167, 0, 4]
abbrev dktX9_smokes_2 : List UInt8 := dkwX9_smokes_2 ++ dktX9_smokes_3
def dkwX9_smokes_1 : List UInt8 := [16, 20, 46, 162, 0, 54, 42, 180, 0, 26, 16, 21, 29, 96, 42, 27, 42, 180, 0, 26, 16, 21, 29, 96]
abbrev dktX9_smokes_1 : List UInt8 := dkwX9_smokes_1 ++ dktX9_smokes_2
def dkwX9_smokes_0 : List UInt8 := [42, 27, 182, 0, 162, 154, 0, 5, 2, 172, 42, 182, 0, 181, 3, 61, 3, 62, 29, 42, 180, 0, 26]
abbrev dktX9_smokes_0 : List UInt8 := dkwX9_smokes_0 ++ dktX9_smokes_1
theorem dksX9_smokes_0 : cX9_smokes.data.toList.drop 0 = dktX9_smokes_0 := by decide +kernel
theorem dksX9_smokes_1 : cX9_smokes.data.toList.drop 23 = dktX9_smokes_1 := dk_seg dksX9_smokes_0 23 rfl rfl
theorem dksX9_smokes_2 : cX9_smokes.data.toList.drop 47 = dktX9_smokes_2 := dk_seg dksX9_smokes_1 24 rfl rfl
theorem dksX9_smokes_3 : cX9_smokes.data.toList.drop 71 = dktX9_smokes_3 := dk_seg dksX9_smokes_2 24 rfl rfl
theorem dX9_smokes_0 : decode cX9_smokes 0 = .ok (.aload_n 0, 1) := dk_42 (dk_at dksX9_smokes_0 0 rfl rfl)
theorem dX9_smokes_1 : decode cX9_smokes 1 = .ok (.iload_n 1, 1) := dk_27 (dk_at dksX9_smokes_0 1 rfl rfl)
theorem dX9_smokes_2 : decode cX9_smokes 2 = .ok (.invokevirtual 162, 3) := dk_182 0 162 (dk_at dksX9_smokes_0 2 rfl rfl)
theorem dX9_smokes_5 : decode cX9_smokes 5 = .ok (.ifCond .ne 5, 3) := dk_154 0 5 (dk_at dksX9_smokes_0 5 rfl rfl)
theorem dX9_smokes_8 : decode cX9_smokes 8 = .ok (.iconst (-1), 1) := dk_2 (dk_at dksX9_smokes_0 8 rfl rfl)
theorem dX9_smokes_9 : decode cX9_smokes 9 = .ok (.ireturn, 1) := dk_172 (dk_at dksX9_smokes_0 9 rfl rfl)
theorem dX9_smokes_10 : decode cX9_smokes 10 = .ok (.aload_n 0, 1) := dk_42 (dk_at dksX9_smokes_0 10 rfl rfl)
theorem dX9_smokes_11 : decode cX9_smokes 11 = .ok (.invokevirtual 181, 3) := dk_182 0 181 (dk_at dksX9_smokes_0 11 rfl rfl)
theorem dX9_smokes_14 : decode cX9_smokes 14 = .ok (.iconst 0, 1) := dk_3 (dk_at dksX9_smokes_0 14 rfl rfl)
theorem dX9_smokes_15 : decode cX9_smokes 15 = .ok (.istore_n 2, 1) := dk_61 (dk_at dksX9_smokes_0 15 rfl rfl)
theorem dX9_smokes_16 : decode cX9_smokes 16 = .ok (.iconst 0, 1) := dk_3 (dk_at dksX9_smokes_0 16 rfl rfl)
theorem dX9_smokes_17 : decode cX9_smokes 17 = .ok (.istore_n 3, 1) := dk_62 (dk_at dksX9_smokes_0 17 rfl rfl)
theorem dX9_smokes_18 : decode cX9_smokes 18 = .ok (.iload_n 3, 1) := dk_29 (dk_at dksX9_smokes_0 18 rfl rfl)
theorem dX9_smokes_19 : decode cX9_smokes 19 = .ok (.aload_n 0, 1) := dk_42 (dk_at dksX9_smokes_0 19 rfl rfl)
theorem dX9_smokes_20 : decode cX9_smokes 20 = .ok (.getfield 26, 3) := dk_180 0 26 (dk_at dksX9_smokes_0 20 rfl rfl)
theorem dX9_smokes_23 : decode cX9_smokes 23 = .ok (.bipush 20, 2) := dk_16 20 (dk_at dksX9_smokes_1 0 rfl rfl)
theorem dX9_smokes_25 : decode cX9_smokes 25 = .ok (.iaload, 1) := dk_46 (dk_at dksX9_smokes_1 2 rfl rfl)
theorem dX9_smokes_26 : decode cX9_smokes 26 = .ok (.if_icmp .ge 54, 3) := dk_162 0 54 (dk_at dksX9_smokes_1 3 rfl rfl)
theorem dX9_smokes_29 : decode cX9_smokes 29 = .ok (.aload_n 0, 1) := dk_42 (dk_at dksX9_smokes_1 6 rfl rfl)
theorem dX9_smokes_30 : decode cX9_smokes 30 = .ok (.getfield 26, 3) := dk_180 0 26 (dk_at dksX9_smokes_1 7 rfl rfl)
theorem dX9_smokes_33 : decode cX9_smokes 33 = .ok (.bipush 21, 2) := dk_16 21 (dk_at dksX9_smokes_1 10 rfl rfl)
theorem dX9_smokes_35 : decode cX9_smokes 35 = .ok (.iload_n 3, 1) := dk_29 (dk_at dksX9_smokes_1 12 rfl rfl)
theorem dX9_smokes_36 : decode cX9_smokes 36 = .ok (.iadd, 1) := dk_96 (dk_at dksX9_smokes_1 13 rfl rfl)
theorem dX9_smokes_37 : decode cX9_smokes 37 = .ok (.aload_n 0, 1) := dk_42 (dk_at dksX9_smokes_1 14 rfl rfl)
theorem dX9_smokes_38 : decode cX9_smokes 38 = .ok (.iload_n 1, 1) := dk_27 (dk_at dksX9_smokes_1 15 rfl rfl)
theorem dX9_smokes_39 : decode cX9_smokes 39 = .ok (.aload_n 0, 1) := dk_42 (dk_at dksX9_smokes_1 16 rfl rfl)
theorem dX9_smokes_40 : decode cX9_smokes 40 = .ok (.getfield 26, 3) := dk_180 0 26 (dk_at dksX9_smokes_1 17 rfl rfl)
theorem dX9_smokes_43 : decode cX9_smokes 43 = .ok (.bipush 21, 2) := dk_16 21 (dk_at dksX9_smokes_1 20 rfl rfl)
theorem dX9_smokes_45 : decode cX9_smokes 45 = .ok (.iload_n 3, 1) := dk_29 (dk_at dksX9_smokes_1 22 rfl rfl)
theorem dX9_smokes_46 : decode cX9_smokes 46 = .ok (.iadd, 1) := dk_96 (dk_at dksX9_smokes_1 23 rfl rfl)
theorem dX9_smokes_47 : decode cX9_smokes 47 = .ok (.iaload, 1) := dk_46 (dk_at dksX9_smokes_2 0 rfl rfl)
theorem dX9_smokes_48 : decode cX9_smokes 48 = .ok (.invokevirtual 225, 3) := dk_182 0 225 (dk_at dksX9_smokes_2 1 rfl rfl)
theorem dX9_smokes_51 : decode cX9_smokes 51 = .ok (.iastore, 1) := dk_79 (dk_at dksX9_smokes_2 4 rfl rfl)
theorem dX9_smokes_52 : decode cX9_smokes 52 = .ok (.iload_n 2, 1) := dk_28 (dk_at dksX9_smokes_2 5 rfl rfl)
theorem dX9_smokes_53 : decode cX9_smokes 53 = .ok (.aload_n 0, 1) := dk_42 (dk_at dksX9_smokes_2 6 rfl rfl)
theorem dX9_smokes_54 : decode cX9_smokes 54 = .ok (.getfield 26, 3) := dk_180 0 26 (dk_at dksX9_smokes_2 7 rfl rfl)
theorem dX9_smokes_57 : decode cX9_smokes 57 = .ok (.bipush 21, 2) := dk_16 21 (dk_at dksX9_smokes_2 10 rfl rfl)
theorem dX9_smokes_59 : decode cX9_smokes 59 = .ok (.iload_n 3, 1) := dk_29 (dk_at dksX9_smokes_2 12 rfl rfl)
theorem dX9_smokes_60 : decode cX9_smokes 60 = .ok (.iadd, 1) := dk_96 (dk_at dksX9_smokes_2 13 rfl rfl)
theorem dX9_smokes_61 : decode cX9_smokes 61 = .ok (.iaload, 1) := dk_46 (dk_at dksX9_smokes_2 14 rfl rfl)
theorem dX9_smokes_62 : decode cX9_smokes 62 = .ok (.bipush 10, 2) := dk_16 10 (dk_at dksX9_smokes_2 15 rfl rfl)
theorem dX9_smokes_64 : decode cX9_smokes 64 = .ok (.if_icmp .ne 7, 3) := dk_160 0 7 (dk_at dksX9_smokes_2 17 rfl rfl)
theorem dX9_smokes_67 : decode cX9_smokes 67 = .ok (.iconst 1, 1) := dk_4 (dk_at dksX9_smokes_2 20 rfl rfl)
theorem dX9_smokes_68 : decode cX9_smokes 68 = .ok (.goto 4, 3) := dk_167 0 4 (dk_at dksX9_smokes_2 21 rfl rfl)
theorem dX9_smokes_71 : decode cX9_smokes 71 = .ok (.iconst 0, 1) := dk_3 (dk_at dksX9_smokes_3 0 rfl rfl)
theorem dX9_smokes_72 : decode cX9_smokes 72 = .ok (.iadd, 1) := dk_96 (dk_at dksX9_smokes_3 1 rfl rfl)
theorem dX9_smokes_73 : decode cX9_smokes 73 = .ok (.istore_n 2, 1) := dk_61 (dk_at dksX9_smokes_3 2 rfl rfl)
theorem dX9_smokes_74 : decode cX9_smokes 74 = .ok (.iinc 3 1, 3) := dk_132 3 1 (dk_at dksX9_smokes_3 3 rfl rfl)
theorem dX9_smokes_77 : decode cX9_smokes 77 = .ok (.goto (-59), 3) := dk_167 255 197 (dk_at dksX9_smokes_3 6 rfl rfl)
theorem dX9_smokes_80 : decode cX9_smokes 80 = .ok (.iload_n 2, 1) := dk_28 (dk_at dksX9_smokes_3 9 rfl rfl)
theorem dX9_smokes_81 : decode cX9_smokes 81 = .ok (.ireturn, 1) := dk_172 (dk_at dksX9_smokes_3 10 rfl rfl)
abbrev cX9_madeOf : ByteArray := prog_13_method_50_code
def yX9_madeOf : MethodName := ⟨RX9, "madeOf", "(II)I"⟩
def dkwX9_madeOf_2 : List UInt8 := [167, 0, 4, 28, 172]
abbrev dktX9_madeOf_2 : List UInt8 := dkwX9_madeOf_2 ++ []
def dkwX9_madeOf_1 : List UInt8 := [28, 42, 180, 0, 23, 6, 27, 104, 4, 96, 46, 160, 0, 16, 42, 180, 0, 23, 6, 27, 104, 5, 96, 46]
abbrev dktX9_madeOf_1 : List UInt8 := dkwX9_madeOf_1 ++ dktX9_madeOf_2
def dkwX9_madeOf_0 : List UInt8 := [28, 16, 10, 159, 0, 18, 42, 180, 0, 23, 6, 27, 104, 46, 28, 184, 0, 125, 153, 0, 6, 16, 10, 172]
abbrev dktX9_madeOf_0 : List UInt8 := dkwX9_madeOf_0 ++ dktX9_madeOf_1
theorem dksX9_madeOf_0 : cX9_madeOf.data.toList.drop 0 = dktX9_madeOf_0 := by decide +kernel
theorem dksX9_madeOf_1 : cX9_madeOf.data.toList.drop 24 = dktX9_madeOf_1 := dk_seg dksX9_madeOf_0 24 rfl rfl
theorem dksX9_madeOf_2 : cX9_madeOf.data.toList.drop 48 = dktX9_madeOf_2 := dk_seg dksX9_madeOf_1 24 rfl rfl
theorem dX9_madeOf_0 : decode cX9_madeOf 0 = .ok (.iload_n 2, 1) := dk_28 (dk_at dksX9_madeOf_0 0 rfl rfl)
theorem dX9_madeOf_1 : decode cX9_madeOf 1 = .ok (.bipush 10, 2) := dk_16 10 (dk_at dksX9_madeOf_0 1 rfl rfl)
theorem dX9_madeOf_3 : decode cX9_madeOf 3 = .ok (.if_icmp .eq 18, 3) := dk_159 0 18 (dk_at dksX9_madeOf_0 3 rfl rfl)
theorem dX9_madeOf_6 : decode cX9_madeOf 6 = .ok (.aload_n 0, 1) := dk_42 (dk_at dksX9_madeOf_0 6 rfl rfl)
theorem dX9_madeOf_7 : decode cX9_madeOf 7 = .ok (.getfield 23, 3) := dk_180 0 23 (dk_at dksX9_madeOf_0 7 rfl rfl)
theorem dX9_madeOf_10 : decode cX9_madeOf 10 = .ok (.iconst 3, 1) := dk_6 (dk_at dksX9_madeOf_0 10 rfl rfl)
theorem dX9_madeOf_11 : decode cX9_madeOf 11 = .ok (.iload_n 1, 1) := dk_27 (dk_at dksX9_madeOf_0 11 rfl rfl)
theorem dX9_madeOf_12 : decode cX9_madeOf 12 = .ok (.imul, 1) := dk_104 (dk_at dksX9_madeOf_0 12 rfl rfl)
theorem dX9_madeOf_13 : decode cX9_madeOf 13 = .ok (.iaload, 1) := dk_46 (dk_at dksX9_madeOf_0 13 rfl rfl)
theorem dX9_madeOf_14 : decode cX9_madeOf 14 = .ok (.iload_n 2, 1) := dk_28 (dk_at dksX9_madeOf_0 14 rfl rfl)
theorem dX9_madeOf_15 : decode cX9_madeOf 15 = .ok (.invokestatic 125, 3) := dk_184 0 125 (dk_at dksX9_madeOf_0 15 rfl rfl)
theorem dX9_madeOf_18 : decode cX9_madeOf 18 = .ok (.ifCond .eq 6, 3) := dk_153 0 6 (dk_at dksX9_madeOf_0 18 rfl rfl)
theorem dX9_madeOf_21 : decode cX9_madeOf 21 = .ok (.bipush 10, 2) := dk_16 10 (dk_at dksX9_madeOf_0 21 rfl rfl)
theorem dX9_madeOf_23 : decode cX9_madeOf 23 = .ok (.ireturn, 1) := dk_172 (dk_at dksX9_madeOf_0 23 rfl rfl)
theorem dX9_madeOf_24 : decode cX9_madeOf 24 = .ok (.iload_n 2, 1) := dk_28 (dk_at dksX9_madeOf_1 0 rfl rfl)
theorem dX9_madeOf_25 : decode cX9_madeOf 25 = .ok (.aload_n 0, 1) := dk_42 (dk_at dksX9_madeOf_1 1 rfl rfl)
theorem dX9_madeOf_26 : decode cX9_madeOf 26 = .ok (.getfield 23, 3) := dk_180 0 23 (dk_at dksX9_madeOf_1 2 rfl rfl)
theorem dX9_madeOf_29 : decode cX9_madeOf 29 = .ok (.iconst 3, 1) := dk_6 (dk_at dksX9_madeOf_1 5 rfl rfl)
theorem dX9_madeOf_30 : decode cX9_madeOf 30 = .ok (.iload_n 1, 1) := dk_27 (dk_at dksX9_madeOf_1 6 rfl rfl)
theorem dX9_madeOf_31 : decode cX9_madeOf 31 = .ok (.imul, 1) := dk_104 (dk_at dksX9_madeOf_1 7 rfl rfl)
theorem dX9_madeOf_32 : decode cX9_madeOf 32 = .ok (.iconst 1, 1) := dk_4 (dk_at dksX9_madeOf_1 8 rfl rfl)
theorem dX9_madeOf_33 : decode cX9_madeOf 33 = .ok (.iadd, 1) := dk_96 (dk_at dksX9_madeOf_1 9 rfl rfl)
theorem dX9_madeOf_34 : decode cX9_madeOf 34 = .ok (.iaload, 1) := dk_46 (dk_at dksX9_madeOf_1 10 rfl rfl)
theorem dX9_madeOf_35 : decode cX9_madeOf 35 = .ok (.if_icmp .ne 16, 3) := dk_160 0 16 (dk_at dksX9_madeOf_1 11 rfl rfl)
theorem dX9_madeOf_38 : decode cX9_madeOf 38 = .ok (.aload_n 0, 1) := dk_42 (dk_at dksX9_madeOf_1 14 rfl rfl)
theorem dX9_madeOf_39 : decode cX9_madeOf 39 = .ok (.getfield 23, 3) := dk_180 0 23 (dk_at dksX9_madeOf_1 15 rfl rfl)
theorem dX9_madeOf_42 : decode cX9_madeOf 42 = .ok (.iconst 3, 1) := dk_6 (dk_at dksX9_madeOf_1 18 rfl rfl)
theorem dX9_madeOf_43 : decode cX9_madeOf 43 = .ok (.iload_n 1, 1) := dk_27 (dk_at dksX9_madeOf_1 19 rfl rfl)
theorem dX9_madeOf_44 : decode cX9_madeOf 44 = .ok (.imul, 1) := dk_104 (dk_at dksX9_madeOf_1 20 rfl rfl)
theorem dX9_madeOf_45 : decode cX9_madeOf 45 = .ok (.iconst 2, 1) := dk_5 (dk_at dksX9_madeOf_1 21 rfl rfl)
theorem dX9_madeOf_46 : decode cX9_madeOf 46 = .ok (.iadd, 1) := dk_96 (dk_at dksX9_madeOf_1 22 rfl rfl)
theorem dX9_madeOf_47 : decode cX9_madeOf 47 = .ok (.iaload, 1) := dk_46 (dk_at dksX9_madeOf_1 23 rfl rfl)
theorem dX9_madeOf_48 : decode cX9_madeOf 48 = .ok (.goto 4, 3) := dk_167 0 4 (dk_at dksX9_madeOf_2 0 rfl rfl)
theorem dX9_madeOf_51 : decode cX9_madeOf 51 = .ok (.iload_n 2, 1) := dk_28 (dk_at dksX9_madeOf_2 3 rfl rfl)
theorem dX9_madeOf_52 : decode cX9_madeOf 52 = .ok (.ireturn, 1) := dk_172 (dk_at dksX9_madeOf_2 4 rfl rfl)
abbrev cX9_word : ByteArray := prog_13_method_52_code
def yX9_word : MethodName := ⟨RX9, "word", "(I)I"⟩
def dkwX9_word_1 : List UInt8 := [96, 46, 167, 0, 4, 2, 172]
abbrev dktX9_word_1 : List UInt8 := dkwX9_word_1 ++ []
def dkwX9_word_0 : List UInt8 := [27, 3, 42, 180, 0, 26, 16, 20, 46, 4, 100, 184, 0, 85, 153, 0, 15, 42, 180, 0, 26, 16, 21, 27]
abbrev dktX9_word_0 : List UInt8 := dkwX9_word_0 ++ dktX9_word_1
theorem dksX9_word_0 : cX9_word.data.toList.drop 0 = dktX9_word_0 := by decide +kernel
theorem dksX9_word_1 : cX9_word.data.toList.drop 24 = dktX9_word_1 := dk_seg dksX9_word_0 24 rfl rfl
theorem dX9_word_0 : decode cX9_word 0 = .ok (.iload_n 1, 1) := dk_27 (dk_at dksX9_word_0 0 rfl rfl)
theorem dX9_word_1 : decode cX9_word 1 = .ok (.iconst 0, 1) := dk_3 (dk_at dksX9_word_0 1 rfl rfl)
theorem dX9_word_2 : decode cX9_word 2 = .ok (.aload_n 0, 1) := dk_42 (dk_at dksX9_word_0 2 rfl rfl)
theorem dX9_word_3 : decode cX9_word 3 = .ok (.getfield 26, 3) := dk_180 0 26 (dk_at dksX9_word_0 3 rfl rfl)
theorem dX9_word_6 : decode cX9_word 6 = .ok (.bipush 20, 2) := dk_16 20 (dk_at dksX9_word_0 6 rfl rfl)
theorem dX9_word_8 : decode cX9_word 8 = .ok (.iaload, 1) := dk_46 (dk_at dksX9_word_0 8 rfl rfl)
theorem dX9_word_9 : decode cX9_word 9 = .ok (.iconst 1, 1) := dk_4 (dk_at dksX9_word_0 9 rfl rfl)
theorem dX9_word_10 : decode cX9_word 10 = .ok (.isub, 1) := dk_100 (dk_at dksX9_word_0 10 rfl rfl)
theorem dX9_word_11 : decode cX9_word 11 = .ok (.invokestatic 85, 3) := dk_184 0 85 (dk_at dksX9_word_0 11 rfl rfl)
theorem dX9_word_14 : decode cX9_word 14 = .ok (.ifCond .eq 15, 3) := dk_153 0 15 (dk_at dksX9_word_0 14 rfl rfl)
theorem dX9_word_17 : decode cX9_word 17 = .ok (.aload_n 0, 1) := dk_42 (dk_at dksX9_word_0 17 rfl rfl)
theorem dX9_word_18 : decode cX9_word 18 = .ok (.getfield 26, 3) := dk_180 0 26 (dk_at dksX9_word_0 18 rfl rfl)
theorem dX9_word_21 : decode cX9_word 21 = .ok (.bipush 21, 2) := dk_16 21 (dk_at dksX9_word_0 21 rfl rfl)
theorem dX9_word_23 : decode cX9_word 23 = .ok (.iload_n 1, 1) := dk_27 (dk_at dksX9_word_0 23 rfl rfl)
theorem dX9_word_24 : decode cX9_word 24 = .ok (.iadd, 1) := dk_96 (dk_at dksX9_word_1 0 rfl rfl)
theorem dX9_word_25 : decode cX9_word 25 = .ok (.iaload, 1) := dk_46 (dk_at dksX9_word_1 1 rfl rfl)
theorem dX9_word_26 : decode cX9_word 26 = .ok (.goto 4, 3) := dk_167 0 4 (dk_at dksX9_word_1 2 rfl rfl)
theorem dX9_word_29 : decode cX9_word 29 = .ok (.iconst (-1), 1) := dk_2 (dk_at dksX9_word_1 5 rfl rfl)
theorem dX9_word_30 : decode cX9_word 30 = .ok (.ireturn, 1) := dk_172 (dk_at dksX9_word_1 6 rfl rfl)
abbrev cX9_brown : ByteArray := prog_13_method_53_code
def yX9_brown : MethodName := ⟨RX9, "brown", "(I)I"⟩
def dkwX9_brown_5 : List UInt8 := [4, 96, 181, 0, 155, 42, 180, 0, 155, 172]
abbrev dktX9_brown_5 : List UInt8 := dkwX9_brown_5 ++ []
def dkwX9_brown_4 : List UInt8 := [104, 28, 96, 42, 180, 0, 26, 16, 21, 28, 96, 46, 79, 132, 2, 1, 167, 255, 223, 42, 89, 180, 0, 155]
abbrev dktX9_brown_4 : List UInt8 := dkwX9_brown_4 ++ dktX9_brown_5
def dkwX9_brown_3 : List UInt8 := [180, 0, 155, 27, 79, 3, 61, 28, 42, 180, 0, 228, 162, 0, 31, 42, 180, 0, 42, 8, 42, 180, 0, 155]
abbrev dktX9_brown_3 : List UInt8 := dkwX9_brown_3 ++ dktX9_brown_4
def dkwX9_brown_2 : List UInt8 := [7, 160, 0, 6, 16, 253, 172, 42, 42, 180, 0, 26, 16, 20, 46, 181, 0, 228, 42, 180, 0, 39, 42]
abbrev dktX9_brown_2 : List UInt8 := dkwX9_brown_2 ++ dktX9_brown_3
def dkwX9_brown_1 : List UInt8 := [158, 0, 20, 42, 180, 0, 228, 42, 180, 0, 26, 16, 20, 46, 159, 0, 6, 16, 254, 172, 42, 180, 0, 155]
abbrev dktX9_brown_1 : List UInt8 := dkwX9_brown_1 ++ dktX9_brown_2
def dkwX9_brown_0 : List UInt8 := [42, 27, 182, 0, 162, 154, 0, 5, 2, 172, 42, 180, 0, 26, 16, 20, 46, 153, 0, 24, 42, 180, 0, 155]
abbrev dktX9_brown_0 : List UInt8 := dkwX9_brown_0 ++ dktX9_brown_1
theorem dksX9_brown_0 : cX9_brown.data.toList.drop 0 = dktX9_brown_0 := by decide +kernel
theorem dksX9_brown_1 : cX9_brown.data.toList.drop 24 = dktX9_brown_1 := dk_seg dksX9_brown_0 24 rfl rfl
theorem dksX9_brown_2 : cX9_brown.data.toList.drop 48 = dktX9_brown_2 := dk_seg dksX9_brown_1 24 rfl rfl
theorem dksX9_brown_3 : cX9_brown.data.toList.drop 71 = dktX9_brown_3 := dk_seg dksX9_brown_2 23 rfl rfl
theorem dksX9_brown_4 : cX9_brown.data.toList.drop 95 = dktX9_brown_4 := dk_seg dksX9_brown_3 24 rfl rfl
theorem dksX9_brown_5 : cX9_brown.data.toList.drop 119 = dktX9_brown_5 := dk_seg dksX9_brown_4 24 rfl rfl
theorem dX9_brown_0 : decode cX9_brown 0 = .ok (.aload_n 0, 1) := dk_42 (dk_at dksX9_brown_0 0 rfl rfl)
theorem dX9_brown_1 : decode cX9_brown 1 = .ok (.iload_n 1, 1) := dk_27 (dk_at dksX9_brown_0 1 rfl rfl)
theorem dX9_brown_2 : decode cX9_brown 2 = .ok (.invokevirtual 162, 3) := dk_182 0 162 (dk_at dksX9_brown_0 2 rfl rfl)
theorem dX9_brown_5 : decode cX9_brown 5 = .ok (.ifCond .ne 5, 3) := dk_154 0 5 (dk_at dksX9_brown_0 5 rfl rfl)
theorem dX9_brown_8 : decode cX9_brown 8 = .ok (.iconst (-1), 1) := dk_2 (dk_at dksX9_brown_0 8 rfl rfl)
theorem dX9_brown_9 : decode cX9_brown 9 = .ok (.ireturn, 1) := dk_172 (dk_at dksX9_brown_0 9 rfl rfl)
theorem dX9_brown_10 : decode cX9_brown 10 = .ok (.aload_n 0, 1) := dk_42 (dk_at dksX9_brown_0 10 rfl rfl)
theorem dX9_brown_11 : decode cX9_brown 11 = .ok (.getfield 26, 3) := dk_180 0 26 (dk_at dksX9_brown_0 11 rfl rfl)
theorem dX9_brown_14 : decode cX9_brown 14 = .ok (.bipush 20, 2) := dk_16 20 (dk_at dksX9_brown_0 14 rfl rfl)
theorem dX9_brown_16 : decode cX9_brown 16 = .ok (.iaload, 1) := dk_46 (dk_at dksX9_brown_0 16 rfl rfl)
theorem dX9_brown_17 : decode cX9_brown 17 = .ok (.ifCond .eq 24, 3) := dk_153 0 24 (dk_at dksX9_brown_0 17 rfl rfl)
theorem dX9_brown_20 : decode cX9_brown 20 = .ok (.aload_n 0, 1) := dk_42 (dk_at dksX9_brown_0 20 rfl rfl)
theorem dX9_brown_21 : decode cX9_brown 21 = .ok (.getfield 155, 3) := dk_180 0 155 (dk_at dksX9_brown_0 21 rfl rfl)
theorem dX9_brown_24 : decode cX9_brown 24 = .ok (.ifCond .le 20, 3) := dk_158 0 20 (dk_at dksX9_brown_1 0 rfl rfl)
theorem dX9_brown_27 : decode cX9_brown 27 = .ok (.aload_n 0, 1) := dk_42 (dk_at dksX9_brown_1 3 rfl rfl)
theorem dX9_brown_28 : decode cX9_brown 28 = .ok (.getfield 228, 3) := dk_180 0 228 (dk_at dksX9_brown_1 4 rfl rfl)
theorem dX9_brown_31 : decode cX9_brown 31 = .ok (.aload_n 0, 1) := dk_42 (dk_at dksX9_brown_1 7 rfl rfl)
theorem dX9_brown_32 : decode cX9_brown 32 = .ok (.getfield 26, 3) := dk_180 0 26 (dk_at dksX9_brown_1 8 rfl rfl)
theorem dX9_brown_35 : decode cX9_brown 35 = .ok (.bipush 20, 2) := dk_16 20 (dk_at dksX9_brown_1 11 rfl rfl)
theorem dX9_brown_37 : decode cX9_brown 37 = .ok (.iaload, 1) := dk_46 (dk_at dksX9_brown_1 13 rfl rfl)
theorem dX9_brown_38 : decode cX9_brown 38 = .ok (.if_icmp .eq 6, 3) := dk_159 0 6 (dk_at dksX9_brown_1 14 rfl rfl)
theorem dX9_brown_41 : decode cX9_brown 41 = .ok (.bipush (-2), 2) := dk_16 254 (dk_at dksX9_brown_1 17 rfl rfl)
theorem dX9_brown_43 : decode cX9_brown 43 = .ok (.ireturn, 1) := dk_172 (dk_at dksX9_brown_1 19 rfl rfl)
theorem dX9_brown_44 : decode cX9_brown 44 = .ok (.aload_n 0, 1) := dk_42 (dk_at dksX9_brown_1 20 rfl rfl)
theorem dX9_brown_45 : decode cX9_brown 45 = .ok (.getfield 155, 3) := dk_180 0 155 (dk_at dksX9_brown_1 21 rfl rfl)
theorem dX9_brown_48 : decode cX9_brown 48 = .ok (.iconst 4, 1) := dk_7 (dk_at dksX9_brown_2 0 rfl rfl)
theorem dX9_brown_49 : decode cX9_brown 49 = .ok (.if_icmp .ne 6, 3) := dk_160 0 6 (dk_at dksX9_brown_2 1 rfl rfl)
theorem dX9_brown_52 : decode cX9_brown 52 = .ok (.bipush (-3), 2) := dk_16 253 (dk_at dksX9_brown_2 4 rfl rfl)
theorem dX9_brown_54 : decode cX9_brown 54 = .ok (.ireturn, 1) := dk_172 (dk_at dksX9_brown_2 6 rfl rfl)
theorem dX9_brown_55 : decode cX9_brown 55 = .ok (.aload_n 0, 1) := dk_42 (dk_at dksX9_brown_2 7 rfl rfl)
theorem dX9_brown_56 : decode cX9_brown 56 = .ok (.aload_n 0, 1) := dk_42 (dk_at dksX9_brown_2 8 rfl rfl)
theorem dX9_brown_57 : decode cX9_brown 57 = .ok (.getfield 26, 3) := dk_180 0 26 (dk_at dksX9_brown_2 9 rfl rfl)
theorem dX9_brown_60 : decode cX9_brown 60 = .ok (.bipush 20, 2) := dk_16 20 (dk_at dksX9_brown_2 12 rfl rfl)
theorem dX9_brown_62 : decode cX9_brown 62 = .ok (.iaload, 1) := dk_46 (dk_at dksX9_brown_2 14 rfl rfl)
theorem dX9_brown_63 : decode cX9_brown 63 = .ok (.putfield 228, 3) := dk_181 0 228 (dk_at dksX9_brown_2 15 rfl rfl)
theorem dX9_brown_66 : decode cX9_brown 66 = .ok (.aload_n 0, 1) := dk_42 (dk_at dksX9_brown_2 18 rfl rfl)
theorem dX9_brown_67 : decode cX9_brown 67 = .ok (.getfield 39, 3) := dk_180 0 39 (dk_at dksX9_brown_2 19 rfl rfl)
theorem dX9_brown_70 : decode cX9_brown 70 = .ok (.aload_n 0, 1) := dk_42 (dk_at dksX9_brown_2 22 rfl rfl)
theorem dX9_brown_71 : decode cX9_brown 71 = .ok (.getfield 155, 3) := dk_180 0 155 (dk_at dksX9_brown_3 0 rfl rfl)
theorem dX9_brown_74 : decode cX9_brown 74 = .ok (.iload_n 1, 1) := dk_27 (dk_at dksX9_brown_3 3 rfl rfl)
theorem dX9_brown_75 : decode cX9_brown 75 = .ok (.iastore, 1) := dk_79 (dk_at dksX9_brown_3 4 rfl rfl)
theorem dX9_brown_76 : decode cX9_brown 76 = .ok (.iconst 0, 1) := dk_3 (dk_at dksX9_brown_3 5 rfl rfl)
theorem dX9_brown_77 : decode cX9_brown 77 = .ok (.istore_n 2, 1) := dk_61 (dk_at dksX9_brown_3 6 rfl rfl)
theorem dX9_brown_78 : decode cX9_brown 78 = .ok (.iload_n 2, 1) := dk_28 (dk_at dksX9_brown_3 7 rfl rfl)
theorem dX9_brown_79 : decode cX9_brown 79 = .ok (.aload_n 0, 1) := dk_42 (dk_at dksX9_brown_3 8 rfl rfl)
theorem dX9_brown_80 : decode cX9_brown 80 = .ok (.getfield 228, 3) := dk_180 0 228 (dk_at dksX9_brown_3 9 rfl rfl)
theorem dX9_brown_83 : decode cX9_brown 83 = .ok (.if_icmp .ge 31, 3) := dk_162 0 31 (dk_at dksX9_brown_3 12 rfl rfl)
theorem dX9_brown_86 : decode cX9_brown 86 = .ok (.aload_n 0, 1) := dk_42 (dk_at dksX9_brown_3 15 rfl rfl)
theorem dX9_brown_87 : decode cX9_brown 87 = .ok (.getfield 42, 3) := dk_180 0 42 (dk_at dksX9_brown_3 16 rfl rfl)
theorem dX9_brown_90 : decode cX9_brown 90 = .ok (.iconst 5, 1) := dk_8 (dk_at dksX9_brown_3 19 rfl rfl)
theorem dX9_brown_91 : decode cX9_brown 91 = .ok (.aload_n 0, 1) := dk_42 (dk_at dksX9_brown_3 20 rfl rfl)
theorem dX9_brown_92 : decode cX9_brown 92 = .ok (.getfield 155, 3) := dk_180 0 155 (dk_at dksX9_brown_3 21 rfl rfl)
theorem dX9_brown_95 : decode cX9_brown 95 = .ok (.imul, 1) := dk_104 (dk_at dksX9_brown_4 0 rfl rfl)
theorem dX9_brown_96 : decode cX9_brown 96 = .ok (.iload_n 2, 1) := dk_28 (dk_at dksX9_brown_4 1 rfl rfl)
theorem dX9_brown_97 : decode cX9_brown 97 = .ok (.iadd, 1) := dk_96 (dk_at dksX9_brown_4 2 rfl rfl)
theorem dX9_brown_98 : decode cX9_brown 98 = .ok (.aload_n 0, 1) := dk_42 (dk_at dksX9_brown_4 3 rfl rfl)
theorem dX9_brown_99 : decode cX9_brown 99 = .ok (.getfield 26, 3) := dk_180 0 26 (dk_at dksX9_brown_4 4 rfl rfl)
theorem dX9_brown_102 : decode cX9_brown 102 = .ok (.bipush 21, 2) := dk_16 21 (dk_at dksX9_brown_4 7 rfl rfl)
theorem dX9_brown_104 : decode cX9_brown 104 = .ok (.iload_n 2, 1) := dk_28 (dk_at dksX9_brown_4 9 rfl rfl)
theorem dX9_brown_105 : decode cX9_brown 105 = .ok (.iadd, 1) := dk_96 (dk_at dksX9_brown_4 10 rfl rfl)
theorem dX9_brown_106 : decode cX9_brown 106 = .ok (.iaload, 1) := dk_46 (dk_at dksX9_brown_4 11 rfl rfl)
theorem dX9_brown_107 : decode cX9_brown 107 = .ok (.iastore, 1) := dk_79 (dk_at dksX9_brown_4 12 rfl rfl)
theorem dX9_brown_108 : decode cX9_brown 108 = .ok (.iinc 2 1, 3) := dk_132 2 1 (dk_at dksX9_brown_4 13 rfl rfl)
theorem dX9_brown_111 : decode cX9_brown 111 = .ok (.goto (-33), 3) := dk_167 255 223 (dk_at dksX9_brown_4 16 rfl rfl)
theorem dX9_brown_114 : decode cX9_brown 114 = .ok (.aload_n 0, 1) := dk_42 (dk_at dksX9_brown_4 19 rfl rfl)
theorem dX9_brown_115 : decode cX9_brown 115 = .ok (.dup, 1) := dk_89 (dk_at dksX9_brown_4 20 rfl rfl)
theorem dX9_brown_116 : decode cX9_brown 116 = .ok (.getfield 155, 3) := dk_180 0 155 (dk_at dksX9_brown_4 21 rfl rfl)
theorem dX9_brown_119 : decode cX9_brown 119 = .ok (.iconst 1, 1) := dk_4 (dk_at dksX9_brown_5 0 rfl rfl)
theorem dX9_brown_120 : decode cX9_brown 120 = .ok (.iadd, 1) := dk_96 (dk_at dksX9_brown_5 1 rfl rfl)
theorem dX9_brown_121 : decode cX9_brown 121 = .ok (.putfield 155, 3) := dk_181 0 155 (dk_at dksX9_brown_5 2 rfl rfl)
theorem dX9_brown_124 : decode cX9_brown 124 = .ok (.aload_n 0, 1) := dk_42 (dk_at dksX9_brown_5 5 rfl rfl)
theorem dX9_brown_125 : decode cX9_brown 125 = .ok (.getfield 155, 3) := dk_180 0 155 (dk_at dksX9_brown_5 6 rfl rfl)
theorem dX9_brown_128 : decode cX9_brown 128 = .ok (.ireturn, 1) := dk_172 (dk_at dksX9_brown_5 9 rfl rfl)
abbrev cX9_burn : ByteArray := prog_13_method_54_code
def yX9_burn : MethodName := ⟨RX9, "burn", "()I"⟩
def dkwX9_burn_0 : List UInt8 := [42, 180, 0, 155, 60, 42, 3, 181, 0, 155, 27, 172]
abbrev dktX9_burn_0 : List UInt8 := dkwX9_burn_0 ++ []
theorem dksX9_burn_0 : cX9_burn.data.toList.drop 0 = dktX9_burn_0 := by decide +kernel
theorem dX9_burn_0 : decode cX9_burn 0 = .ok (.aload_n 0, 1) := dk_42 (dk_at dksX9_burn_0 0 rfl rfl)
theorem dX9_burn_1 : decode cX9_burn 1 = .ok (.getfield 155, 3) := dk_180 0 155 (dk_at dksX9_burn_0 1 rfl rfl)
theorem dX9_burn_4 : decode cX9_burn 4 = .ok (.istore_n 1, 1) := dk_60 (dk_at dksX9_burn_0 4 rfl rfl)
theorem dX9_burn_5 : decode cX9_burn 5 = .ok (.aload_n 0, 1) := dk_42 (dk_at dksX9_burn_0 5 rfl rfl)
theorem dX9_burn_6 : decode cX9_burn 6 = .ok (.iconst 0, 1) := dk_3 (dk_at dksX9_burn_0 6 rfl rfl)
theorem dX9_burn_7 : decode cX9_burn 7 = .ok (.putfield 155, 3) := dk_181 0 155 (dk_at dksX9_burn_0 7 rfl rfl)
theorem dX9_burn_10 : decode cX9_burn 10 = .ok (.iload_n 1, 1) := dk_27 (dk_at dksX9_burn_0 10 rfl rfl)
theorem dX9_burn_11 : decode cX9_burn 11 = .ok (.ireturn, 1) := dk_172 (dk_at dksX9_burn_0 11 rfl rfl)
abbrev cX9_stood : ByteArray := prog_13_method_57_code
def yX9_stood : MethodName := ⟨RX9, "stood", "(I)I"⟩
def dkwX9_stood_0 : List UInt8 := [42, 27, 182, 0, 231, 153, 0, 11, 42, 27, 182, 0, 234, 167, 0, 4, 2, 172]
abbrev dktX9_stood_0 : List UInt8 := dkwX9_stood_0 ++ []
theorem dksX9_stood_0 : cX9_stood.data.toList.drop 0 = dktX9_stood_0 := by decide +kernel
theorem dX9_stood_0 : decode cX9_stood 0 = .ok (.aload_n 0, 1) := dk_42 (dk_at dksX9_stood_0 0 rfl rfl)
theorem dX9_stood_1 : decode cX9_stood 1 = .ok (.iload_n 1, 1) := dk_27 (dk_at dksX9_stood_0 1 rfl rfl)
theorem dX9_stood_2 : decode cX9_stood 2 = .ok (.invokevirtual 231, 3) := dk_182 0 231 (dk_at dksX9_stood_0 2 rfl rfl)
theorem dX9_stood_5 : decode cX9_stood 5 = .ok (.ifCond .eq 11, 3) := dk_153 0 11 (dk_at dksX9_stood_0 5 rfl rfl)
theorem dX9_stood_8 : decode cX9_stood 8 = .ok (.aload_n 0, 1) := dk_42 (dk_at dksX9_stood_0 8 rfl rfl)
theorem dX9_stood_9 : decode cX9_stood 9 = .ok (.iload_n 1, 1) := dk_27 (dk_at dksX9_stood_0 9 rfl rfl)
theorem dX9_stood_10 : decode cX9_stood 10 = .ok (.invokevirtual 234, 3) := dk_182 0 234 (dk_at dksX9_stood_0 10 rfl rfl)
theorem dX9_stood_13 : decode cX9_stood 13 = .ok (.goto 4, 3) := dk_167 0 4 (dk_at dksX9_stood_0 13 rfl rfl)
theorem dX9_stood_16 : decode cX9_stood 16 = .ok (.iconst (-1), 1) := dk_2 (dk_at dksX9_stood_0 16 rfl rfl)
theorem dX9_stood_17 : decode cX9_stood 17 = .ok (.ireturn, 1) := dk_172 (dk_at dksX9_stood_0 17 rfl rfl)
abbrev cX9_isCopied : ByteArray := prog_13_method_55_code
def yX9_isCopied : MethodName := ⟨RX9, "isCopied", "(I)Z"⟩
def dkwX9_isCopied_1 : List UInt8 := [167, 0, 4, 3, 172]
abbrev dktX9_isCopied_1 : List UInt8 := dkwX9_isCopied_1 ++ []
def dkwX9_isCopied_0 : List UInt8 := [42, 180, 0, 155, 158, 0, 21, 27, 3, 42, 180, 0, 228, 4, 100, 184, 0, 85, 153, 0, 7, 4]
abbrev dktX9_isCopied_0 : List UInt8 := dkwX9_isCopied_0 ++ dktX9_isCopied_1
theorem dksX9_isCopied_0 : cX9_isCopied.data.toList.drop 0 = dktX9_isCopied_0 := by decide +kernel
theorem dksX9_isCopied_1 : cX9_isCopied.data.toList.drop 22 = dktX9_isCopied_1 := dk_seg dksX9_isCopied_0 22 rfl rfl
theorem dX9_isCopied_0 : decode cX9_isCopied 0 = .ok (.aload_n 0, 1) := dk_42 (dk_at dksX9_isCopied_0 0 rfl rfl)
theorem dX9_isCopied_1 : decode cX9_isCopied 1 = .ok (.getfield 155, 3) := dk_180 0 155 (dk_at dksX9_isCopied_0 1 rfl rfl)
theorem dX9_isCopied_4 : decode cX9_isCopied 4 = .ok (.ifCond .le 21, 3) := dk_158 0 21 (dk_at dksX9_isCopied_0 4 rfl rfl)
theorem dX9_isCopied_7 : decode cX9_isCopied 7 = .ok (.iload_n 1, 1) := dk_27 (dk_at dksX9_isCopied_0 7 rfl rfl)
theorem dX9_isCopied_8 : decode cX9_isCopied 8 = .ok (.iconst 0, 1) := dk_3 (dk_at dksX9_isCopied_0 8 rfl rfl)
theorem dX9_isCopied_9 : decode cX9_isCopied 9 = .ok (.aload_n 0, 1) := dk_42 (dk_at dksX9_isCopied_0 9 rfl rfl)
theorem dX9_isCopied_10 : decode cX9_isCopied 10 = .ok (.getfield 228, 3) := dk_180 0 228 (dk_at dksX9_isCopied_0 10 rfl rfl)
theorem dX9_isCopied_13 : decode cX9_isCopied 13 = .ok (.iconst 1, 1) := dk_4 (dk_at dksX9_isCopied_0 13 rfl rfl)
theorem dX9_isCopied_14 : decode cX9_isCopied 14 = .ok (.isub, 1) := dk_100 (dk_at dksX9_isCopied_0 14 rfl rfl)
theorem dX9_isCopied_15 : decode cX9_isCopied 15 = .ok (.invokestatic 85, 3) := dk_184 0 85 (dk_at dksX9_isCopied_0 15 rfl rfl)
theorem dX9_isCopied_18 : decode cX9_isCopied 18 = .ok (.ifCond .eq 7, 3) := dk_153 0 7 (dk_at dksX9_isCopied_0 18 rfl rfl)
theorem dX9_isCopied_21 : decode cX9_isCopied 21 = .ok (.iconst 1, 1) := dk_4 (dk_at dksX9_isCopied_0 21 rfl rfl)
theorem dX9_isCopied_22 : decode cX9_isCopied 22 = .ok (.goto 4, 3) := dk_167 0 4 (dk_at dksX9_isCopied_1 0 rfl rfl)
theorem dX9_isCopied_25 : decode cX9_isCopied 25 = .ok (.iconst 0, 1) := dk_3 (dk_at dksX9_isCopied_1 3 rfl rfl)
theorem dX9_isCopied_26 : decode cX9_isCopied 26 = .ok (.ireturn, 1) := dk_172 (dk_at dksX9_isCopied_1 4 rfl rfl)
abbrev cX9_stoodAt : ByteArray := prog_13_method_56_code
def yX9_stoodAt : MethodName := ⟨RX9, "stoodAt", "(I)I"⟩
def dkwX9_stoodAt_3 : List UInt8 := [21, 4, 153, 0, 9, 4, 29, 120, 167, 0, 4, 3, 128, 61, 132, 3, 1, 167, 255, 173, 28, 172]
abbrev dktX9_stoodAt_3 : List UInt8 := dkwX9_stoodAt_3 ++ []
def dkwX9_stoodAt_2 : List UInt8 := [8, 21, 5, 104, 27, 96, 46, 160, 0, 7, 4, 167, 0, 4, 3, 54, 4, 132, 5, 1, 167, 255, 206, 28]
abbrev dktX9_stoodAt_2 : List UInt8 := dkwX9_stoodAt_2 ++ dktX9_stoodAt_3
def dkwX9_stoodAt_1 : List UInt8 := [162, 0, 47, 21, 4, 153, 0, 33, 42, 42, 180, 0, 39, 21, 5, 46, 29, 182, 0, 225, 42, 180, 0, 42]
abbrev dktX9_stoodAt_1 : List UInt8 := dkwX9_stoodAt_1 ++ dktX9_stoodAt_2
def dkwX9_stoodAt_0 : List UInt8 := [3, 61, 3, 62, 29, 16, 10, 162, 0, 83, 4, 54, 4, 3, 54, 5, 21, 5, 42, 180, 0, 155]
abbrev dktX9_stoodAt_0 : List UInt8 := dkwX9_stoodAt_0 ++ dktX9_stoodAt_1
theorem dksX9_stoodAt_0 : cX9_stoodAt.data.toList.drop 0 = dktX9_stoodAt_0 := by decide +kernel
theorem dksX9_stoodAt_1 : cX9_stoodAt.data.toList.drop 22 = dktX9_stoodAt_1 := dk_seg dksX9_stoodAt_0 22 rfl rfl
theorem dksX9_stoodAt_2 : cX9_stoodAt.data.toList.drop 46 = dktX9_stoodAt_2 := dk_seg dksX9_stoodAt_1 24 rfl rfl
theorem dksX9_stoodAt_3 : cX9_stoodAt.data.toList.drop 70 = dktX9_stoodAt_3 := dk_seg dksX9_stoodAt_2 24 rfl rfl
theorem dX9_stoodAt_0 : decode cX9_stoodAt 0 = .ok (.iconst 0, 1) := dk_3 (dk_at dksX9_stoodAt_0 0 rfl rfl)
theorem dX9_stoodAt_1 : decode cX9_stoodAt 1 = .ok (.istore_n 2, 1) := dk_61 (dk_at dksX9_stoodAt_0 1 rfl rfl)
theorem dX9_stoodAt_2 : decode cX9_stoodAt 2 = .ok (.iconst 0, 1) := dk_3 (dk_at dksX9_stoodAt_0 2 rfl rfl)
theorem dX9_stoodAt_3 : decode cX9_stoodAt 3 = .ok (.istore_n 3, 1) := dk_62 (dk_at dksX9_stoodAt_0 3 rfl rfl)
theorem dX9_stoodAt_4 : decode cX9_stoodAt 4 = .ok (.iload_n 3, 1) := dk_29 (dk_at dksX9_stoodAt_0 4 rfl rfl)
theorem dX9_stoodAt_5 : decode cX9_stoodAt 5 = .ok (.bipush 10, 2) := dk_16 10 (dk_at dksX9_stoodAt_0 5 rfl rfl)
theorem dX9_stoodAt_7 : decode cX9_stoodAt 7 = .ok (.if_icmp .ge 83, 3) := dk_162 0 83 (dk_at dksX9_stoodAt_0 7 rfl rfl)
theorem dX9_stoodAt_10 : decode cX9_stoodAt 10 = .ok (.iconst 1, 1) := dk_4 (dk_at dksX9_stoodAt_0 10 rfl rfl)
theorem dX9_stoodAt_11 : decode cX9_stoodAt 11 = .ok (.istore 4, 2) := dk_54 4 (dk_at dksX9_stoodAt_0 11 rfl rfl)
theorem dX9_stoodAt_13 : decode cX9_stoodAt 13 = .ok (.iconst 0, 1) := dk_3 (dk_at dksX9_stoodAt_0 13 rfl rfl)
theorem dX9_stoodAt_14 : decode cX9_stoodAt 14 = .ok (.istore 5, 2) := dk_54 5 (dk_at dksX9_stoodAt_0 14 rfl rfl)
theorem dX9_stoodAt_16 : decode cX9_stoodAt 16 = .ok (.iload 5, 2) := dk_21 5 (dk_at dksX9_stoodAt_0 16 rfl rfl)
theorem dX9_stoodAt_18 : decode cX9_stoodAt 18 = .ok (.aload_n 0, 1) := dk_42 (dk_at dksX9_stoodAt_0 18 rfl rfl)
theorem dX9_stoodAt_19 : decode cX9_stoodAt 19 = .ok (.getfield 155, 3) := dk_180 0 155 (dk_at dksX9_stoodAt_0 19 rfl rfl)
theorem dX9_stoodAt_22 : decode cX9_stoodAt 22 = .ok (.if_icmp .ge 47, 3) := dk_162 0 47 (dk_at dksX9_stoodAt_1 0 rfl rfl)
theorem dX9_stoodAt_25 : decode cX9_stoodAt 25 = .ok (.iload 4, 2) := dk_21 4 (dk_at dksX9_stoodAt_1 3 rfl rfl)
theorem dX9_stoodAt_27 : decode cX9_stoodAt 27 = .ok (.ifCond .eq 33, 3) := dk_153 0 33 (dk_at dksX9_stoodAt_1 5 rfl rfl)
theorem dX9_stoodAt_30 : decode cX9_stoodAt 30 = .ok (.aload_n 0, 1) := dk_42 (dk_at dksX9_stoodAt_1 8 rfl rfl)
theorem dX9_stoodAt_31 : decode cX9_stoodAt 31 = .ok (.aload_n 0, 1) := dk_42 (dk_at dksX9_stoodAt_1 9 rfl rfl)
theorem dX9_stoodAt_32 : decode cX9_stoodAt 32 = .ok (.getfield 39, 3) := dk_180 0 39 (dk_at dksX9_stoodAt_1 10 rfl rfl)
theorem dX9_stoodAt_35 : decode cX9_stoodAt 35 = .ok (.iload 5, 2) := dk_21 5 (dk_at dksX9_stoodAt_1 13 rfl rfl)
theorem dX9_stoodAt_37 : decode cX9_stoodAt 37 = .ok (.iaload, 1) := dk_46 (dk_at dksX9_stoodAt_1 15 rfl rfl)
theorem dX9_stoodAt_38 : decode cX9_stoodAt 38 = .ok (.iload_n 3, 1) := dk_29 (dk_at dksX9_stoodAt_1 16 rfl rfl)
theorem dX9_stoodAt_39 : decode cX9_stoodAt 39 = .ok (.invokevirtual 225, 3) := dk_182 0 225 (dk_at dksX9_stoodAt_1 17 rfl rfl)
theorem dX9_stoodAt_42 : decode cX9_stoodAt 42 = .ok (.aload_n 0, 1) := dk_42 (dk_at dksX9_stoodAt_1 20 rfl rfl)
theorem dX9_stoodAt_43 : decode cX9_stoodAt 43 = .ok (.getfield 42, 3) := dk_180 0 42 (dk_at dksX9_stoodAt_1 21 rfl rfl)
theorem dX9_stoodAt_46 : decode cX9_stoodAt 46 = .ok (.iconst 5, 1) := dk_8 (dk_at dksX9_stoodAt_2 0 rfl rfl)
theorem dX9_stoodAt_47 : decode cX9_stoodAt 47 = .ok (.iload 5, 2) := dk_21 5 (dk_at dksX9_stoodAt_2 1 rfl rfl)
theorem dX9_stoodAt_49 : decode cX9_stoodAt 49 = .ok (.imul, 1) := dk_104 (dk_at dksX9_stoodAt_2 3 rfl rfl)
theorem dX9_stoodAt_50 : decode cX9_stoodAt 50 = .ok (.iload_n 1, 1) := dk_27 (dk_at dksX9_stoodAt_2 4 rfl rfl)
theorem dX9_stoodAt_51 : decode cX9_stoodAt 51 = .ok (.iadd, 1) := dk_96 (dk_at dksX9_stoodAt_2 5 rfl rfl)
theorem dX9_stoodAt_52 : decode cX9_stoodAt 52 = .ok (.iaload, 1) := dk_46 (dk_at dksX9_stoodAt_2 6 rfl rfl)
theorem dX9_stoodAt_53 : decode cX9_stoodAt 53 = .ok (.if_icmp .ne 7, 3) := dk_160 0 7 (dk_at dksX9_stoodAt_2 7 rfl rfl)
theorem dX9_stoodAt_56 : decode cX9_stoodAt 56 = .ok (.iconst 1, 1) := dk_4 (dk_at dksX9_stoodAt_2 10 rfl rfl)
theorem dX9_stoodAt_57 : decode cX9_stoodAt 57 = .ok (.goto 4, 3) := dk_167 0 4 (dk_at dksX9_stoodAt_2 11 rfl rfl)
theorem dX9_stoodAt_60 : decode cX9_stoodAt 60 = .ok (.iconst 0, 1) := dk_3 (dk_at dksX9_stoodAt_2 14 rfl rfl)
theorem dX9_stoodAt_61 : decode cX9_stoodAt 61 = .ok (.istore 4, 2) := dk_54 4 (dk_at dksX9_stoodAt_2 15 rfl rfl)
theorem dX9_stoodAt_63 : decode cX9_stoodAt 63 = .ok (.iinc 5 1, 3) := dk_132 5 1 (dk_at dksX9_stoodAt_2 17 rfl rfl)
theorem dX9_stoodAt_66 : decode cX9_stoodAt 66 = .ok (.goto (-50), 3) := dk_167 255 206 (dk_at dksX9_stoodAt_2 20 rfl rfl)
theorem dX9_stoodAt_69 : decode cX9_stoodAt 69 = .ok (.iload_n 2, 1) := dk_28 (dk_at dksX9_stoodAt_2 23 rfl rfl)
theorem dX9_stoodAt_70 : decode cX9_stoodAt 70 = .ok (.iload 4, 2) := dk_21 4 (dk_at dksX9_stoodAt_3 0 rfl rfl)
theorem dX9_stoodAt_72 : decode cX9_stoodAt 72 = .ok (.ifCond .eq 9, 3) := dk_153 0 9 (dk_at dksX9_stoodAt_3 2 rfl rfl)
theorem dX9_stoodAt_75 : decode cX9_stoodAt 75 = .ok (.iconst 1, 1) := dk_4 (dk_at dksX9_stoodAt_3 5 rfl rfl)
theorem dX9_stoodAt_76 : decode cX9_stoodAt 76 = .ok (.iload_n 3, 1) := dk_29 (dk_at dksX9_stoodAt_3 6 rfl rfl)
theorem dX9_stoodAt_77 : decode cX9_stoodAt 77 = .ok (.ishl, 1) := dk_120 (dk_at dksX9_stoodAt_3 7 rfl rfl)
theorem dX9_stoodAt_78 : decode cX9_stoodAt 78 = .ok (.goto 4, 3) := dk_167 0 4 (dk_at dksX9_stoodAt_3 8 rfl rfl)
theorem dX9_stoodAt_81 : decode cX9_stoodAt 81 = .ok (.iconst 0, 1) := dk_3 (dk_at dksX9_stoodAt_3 11 rfl rfl)
theorem dX9_stoodAt_82 : decode cX9_stoodAt 82 = .ok (.ior, 1) := dk_128 (dk_at dksX9_stoodAt_3 12 rfl rfl)
theorem dX9_stoodAt_83 : decode cX9_stoodAt 83 = .ok (.istore_n 2, 1) := dk_61 (dk_at dksX9_stoodAt_3 13 rfl rfl)
theorem dX9_stoodAt_84 : decode cX9_stoodAt 84 = .ok (.iinc 3 1, 3) := dk_132 3 1 (dk_at dksX9_stoodAt_3 14 rfl rfl)
theorem dX9_stoodAt_87 : decode cX9_stoodAt 87 = .ok (.goto (-83), 3) := dk_167 255 173 (dk_at dksX9_stoodAt_3 17 rfl rfl)
theorem dX9_stoodAt_90 : decode cX9_stoodAt 90 = .ok (.iload_n 2, 1) := dk_28 (dk_at dksX9_stoodAt_3 20 rfl rfl)
theorem dX9_stoodAt_91 : decode cX9_stoodAt 91 = .ok (.ireturn, 1) := dk_172 (dk_at dksX9_stoodAt_3 21 rfl rfl)
abbrev cX9_letters : ByteArray := prog_13_method_60_code
def yX9_letters : MethodName := ⟨RX9, "letters", "(I)I"⟩
def dkwX9_letters_2 : List UInt8 := [16, 251, 167, 0, 8, 42, 28, 182, 0, 240, 172]
abbrev dktX9_letters_2 : List UInt8 := dkwX9_letters_2 ++ []
def dkwX9_letters_1 : List UInt8 := [182, 0, 234, 61, 42, 182, 0, 237, 154, 0, 8, 16, 247, 167, 0, 21, 28, 184, 0, 188, 4, 164, 0, 8]
abbrev dktX9_letters_1 : List UInt8 := dkwX9_letters_1 ++ dktX9_letters_2
def dkwX9_letters_0 : List UInt8 := [27, 16, 247, 160, 0, 8, 42, 182, 0, 237, 172, 42, 27, 182, 0, 231, 154, 0, 5, 2, 172, 42, 27]
abbrev dktX9_letters_0 : List UInt8 := dkwX9_letters_0 ++ dktX9_letters_1
theorem dksX9_letters_0 : cX9_letters.data.toList.drop 0 = dktX9_letters_0 := by decide +kernel
theorem dksX9_letters_1 : cX9_letters.data.toList.drop 23 = dktX9_letters_1 := dk_seg dksX9_letters_0 23 rfl rfl
theorem dksX9_letters_2 : cX9_letters.data.toList.drop 47 = dktX9_letters_2 := dk_seg dksX9_letters_1 24 rfl rfl
theorem dX9_letters_0 : decode cX9_letters 0 = .ok (.iload_n 1, 1) := dk_27 (dk_at dksX9_letters_0 0 rfl rfl)
theorem dX9_letters_1 : decode cX9_letters 1 = .ok (.bipush (-9), 2) := dk_16 247 (dk_at dksX9_letters_0 1 rfl rfl)
theorem dX9_letters_3 : decode cX9_letters 3 = .ok (.if_icmp .ne 8, 3) := dk_160 0 8 (dk_at dksX9_letters_0 3 rfl rfl)
theorem dX9_letters_6 : decode cX9_letters 6 = .ok (.aload_n 0, 1) := dk_42 (dk_at dksX9_letters_0 6 rfl rfl)
theorem dX9_letters_7 : decode cX9_letters 7 = .ok (.invokevirtual 237, 3) := dk_182 0 237 (dk_at dksX9_letters_0 7 rfl rfl)
theorem dX9_letters_10 : decode cX9_letters 10 = .ok (.ireturn, 1) := dk_172 (dk_at dksX9_letters_0 10 rfl rfl)
theorem dX9_letters_11 : decode cX9_letters 11 = .ok (.aload_n 0, 1) := dk_42 (dk_at dksX9_letters_0 11 rfl rfl)
theorem dX9_letters_12 : decode cX9_letters 12 = .ok (.iload_n 1, 1) := dk_27 (dk_at dksX9_letters_0 12 rfl rfl)
theorem dX9_letters_13 : decode cX9_letters 13 = .ok (.invokevirtual 231, 3) := dk_182 0 231 (dk_at dksX9_letters_0 13 rfl rfl)
theorem dX9_letters_16 : decode cX9_letters 16 = .ok (.ifCond .ne 5, 3) := dk_154 0 5 (dk_at dksX9_letters_0 16 rfl rfl)
theorem dX9_letters_19 : decode cX9_letters 19 = .ok (.iconst (-1), 1) := dk_2 (dk_at dksX9_letters_0 19 rfl rfl)
theorem dX9_letters_20 : decode cX9_letters 20 = .ok (.ireturn, 1) := dk_172 (dk_at dksX9_letters_0 20 rfl rfl)
theorem dX9_letters_21 : decode cX9_letters 21 = .ok (.aload_n 0, 1) := dk_42 (dk_at dksX9_letters_0 21 rfl rfl)
theorem dX9_letters_22 : decode cX9_letters 22 = .ok (.iload_n 1, 1) := dk_27 (dk_at dksX9_letters_0 22 rfl rfl)
theorem dX9_letters_23 : decode cX9_letters 23 = .ok (.invokevirtual 234, 3) := dk_182 0 234 (dk_at dksX9_letters_1 0 rfl rfl)
theorem dX9_letters_26 : decode cX9_letters 26 = .ok (.istore_n 2, 1) := dk_61 (dk_at dksX9_letters_1 3 rfl rfl)
theorem dX9_letters_27 : decode cX9_letters 27 = .ok (.aload_n 0, 1) := dk_42 (dk_at dksX9_letters_1 4 rfl rfl)
theorem dX9_letters_28 : decode cX9_letters 28 = .ok (.invokevirtual 237, 3) := dk_182 0 237 (dk_at dksX9_letters_1 5 rfl rfl)
theorem dX9_letters_31 : decode cX9_letters 31 = .ok (.ifCond .ne 8, 3) := dk_154 0 8 (dk_at dksX9_letters_1 8 rfl rfl)
theorem dX9_letters_34 : decode cX9_letters 34 = .ok (.bipush (-9), 2) := dk_16 247 (dk_at dksX9_letters_1 11 rfl rfl)
theorem dX9_letters_36 : decode cX9_letters 36 = .ok (.goto 21, 3) := dk_167 0 21 (dk_at dksX9_letters_1 13 rfl rfl)
theorem dX9_letters_39 : decode cX9_letters 39 = .ok (.iload_n 2, 1) := dk_28 (dk_at dksX9_letters_1 16 rfl rfl)
theorem dX9_letters_40 : decode cX9_letters 40 = .ok (.invokestatic 188, 3) := dk_184 0 188 (dk_at dksX9_letters_1 17 rfl rfl)
theorem dX9_letters_43 : decode cX9_letters 43 = .ok (.iconst 1, 1) := dk_4 (dk_at dksX9_letters_1 20 rfl rfl)
theorem dX9_letters_44 : decode cX9_letters 44 = .ok (.if_icmp .le 8, 3) := dk_164 0 8 (dk_at dksX9_letters_1 21 rfl rfl)
theorem dX9_letters_47 : decode cX9_letters 47 = .ok (.bipush (-5), 2) := dk_16 251 (dk_at dksX9_letters_2 0 rfl rfl)
theorem dX9_letters_49 : decode cX9_letters 49 = .ok (.goto 8, 3) := dk_167 0 8 (dk_at dksX9_letters_2 2 rfl rfl)
theorem dX9_letters_52 : decode cX9_letters 52 = .ok (.aload_n 0, 1) := dk_42 (dk_at dksX9_letters_2 5 rfl rfl)
theorem dX9_letters_53 : decode cX9_letters 53 = .ok (.iload_n 2, 1) := dk_28 (dk_at dksX9_letters_2 6 rfl rfl)
theorem dX9_letters_54 : decode cX9_letters 54 = .ok (.invokevirtual 240, 3) := dk_182 0 240 (dk_at dksX9_letters_2 7 rfl rfl)
theorem dX9_letters_57 : decode cX9_letters 57 = .ok (.ireturn, 1) := dk_172 (dk_at dksX9_letters_2 10 rfl rfl)
abbrev cX9_ways : ByteArray := prog_13_method_59_code
def yX9_ways : MethodName := ⟨RX9, "ways", "()I"⟩
def dkwX9_ways_1 : List UInt8 := [42, 28, 182, 0, 234, 184, 0, 188, 104, 60, 132, 2, 1, 167, 255, 234, 27, 172]
abbrev dktX9_ways_1 : List UInt8 := dkwX9_ways_1 ++ []
def dkwX9_ways_0 : List UInt8 := [42, 180, 0, 155, 158, 0, 7, 4, 167, 0, 4, 3, 60, 3, 61, 42, 28, 182, 0, 231, 153, 0, 20, 27]
abbrev dktX9_ways_0 : List UInt8 := dkwX9_ways_0 ++ dktX9_ways_1
theorem dksX9_ways_0 : cX9_ways.data.toList.drop 0 = dktX9_ways_0 := by decide +kernel
theorem dksX9_ways_1 : cX9_ways.data.toList.drop 24 = dktX9_ways_1 := dk_seg dksX9_ways_0 24 rfl rfl
theorem dX9_ways_0 : decode cX9_ways 0 = .ok (.aload_n 0, 1) := dk_42 (dk_at dksX9_ways_0 0 rfl rfl)
theorem dX9_ways_1 : decode cX9_ways 1 = .ok (.getfield 155, 3) := dk_180 0 155 (dk_at dksX9_ways_0 1 rfl rfl)
theorem dX9_ways_4 : decode cX9_ways 4 = .ok (.ifCond .le 7, 3) := dk_158 0 7 (dk_at dksX9_ways_0 4 rfl rfl)
theorem dX9_ways_7 : decode cX9_ways 7 = .ok (.iconst 1, 1) := dk_4 (dk_at dksX9_ways_0 7 rfl rfl)
theorem dX9_ways_8 : decode cX9_ways 8 = .ok (.goto 4, 3) := dk_167 0 4 (dk_at dksX9_ways_0 8 rfl rfl)
theorem dX9_ways_11 : decode cX9_ways 11 = .ok (.iconst 0, 1) := dk_3 (dk_at dksX9_ways_0 11 rfl rfl)
theorem dX9_ways_12 : decode cX9_ways 12 = .ok (.istore_n 1, 1) := dk_60 (dk_at dksX9_ways_0 12 rfl rfl)
theorem dX9_ways_13 : decode cX9_ways 13 = .ok (.iconst 0, 1) := dk_3 (dk_at dksX9_ways_0 13 rfl rfl)
theorem dX9_ways_14 : decode cX9_ways 14 = .ok (.istore_n 2, 1) := dk_61 (dk_at dksX9_ways_0 14 rfl rfl)
theorem dX9_ways_15 : decode cX9_ways 15 = .ok (.aload_n 0, 1) := dk_42 (dk_at dksX9_ways_0 15 rfl rfl)
theorem dX9_ways_16 : decode cX9_ways 16 = .ok (.iload_n 2, 1) := dk_28 (dk_at dksX9_ways_0 16 rfl rfl)
theorem dX9_ways_17 : decode cX9_ways 17 = .ok (.invokevirtual 231, 3) := dk_182 0 231 (dk_at dksX9_ways_0 17 rfl rfl)
theorem dX9_ways_20 : decode cX9_ways 20 = .ok (.ifCond .eq 20, 3) := dk_153 0 20 (dk_at dksX9_ways_0 20 rfl rfl)
theorem dX9_ways_23 : decode cX9_ways 23 = .ok (.iload_n 1, 1) := dk_27 (dk_at dksX9_ways_0 23 rfl rfl)
theorem dX9_ways_24 : decode cX9_ways 24 = .ok (.aload_n 0, 1) := dk_42 (dk_at dksX9_ways_1 0 rfl rfl)
theorem dX9_ways_25 : decode cX9_ways 25 = .ok (.iload_n 2, 1) := dk_28 (dk_at dksX9_ways_1 1 rfl rfl)
theorem dX9_ways_26 : decode cX9_ways 26 = .ok (.invokevirtual 234, 3) := dk_182 0 234 (dk_at dksX9_ways_1 2 rfl rfl)
theorem dX9_ways_29 : decode cX9_ways 29 = .ok (.invokestatic 188, 3) := dk_184 0 188 (dk_at dksX9_ways_1 5 rfl rfl)
theorem dX9_ways_32 : decode cX9_ways 32 = .ok (.imul, 1) := dk_104 (dk_at dksX9_ways_1 8 rfl rfl)
theorem dX9_ways_33 : decode cX9_ways 33 = .ok (.istore_n 1, 1) := dk_60 (dk_at dksX9_ways_1 9 rfl rfl)
theorem dX9_ways_34 : decode cX9_ways 34 = .ok (.iinc 2 1, 3) := dk_132 2 1 (dk_at dksX9_ways_1 10 rfl rfl)
theorem dX9_ways_37 : decode cX9_ways 37 = .ok (.goto (-22), 3) := dk_167 255 234 (dk_at dksX9_ways_1 13 rfl rfl)
theorem dX9_ways_40 : decode cX9_ways 40 = .ok (.iload_n 1, 1) := dk_27 (dk_at dksX9_ways_1 16 rfl rfl)
theorem dX9_ways_41 : decode cX9_ways 41 = .ok (.ireturn, 1) := dk_172 (dk_at dksX9_ways_1 17 rfl rfl)
abbrev cX9_sureOf : ByteArray := prog_13_method_58_code
def yX9_sureOf : MethodName := ⟨RX9, "sureOf", "(I)I"⟩
def dkwX9_sureOf_0 : List UInt8 := [3, 61, 27, 28, 184, 0, 125, 154, 0, 9, 132, 2, 1, 167, 255, 245, 28, 172]
abbrev dktX9_sureOf_0 : List UInt8 := dkwX9_sureOf_0 ++ []
theorem dksX9_sureOf_0 : cX9_sureOf.data.toList.drop 0 = dktX9_sureOf_0 := by decide +kernel
theorem dX9_sureOf_0 : decode cX9_sureOf 0 = .ok (.iconst 0, 1) := dk_3 (dk_at dksX9_sureOf_0 0 rfl rfl)
theorem dX9_sureOf_1 : decode cX9_sureOf 1 = .ok (.istore_n 2, 1) := dk_61 (dk_at dksX9_sureOf_0 1 rfl rfl)
theorem dX9_sureOf_2 : decode cX9_sureOf 2 = .ok (.iload_n 1, 1) := dk_27 (dk_at dksX9_sureOf_0 2 rfl rfl)
theorem dX9_sureOf_3 : decode cX9_sureOf 3 = .ok (.iload_n 2, 1) := dk_28 (dk_at dksX9_sureOf_0 3 rfl rfl)
theorem dX9_sureOf_4 : decode cX9_sureOf 4 = .ok (.invokestatic 125, 3) := dk_184 0 125 (dk_at dksX9_sureOf_0 4 rfl rfl)
theorem dX9_sureOf_7 : decode cX9_sureOf 7 = .ok (.ifCond .ne 9, 3) := dk_154 0 9 (dk_at dksX9_sureOf_0 7 rfl rfl)
theorem dX9_sureOf_10 : decode cX9_sureOf 10 = .ok (.iinc 2 1, 3) := dk_132 2 1 (dk_at dksX9_sureOf_0 10 rfl rfl)
theorem dX9_sureOf_13 : decode cX9_sureOf 13 = .ok (.goto (-11), 3) := dk_167 255 245 (dk_at dksX9_sureOf_0 13 rfl rfl)
theorem dX9_sureOf_16 : decode cX9_sureOf 16 = .ok (.iload_n 2, 1) := dk_28 (dk_at dksX9_sureOf_0 16 rfl rfl)
theorem dX9_sureOf_17 : decode cX9_sureOf 17 = .ok (.ireturn, 1) := dk_172 (dk_at dksX9_sureOf_0 17 rfl rfl)
abbrev cX9_whose : ByteArray := prog_13_method_65_code
def yX9_whose : MethodName := ⟨RX9, "whose", "(I)I"⟩
def dkwX9_whose_2 : List UInt8 := [167, 0, 4, 3, 128, 61, 132, 3, 1, 167, 255, 215, 28, 172]
abbrev dktX9_whose_2 : List UInt8 := dkwX9_whose_2 ++ []
def dkwX9_whose_1 : List UInt8 := [182, 0, 250, 42, 29, 182, 0, 253, 28, 42, 42, 180, 0, 76, 182, 1, 0, 153, 0, 9, 4, 29, 120]
abbrev dktX9_whose_1 : List UInt8 := dkwX9_whose_1 ++ dktX9_whose_2
def dkwX9_whose_0 : List UInt8 := [42, 27, 182, 0, 247, 154, 0, 5, 2, 172, 3, 61, 3, 62, 29, 42, 180, 0, 89, 162, 0, 39, 42]
abbrev dktX9_whose_0 : List UInt8 := dkwX9_whose_0 ++ dktX9_whose_1
theorem dksX9_whose_0 : cX9_whose.data.toList.drop 0 = dktX9_whose_0 := by decide +kernel
theorem dksX9_whose_1 : cX9_whose.data.toList.drop 23 = dktX9_whose_1 := dk_seg dksX9_whose_0 23 rfl rfl
theorem dksX9_whose_2 : cX9_whose.data.toList.drop 46 = dktX9_whose_2 := dk_seg dksX9_whose_1 23 rfl rfl
theorem dX9_whose_0 : decode cX9_whose 0 = .ok (.aload_n 0, 1) := dk_42 (dk_at dksX9_whose_0 0 rfl rfl)
theorem dX9_whose_1 : decode cX9_whose 1 = .ok (.iload_n 1, 1) := dk_27 (dk_at dksX9_whose_0 1 rfl rfl)
theorem dX9_whose_2 : decode cX9_whose 2 = .ok (.invokevirtual 247, 3) := dk_182 0 247 (dk_at dksX9_whose_0 2 rfl rfl)
theorem dX9_whose_5 : decode cX9_whose 5 = .ok (.ifCond .ne 5, 3) := dk_154 0 5 (dk_at dksX9_whose_0 5 rfl rfl)
theorem dX9_whose_8 : decode cX9_whose 8 = .ok (.iconst (-1), 1) := dk_2 (dk_at dksX9_whose_0 8 rfl rfl)
theorem dX9_whose_9 : decode cX9_whose 9 = .ok (.ireturn, 1) := dk_172 (dk_at dksX9_whose_0 9 rfl rfl)
theorem dX9_whose_10 : decode cX9_whose 10 = .ok (.iconst 0, 1) := dk_3 (dk_at dksX9_whose_0 10 rfl rfl)
theorem dX9_whose_11 : decode cX9_whose 11 = .ok (.istore_n 2, 1) := dk_61 (dk_at dksX9_whose_0 11 rfl rfl)
theorem dX9_whose_12 : decode cX9_whose 12 = .ok (.iconst 0, 1) := dk_3 (dk_at dksX9_whose_0 12 rfl rfl)
theorem dX9_whose_13 : decode cX9_whose 13 = .ok (.istore_n 3, 1) := dk_62 (dk_at dksX9_whose_0 13 rfl rfl)
theorem dX9_whose_14 : decode cX9_whose 14 = .ok (.iload_n 3, 1) := dk_29 (dk_at dksX9_whose_0 14 rfl rfl)
theorem dX9_whose_15 : decode cX9_whose 15 = .ok (.aload_n 0, 1) := dk_42 (dk_at dksX9_whose_0 15 rfl rfl)
theorem dX9_whose_16 : decode cX9_whose 16 = .ok (.getfield 89, 3) := dk_180 0 89 (dk_at dksX9_whose_0 16 rfl rfl)
theorem dX9_whose_19 : decode cX9_whose 19 = .ok (.if_icmp .ge 39, 3) := dk_162 0 39 (dk_at dksX9_whose_0 19 rfl rfl)
theorem dX9_whose_22 : decode cX9_whose 22 = .ok (.aload_n 0, 1) := dk_42 (dk_at dksX9_whose_0 22 rfl rfl)
theorem dX9_whose_23 : decode cX9_whose 23 = .ok (.invokevirtual 250, 3) := dk_182 0 250 (dk_at dksX9_whose_1 0 rfl rfl)
theorem dX9_whose_26 : decode cX9_whose 26 = .ok (.aload_n 0, 1) := dk_42 (dk_at dksX9_whose_1 3 rfl rfl)
theorem dX9_whose_27 : decode cX9_whose 27 = .ok (.iload_n 3, 1) := dk_29 (dk_at dksX9_whose_1 4 rfl rfl)
theorem dX9_whose_28 : decode cX9_whose 28 = .ok (.invokevirtual 253, 3) := dk_182 0 253 (dk_at dksX9_whose_1 5 rfl rfl)
theorem dX9_whose_31 : decode cX9_whose 31 = .ok (.iload_n 2, 1) := dk_28 (dk_at dksX9_whose_1 8 rfl rfl)
theorem dX9_whose_32 : decode cX9_whose 32 = .ok (.aload_n 0, 1) := dk_42 (dk_at dksX9_whose_1 9 rfl rfl)
theorem dX9_whose_33 : decode cX9_whose 33 = .ok (.aload_n 0, 1) := dk_42 (dk_at dksX9_whose_1 10 rfl rfl)
theorem dX9_whose_34 : decode cX9_whose 34 = .ok (.getfield 76, 3) := dk_180 0 76 (dk_at dksX9_whose_1 11 rfl rfl)
theorem dX9_whose_37 : decode cX9_whose 37 = .ok (.invokevirtual 256, 3) := dk_182 1 0 (dk_at dksX9_whose_1 14 rfl rfl)
theorem dX9_whose_40 : decode cX9_whose 40 = .ok (.ifCond .eq 9, 3) := dk_153 0 9 (dk_at dksX9_whose_1 17 rfl rfl)
theorem dX9_whose_43 : decode cX9_whose 43 = .ok (.iconst 1, 1) := dk_4 (dk_at dksX9_whose_1 20 rfl rfl)
theorem dX9_whose_44 : decode cX9_whose 44 = .ok (.iload_n 3, 1) := dk_29 (dk_at dksX9_whose_1 21 rfl rfl)
theorem dX9_whose_45 : decode cX9_whose 45 = .ok (.ishl, 1) := dk_120 (dk_at dksX9_whose_1 22 rfl rfl)
theorem dX9_whose_46 : decode cX9_whose 46 = .ok (.goto 4, 3) := dk_167 0 4 (dk_at dksX9_whose_2 0 rfl rfl)
theorem dX9_whose_49 : decode cX9_whose 49 = .ok (.iconst 0, 1) := dk_3 (dk_at dksX9_whose_2 3 rfl rfl)
theorem dX9_whose_50 : decode cX9_whose 50 = .ok (.ior, 1) := dk_128 (dk_at dksX9_whose_2 4 rfl rfl)
theorem dX9_whose_51 : decode cX9_whose 51 = .ok (.istore_n 2, 1) := dk_61 (dk_at dksX9_whose_2 5 rfl rfl)
theorem dX9_whose_52 : decode cX9_whose 52 = .ok (.iinc 3 1, 3) := dk_132 3 1 (dk_at dksX9_whose_2 6 rfl rfl)
theorem dX9_whose_55 : decode cX9_whose 55 = .ok (.goto (-41), 3) := dk_167 255 215 (dk_at dksX9_whose_2 9 rfl rfl)
theorem dX9_whose_58 : decode cX9_whose 58 = .ok (.iload_n 2, 1) := dk_28 (dk_at dksX9_whose_2 12 rfl rfl)
theorem dX9_whose_59 : decode cX9_whose 59 = .ok (.ireturn, 1) := dk_172 (dk_at dksX9_whose_2 13 rfl rfl)
abbrev cX9_reads : ByteArray := prog_13_method_61_code
def yX9_reads : MethodName := ⟨RX9, "reads", "(I)Z"⟩
def dkwX9_reads_5 : List UInt8 := [160, 0, 7, 4, 167, 0, 4, 3, 172]
abbrev dktX9_reads_5 : List UInt8 := dkwX9_reads_5 ++ []
def dkwX9_reads_4 : List UInt8 := [180, 0, 243, 4, 96, 181, 0, 243, 29, 16, 11, 108, 62, 167, 255, 165, 28, 153, 0, 12, 29, 4]
abbrev dktX9_reads_4 : List UInt8 := dkwX9_reads_4 ++ dktX9_reads_5
def dkwX9_reads_3 : List UInt8 := [21, 4, 4, 100, 46, 79, 132, 4, 255, 167, 255, 232, 42, 180, 0, 73, 3, 29, 16, 11, 112, 79, 42, 89]
abbrev dktX9_reads_3 : List UInt8 := dkwX9_reads_3 ++ dktX9_reads_4
def dkwX9_reads_2 : List UInt8 := [3, 61, 42, 180, 0, 243, 54, 4, 21, 4, 158, 0, 25, 42, 180, 0, 73, 21, 4, 42, 180, 0, 73]
abbrev dktX9_reads_2 : List UInt8 := dkwX9_reads_2 ++ dktX9_reads_3
def dkwX9_reads_1 : List UInt8 := [161, 0, 87, 42, 180, 0, 243, 8, 162, 0, 79, 29, 16, 11, 112, 16, 10, 162, 0, 7, 4, 167, 0, 4]
abbrev dktX9_reads_1 : List UInt8 := dkwX9_reads_1 ++ dktX9_reads_2
def dkwX9_reads_0 : List UInt8 := [42, 3, 181, 0, 243, 27, 16, 11, 18, 246, 184, 0, 85, 61, 27, 62, 28, 153, 0, 93, 29, 16, 11]
abbrev dktX9_reads_0 : List UInt8 := dkwX9_reads_0 ++ dktX9_reads_1
theorem dksX9_reads_0 : cX9_reads.data.toList.drop 0 = dktX9_reads_0 := by decide +kernel
theorem dksX9_reads_1 : cX9_reads.data.toList.drop 23 = dktX9_reads_1 := dk_seg dksX9_reads_0 23 rfl rfl
theorem dksX9_reads_2 : cX9_reads.data.toList.drop 47 = dktX9_reads_2 := dk_seg dksX9_reads_1 24 rfl rfl
theorem dksX9_reads_3 : cX9_reads.data.toList.drop 70 = dktX9_reads_3 := dk_seg dksX9_reads_2 23 rfl rfl
theorem dksX9_reads_4 : cX9_reads.data.toList.drop 94 = dktX9_reads_4 := dk_seg dksX9_reads_3 24 rfl rfl
theorem dksX9_reads_5 : cX9_reads.data.toList.drop 116 = dktX9_reads_5 := dk_seg dksX9_reads_4 22 rfl rfl
theorem dX9_reads_0 : decode cX9_reads 0 = .ok (.aload_n 0, 1) := dk_42 (dk_at dksX9_reads_0 0 rfl rfl)
theorem dX9_reads_1 : decode cX9_reads 1 = .ok (.iconst 0, 1) := dk_3 (dk_at dksX9_reads_0 1 rfl rfl)
theorem dX9_reads_2 : decode cX9_reads 2 = .ok (.putfield 243, 3) := dk_181 0 243 (dk_at dksX9_reads_0 2 rfl rfl)
theorem dX9_reads_5 : decode cX9_reads 5 = .ok (.iload_n 1, 1) := dk_27 (dk_at dksX9_reads_0 5 rfl rfl)
theorem dX9_reads_6 : decode cX9_reads 6 = .ok (.bipush 11, 2) := dk_16 11 (dk_at dksX9_reads_0 6 rfl rfl)
theorem dX9_reads_8 : decode cX9_reads 8 = .ok (.ldc 246, 2) := dk_18 246 (dk_at dksX9_reads_0 8 rfl rfl)
theorem dX9_reads_10 : decode cX9_reads 10 = .ok (.invokestatic 85, 3) := dk_184 0 85 (dk_at dksX9_reads_0 10 rfl rfl)
theorem dX9_reads_13 : decode cX9_reads 13 = .ok (.istore_n 2, 1) := dk_61 (dk_at dksX9_reads_0 13 rfl rfl)
theorem dX9_reads_14 : decode cX9_reads 14 = .ok (.iload_n 1, 1) := dk_27 (dk_at dksX9_reads_0 14 rfl rfl)
theorem dX9_reads_15 : decode cX9_reads 15 = .ok (.istore_n 3, 1) := dk_62 (dk_at dksX9_reads_0 15 rfl rfl)
theorem dX9_reads_16 : decode cX9_reads 16 = .ok (.iload_n 2, 1) := dk_28 (dk_at dksX9_reads_0 16 rfl rfl)
theorem dX9_reads_17 : decode cX9_reads 17 = .ok (.ifCond .eq 93, 3) := dk_153 0 93 (dk_at dksX9_reads_0 17 rfl rfl)
theorem dX9_reads_20 : decode cX9_reads 20 = .ok (.iload_n 3, 1) := dk_29 (dk_at dksX9_reads_0 20 rfl rfl)
theorem dX9_reads_21 : decode cX9_reads 21 = .ok (.bipush 11, 2) := dk_16 11 (dk_at dksX9_reads_0 21 rfl rfl)
theorem dX9_reads_23 : decode cX9_reads 23 = .ok (.if_icmp .lt 87, 3) := dk_161 0 87 (dk_at dksX9_reads_1 0 rfl rfl)
theorem dX9_reads_26 : decode cX9_reads 26 = .ok (.aload_n 0, 1) := dk_42 (dk_at dksX9_reads_1 3 rfl rfl)
theorem dX9_reads_27 : decode cX9_reads 27 = .ok (.getfield 243, 3) := dk_180 0 243 (dk_at dksX9_reads_1 4 rfl rfl)
theorem dX9_reads_30 : decode cX9_reads 30 = .ok (.iconst 5, 1) := dk_8 (dk_at dksX9_reads_1 7 rfl rfl)
theorem dX9_reads_31 : decode cX9_reads 31 = .ok (.if_icmp .ge 79, 3) := dk_162 0 79 (dk_at dksX9_reads_1 8 rfl rfl)
theorem dX9_reads_34 : decode cX9_reads 34 = .ok (.iload_n 3, 1) := dk_29 (dk_at dksX9_reads_1 11 rfl rfl)
theorem dX9_reads_35 : decode cX9_reads 35 = .ok (.bipush 11, 2) := dk_16 11 (dk_at dksX9_reads_1 12 rfl rfl)
theorem dX9_reads_37 : decode cX9_reads 37 = .ok (.irem, 1) := dk_112 (dk_at dksX9_reads_1 14 rfl rfl)
theorem dX9_reads_38 : decode cX9_reads 38 = .ok (.bipush 10, 2) := dk_16 10 (dk_at dksX9_reads_1 15 rfl rfl)
theorem dX9_reads_40 : decode cX9_reads 40 = .ok (.if_icmp .ge 7, 3) := dk_162 0 7 (dk_at dksX9_reads_1 17 rfl rfl)
theorem dX9_reads_43 : decode cX9_reads 43 = .ok (.iconst 1, 1) := dk_4 (dk_at dksX9_reads_1 20 rfl rfl)
theorem dX9_reads_44 : decode cX9_reads 44 = .ok (.goto 4, 3) := dk_167 0 4 (dk_at dksX9_reads_1 21 rfl rfl)
theorem dX9_reads_47 : decode cX9_reads 47 = .ok (.iconst 0, 1) := dk_3 (dk_at dksX9_reads_2 0 rfl rfl)
theorem dX9_reads_48 : decode cX9_reads 48 = .ok (.istore_n 2, 1) := dk_61 (dk_at dksX9_reads_2 1 rfl rfl)
theorem dX9_reads_49 : decode cX9_reads 49 = .ok (.aload_n 0, 1) := dk_42 (dk_at dksX9_reads_2 2 rfl rfl)
theorem dX9_reads_50 : decode cX9_reads 50 = .ok (.getfield 243, 3) := dk_180 0 243 (dk_at dksX9_reads_2 3 rfl rfl)
theorem dX9_reads_53 : decode cX9_reads 53 = .ok (.istore 4, 2) := dk_54 4 (dk_at dksX9_reads_2 6 rfl rfl)
theorem dX9_reads_55 : decode cX9_reads 55 = .ok (.iload 4, 2) := dk_21 4 (dk_at dksX9_reads_2 8 rfl rfl)
theorem dX9_reads_57 : decode cX9_reads 57 = .ok (.ifCond .le 25, 3) := dk_158 0 25 (dk_at dksX9_reads_2 10 rfl rfl)
theorem dX9_reads_60 : decode cX9_reads 60 = .ok (.aload_n 0, 1) := dk_42 (dk_at dksX9_reads_2 13 rfl rfl)
theorem dX9_reads_61 : decode cX9_reads 61 = .ok (.getfield 73, 3) := dk_180 0 73 (dk_at dksX9_reads_2 14 rfl rfl)
theorem dX9_reads_64 : decode cX9_reads 64 = .ok (.iload 4, 2) := dk_21 4 (dk_at dksX9_reads_2 17 rfl rfl)
theorem dX9_reads_66 : decode cX9_reads 66 = .ok (.aload_n 0, 1) := dk_42 (dk_at dksX9_reads_2 19 rfl rfl)
theorem dX9_reads_67 : decode cX9_reads 67 = .ok (.getfield 73, 3) := dk_180 0 73 (dk_at dksX9_reads_2 20 rfl rfl)
theorem dX9_reads_70 : decode cX9_reads 70 = .ok (.iload 4, 2) := dk_21 4 (dk_at dksX9_reads_3 0 rfl rfl)
theorem dX9_reads_72 : decode cX9_reads 72 = .ok (.iconst 1, 1) := dk_4 (dk_at dksX9_reads_3 2 rfl rfl)
theorem dX9_reads_73 : decode cX9_reads 73 = .ok (.isub, 1) := dk_100 (dk_at dksX9_reads_3 3 rfl rfl)
theorem dX9_reads_74 : decode cX9_reads 74 = .ok (.iaload, 1) := dk_46 (dk_at dksX9_reads_3 4 rfl rfl)
theorem dX9_reads_75 : decode cX9_reads 75 = .ok (.iastore, 1) := dk_79 (dk_at dksX9_reads_3 5 rfl rfl)
theorem dX9_reads_76 : decode cX9_reads 76 = .ok (.iinc 4 (-1), 3) := dk_132 4 255 (dk_at dksX9_reads_3 6 rfl rfl)
theorem dX9_reads_79 : decode cX9_reads 79 = .ok (.goto (-24), 3) := dk_167 255 232 (dk_at dksX9_reads_3 9 rfl rfl)
theorem dX9_reads_82 : decode cX9_reads 82 = .ok (.aload_n 0, 1) := dk_42 (dk_at dksX9_reads_3 12 rfl rfl)
theorem dX9_reads_83 : decode cX9_reads 83 = .ok (.getfield 73, 3) := dk_180 0 73 (dk_at dksX9_reads_3 13 rfl rfl)
theorem dX9_reads_86 : decode cX9_reads 86 = .ok (.iconst 0, 1) := dk_3 (dk_at dksX9_reads_3 16 rfl rfl)
theorem dX9_reads_87 : decode cX9_reads 87 = .ok (.iload_n 3, 1) := dk_29 (dk_at dksX9_reads_3 17 rfl rfl)
theorem dX9_reads_88 : decode cX9_reads 88 = .ok (.bipush 11, 2) := dk_16 11 (dk_at dksX9_reads_3 18 rfl rfl)
theorem dX9_reads_90 : decode cX9_reads 90 = .ok (.irem, 1) := dk_112 (dk_at dksX9_reads_3 20 rfl rfl)
theorem dX9_reads_91 : decode cX9_reads 91 = .ok (.iastore, 1) := dk_79 (dk_at dksX9_reads_3 21 rfl rfl)
theorem dX9_reads_92 : decode cX9_reads 92 = .ok (.aload_n 0, 1) := dk_42 (dk_at dksX9_reads_3 22 rfl rfl)
theorem dX9_reads_93 : decode cX9_reads 93 = .ok (.dup, 1) := dk_89 (dk_at dksX9_reads_3 23 rfl rfl)
theorem dX9_reads_94 : decode cX9_reads 94 = .ok (.getfield 243, 3) := dk_180 0 243 (dk_at dksX9_reads_4 0 rfl rfl)
theorem dX9_reads_97 : decode cX9_reads 97 = .ok (.iconst 1, 1) := dk_4 (dk_at dksX9_reads_4 3 rfl rfl)
theorem dX9_reads_98 : decode cX9_reads 98 = .ok (.iadd, 1) := dk_96 (dk_at dksX9_reads_4 4 rfl rfl)
theorem dX9_reads_99 : decode cX9_reads 99 = .ok (.putfield 243, 3) := dk_181 0 243 (dk_at dksX9_reads_4 5 rfl rfl)
theorem dX9_reads_102 : decode cX9_reads 102 = .ok (.iload_n 3, 1) := dk_29 (dk_at dksX9_reads_4 8 rfl rfl)
theorem dX9_reads_103 : decode cX9_reads 103 = .ok (.bipush 11, 2) := dk_16 11 (dk_at dksX9_reads_4 9 rfl rfl)
theorem dX9_reads_105 : decode cX9_reads 105 = .ok (.idiv, 1) := dk_108 (dk_at dksX9_reads_4 11 rfl rfl)
theorem dX9_reads_106 : decode cX9_reads 106 = .ok (.istore_n 3, 1) := dk_62 (dk_at dksX9_reads_4 12 rfl rfl)
theorem dX9_reads_107 : decode cX9_reads 107 = .ok (.goto (-91), 3) := dk_167 255 165 (dk_at dksX9_reads_4 13 rfl rfl)
theorem dX9_reads_110 : decode cX9_reads 110 = .ok (.iload_n 2, 1) := dk_28 (dk_at dksX9_reads_4 16 rfl rfl)
theorem dX9_reads_111 : decode cX9_reads 111 = .ok (.ifCond .eq 12, 3) := dk_153 0 12 (dk_at dksX9_reads_4 17 rfl rfl)
theorem dX9_reads_114 : decode cX9_reads 114 = .ok (.iload_n 3, 1) := dk_29 (dk_at dksX9_reads_4 20 rfl rfl)
theorem dX9_reads_115 : decode cX9_reads 115 = .ok (.iconst 1, 1) := dk_4 (dk_at dksX9_reads_4 21 rfl rfl)
theorem dX9_reads_116 : decode cX9_reads 116 = .ok (.if_icmp .ne 7, 3) := dk_160 0 7 (dk_at dksX9_reads_5 0 rfl rfl)
theorem dX9_reads_119 : decode cX9_reads 119 = .ok (.iconst 1, 1) := dk_4 (dk_at dksX9_reads_5 3 rfl rfl)
theorem dX9_reads_120 : decode cX9_reads 120 = .ok (.goto 4, 3) := dk_167 0 4 (dk_at dksX9_reads_5 4 rfl rfl)
theorem dX9_reads_123 : decode cX9_reads 123 = .ok (.iconst 0, 1) := dk_3 (dk_at dksX9_reads_5 7 rfl rfl)
theorem dX9_reads_124 : decode cX9_reads 124 = .ok (.ireturn, 1) := dk_172 (dk_at dksX9_reads_5 8 rfl rfl)
abbrev cX9_begins : ByteArray := prog_13_method_63_code
def yX9_begins : MethodName := ⟨RX9, "begins", "()V"⟩
def dkwX9_begins_1 : List UInt8 := [167, 255, 236, 177]
abbrev dktX9_begins_1 : List UInt8 := dkwX9_begins_1 ++ []
def dkwX9_begins_0 : List UInt8 := [3, 60, 27, 8, 162, 0, 21, 42, 180, 0, 76, 27, 42, 180, 0, 73, 27, 46, 79, 132, 1, 1]
abbrev dktX9_begins_0 : List UInt8 := dkwX9_begins_0 ++ dktX9_begins_1
theorem dksX9_begins_0 : cX9_begins.data.toList.drop 0 = dktX9_begins_0 := by decide +kernel
theorem dksX9_begins_1 : cX9_begins.data.toList.drop 22 = dktX9_begins_1 := dk_seg dksX9_begins_0 22 rfl rfl
theorem dX9_begins_0 : decode cX9_begins 0 = .ok (.iconst 0, 1) := dk_3 (dk_at dksX9_begins_0 0 rfl rfl)
theorem dX9_begins_1 : decode cX9_begins 1 = .ok (.istore_n 1, 1) := dk_60 (dk_at dksX9_begins_0 1 rfl rfl)
theorem dX9_begins_2 : decode cX9_begins 2 = .ok (.iload_n 1, 1) := dk_27 (dk_at dksX9_begins_0 2 rfl rfl)
theorem dX9_begins_3 : decode cX9_begins 3 = .ok (.iconst 5, 1) := dk_8 (dk_at dksX9_begins_0 3 rfl rfl)
theorem dX9_begins_4 : decode cX9_begins 4 = .ok (.if_icmp .ge 21, 3) := dk_162 0 21 (dk_at dksX9_begins_0 4 rfl rfl)
theorem dX9_begins_7 : decode cX9_begins 7 = .ok (.aload_n 0, 1) := dk_42 (dk_at dksX9_begins_0 7 rfl rfl)
theorem dX9_begins_8 : decode cX9_begins 8 = .ok (.getfield 76, 3) := dk_180 0 76 (dk_at dksX9_begins_0 8 rfl rfl)
theorem dX9_begins_11 : decode cX9_begins 11 = .ok (.iload_n 1, 1) := dk_27 (dk_at dksX9_begins_0 11 rfl rfl)
theorem dX9_begins_12 : decode cX9_begins 12 = .ok (.aload_n 0, 1) := dk_42 (dk_at dksX9_begins_0 12 rfl rfl)
theorem dX9_begins_13 : decode cX9_begins 13 = .ok (.getfield 73, 3) := dk_180 0 73 (dk_at dksX9_begins_0 13 rfl rfl)
theorem dX9_begins_16 : decode cX9_begins 16 = .ok (.iload_n 1, 1) := dk_27 (dk_at dksX9_begins_0 16 rfl rfl)
theorem dX9_begins_17 : decode cX9_begins 17 = .ok (.iaload, 1) := dk_46 (dk_at dksX9_begins_0 17 rfl rfl)
theorem dX9_begins_18 : decode cX9_begins 18 = .ok (.iastore, 1) := dk_79 (dk_at dksX9_begins_0 18 rfl rfl)
theorem dX9_begins_19 : decode cX9_begins 19 = .ok (.iinc 1 1, 3) := dk_132 1 1 (dk_at dksX9_begins_0 19 rfl rfl)
theorem dX9_begins_22 : decode cX9_begins 22 = .ok (.goto (-20), 3) := dk_167 255 236 (dk_at dksX9_begins_1 0 rfl rfl)
theorem dX9_begins_25 : decode cX9_begins 25 = .ok (.return_, 1) := dk_177 (dk_at dksX9_begins_1 3 rfl rfl)
abbrev cX9_smokesOn : ByteArray := prog_13_method_64_code
def yX9_smokesOn : MethodName := ⟨RX9, "smokesOn", "(I)V"⟩
def dkwX9_smokesOn_1 : List UInt8 := [182, 0, 225, 79, 132, 2, 1, 167, 255, 228, 177]
abbrev dktX9_smokesOn_1 : List UInt8 := dkwX9_smokesOn_1 ++ []
def dkwX9_smokesOn_0 : List UInt8 := [3, 61, 28, 42, 180, 0, 243, 162, 0, 26, 42, 180, 0, 76, 28, 42, 27, 42, 180, 0, 76, 28, 46]
abbrev dktX9_smokesOn_0 : List UInt8 := dkwX9_smokesOn_0 ++ dktX9_smokesOn_1
theorem dksX9_smokesOn_0 : cX9_smokesOn.data.toList.drop 0 = dktX9_smokesOn_0 := by decide +kernel
theorem dksX9_smokesOn_1 : cX9_smokesOn.data.toList.drop 23 = dktX9_smokesOn_1 := dk_seg dksX9_smokesOn_0 23 rfl rfl
theorem dX9_smokesOn_0 : decode cX9_smokesOn 0 = .ok (.iconst 0, 1) := dk_3 (dk_at dksX9_smokesOn_0 0 rfl rfl)
theorem dX9_smokesOn_1 : decode cX9_smokesOn 1 = .ok (.istore_n 2, 1) := dk_61 (dk_at dksX9_smokesOn_0 1 rfl rfl)
theorem dX9_smokesOn_2 : decode cX9_smokesOn 2 = .ok (.iload_n 2, 1) := dk_28 (dk_at dksX9_smokesOn_0 2 rfl rfl)
theorem dX9_smokesOn_3 : decode cX9_smokesOn 3 = .ok (.aload_n 0, 1) := dk_42 (dk_at dksX9_smokesOn_0 3 rfl rfl)
theorem dX9_smokesOn_4 : decode cX9_smokesOn 4 = .ok (.getfield 243, 3) := dk_180 0 243 (dk_at dksX9_smokesOn_0 4 rfl rfl)
theorem dX9_smokesOn_7 : decode cX9_smokesOn 7 = .ok (.if_icmp .ge 26, 3) := dk_162 0 26 (dk_at dksX9_smokesOn_0 7 rfl rfl)
theorem dX9_smokesOn_10 : decode cX9_smokesOn 10 = .ok (.aload_n 0, 1) := dk_42 (dk_at dksX9_smokesOn_0 10 rfl rfl)
theorem dX9_smokesOn_11 : decode cX9_smokesOn 11 = .ok (.getfield 76, 3) := dk_180 0 76 (dk_at dksX9_smokesOn_0 11 rfl rfl)
theorem dX9_smokesOn_14 : decode cX9_smokesOn 14 = .ok (.iload_n 2, 1) := dk_28 (dk_at dksX9_smokesOn_0 14 rfl rfl)
theorem dX9_smokesOn_15 : decode cX9_smokesOn 15 = .ok (.aload_n 0, 1) := dk_42 (dk_at dksX9_smokesOn_0 15 rfl rfl)
theorem dX9_smokesOn_16 : decode cX9_smokesOn 16 = .ok (.iload_n 1, 1) := dk_27 (dk_at dksX9_smokesOn_0 16 rfl rfl)
theorem dX9_smokesOn_17 : decode cX9_smokesOn 17 = .ok (.aload_n 0, 1) := dk_42 (dk_at dksX9_smokesOn_0 17 rfl rfl)
theorem dX9_smokesOn_18 : decode cX9_smokesOn 18 = .ok (.getfield 76, 3) := dk_180 0 76 (dk_at dksX9_smokesOn_0 18 rfl rfl)
theorem dX9_smokesOn_21 : decode cX9_smokesOn 21 = .ok (.iload_n 2, 1) := dk_28 (dk_at dksX9_smokesOn_0 21 rfl rfl)
theorem dX9_smokesOn_22 : decode cX9_smokesOn 22 = .ok (.iaload, 1) := dk_46 (dk_at dksX9_smokesOn_0 22 rfl rfl)
theorem dX9_smokesOn_23 : decode cX9_smokesOn 23 = .ok (.invokevirtual 225, 3) := dk_182 0 225 (dk_at dksX9_smokesOn_1 0 rfl rfl)
theorem dX9_smokesOn_26 : decode cX9_smokesOn 26 = .ok (.iastore, 1) := dk_79 (dk_at dksX9_smokesOn_1 3 rfl rfl)
theorem dX9_smokesOn_27 : decode cX9_smokesOn 27 = .ok (.iinc 2 1, 3) := dk_132 2 1 (dk_at dksX9_smokesOn_1 4 rfl rfl)
theorem dX9_smokesOn_30 : decode cX9_smokesOn 30 = .ok (.goto (-28), 3) := dk_167 255 228 (dk_at dksX9_smokesOn_1 7 rfl rfl)
theorem dX9_smokesOn_33 : decode cX9_smokesOn 33 = .ok (.return_, 1) := dk_177 (dk_at dksX9_smokesOn_1 10 rfl rfl)
abbrev cX9_isLetter : ByteArray := prog_13_method_62_code
def yX9_isLetter : MethodName := ⟨RX9, "isLetter", "([I)Z"⟩
def dkwX9_isLetter_2 : List UInt8 := [160, 0, 7, 4, 167, 0, 4, 3, 61, 132, 3, 1, 167, 255, 220, 28, 172]
abbrev dktX9_isLetter_2 : List UInt8 := dkwX9_isLetter_2 ++ []
def dkwX9_isLetter_1 : List UInt8 := [180, 0, 243, 162, 0, 34, 28, 153, 0, 22, 43, 29, 46, 42, 180, 0, 26, 16, 21, 29, 96, 46]
abbrev dktX9_isLetter_1 : List UInt8 := dkwX9_isLetter_1 ++ dktX9_isLetter_2
def dkwX9_isLetter_0 : List UInt8 := [42, 180, 0, 243, 42, 180, 0, 26, 16, 20, 46, 160, 0, 7, 4, 167, 0, 4, 3, 61, 3, 62, 29, 42]
abbrev dktX9_isLetter_0 : List UInt8 := dkwX9_isLetter_0 ++ dktX9_isLetter_1
theorem dksX9_isLetter_0 : cX9_isLetter.data.toList.drop 0 = dktX9_isLetter_0 := by decide +kernel
theorem dksX9_isLetter_1 : cX9_isLetter.data.toList.drop 24 = dktX9_isLetter_1 := dk_seg dksX9_isLetter_0 24 rfl rfl
theorem dksX9_isLetter_2 : cX9_isLetter.data.toList.drop 46 = dktX9_isLetter_2 := dk_seg dksX9_isLetter_1 22 rfl rfl
theorem dX9_isLetter_0 : decode cX9_isLetter 0 = .ok (.aload_n 0, 1) := dk_42 (dk_at dksX9_isLetter_0 0 rfl rfl)
theorem dX9_isLetter_1 : decode cX9_isLetter 1 = .ok (.getfield 243, 3) := dk_180 0 243 (dk_at dksX9_isLetter_0 1 rfl rfl)
theorem dX9_isLetter_4 : decode cX9_isLetter 4 = .ok (.aload_n 0, 1) := dk_42 (dk_at dksX9_isLetter_0 4 rfl rfl)
theorem dX9_isLetter_5 : decode cX9_isLetter 5 = .ok (.getfield 26, 3) := dk_180 0 26 (dk_at dksX9_isLetter_0 5 rfl rfl)
theorem dX9_isLetter_8 : decode cX9_isLetter 8 = .ok (.bipush 20, 2) := dk_16 20 (dk_at dksX9_isLetter_0 8 rfl rfl)
theorem dX9_isLetter_10 : decode cX9_isLetter 10 = .ok (.iaload, 1) := dk_46 (dk_at dksX9_isLetter_0 10 rfl rfl)
theorem dX9_isLetter_11 : decode cX9_isLetter 11 = .ok (.if_icmp .ne 7, 3) := dk_160 0 7 (dk_at dksX9_isLetter_0 11 rfl rfl)
theorem dX9_isLetter_14 : decode cX9_isLetter 14 = .ok (.iconst 1, 1) := dk_4 (dk_at dksX9_isLetter_0 14 rfl rfl)
theorem dX9_isLetter_15 : decode cX9_isLetter 15 = .ok (.goto 4, 3) := dk_167 0 4 (dk_at dksX9_isLetter_0 15 rfl rfl)
theorem dX9_isLetter_18 : decode cX9_isLetter 18 = .ok (.iconst 0, 1) := dk_3 (dk_at dksX9_isLetter_0 18 rfl rfl)
theorem dX9_isLetter_19 : decode cX9_isLetter 19 = .ok (.istore_n 2, 1) := dk_61 (dk_at dksX9_isLetter_0 19 rfl rfl)
theorem dX9_isLetter_20 : decode cX9_isLetter 20 = .ok (.iconst 0, 1) := dk_3 (dk_at dksX9_isLetter_0 20 rfl rfl)
theorem dX9_isLetter_21 : decode cX9_isLetter 21 = .ok (.istore_n 3, 1) := dk_62 (dk_at dksX9_isLetter_0 21 rfl rfl)
theorem dX9_isLetter_22 : decode cX9_isLetter 22 = .ok (.iload_n 3, 1) := dk_29 (dk_at dksX9_isLetter_0 22 rfl rfl)
theorem dX9_isLetter_23 : decode cX9_isLetter 23 = .ok (.aload_n 0, 1) := dk_42 (dk_at dksX9_isLetter_0 23 rfl rfl)
theorem dX9_isLetter_24 : decode cX9_isLetter 24 = .ok (.getfield 243, 3) := dk_180 0 243 (dk_at dksX9_isLetter_1 0 rfl rfl)
theorem dX9_isLetter_27 : decode cX9_isLetter 27 = .ok (.if_icmp .ge 34, 3) := dk_162 0 34 (dk_at dksX9_isLetter_1 3 rfl rfl)
theorem dX9_isLetter_30 : decode cX9_isLetter 30 = .ok (.iload_n 2, 1) := dk_28 (dk_at dksX9_isLetter_1 6 rfl rfl)
theorem dX9_isLetter_31 : decode cX9_isLetter 31 = .ok (.ifCond .eq 22, 3) := dk_153 0 22 (dk_at dksX9_isLetter_1 7 rfl rfl)
theorem dX9_isLetter_34 : decode cX9_isLetter 34 = .ok (.aload_n 1, 1) := dk_43 (dk_at dksX9_isLetter_1 10 rfl rfl)
theorem dX9_isLetter_35 : decode cX9_isLetter 35 = .ok (.iload_n 3, 1) := dk_29 (dk_at dksX9_isLetter_1 11 rfl rfl)
theorem dX9_isLetter_36 : decode cX9_isLetter 36 = .ok (.iaload, 1) := dk_46 (dk_at dksX9_isLetter_1 12 rfl rfl)
theorem dX9_isLetter_37 : decode cX9_isLetter 37 = .ok (.aload_n 0, 1) := dk_42 (dk_at dksX9_isLetter_1 13 rfl rfl)
theorem dX9_isLetter_38 : decode cX9_isLetter 38 = .ok (.getfield 26, 3) := dk_180 0 26 (dk_at dksX9_isLetter_1 14 rfl rfl)
theorem dX9_isLetter_41 : decode cX9_isLetter 41 = .ok (.bipush 21, 2) := dk_16 21 (dk_at dksX9_isLetter_1 17 rfl rfl)
theorem dX9_isLetter_43 : decode cX9_isLetter 43 = .ok (.iload_n 3, 1) := dk_29 (dk_at dksX9_isLetter_1 19 rfl rfl)
theorem dX9_isLetter_44 : decode cX9_isLetter 44 = .ok (.iadd, 1) := dk_96 (dk_at dksX9_isLetter_1 20 rfl rfl)
theorem dX9_isLetter_45 : decode cX9_isLetter 45 = .ok (.iaload, 1) := dk_46 (dk_at dksX9_isLetter_1 21 rfl rfl)
theorem dX9_isLetter_46 : decode cX9_isLetter 46 = .ok (.if_icmp .ne 7, 3) := dk_160 0 7 (dk_at dksX9_isLetter_2 0 rfl rfl)
theorem dX9_isLetter_49 : decode cX9_isLetter 49 = .ok (.iconst 1, 1) := dk_4 (dk_at dksX9_isLetter_2 3 rfl rfl)
theorem dX9_isLetter_50 : decode cX9_isLetter 50 = .ok (.goto 4, 3) := dk_167 0 4 (dk_at dksX9_isLetter_2 4 rfl rfl)
theorem dX9_isLetter_53 : decode cX9_isLetter 53 = .ok (.iconst 0, 1) := dk_3 (dk_at dksX9_isLetter_2 7 rfl rfl)
theorem dX9_isLetter_54 : decode cX9_isLetter 54 = .ok (.istore_n 2, 1) := dk_61 (dk_at dksX9_isLetter_2 8 rfl rfl)
theorem dX9_isLetter_55 : decode cX9_isLetter 55 = .ok (.iinc 3 1, 3) := dk_132 3 1 (dk_at dksX9_isLetter_2 9 rfl rfl)
theorem dX9_isLetter_58 : decode cX9_isLetter 58 = .ok (.goto (-36), 3) := dk_167 255 220 (dk_at dksX9_isLetter_2 12 rfl rfl)
theorem dX9_isLetter_61 : decode cX9_isLetter 61 = .ok (.iload_n 2, 1) := dk_28 (dk_at dksX9_isLetter_2 15 rfl rfl)
theorem dX9_isLetter_62 : decode cX9_isLetter 62 = .ok (.ireturn, 1) := dk_172 (dk_at dksX9_isLetter_2 16 rfl rfl)
abbrev cX9_chain : ByteArray := prog_13_method_67_code
def yX9_chain : MethodName := ⟨RX9, "chain", "(II)I"⟩
def dkwX9_chain_3 : List UInt8 := [46, 167, 0, 5, 16, 251, 172, 132, 4, 1, 167, 255, 204, 132, 3, 1, 167, 255, 187, 16, 247, 172]
abbrev dktX9_chain_3 : List UInt8 := dkwX9_chain_3 ++ []
def dkwX9_chain_2 : List UInt8 := [182, 1, 4, 153, 0, 28, 28, 156, 0, 7, 29, 167, 0, 19, 28, 29, 162, 0, 12, 42, 180, 0, 79, 28]
abbrev dktX9_chain_2 : List UInt8 := dkwX9_chain_2 ++ dktX9_chain_3
def dkwX9_chain_1 : List UInt8 := [163, 0, 67, 3, 54, 4, 21, 4, 42, 42, 180, 0, 89, 29, 182, 0, 195, 162, 0, 44, 42, 29, 21, 4]
abbrev dktX9_chain_1 : List UInt8 := dkwX9_chain_1 ++ dktX9_chain_2
def dkwX9_chain_0 : List UInt8 := [28, 2, 161, 0, 11, 42, 27, 182, 0, 247, 154, 0, 5, 2, 172, 3, 62, 29, 42, 180, 0, 89]
abbrev dktX9_chain_0 : List UInt8 := dkwX9_chain_0 ++ dktX9_chain_1
theorem dksX9_chain_0 : cX9_chain.data.toList.drop 0 = dktX9_chain_0 := by decide +kernel
theorem dksX9_chain_1 : cX9_chain.data.toList.drop 22 = dktX9_chain_1 := dk_seg dksX9_chain_0 22 rfl rfl
theorem dksX9_chain_2 : cX9_chain.data.toList.drop 46 = dktX9_chain_2 := dk_seg dksX9_chain_1 24 rfl rfl
theorem dksX9_chain_3 : cX9_chain.data.toList.drop 70 = dktX9_chain_3 := dk_seg dksX9_chain_2 24 rfl rfl
theorem dX9_chain_0 : decode cX9_chain 0 = .ok (.iload_n 2, 1) := dk_28 (dk_at dksX9_chain_0 0 rfl rfl)
theorem dX9_chain_1 : decode cX9_chain 1 = .ok (.iconst (-1), 1) := dk_2 (dk_at dksX9_chain_0 1 rfl rfl)
theorem dX9_chain_2 : decode cX9_chain 2 = .ok (.if_icmp .lt 11, 3) := dk_161 0 11 (dk_at dksX9_chain_0 2 rfl rfl)
theorem dX9_chain_5 : decode cX9_chain 5 = .ok (.aload_n 0, 1) := dk_42 (dk_at dksX9_chain_0 5 rfl rfl)
theorem dX9_chain_6 : decode cX9_chain 6 = .ok (.iload_n 1, 1) := dk_27 (dk_at dksX9_chain_0 6 rfl rfl)
theorem dX9_chain_7 : decode cX9_chain 7 = .ok (.invokevirtual 247, 3) := dk_182 0 247 (dk_at dksX9_chain_0 7 rfl rfl)
theorem dX9_chain_10 : decode cX9_chain 10 = .ok (.ifCond .ne 5, 3) := dk_154 0 5 (dk_at dksX9_chain_0 10 rfl rfl)
theorem dX9_chain_13 : decode cX9_chain 13 = .ok (.iconst (-1), 1) := dk_2 (dk_at dksX9_chain_0 13 rfl rfl)
theorem dX9_chain_14 : decode cX9_chain 14 = .ok (.ireturn, 1) := dk_172 (dk_at dksX9_chain_0 14 rfl rfl)
theorem dX9_chain_15 : decode cX9_chain 15 = .ok (.iconst 0, 1) := dk_3 (dk_at dksX9_chain_0 15 rfl rfl)
theorem dX9_chain_16 : decode cX9_chain 16 = .ok (.istore_n 3, 1) := dk_62 (dk_at dksX9_chain_0 16 rfl rfl)
theorem dX9_chain_17 : decode cX9_chain 17 = .ok (.iload_n 3, 1) := dk_29 (dk_at dksX9_chain_0 17 rfl rfl)
theorem dX9_chain_18 : decode cX9_chain 18 = .ok (.aload_n 0, 1) := dk_42 (dk_at dksX9_chain_0 18 rfl rfl)
theorem dX9_chain_19 : decode cX9_chain 19 = .ok (.getfield 89, 3) := dk_180 0 89 (dk_at dksX9_chain_0 19 rfl rfl)
theorem dX9_chain_22 : decode cX9_chain 22 = .ok (.if_icmp .gt 67, 3) := dk_163 0 67 (dk_at dksX9_chain_1 0 rfl rfl)
theorem dX9_chain_25 : decode cX9_chain 25 = .ok (.iconst 0, 1) := dk_3 (dk_at dksX9_chain_1 3 rfl rfl)
theorem dX9_chain_26 : decode cX9_chain 26 = .ok (.istore 4, 2) := dk_54 4 (dk_at dksX9_chain_1 4 rfl rfl)
theorem dX9_chain_28 : decode cX9_chain 28 = .ok (.iload 4, 2) := dk_21 4 (dk_at dksX9_chain_1 6 rfl rfl)
theorem dX9_chain_30 : decode cX9_chain 30 = .ok (.aload_n 0, 1) := dk_42 (dk_at dksX9_chain_1 8 rfl rfl)
theorem dX9_chain_31 : decode cX9_chain 31 = .ok (.aload_n 0, 1) := dk_42 (dk_at dksX9_chain_1 9 rfl rfl)
theorem dX9_chain_32 : decode cX9_chain 32 = .ok (.getfield 89, 3) := dk_180 0 89 (dk_at dksX9_chain_1 10 rfl rfl)
theorem dX9_chain_35 : decode cX9_chain 35 = .ok (.iload_n 3, 1) := dk_29 (dk_at dksX9_chain_1 13 rfl rfl)
theorem dX9_chain_36 : decode cX9_chain 36 = .ok (.invokevirtual 195, 3) := dk_182 0 195 (dk_at dksX9_chain_1 14 rfl rfl)
theorem dX9_chain_39 : decode cX9_chain 39 = .ok (.if_icmp .ge 44, 3) := dk_162 0 44 (dk_at dksX9_chain_1 17 rfl rfl)
theorem dX9_chain_42 : decode cX9_chain 42 = .ok (.aload_n 0, 1) := dk_42 (dk_at dksX9_chain_1 20 rfl rfl)
theorem dX9_chain_43 : decode cX9_chain 43 = .ok (.iload_n 3, 1) := dk_29 (dk_at dksX9_chain_1 21 rfl rfl)
theorem dX9_chain_44 : decode cX9_chain 44 = .ok (.iload 4, 2) := dk_21 4 (dk_at dksX9_chain_1 22 rfl rfl)
theorem dX9_chain_46 : decode cX9_chain 46 = .ok (.invokevirtual 260, 3) := dk_182 1 4 (dk_at dksX9_chain_2 0 rfl rfl)
theorem dX9_chain_49 : decode cX9_chain 49 = .ok (.ifCond .eq 28, 3) := dk_153 0 28 (dk_at dksX9_chain_2 3 rfl rfl)
theorem dX9_chain_52 : decode cX9_chain 52 = .ok (.iload_n 2, 1) := dk_28 (dk_at dksX9_chain_2 6 rfl rfl)
theorem dX9_chain_53 : decode cX9_chain 53 = .ok (.ifCond .ge 7, 3) := dk_156 0 7 (dk_at dksX9_chain_2 7 rfl rfl)
theorem dX9_chain_56 : decode cX9_chain 56 = .ok (.iload_n 3, 1) := dk_29 (dk_at dksX9_chain_2 10 rfl rfl)
theorem dX9_chain_57 : decode cX9_chain 57 = .ok (.goto 19, 3) := dk_167 0 19 (dk_at dksX9_chain_2 11 rfl rfl)
theorem dX9_chain_60 : decode cX9_chain 60 = .ok (.iload_n 2, 1) := dk_28 (dk_at dksX9_chain_2 14 rfl rfl)
theorem dX9_chain_61 : decode cX9_chain 61 = .ok (.iload_n 3, 1) := dk_29 (dk_at dksX9_chain_2 15 rfl rfl)
theorem dX9_chain_62 : decode cX9_chain 62 = .ok (.if_icmp .ge 12, 3) := dk_162 0 12 (dk_at dksX9_chain_2 16 rfl rfl)
theorem dX9_chain_65 : decode cX9_chain 65 = .ok (.aload_n 0, 1) := dk_42 (dk_at dksX9_chain_2 19 rfl rfl)
theorem dX9_chain_66 : decode cX9_chain 66 = .ok (.getfield 79, 3) := dk_180 0 79 (dk_at dksX9_chain_2 20 rfl rfl)
theorem dX9_chain_69 : decode cX9_chain 69 = .ok (.iload_n 2, 1) := dk_28 (dk_at dksX9_chain_2 23 rfl rfl)
theorem dX9_chain_70 : decode cX9_chain 70 = .ok (.iaload, 1) := dk_46 (dk_at dksX9_chain_3 0 rfl rfl)
theorem dX9_chain_71 : decode cX9_chain 71 = .ok (.goto 5, 3) := dk_167 0 5 (dk_at dksX9_chain_3 1 rfl rfl)
theorem dX9_chain_74 : decode cX9_chain 74 = .ok (.bipush (-5), 2) := dk_16 251 (dk_at dksX9_chain_3 4 rfl rfl)
theorem dX9_chain_76 : decode cX9_chain 76 = .ok (.ireturn, 1) := dk_172 (dk_at dksX9_chain_3 6 rfl rfl)
theorem dX9_chain_77 : decode cX9_chain 77 = .ok (.iinc 4 1, 3) := dk_132 4 1 (dk_at dksX9_chain_3 7 rfl rfl)
theorem dX9_chain_80 : decode cX9_chain 80 = .ok (.goto (-52), 3) := dk_167 255 204 (dk_at dksX9_chain_3 10 rfl rfl)
theorem dX9_chain_83 : decode cX9_chain 83 = .ok (.iinc 3 1, 3) := dk_132 3 1 (dk_at dksX9_chain_3 13 rfl rfl)
theorem dX9_chain_86 : decode cX9_chain 86 = .ok (.goto (-69), 3) := dk_167 255 187 (dk_at dksX9_chain_3 16 rfl rfl)
theorem dX9_chain_89 : decode cX9_chain 89 = .ok (.bipush (-9), 2) := dk_16 247 (dk_at dksX9_chain_3 19 rfl rfl)
theorem dX9_chain_91 : decode cX9_chain 91 = .ok (.ireturn, 1) := dk_172 (dk_at dksX9_chain_3 21 rfl rfl)
abbrev cX9_makes : ByteArray := prog_13_method_66_code
def yX9_makes : MethodName := ⟨RX9, "makes", "(II)Z"⟩
def dkwX9_makes_4 : List UInt8 := [42, 42, 180, 0, 76, 182, 1, 0, 153, 0, 7, 4, 167, 0, 4, 3, 172]
abbrev dktX9_makes_4 : List UInt8 := dkwX9_makes_4 ++ []
def dkwX9_makes_3 : List UInt8 := [180, 0, 79, 21, 5, 46, 182, 0, 253, 132, 5, 1, 167, 255, 236, 21, 4, 184, 0, 188, 27, 160, 0, 18]
abbrev dktX9_makes_3 : List UInt8 := dkwX9_makes_3 ++ dktX9_makes_4
def dkwX9_makes_2 : List UInt8 := [108, 62, 132, 5, 255, 167, 255, 214, 42, 182, 0, 250, 3, 54, 5, 21, 5, 27, 162, 0, 20, 42, 42]
abbrev dktX9_makes_2 : List UInt8 := dkwX9_makes_2 ++ dktX9_makes_3
def dkwX9_makes_1 : List UInt8 := [180, 0, 89, 112, 79, 21, 4, 4, 42, 180, 0, 79, 21, 5, 46, 120, 128, 54, 4, 29, 42, 180, 0, 89]
abbrev dktX9_makes_1 : List UInt8 := dkwX9_makes_1 ++ dktX9_makes_2
def dkwX9_makes_0 : List UInt8 := [28, 62, 3, 54, 4, 27, 4, 100, 54, 5, 21, 5, 155, 0, 43, 42, 180, 0, 79, 21, 5, 29, 42]
abbrev dktX9_makes_0 : List UInt8 := dkwX9_makes_0 ++ dktX9_makes_1
theorem dksX9_makes_0 : cX9_makes.data.toList.drop 0 = dktX9_makes_0 := by decide +kernel
theorem dksX9_makes_1 : cX9_makes.data.toList.drop 23 = dktX9_makes_1 := dk_seg dksX9_makes_0 23 rfl rfl
theorem dksX9_makes_2 : cX9_makes.data.toList.drop 47 = dktX9_makes_2 := dk_seg dksX9_makes_1 24 rfl rfl
theorem dksX9_makes_3 : cX9_makes.data.toList.drop 70 = dktX9_makes_3 := dk_seg dksX9_makes_2 23 rfl rfl
theorem dksX9_makes_4 : cX9_makes.data.toList.drop 94 = dktX9_makes_4 := dk_seg dksX9_makes_3 24 rfl rfl
theorem dX9_makes_0 : decode cX9_makes 0 = .ok (.iload_n 2, 1) := dk_28 (dk_at dksX9_makes_0 0 rfl rfl)
theorem dX9_makes_1 : decode cX9_makes 1 = .ok (.istore_n 3, 1) := dk_62 (dk_at dksX9_makes_0 1 rfl rfl)
theorem dX9_makes_2 : decode cX9_makes 2 = .ok (.iconst 0, 1) := dk_3 (dk_at dksX9_makes_0 2 rfl rfl)
theorem dX9_makes_3 : decode cX9_makes 3 = .ok (.istore 4, 2) := dk_54 4 (dk_at dksX9_makes_0 3 rfl rfl)
theorem dX9_makes_5 : decode cX9_makes 5 = .ok (.iload_n 1, 1) := dk_27 (dk_at dksX9_makes_0 5 rfl rfl)
theorem dX9_makes_6 : decode cX9_makes 6 = .ok (.iconst 1, 1) := dk_4 (dk_at dksX9_makes_0 6 rfl rfl)
theorem dX9_makes_7 : decode cX9_makes 7 = .ok (.isub, 1) := dk_100 (dk_at dksX9_makes_0 7 rfl rfl)
theorem dX9_makes_8 : decode cX9_makes 8 = .ok (.istore 5, 2) := dk_54 5 (dk_at dksX9_makes_0 8 rfl rfl)
theorem dX9_makes_10 : decode cX9_makes 10 = .ok (.iload 5, 2) := dk_21 5 (dk_at dksX9_makes_0 10 rfl rfl)
theorem dX9_makes_12 : decode cX9_makes 12 = .ok (.ifCond .lt 43, 3) := dk_155 0 43 (dk_at dksX9_makes_0 12 rfl rfl)
theorem dX9_makes_15 : decode cX9_makes 15 = .ok (.aload_n 0, 1) := dk_42 (dk_at dksX9_makes_0 15 rfl rfl)
theorem dX9_makes_16 : decode cX9_makes 16 = .ok (.getfield 79, 3) := dk_180 0 79 (dk_at dksX9_makes_0 16 rfl rfl)
theorem dX9_makes_19 : decode cX9_makes 19 = .ok (.iload 5, 2) := dk_21 5 (dk_at dksX9_makes_0 19 rfl rfl)
theorem dX9_makes_21 : decode cX9_makes 21 = .ok (.iload_n 3, 1) := dk_29 (dk_at dksX9_makes_0 21 rfl rfl)
theorem dX9_makes_22 : decode cX9_makes 22 = .ok (.aload_n 0, 1) := dk_42 (dk_at dksX9_makes_0 22 rfl rfl)
theorem dX9_makes_23 : decode cX9_makes 23 = .ok (.getfield 89, 3) := dk_180 0 89 (dk_at dksX9_makes_1 0 rfl rfl)
theorem dX9_makes_26 : decode cX9_makes 26 = .ok (.irem, 1) := dk_112 (dk_at dksX9_makes_1 3 rfl rfl)
theorem dX9_makes_27 : decode cX9_makes 27 = .ok (.iastore, 1) := dk_79 (dk_at dksX9_makes_1 4 rfl rfl)
theorem dX9_makes_28 : decode cX9_makes 28 = .ok (.iload 4, 2) := dk_21 4 (dk_at dksX9_makes_1 5 rfl rfl)
theorem dX9_makes_30 : decode cX9_makes 30 = .ok (.iconst 1, 1) := dk_4 (dk_at dksX9_makes_1 7 rfl rfl)
theorem dX9_makes_31 : decode cX9_makes 31 = .ok (.aload_n 0, 1) := dk_42 (dk_at dksX9_makes_1 8 rfl rfl)
theorem dX9_makes_32 : decode cX9_makes 32 = .ok (.getfield 79, 3) := dk_180 0 79 (dk_at dksX9_makes_1 9 rfl rfl)
theorem dX9_makes_35 : decode cX9_makes 35 = .ok (.iload 5, 2) := dk_21 5 (dk_at dksX9_makes_1 12 rfl rfl)
theorem dX9_makes_37 : decode cX9_makes 37 = .ok (.iaload, 1) := dk_46 (dk_at dksX9_makes_1 14 rfl rfl)
theorem dX9_makes_38 : decode cX9_makes 38 = .ok (.ishl, 1) := dk_120 (dk_at dksX9_makes_1 15 rfl rfl)
theorem dX9_makes_39 : decode cX9_makes 39 = .ok (.ior, 1) := dk_128 (dk_at dksX9_makes_1 16 rfl rfl)
theorem dX9_makes_40 : decode cX9_makes 40 = .ok (.istore 4, 2) := dk_54 4 (dk_at dksX9_makes_1 17 rfl rfl)
theorem dX9_makes_42 : decode cX9_makes 42 = .ok (.iload_n 3, 1) := dk_29 (dk_at dksX9_makes_1 19 rfl rfl)
theorem dX9_makes_43 : decode cX9_makes 43 = .ok (.aload_n 0, 1) := dk_42 (dk_at dksX9_makes_1 20 rfl rfl)
theorem dX9_makes_44 : decode cX9_makes 44 = .ok (.getfield 89, 3) := dk_180 0 89 (dk_at dksX9_makes_1 21 rfl rfl)
theorem dX9_makes_47 : decode cX9_makes 47 = .ok (.idiv, 1) := dk_108 (dk_at dksX9_makes_2 0 rfl rfl)
theorem dX9_makes_48 : decode cX9_makes 48 = .ok (.istore_n 3, 1) := dk_62 (dk_at dksX9_makes_2 1 rfl rfl)
theorem dX9_makes_49 : decode cX9_makes 49 = .ok (.iinc 5 (-1), 3) := dk_132 5 255 (dk_at dksX9_makes_2 2 rfl rfl)
theorem dX9_makes_52 : decode cX9_makes 52 = .ok (.goto (-42), 3) := dk_167 255 214 (dk_at dksX9_makes_2 5 rfl rfl)
theorem dX9_makes_55 : decode cX9_makes 55 = .ok (.aload_n 0, 1) := dk_42 (dk_at dksX9_makes_2 8 rfl rfl)
theorem dX9_makes_56 : decode cX9_makes 56 = .ok (.invokevirtual 250, 3) := dk_182 0 250 (dk_at dksX9_makes_2 9 rfl rfl)
theorem dX9_makes_59 : decode cX9_makes 59 = .ok (.iconst 0, 1) := dk_3 (dk_at dksX9_makes_2 12 rfl rfl)
theorem dX9_makes_60 : decode cX9_makes 60 = .ok (.istore 5, 2) := dk_54 5 (dk_at dksX9_makes_2 13 rfl rfl)
theorem dX9_makes_62 : decode cX9_makes 62 = .ok (.iload 5, 2) := dk_21 5 (dk_at dksX9_makes_2 15 rfl rfl)
theorem dX9_makes_64 : decode cX9_makes 64 = .ok (.iload_n 1, 1) := dk_27 (dk_at dksX9_makes_2 17 rfl rfl)
theorem dX9_makes_65 : decode cX9_makes 65 = .ok (.if_icmp .ge 20, 3) := dk_162 0 20 (dk_at dksX9_makes_2 18 rfl rfl)
theorem dX9_makes_68 : decode cX9_makes 68 = .ok (.aload_n 0, 1) := dk_42 (dk_at dksX9_makes_2 21 rfl rfl)
theorem dX9_makes_69 : decode cX9_makes 69 = .ok (.aload_n 0, 1) := dk_42 (dk_at dksX9_makes_2 22 rfl rfl)
theorem dX9_makes_70 : decode cX9_makes 70 = .ok (.getfield 79, 3) := dk_180 0 79 (dk_at dksX9_makes_3 0 rfl rfl)
theorem dX9_makes_73 : decode cX9_makes 73 = .ok (.iload 5, 2) := dk_21 5 (dk_at dksX9_makes_3 3 rfl rfl)
theorem dX9_makes_75 : decode cX9_makes 75 = .ok (.iaload, 1) := dk_46 (dk_at dksX9_makes_3 5 rfl rfl)
theorem dX9_makes_76 : decode cX9_makes 76 = .ok (.invokevirtual 253, 3) := dk_182 0 253 (dk_at dksX9_makes_3 6 rfl rfl)
theorem dX9_makes_79 : decode cX9_makes 79 = .ok (.iinc 5 1, 3) := dk_132 5 1 (dk_at dksX9_makes_3 9 rfl rfl)
theorem dX9_makes_82 : decode cX9_makes 82 = .ok (.goto (-20), 3) := dk_167 255 236 (dk_at dksX9_makes_3 12 rfl rfl)
theorem dX9_makes_85 : decode cX9_makes 85 = .ok (.iload 4, 2) := dk_21 4 (dk_at dksX9_makes_3 15 rfl rfl)
theorem dX9_makes_87 : decode cX9_makes 87 = .ok (.invokestatic 188, 3) := dk_184 0 188 (dk_at dksX9_makes_3 17 rfl rfl)
theorem dX9_makes_90 : decode cX9_makes 90 = .ok (.iload_n 1, 1) := dk_27 (dk_at dksX9_makes_3 20 rfl rfl)
theorem dX9_makes_91 : decode cX9_makes 91 = .ok (.if_icmp .ne 18, 3) := dk_160 0 18 (dk_at dksX9_makes_3 21 rfl rfl)
theorem dX9_makes_94 : decode cX9_makes 94 = .ok (.aload_n 0, 1) := dk_42 (dk_at dksX9_makes_4 0 rfl rfl)
theorem dX9_makes_95 : decode cX9_makes 95 = .ok (.aload_n 0, 1) := dk_42 (dk_at dksX9_makes_4 1 rfl rfl)
theorem dX9_makes_96 : decode cX9_makes 96 = .ok (.getfield 76, 3) := dk_180 0 76 (dk_at dksX9_makes_4 2 rfl rfl)
theorem dX9_makes_99 : decode cX9_makes 99 = .ok (.invokevirtual 256, 3) := dk_182 1 0 (dk_at dksX9_makes_4 5 rfl rfl)
theorem dX9_makes_102 : decode cX9_makes 102 = .ok (.ifCond .eq 7, 3) := dk_153 0 7 (dk_at dksX9_makes_4 8 rfl rfl)
theorem dX9_makes_105 : decode cX9_makes 105 = .ok (.iconst 1, 1) := dk_4 (dk_at dksX9_makes_4 11 rfl rfl)
theorem dX9_makes_106 : decode cX9_makes 106 = .ok (.goto 4, 3) := dk_167 0 4 (dk_at dksX9_makes_4 12 rfl rfl)
theorem dX9_makes_109 : decode cX9_makes 109 = .ok (.iconst 0, 1) := dk_3 (dk_at dksX9_makes_4 15 rfl rfl)
theorem dX9_makes_110 : decode cX9_makes 110 = .ok (.ireturn, 1) := dk_172 (dk_at dksX9_makes_4 16 rfl rfl)
abbrev cX9_rate : ByteArray := prog_13_method_71_code
def yX9_rate : MethodName := ⟨RX9, "rate", "(II)I"⟩
def dkwX9_rate_5 : List UInt8 := [28, 182, 1, 11, 42, 182, 0, 172, 184, 0, 188, 96, 172]
abbrev dktX9_rate_5 : List UInt8 := dkwX9_rate_5 ++ []
def dkwX9_rate_4 : List UInt8 := [181, 1, 7, 42, 28, 182, 1, 20, 28, 96, 172, 42, 89, 180, 1, 7, 20, 1, 27, 97, 181, 1, 7, 42]
abbrev dktX9_rate_4 : List UInt8 := dkwX9_rate_4 ++ dktX9_rate_5
def dkwX9_rate_3 : List UInt8 := [20, 1, 23, 97, 181, 1, 7, 5, 42, 28, 182, 1, 17, 104, 172, 42, 89, 180, 1, 7, 20, 1, 25, 97]
abbrev dktX9_rate_3 : List UInt8 := dkwX9_rate_3 ++ dktX9_rate_4
def dkwX9_rate_2 : List UInt8 := [42, 28, 182, 1, 11, 172, 42, 28, 182, 1, 17, 172, 42, 28, 182, 1, 20, 172, 42, 89, 180, 1, 7]
abbrev dktX9_rate_2 : List UInt8 := dkwX9_rate_2 ++ dktX9_rate_3
def dkwX9_rate_1 : List UInt8 := [170, 0, 0, 0, 0, 92, 0, 0, 0, 0, 0, 0, 0, 4, 0, 0, 0, 34, 0, 0, 0, 40, 0, 0, 0, 46, 0, 0, 0, 52, 0, 0, 0, 72]
abbrev dktX9_rate_1 : List UInt8 := dkwX9_rate_1 ++ dktX9_rate_2
def dkwX9_rate_0 : List UInt8 := [27, 3, 8, 184, 0, 85, 153, 0, 11, 42, 28, 182, 0, 162, 154, 0, 7, 19, 1, 16, 172, 27]
abbrev dktX9_rate_0 : List UInt8 := dkwX9_rate_0 ++ dktX9_rate_1
theorem dksX9_rate_0 : cX9_rate.data.toList.drop 0 = dktX9_rate_0 := by decide +kernel
theorem dksX9_rate_1 : cX9_rate.data.toList.drop 22 = dktX9_rate_1 := dk_seg dksX9_rate_0 22 rfl rfl
theorem dksX9_rate_2 : cX9_rate.data.toList.drop 56 = dktX9_rate_2 := dk_seg dksX9_rate_1 34 rfl rfl
theorem dksX9_rate_3 : cX9_rate.data.toList.drop 79 = dktX9_rate_3 := dk_seg dksX9_rate_2 23 rfl rfl
theorem dksX9_rate_4 : cX9_rate.data.toList.drop 103 = dktX9_rate_4 := dk_seg dksX9_rate_3 24 rfl rfl
theorem dksX9_rate_5 : cX9_rate.data.toList.drop 127 = dktX9_rate_5 := dk_seg dksX9_rate_4 24 rfl rfl
theorem dX9_rate_0 : decode cX9_rate 0 = .ok (.iload_n 1, 1) := dk_27 (dk_at dksX9_rate_0 0 rfl rfl)
theorem dX9_rate_1 : decode cX9_rate 1 = .ok (.iconst 0, 1) := dk_3 (dk_at dksX9_rate_0 1 rfl rfl)
theorem dX9_rate_2 : decode cX9_rate 2 = .ok (.iconst 5, 1) := dk_8 (dk_at dksX9_rate_0 2 rfl rfl)
theorem dX9_rate_3 : decode cX9_rate 3 = .ok (.invokestatic 85, 3) := dk_184 0 85 (dk_at dksX9_rate_0 3 rfl rfl)
theorem dX9_rate_6 : decode cX9_rate 6 = .ok (.ifCond .eq 11, 3) := dk_153 0 11 (dk_at dksX9_rate_0 6 rfl rfl)
theorem dX9_rate_9 : decode cX9_rate 9 = .ok (.aload_n 0, 1) := dk_42 (dk_at dksX9_rate_0 9 rfl rfl)
theorem dX9_rate_10 : decode cX9_rate 10 = .ok (.iload_n 2, 1) := dk_28 (dk_at dksX9_rate_0 10 rfl rfl)
theorem dX9_rate_11 : decode cX9_rate 11 = .ok (.invokevirtual 162, 3) := dk_182 0 162 (dk_at dksX9_rate_0 11 rfl rfl)
theorem dX9_rate_14 : decode cX9_rate 14 = .ok (.ifCond .ne 7, 3) := dk_154 0 7 (dk_at dksX9_rate_0 14 rfl rfl)
theorem dX9_rate_17 : decode cX9_rate 17 = .ok (.ldc_w 272, 3) := dk_19 1 16 (dk_at dksX9_rate_0 17 rfl rfl)
theorem dX9_rate_20 : decode cX9_rate 20 = .ok (.ireturn, 1) := dk_172 (dk_at dksX9_rate_0 20 rfl rfl)
theorem dX9_rate_21 : decode cX9_rate 21 = .ok (.iload_n 1, 1) := dk_27 (dk_at dksX9_rate_0 21 rfl rfl)
theorem dX9_rate_22 : decode cX9_rate 22 = .ok (.tableswitch 92 0 4 #[34, 40, 46, 52, 72], 34) := by decide +kernel
theorem dX9_rate_56 : decode cX9_rate 56 = .ok (.aload_n 0, 1) := dk_42 (dk_at dksX9_rate_2 0 rfl rfl)
theorem dX9_rate_57 : decode cX9_rate 57 = .ok (.iload_n 2, 1) := dk_28 (dk_at dksX9_rate_2 1 rfl rfl)
theorem dX9_rate_58 : decode cX9_rate 58 = .ok (.invokevirtual 267, 3) := dk_182 1 11 (dk_at dksX9_rate_2 2 rfl rfl)
theorem dX9_rate_61 : decode cX9_rate 61 = .ok (.ireturn, 1) := dk_172 (dk_at dksX9_rate_2 5 rfl rfl)
theorem dX9_rate_62 : decode cX9_rate 62 = .ok (.aload_n 0, 1) := dk_42 (dk_at dksX9_rate_2 6 rfl rfl)
theorem dX9_rate_63 : decode cX9_rate 63 = .ok (.iload_n 2, 1) := dk_28 (dk_at dksX9_rate_2 7 rfl rfl)
theorem dX9_rate_64 : decode cX9_rate 64 = .ok (.invokevirtual 273, 3) := dk_182 1 17 (dk_at dksX9_rate_2 8 rfl rfl)
theorem dX9_rate_67 : decode cX9_rate 67 = .ok (.ireturn, 1) := dk_172 (dk_at dksX9_rate_2 11 rfl rfl)
theorem dX9_rate_68 : decode cX9_rate 68 = .ok (.aload_n 0, 1) := dk_42 (dk_at dksX9_rate_2 12 rfl rfl)
theorem dX9_rate_69 : decode cX9_rate 69 = .ok (.iload_n 2, 1) := dk_28 (dk_at dksX9_rate_2 13 rfl rfl)
theorem dX9_rate_70 : decode cX9_rate 70 = .ok (.invokevirtual 276, 3) := dk_182 1 20 (dk_at dksX9_rate_2 14 rfl rfl)
theorem dX9_rate_73 : decode cX9_rate 73 = .ok (.ireturn, 1) := dk_172 (dk_at dksX9_rate_2 17 rfl rfl)
theorem dX9_rate_74 : decode cX9_rate 74 = .ok (.aload_n 0, 1) := dk_42 (dk_at dksX9_rate_2 18 rfl rfl)
theorem dX9_rate_75 : decode cX9_rate 75 = .ok (.dup, 1) := dk_89 (dk_at dksX9_rate_2 19 rfl rfl)
theorem dX9_rate_76 : decode cX9_rate 76 = .ok (.getfield 263, 3) := dk_180 1 7 (dk_at dksX9_rate_2 20 rfl rfl)
theorem dX9_rate_79 : decode cX9_rate 79 = .ok (.ldc2_w 279, 3) := dk_20 1 23 (dk_at dksX9_rate_3 0 rfl rfl)
theorem dX9_rate_82 : decode cX9_rate 82 = .ok (.ladd, 1) := dk_97 (dk_at dksX9_rate_3 3 rfl rfl)
theorem dX9_rate_83 : decode cX9_rate 83 = .ok (.putfield 263, 3) := dk_181 1 7 (dk_at dksX9_rate_3 4 rfl rfl)
theorem dX9_rate_86 : decode cX9_rate 86 = .ok (.iconst 2, 1) := dk_5 (dk_at dksX9_rate_3 7 rfl rfl)
theorem dX9_rate_87 : decode cX9_rate 87 = .ok (.aload_n 0, 1) := dk_42 (dk_at dksX9_rate_3 8 rfl rfl)
theorem dX9_rate_88 : decode cX9_rate 88 = .ok (.iload_n 2, 1) := dk_28 (dk_at dksX9_rate_3 9 rfl rfl)
theorem dX9_rate_89 : decode cX9_rate 89 = .ok (.invokevirtual 273, 3) := dk_182 1 17 (dk_at dksX9_rate_3 10 rfl rfl)
theorem dX9_rate_92 : decode cX9_rate 92 = .ok (.imul, 1) := dk_104 (dk_at dksX9_rate_3 13 rfl rfl)
theorem dX9_rate_93 : decode cX9_rate 93 = .ok (.ireturn, 1) := dk_172 (dk_at dksX9_rate_3 14 rfl rfl)
theorem dX9_rate_94 : decode cX9_rate 94 = .ok (.aload_n 0, 1) := dk_42 (dk_at dksX9_rate_3 15 rfl rfl)
theorem dX9_rate_95 : decode cX9_rate 95 = .ok (.dup, 1) := dk_89 (dk_at dksX9_rate_3 16 rfl rfl)
theorem dX9_rate_96 : decode cX9_rate 96 = .ok (.getfield 263, 3) := dk_180 1 7 (dk_at dksX9_rate_3 17 rfl rfl)
theorem dX9_rate_99 : decode cX9_rate 99 = .ok (.ldc2_w 281, 3) := dk_20 1 25 (dk_at dksX9_rate_3 20 rfl rfl)
theorem dX9_rate_102 : decode cX9_rate 102 = .ok (.ladd, 1) := dk_97 (dk_at dksX9_rate_3 23 rfl rfl)
theorem dX9_rate_103 : decode cX9_rate 103 = .ok (.putfield 263, 3) := dk_181 1 7 (dk_at dksX9_rate_4 0 rfl rfl)
theorem dX9_rate_106 : decode cX9_rate 106 = .ok (.aload_n 0, 1) := dk_42 (dk_at dksX9_rate_4 3 rfl rfl)
theorem dX9_rate_107 : decode cX9_rate 107 = .ok (.iload_n 2, 1) := dk_28 (dk_at dksX9_rate_4 4 rfl rfl)
theorem dX9_rate_108 : decode cX9_rate 108 = .ok (.invokevirtual 276, 3) := dk_182 1 20 (dk_at dksX9_rate_4 5 rfl rfl)
theorem dX9_rate_111 : decode cX9_rate 111 = .ok (.iload_n 2, 1) := dk_28 (dk_at dksX9_rate_4 8 rfl rfl)
theorem dX9_rate_112 : decode cX9_rate 112 = .ok (.iadd, 1) := dk_96 (dk_at dksX9_rate_4 9 rfl rfl)
theorem dX9_rate_113 : decode cX9_rate 113 = .ok (.ireturn, 1) := dk_172 (dk_at dksX9_rate_4 10 rfl rfl)
theorem dX9_rate_114 : decode cX9_rate 114 = .ok (.aload_n 0, 1) := dk_42 (dk_at dksX9_rate_4 11 rfl rfl)
theorem dX9_rate_115 : decode cX9_rate 115 = .ok (.dup, 1) := dk_89 (dk_at dksX9_rate_4 12 rfl rfl)
theorem dX9_rate_116 : decode cX9_rate 116 = .ok (.getfield 263, 3) := dk_180 1 7 (dk_at dksX9_rate_4 13 rfl rfl)
theorem dX9_rate_119 : decode cX9_rate 119 = .ok (.ldc2_w 283, 3) := dk_20 1 27 (dk_at dksX9_rate_4 16 rfl rfl)
theorem dX9_rate_122 : decode cX9_rate 122 = .ok (.ladd, 1) := dk_97 (dk_at dksX9_rate_4 19 rfl rfl)
theorem dX9_rate_123 : decode cX9_rate 123 = .ok (.putfield 263, 3) := dk_181 1 7 (dk_at dksX9_rate_4 20 rfl rfl)
theorem dX9_rate_126 : decode cX9_rate 126 = .ok (.aload_n 0, 1) := dk_42 (dk_at dksX9_rate_4 23 rfl rfl)
theorem dX9_rate_127 : decode cX9_rate 127 = .ok (.iload_n 2, 1) := dk_28 (dk_at dksX9_rate_5 0 rfl rfl)
theorem dX9_rate_128 : decode cX9_rate 128 = .ok (.invokevirtual 267, 3) := dk_182 1 11 (dk_at dksX9_rate_5 1 rfl rfl)
theorem dX9_rate_131 : decode cX9_rate 131 = .ok (.aload_n 0, 1) := dk_42 (dk_at dksX9_rate_5 4 rfl rfl)
theorem dX9_rate_132 : decode cX9_rate 132 = .ok (.invokevirtual 172, 3) := dk_182 0 172 (dk_at dksX9_rate_5 5 rfl rfl)
theorem dX9_rate_135 : decode cX9_rate 135 = .ok (.invokestatic 188, 3) := dk_184 0 188 (dk_at dksX9_rate_5 8 rfl rfl)
theorem dX9_rate_138 : decode cX9_rate 138 = .ok (.iadd, 1) := dk_96 (dk_at dksX9_rate_5 11 rfl rfl)
theorem dX9_rate_139 : decode cX9_rate 139 = .ok (.ireturn, 1) := dk_172 (dk_at dksX9_rate_5 12 rfl rfl)
abbrev cX9_clerkRate : ByteArray := prog_13_method_68_code
def yX9_clerkRate : MethodName := ⟨RX9, "clerkRate", "(I)I"⟩
def dkwX9_clerkRate_0 : List UInt8 := [42, 89, 180, 1, 7, 10, 97, 181, 1, 7, 42, 180, 0, 23, 6, 27, 104, 46, 184, 0, 188, 172]
abbrev dktX9_clerkRate_0 : List UInt8 := dkwX9_clerkRate_0 ++ []
theorem dksX9_clerkRate_0 : cX9_clerkRate.data.toList.drop 0 = dktX9_clerkRate_0 := by decide +kernel
theorem dX9_clerkRate_0 : decode cX9_clerkRate 0 = .ok (.aload_n 0, 1) := dk_42 (dk_at dksX9_clerkRate_0 0 rfl rfl)
theorem dX9_clerkRate_1 : decode cX9_clerkRate 1 = .ok (.dup, 1) := dk_89 (dk_at dksX9_clerkRate_0 1 rfl rfl)
theorem dX9_clerkRate_2 : decode cX9_clerkRate 2 = .ok (.getfield 263, 3) := dk_180 1 7 (dk_at dksX9_clerkRate_0 2 rfl rfl)
theorem dX9_clerkRate_5 : decode cX9_clerkRate 5 = .ok (.lconst 1, 1) := dk_10 (dk_at dksX9_clerkRate_0 5 rfl rfl)
theorem dX9_clerkRate_6 : decode cX9_clerkRate 6 = .ok (.ladd, 1) := dk_97 (dk_at dksX9_clerkRate_0 6 rfl rfl)
theorem dX9_clerkRate_7 : decode cX9_clerkRate 7 = .ok (.putfield 263, 3) := dk_181 1 7 (dk_at dksX9_clerkRate_0 7 rfl rfl)
theorem dX9_clerkRate_10 : decode cX9_clerkRate 10 = .ok (.aload_n 0, 1) := dk_42 (dk_at dksX9_clerkRate_0 10 rfl rfl)
theorem dX9_clerkRate_11 : decode cX9_clerkRate 11 = .ok (.getfield 23, 3) := dk_180 0 23 (dk_at dksX9_clerkRate_0 11 rfl rfl)
theorem dX9_clerkRate_14 : decode cX9_clerkRate 14 = .ok (.iconst 3, 1) := dk_6 (dk_at dksX9_clerkRate_0 14 rfl rfl)
theorem dX9_clerkRate_15 : decode cX9_clerkRate 15 = .ok (.iload_n 1, 1) := dk_27 (dk_at dksX9_clerkRate_0 15 rfl rfl)
theorem dX9_clerkRate_16 : decode cX9_clerkRate 16 = .ok (.imul, 1) := dk_104 (dk_at dksX9_clerkRate_0 16 rfl rfl)
theorem dX9_clerkRate_17 : decode cX9_clerkRate 17 = .ok (.iaload, 1) := dk_46 (dk_at dksX9_clerkRate_0 17 rfl rfl)
theorem dX9_clerkRate_18 : decode cX9_clerkRate 18 = .ok (.invokestatic 188, 3) := dk_184 0 188 (dk_at dksX9_clerkRate_0 18 rfl rfl)
theorem dX9_clerkRate_21 : decode cX9_clerkRate 21 = .ok (.ireturn, 1) := dk_172 (dk_at dksX9_clerkRate_0 21 rfl rfl)
abbrev cX9_nunRate : ByteArray := prog_13_method_69_code
def yX9_nunRate : MethodName := ⟨RX9, "nunRate", "(I)I"⟩
def dkwX9_nunRate_1 : List UInt8 := [4, 96, 46, 96, 172]
abbrev dktX9_nunRate_1 : List UInt8 := dkwX9_nunRate_1 ++ []
def dkwX9_nunRate_0 : List UInt8 := [42, 89, 180, 1, 7, 20, 0, 214, 97, 181, 1, 7, 42, 27, 182, 1, 11, 42, 180, 0, 23, 6, 27, 104]
abbrev dktX9_nunRate_0 : List UInt8 := dkwX9_nunRate_0 ++ dktX9_nunRate_1
theorem dksX9_nunRate_0 : cX9_nunRate.data.toList.drop 0 = dktX9_nunRate_0 := by decide +kernel
theorem dksX9_nunRate_1 : cX9_nunRate.data.toList.drop 24 = dktX9_nunRate_1 := dk_seg dksX9_nunRate_0 24 rfl rfl
theorem dX9_nunRate_0 : decode cX9_nunRate 0 = .ok (.aload_n 0, 1) := dk_42 (dk_at dksX9_nunRate_0 0 rfl rfl)
theorem dX9_nunRate_1 : decode cX9_nunRate 1 = .ok (.dup, 1) := dk_89 (dk_at dksX9_nunRate_0 1 rfl rfl)
theorem dX9_nunRate_2 : decode cX9_nunRate 2 = .ok (.getfield 263, 3) := dk_180 1 7 (dk_at dksX9_nunRate_0 2 rfl rfl)
theorem dX9_nunRate_5 : decode cX9_nunRate 5 = .ok (.ldc2_w 214, 3) := dk_20 0 214 (dk_at dksX9_nunRate_0 5 rfl rfl)
theorem dX9_nunRate_8 : decode cX9_nunRate 8 = .ok (.ladd, 1) := dk_97 (dk_at dksX9_nunRate_0 8 rfl rfl)
theorem dX9_nunRate_9 : decode cX9_nunRate 9 = .ok (.putfield 263, 3) := dk_181 1 7 (dk_at dksX9_nunRate_0 9 rfl rfl)
theorem dX9_nunRate_12 : decode cX9_nunRate 12 = .ok (.aload_n 0, 1) := dk_42 (dk_at dksX9_nunRate_0 12 rfl rfl)
theorem dX9_nunRate_13 : decode cX9_nunRate 13 = .ok (.iload_n 1, 1) := dk_27 (dk_at dksX9_nunRate_0 13 rfl rfl)
theorem dX9_nunRate_14 : decode cX9_nunRate 14 = .ok (.invokevirtual 267, 3) := dk_182 1 11 (dk_at dksX9_nunRate_0 14 rfl rfl)
theorem dX9_nunRate_17 : decode cX9_nunRate 17 = .ok (.aload_n 0, 1) := dk_42 (dk_at dksX9_nunRate_0 17 rfl rfl)
theorem dX9_nunRate_18 : decode cX9_nunRate 18 = .ok (.getfield 23, 3) := dk_180 0 23 (dk_at dksX9_nunRate_0 18 rfl rfl)
theorem dX9_nunRate_21 : decode cX9_nunRate 21 = .ok (.iconst 3, 1) := dk_6 (dk_at dksX9_nunRate_0 21 rfl rfl)
theorem dX9_nunRate_22 : decode cX9_nunRate 22 = .ok (.iload_n 1, 1) := dk_27 (dk_at dksX9_nunRate_0 22 rfl rfl)
theorem dX9_nunRate_23 : decode cX9_nunRate 23 = .ok (.imul, 1) := dk_104 (dk_at dksX9_nunRate_0 23 rfl rfl)
theorem dX9_nunRate_24 : decode cX9_nunRate 24 = .ok (.iconst 1, 1) := dk_4 (dk_at dksX9_nunRate_1 0 rfl rfl)
theorem dX9_nunRate_25 : decode cX9_nunRate 25 = .ok (.iadd, 1) := dk_96 (dk_at dksX9_nunRate_1 1 rfl rfl)
theorem dX9_nunRate_26 : decode cX9_nunRate 26 = .ok (.iaload, 1) := dk_46 (dk_at dksX9_nunRate_1 2 rfl rfl)
theorem dX9_nunRate_27 : decode cX9_nunRate 27 = .ok (.iadd, 1) := dk_96 (dk_at dksX9_nunRate_1 3 rfl rfl)
theorem dX9_nunRate_28 : decode cX9_nunRate 28 = .ok (.ireturn, 1) := dk_172 (dk_at dksX9_nunRate_1 4 rfl rfl)
abbrev cX9_nephewRate : ByteArray := prog_13_method_70_code
def yX9_nephewRate : MethodName := ⟨RX9, "nephewRate", "(I)I"⟩
def dkwX9_nephewRate_1 : List UInt8 := [5, 96, 46, 100, 172]
abbrev dktX9_nephewRate_1 : List UInt8 := dkwX9_nephewRate_1 ++ []
def dkwX9_nephewRate_0 : List UInt8 := [42, 89, 180, 1, 7, 20, 1, 14, 97, 181, 1, 7, 42, 27, 182, 1, 11, 42, 180, 0, 23, 6, 27, 104]
abbrev dktX9_nephewRate_0 : List UInt8 := dkwX9_nephewRate_0 ++ dktX9_nephewRate_1
theorem dksX9_nephewRate_0 : cX9_nephewRate.data.toList.drop 0 = dktX9_nephewRate_0 := by decide +kernel
theorem dksX9_nephewRate_1 : cX9_nephewRate.data.toList.drop 24 = dktX9_nephewRate_1 := dk_seg dksX9_nephewRate_0 24 rfl rfl
theorem dX9_nephewRate_0 : decode cX9_nephewRate 0 = .ok (.aload_n 0, 1) := dk_42 (dk_at dksX9_nephewRate_0 0 rfl rfl)
theorem dX9_nephewRate_1 : decode cX9_nephewRate 1 = .ok (.dup, 1) := dk_89 (dk_at dksX9_nephewRate_0 1 rfl rfl)
theorem dX9_nephewRate_2 : decode cX9_nephewRate 2 = .ok (.getfield 263, 3) := dk_180 1 7 (dk_at dksX9_nephewRate_0 2 rfl rfl)
theorem dX9_nephewRate_5 : decode cX9_nephewRate 5 = .ok (.ldc2_w 270, 3) := dk_20 1 14 (dk_at dksX9_nephewRate_0 5 rfl rfl)
theorem dX9_nephewRate_8 : decode cX9_nephewRate 8 = .ok (.ladd, 1) := dk_97 (dk_at dksX9_nephewRate_0 8 rfl rfl)
theorem dX9_nephewRate_9 : decode cX9_nephewRate 9 = .ok (.putfield 263, 3) := dk_181 1 7 (dk_at dksX9_nephewRate_0 9 rfl rfl)
theorem dX9_nephewRate_12 : decode cX9_nephewRate 12 = .ok (.aload_n 0, 1) := dk_42 (dk_at dksX9_nephewRate_0 12 rfl rfl)
theorem dX9_nephewRate_13 : decode cX9_nephewRate 13 = .ok (.iload_n 1, 1) := dk_27 (dk_at dksX9_nephewRate_0 13 rfl rfl)
theorem dX9_nephewRate_14 : decode cX9_nephewRate 14 = .ok (.invokevirtual 267, 3) := dk_182 1 11 (dk_at dksX9_nephewRate_0 14 rfl rfl)
theorem dX9_nephewRate_17 : decode cX9_nephewRate 17 = .ok (.aload_n 0, 1) := dk_42 (dk_at dksX9_nephewRate_0 17 rfl rfl)
theorem dX9_nephewRate_18 : decode cX9_nephewRate 18 = .ok (.getfield 23, 3) := dk_180 0 23 (dk_at dksX9_nephewRate_0 18 rfl rfl)
theorem dX9_nephewRate_21 : decode cX9_nephewRate 21 = .ok (.iconst 3, 1) := dk_6 (dk_at dksX9_nephewRate_0 21 rfl rfl)
theorem dX9_nephewRate_22 : decode cX9_nephewRate 22 = .ok (.iload_n 1, 1) := dk_27 (dk_at dksX9_nephewRate_0 22 rfl rfl)
theorem dX9_nephewRate_23 : decode cX9_nephewRate 23 = .ok (.imul, 1) := dk_104 (dk_at dksX9_nephewRate_0 23 rfl rfl)
theorem dX9_nephewRate_24 : decode cX9_nephewRate 24 = .ok (.iconst 2, 1) := dk_5 (dk_at dksX9_nephewRate_1 0 rfl rfl)
theorem dX9_nephewRate_25 : decode cX9_nephewRate 25 = .ok (.iadd, 1) := dk_96 (dk_at dksX9_nephewRate_1 1 rfl rfl)
theorem dX9_nephewRate_26 : decode cX9_nephewRate 26 = .ok (.iaload, 1) := dk_46 (dk_at dksX9_nephewRate_1 2 rfl rfl)
theorem dX9_nephewRate_27 : decode cX9_nephewRate 27 = .ok (.isub, 1) := dk_100 (dk_at dksX9_nephewRate_1 3 rfl rfl)
theorem dX9_nephewRate_28 : decode cX9_nephewRate 28 = .ok (.ireturn, 1) := dk_172 (dk_at dksX9_nephewRate_1 4 rfl rfl)
abbrev cX9_keep : ByteArray := prog_13_method_72_code
def yX9_keep : MethodName := ⟨RX9, "keep", "(I)I"⟩
def dkwX9_keep_2 : List UInt8 := [4, 84, 42, 180, 0, 26, 3, 46, 172]
abbrev dktX9_keep_2 : List UInt8 := dkwX9_keep_2 ++ []
def dkwX9_keep_1 : List UInt8 := [16, 26, 27, 104, 28, 96, 42, 180, 0, 26, 28, 46, 79, 132, 2, 1, 167, 255, 230, 42, 180, 0, 35, 27]
abbrev dktX9_keep_1 : List UInt8 := dkwX9_keep_1 ++ dktX9_keep_2
def dkwX9_keep_0 : List UInt8 := [27, 3, 4, 184, 0, 85, 154, 0, 5, 2, 172, 3, 61, 28, 16, 26, 162, 0, 26, 42, 180, 0, 32]
abbrev dktX9_keep_0 : List UInt8 := dkwX9_keep_0 ++ dktX9_keep_1
theorem dksX9_keep_0 : cX9_keep.data.toList.drop 0 = dktX9_keep_0 := by decide +kernel
theorem dksX9_keep_1 : cX9_keep.data.toList.drop 23 = dktX9_keep_1 := dk_seg dksX9_keep_0 23 rfl rfl
theorem dksX9_keep_2 : cX9_keep.data.toList.drop 47 = dktX9_keep_2 := dk_seg dksX9_keep_1 24 rfl rfl
theorem dX9_keep_0 : decode cX9_keep 0 = .ok (.iload_n 1, 1) := dk_27 (dk_at dksX9_keep_0 0 rfl rfl)
theorem dX9_keep_1 : decode cX9_keep 1 = .ok (.iconst 0, 1) := dk_3 (dk_at dksX9_keep_0 1 rfl rfl)
theorem dX9_keep_2 : decode cX9_keep 2 = .ok (.iconst 1, 1) := dk_4 (dk_at dksX9_keep_0 2 rfl rfl)
theorem dX9_keep_3 : decode cX9_keep 3 = .ok (.invokestatic 85, 3) := dk_184 0 85 (dk_at dksX9_keep_0 3 rfl rfl)
theorem dX9_keep_6 : decode cX9_keep 6 = .ok (.ifCond .ne 5, 3) := dk_154 0 5 (dk_at dksX9_keep_0 6 rfl rfl)
theorem dX9_keep_9 : decode cX9_keep 9 = .ok (.iconst (-1), 1) := dk_2 (dk_at dksX9_keep_0 9 rfl rfl)
theorem dX9_keep_10 : decode cX9_keep 10 = .ok (.ireturn, 1) := dk_172 (dk_at dksX9_keep_0 10 rfl rfl)
theorem dX9_keep_11 : decode cX9_keep 11 = .ok (.iconst 0, 1) := dk_3 (dk_at dksX9_keep_0 11 rfl rfl)
theorem dX9_keep_12 : decode cX9_keep 12 = .ok (.istore_n 2, 1) := dk_61 (dk_at dksX9_keep_0 12 rfl rfl)
theorem dX9_keep_13 : decode cX9_keep 13 = .ok (.iload_n 2, 1) := dk_28 (dk_at dksX9_keep_0 13 rfl rfl)
theorem dX9_keep_14 : decode cX9_keep 14 = .ok (.bipush 26, 2) := dk_16 26 (dk_at dksX9_keep_0 14 rfl rfl)
theorem dX9_keep_16 : decode cX9_keep 16 = .ok (.if_icmp .ge 26, 3) := dk_162 0 26 (dk_at dksX9_keep_0 16 rfl rfl)
theorem dX9_keep_19 : decode cX9_keep 19 = .ok (.aload_n 0, 1) := dk_42 (dk_at dksX9_keep_0 19 rfl rfl)
theorem dX9_keep_20 : decode cX9_keep 20 = .ok (.getfield 32, 3) := dk_180 0 32 (dk_at dksX9_keep_0 20 rfl rfl)
theorem dX9_keep_23 : decode cX9_keep 23 = .ok (.bipush 26, 2) := dk_16 26 (dk_at dksX9_keep_1 0 rfl rfl)
theorem dX9_keep_25 : decode cX9_keep 25 = .ok (.iload_n 1, 1) := dk_27 (dk_at dksX9_keep_1 2 rfl rfl)
theorem dX9_keep_26 : decode cX9_keep 26 = .ok (.imul, 1) := dk_104 (dk_at dksX9_keep_1 3 rfl rfl)
theorem dX9_keep_27 : decode cX9_keep 27 = .ok (.iload_n 2, 1) := dk_28 (dk_at dksX9_keep_1 4 rfl rfl)
theorem dX9_keep_28 : decode cX9_keep 28 = .ok (.iadd, 1) := dk_96 (dk_at dksX9_keep_1 5 rfl rfl)
theorem dX9_keep_29 : decode cX9_keep 29 = .ok (.aload_n 0, 1) := dk_42 (dk_at dksX9_keep_1 6 rfl rfl)
theorem dX9_keep_30 : decode cX9_keep 30 = .ok (.getfield 26, 3) := dk_180 0 26 (dk_at dksX9_keep_1 7 rfl rfl)
theorem dX9_keep_33 : decode cX9_keep 33 = .ok (.iload_n 2, 1) := dk_28 (dk_at dksX9_keep_1 10 rfl rfl)
theorem dX9_keep_34 : decode cX9_keep 34 = .ok (.iaload, 1) := dk_46 (dk_at dksX9_keep_1 11 rfl rfl)
theorem dX9_keep_35 : decode cX9_keep 35 = .ok (.iastore, 1) := dk_79 (dk_at dksX9_keep_1 12 rfl rfl)
theorem dX9_keep_36 : decode cX9_keep 36 = .ok (.iinc 2 1, 3) := dk_132 2 1 (dk_at dksX9_keep_1 13 rfl rfl)
theorem dX9_keep_39 : decode cX9_keep 39 = .ok (.goto (-26), 3) := dk_167 255 230 (dk_at dksX9_keep_1 16 rfl rfl)
theorem dX9_keep_42 : decode cX9_keep 42 = .ok (.aload_n 0, 1) := dk_42 (dk_at dksX9_keep_1 19 rfl rfl)
theorem dX9_keep_43 : decode cX9_keep 43 = .ok (.getfield 35, 3) := dk_180 0 35 (dk_at dksX9_keep_1 20 rfl rfl)
theorem dX9_keep_46 : decode cX9_keep 46 = .ok (.iload_n 1, 1) := dk_27 (dk_at dksX9_keep_1 23 rfl rfl)
theorem dX9_keep_47 : decode cX9_keep 47 = .ok (.iconst 1, 1) := dk_4 (dk_at dksX9_keep_2 0 rfl rfl)
theorem dX9_keep_48 : decode cX9_keep 48 = .ok (.bastore, 1) := dk_84 (dk_at dksX9_keep_2 1 rfl rfl)
theorem dX9_keep_49 : decode cX9_keep 49 = .ok (.aload_n 0, 1) := dk_42 (dk_at dksX9_keep_2 2 rfl rfl)
theorem dX9_keep_50 : decode cX9_keep 50 = .ok (.getfield 26, 3) := dk_180 0 26 (dk_at dksX9_keep_2 3 rfl rfl)
theorem dX9_keep_53 : decode cX9_keep 53 = .ok (.iconst 0, 1) := dk_3 (dk_at dksX9_keep_2 6 rfl rfl)
theorem dX9_keep_54 : decode cX9_keep 54 = .ok (.iaload, 1) := dk_46 (dk_at dksX9_keep_2 7 rfl rfl)
theorem dX9_keep_55 : decode cX9_keep 55 = .ok (.ireturn, 1) := dk_172 (dk_at dksX9_keep_2 8 rfl rfl)
abbrev cX9_back : ByteArray := prog_13_method_73_code
def yX9_back : MethodName := ⟨RX9, "back", "(I)I"⟩
def dkwX9_back_2 : List UInt8 := [132, 2, 1, 167, 255, 230, 42, 3, 181, 0, 152, 42, 180, 0, 26, 3, 46, 172]
abbrev dktX9_back_2 : List UInt8 := dkwX9_back_2 ++ []
def dkwX9_back_1 : List UInt8 := [61, 28, 16, 26, 162, 0, 26, 42, 180, 0, 26, 28, 42, 180, 0, 32, 16, 26, 27, 104, 28, 96, 46, 79]
abbrev dktX9_back_1 : List UInt8 := dkwX9_back_1 ++ dktX9_back_2
def dkwX9_back_0 : List UInt8 := [27, 3, 4, 184, 0, 85, 154, 0, 5, 2, 172, 42, 180, 0, 35, 27, 51, 154, 0, 6, 16, 254, 172, 3]
abbrev dktX9_back_0 : List UInt8 := dkwX9_back_0 ++ dktX9_back_1
theorem dksX9_back_0 : cX9_back.data.toList.drop 0 = dktX9_back_0 := by decide +kernel
theorem dksX9_back_1 : cX9_back.data.toList.drop 24 = dktX9_back_1 := dk_seg dksX9_back_0 24 rfl rfl
theorem dksX9_back_2 : cX9_back.data.toList.drop 48 = dktX9_back_2 := dk_seg dksX9_back_1 24 rfl rfl
theorem dX9_back_0 : decode cX9_back 0 = .ok (.iload_n 1, 1) := dk_27 (dk_at dksX9_back_0 0 rfl rfl)
theorem dX9_back_1 : decode cX9_back 1 = .ok (.iconst 0, 1) := dk_3 (dk_at dksX9_back_0 1 rfl rfl)
theorem dX9_back_2 : decode cX9_back 2 = .ok (.iconst 1, 1) := dk_4 (dk_at dksX9_back_0 2 rfl rfl)
theorem dX9_back_3 : decode cX9_back 3 = .ok (.invokestatic 85, 3) := dk_184 0 85 (dk_at dksX9_back_0 3 rfl rfl)
theorem dX9_back_6 : decode cX9_back 6 = .ok (.ifCond .ne 5, 3) := dk_154 0 5 (dk_at dksX9_back_0 6 rfl rfl)
theorem dX9_back_9 : decode cX9_back 9 = .ok (.iconst (-1), 1) := dk_2 (dk_at dksX9_back_0 9 rfl rfl)
theorem dX9_back_10 : decode cX9_back 10 = .ok (.ireturn, 1) := dk_172 (dk_at dksX9_back_0 10 rfl rfl)
theorem dX9_back_11 : decode cX9_back 11 = .ok (.aload_n 0, 1) := dk_42 (dk_at dksX9_back_0 11 rfl rfl)
theorem dX9_back_12 : decode cX9_back 12 = .ok (.getfield 35, 3) := dk_180 0 35 (dk_at dksX9_back_0 12 rfl rfl)
theorem dX9_back_15 : decode cX9_back 15 = .ok (.iload_n 1, 1) := dk_27 (dk_at dksX9_back_0 15 rfl rfl)
theorem dX9_back_16 : decode cX9_back 16 = .ok (.baload, 1) := dk_51 (dk_at dksX9_back_0 16 rfl rfl)
theorem dX9_back_17 : decode cX9_back 17 = .ok (.ifCond .ne 6, 3) := dk_154 0 6 (dk_at dksX9_back_0 17 rfl rfl)
theorem dX9_back_20 : decode cX9_back 20 = .ok (.bipush (-2), 2) := dk_16 254 (dk_at dksX9_back_0 20 rfl rfl)
theorem dX9_back_22 : decode cX9_back 22 = .ok (.ireturn, 1) := dk_172 (dk_at dksX9_back_0 22 rfl rfl)
theorem dX9_back_23 : decode cX9_back 23 = .ok (.iconst 0, 1) := dk_3 (dk_at dksX9_back_0 23 rfl rfl)
theorem dX9_back_24 : decode cX9_back 24 = .ok (.istore_n 2, 1) := dk_61 (dk_at dksX9_back_1 0 rfl rfl)
theorem dX9_back_25 : decode cX9_back 25 = .ok (.iload_n 2, 1) := dk_28 (dk_at dksX9_back_1 1 rfl rfl)
theorem dX9_back_26 : decode cX9_back 26 = .ok (.bipush 26, 2) := dk_16 26 (dk_at dksX9_back_1 2 rfl rfl)
theorem dX9_back_28 : decode cX9_back 28 = .ok (.if_icmp .ge 26, 3) := dk_162 0 26 (dk_at dksX9_back_1 4 rfl rfl)
theorem dX9_back_31 : decode cX9_back 31 = .ok (.aload_n 0, 1) := dk_42 (dk_at dksX9_back_1 7 rfl rfl)
theorem dX9_back_32 : decode cX9_back 32 = .ok (.getfield 26, 3) := dk_180 0 26 (dk_at dksX9_back_1 8 rfl rfl)
theorem dX9_back_35 : decode cX9_back 35 = .ok (.iload_n 2, 1) := dk_28 (dk_at dksX9_back_1 11 rfl rfl)
theorem dX9_back_36 : decode cX9_back 36 = .ok (.aload_n 0, 1) := dk_42 (dk_at dksX9_back_1 12 rfl rfl)
theorem dX9_back_37 : decode cX9_back 37 = .ok (.getfield 32, 3) := dk_180 0 32 (dk_at dksX9_back_1 13 rfl rfl)
theorem dX9_back_40 : decode cX9_back 40 = .ok (.bipush 26, 2) := dk_16 26 (dk_at dksX9_back_1 16 rfl rfl)
theorem dX9_back_42 : decode cX9_back 42 = .ok (.iload_n 1, 1) := dk_27 (dk_at dksX9_back_1 18 rfl rfl)
theorem dX9_back_43 : decode cX9_back 43 = .ok (.imul, 1) := dk_104 (dk_at dksX9_back_1 19 rfl rfl)
theorem dX9_back_44 : decode cX9_back 44 = .ok (.iload_n 2, 1) := dk_28 (dk_at dksX9_back_1 20 rfl rfl)
theorem dX9_back_45 : decode cX9_back 45 = .ok (.iadd, 1) := dk_96 (dk_at dksX9_back_1 21 rfl rfl)
theorem dX9_back_46 : decode cX9_back 46 = .ok (.iaload, 1) := dk_46 (dk_at dksX9_back_1 22 rfl rfl)
theorem dX9_back_47 : decode cX9_back 47 = .ok (.iastore, 1) := dk_79 (dk_at dksX9_back_1 23 rfl rfl)
theorem dX9_back_48 : decode cX9_back 48 = .ok (.iinc 2 1, 3) := dk_132 2 1 (dk_at dksX9_back_2 0 rfl rfl)
theorem dX9_back_51 : decode cX9_back 51 = .ok (.goto (-26), 3) := dk_167 255 230 (dk_at dksX9_back_2 3 rfl rfl)
theorem dX9_back_54 : decode cX9_back 54 = .ok (.aload_n 0, 1) := dk_42 (dk_at dksX9_back_2 6 rfl rfl)
theorem dX9_back_55 : decode cX9_back 55 = .ok (.iconst 0, 1) := dk_3 (dk_at dksX9_back_2 7 rfl rfl)
theorem dX9_back_56 : decode cX9_back 56 = .ok (.putfield 152, 3) := dk_181 0 152 (dk_at dksX9_back_2 8 rfl rfl)
theorem dX9_back_59 : decode cX9_back 59 = .ok (.aload_n 0, 1) := dk_42 (dk_at dksX9_back_2 11 rfl rfl)
theorem dX9_back_60 : decode cX9_back 60 = .ok (.getfield 26, 3) := dk_180 0 26 (dk_at dksX9_back_2 12 rfl rfl)
theorem dX9_back_63 : decode cX9_back 63 = .ok (.iconst 0, 1) := dk_3 (dk_at dksX9_back_2 15 rfl rfl)
theorem dX9_back_64 : decode cX9_back 64 = .ok (.iaload, 1) := dk_46 (dk_at dksX9_back_2 16 rfl rfl)
theorem dX9_back_65 : decode cX9_back 65 = .ok (.ireturn, 1) := dk_172 (dk_at dksX9_back_2 17 rfl rfl)
abbrev cX9_count : ByteArray := prog_13_method_74_code
def yX9_count : MethodName := ⟨RX9, "count", "(I)I"⟩
def dkwX9_count_3 : List UInt8 := [172, 42, 180, 0, 26, 16, 20, 46, 172, 42, 180, 0, 155, 172, 42, 180, 0, 92, 172, 2, 172]
abbrev dktX9_count_3 : List UInt8 := dkwX9_count_3 ++ []
def dkwX9_count_2 : List UInt8 := [42, 180, 0, 7, 172, 42, 180, 0, 13, 172, 42, 180, 0, 16, 172, 42, 180, 0, 82, 172, 42, 180, 0, 89]
abbrev dktX9_count_2 : List UInt8 := dkwX9_count_2 ++ dktX9_count_3
def dkwX9_count_1 : List UInt8 := [170, 0, 0, 0, 0, 0, 90, 0, 0, 0, 0, 0, 0, 0, 7, 0, 0, 0, 47, 0, 0, 0, 52, 0, 0, 0, 57, 0, 0, 0, 62, 0, 0, 0, 67, 0, 0, 0, 72, 0, 0, 0, 80, 0, 0, 0, 85]
abbrev dktX9_count_1 : List UInt8 := dkwX9_count_1 ++ dktX9_count_2
def dkwX9_count_0 : List UInt8 := [27]
abbrev dktX9_count_0 : List UInt8 := dkwX9_count_0 ++ dktX9_count_1
theorem dksX9_count_0 : cX9_count.data.toList.drop 0 = dktX9_count_0 := by decide +kernel
theorem dksX9_count_1 : cX9_count.data.toList.drop 1 = dktX9_count_1 := dk_seg dksX9_count_0 1 rfl rfl
theorem dksX9_count_2 : cX9_count.data.toList.drop 48 = dktX9_count_2 := dk_seg dksX9_count_1 47 rfl rfl
theorem dksX9_count_3 : cX9_count.data.toList.drop 72 = dktX9_count_3 := dk_seg dksX9_count_2 24 rfl rfl
theorem dX9_count_0 : decode cX9_count 0 = .ok (.iload_n 1, 1) := dk_27 (dk_at dksX9_count_0 0 rfl rfl)
theorem dX9_count_1 : decode cX9_count 1 = .ok (.tableswitch 90 0 7 #[47, 52, 57, 62, 67, 72, 80, 85], 47) := by decide +kernel
theorem dX9_count_48 : decode cX9_count 48 = .ok (.aload_n 0, 1) := dk_42 (dk_at dksX9_count_2 0 rfl rfl)
theorem dX9_count_49 : decode cX9_count 49 = .ok (.getfield 7, 3) := dk_180 0 7 (dk_at dksX9_count_2 1 rfl rfl)
theorem dX9_count_52 : decode cX9_count 52 = .ok (.ireturn, 1) := dk_172 (dk_at dksX9_count_2 4 rfl rfl)
theorem dX9_count_53 : decode cX9_count 53 = .ok (.aload_n 0, 1) := dk_42 (dk_at dksX9_count_2 5 rfl rfl)
theorem dX9_count_54 : decode cX9_count 54 = .ok (.getfield 13, 3) := dk_180 0 13 (dk_at dksX9_count_2 6 rfl rfl)
theorem dX9_count_57 : decode cX9_count 57 = .ok (.ireturn, 1) := dk_172 (dk_at dksX9_count_2 9 rfl rfl)
theorem dX9_count_58 : decode cX9_count 58 = .ok (.aload_n 0, 1) := dk_42 (dk_at dksX9_count_2 10 rfl rfl)
theorem dX9_count_59 : decode cX9_count 59 = .ok (.getfield 16, 3) := dk_180 0 16 (dk_at dksX9_count_2 11 rfl rfl)
theorem dX9_count_62 : decode cX9_count 62 = .ok (.ireturn, 1) := dk_172 (dk_at dksX9_count_2 14 rfl rfl)
theorem dX9_count_63 : decode cX9_count 63 = .ok (.aload_n 0, 1) := dk_42 (dk_at dksX9_count_2 15 rfl rfl)
theorem dX9_count_64 : decode cX9_count 64 = .ok (.getfield 82, 3) := dk_180 0 82 (dk_at dksX9_count_2 16 rfl rfl)
theorem dX9_count_67 : decode cX9_count 67 = .ok (.ireturn, 1) := dk_172 (dk_at dksX9_count_2 19 rfl rfl)
theorem dX9_count_68 : decode cX9_count 68 = .ok (.aload_n 0, 1) := dk_42 (dk_at dksX9_count_2 20 rfl rfl)
theorem dX9_count_69 : decode cX9_count 69 = .ok (.getfield 89, 3) := dk_180 0 89 (dk_at dksX9_count_2 21 rfl rfl)
theorem dX9_count_72 : decode cX9_count 72 = .ok (.ireturn, 1) := dk_172 (dk_at dksX9_count_3 0 rfl rfl)
theorem dX9_count_73 : decode cX9_count 73 = .ok (.aload_n 0, 1) := dk_42 (dk_at dksX9_count_3 1 rfl rfl)
theorem dX9_count_74 : decode cX9_count 74 = .ok (.getfield 26, 3) := dk_180 0 26 (dk_at dksX9_count_3 2 rfl rfl)
theorem dX9_count_77 : decode cX9_count 77 = .ok (.bipush 20, 2) := dk_16 20 (dk_at dksX9_count_3 5 rfl rfl)
theorem dX9_count_79 : decode cX9_count 79 = .ok (.iaload, 1) := dk_46 (dk_at dksX9_count_3 7 rfl rfl)
theorem dX9_count_80 : decode cX9_count 80 = .ok (.ireturn, 1) := dk_172 (dk_at dksX9_count_3 8 rfl rfl)
theorem dX9_count_81 : decode cX9_count 81 = .ok (.aload_n 0, 1) := dk_42 (dk_at dksX9_count_3 9 rfl rfl)
theorem dX9_count_82 : decode cX9_count 82 = .ok (.getfield 155, 3) := dk_180 0 155 (dk_at dksX9_count_3 10 rfl rfl)
theorem dX9_count_85 : decode cX9_count 85 = .ok (.ireturn, 1) := dk_172 (dk_at dksX9_count_3 13 rfl rfl)
theorem dX9_count_86 : decode cX9_count 86 = .ok (.aload_n 0, 1) := dk_42 (dk_at dksX9_count_3 14 rfl rfl)
theorem dX9_count_87 : decode cX9_count 87 = .ok (.getfield 92, 3) := dk_180 0 92 (dk_at dksX9_count_3 15 rfl rfl)
theorem dX9_count_90 : decode cX9_count 90 = .ok (.ireturn, 1) := dk_172 (dk_at dksX9_count_3 18 rfl rfl)
theorem dX9_count_91 : decode cX9_count 91 = .ok (.iconst (-1), 1) := dk_2 (dk_at dksX9_count_3 19 rfl rfl)
theorem dX9_count_92 : decode cX9_count 92 = .ok (.ireturn, 1) := dk_172 (dk_at dksX9_count_3 20 rfl rfl)
abbrev cX9_trace : ByteArray := prog_13_method_75_code
def yX9_trace : MethodName := ⟨RX9, "trace", "()J"⟩
theorem dX9_trace_0 : decode cX9_trace 0 = .ok (.aload_n 0, 1) := by decide +kernel
theorem dX9_trace_1 : decode cX9_trace 1 = .ok (.getfield 263, 3) := by decide +kernel
theorem dX9_trace_4 : decode cX9_trace 4 = .ok (.lreturn, 1) := by decide +kernel
theorem q70 : (Jvm.Cond.initialized "SmokedLettersModel") ∈ lw_all := lw_g (lw_at lw_m1 11 rfl) rfl
theorem q851 : (Jvm.Cond.instantiable "SmokedLettersModel" (39 : Nat)) ∈ lw_all := lw_g (lw_at lw_m4 72 rfl) rfl
theorem q853 : (Jvm.Cond.instanceMethod ({ cls := "SmokedLettersModel", name := "<init>", desc := "()V" } : Jvm.MethodName)) ∈ lw_all := lw_g (lw_at lw_m4 74 rfl) rfl
theorem q854 : (Jvm.Cond.code ({ cls := "SmokedLettersModel", name := "<init>", desc := "()V" } : Jvm.MethodName) prog_13_method_1_code (2 : Nat) (Option.none : Option Jvm.ClassFile.FieldType)) ∈ lw_all := lw_g (lw_at lw_m4 75 rfl) rfl
theorem q855 : (Jvm.Cond.methodLink "SmokedLettersModel" (1 : Nat) ({ cls := "java/lang/Object", name := "<init>", desc := "()V" } : Jvm.MethodName)) ∈ lw_all := lw_g (lw_at lw_m4 76 rfl) rfl
theorem q856 : (Jvm.Cond.fieldLink "SmokedLettersModel" (7 : Nat) "SmokedLettersModel" "hold" "I") ∈ lw_all := lw_g (lw_at lw_m4 77 rfl) rfl
theorem q857 : (Jvm.Cond.fieldLink "SmokedLettersModel" (13 : Nat) "SmokedLettersModel" "rows" "I") ∈ lw_all := lw_g (lw_at lw_m4 78 rfl) rfl
theorem q858 : (Jvm.Cond.fieldLink "SmokedLettersModel" (16 : Nat) "SmokedLettersModel" "boats" "I") ∈ lw_all := lw_g (lw_at lw_m4 79 rfl) rfl
theorem q859 : (Jvm.Cond.fieldLink "SmokedLettersModel" (82 : Nat) "SmokedLettersModel" "travellers" "I") ∈ lw_all := lw_g (lw_at lw_m4 80 rfl) rfl
theorem q860 : (Jvm.Cond.fieldLink "SmokedLettersModel" (19 : Nat) "SmokedLettersModel" "traveller" "[I") ∈ lw_all := lw_g (lw_at lw_m4 81 rfl) rfl
theorem q861 : (Jvm.Cond.fieldLink "SmokedLettersModel" (89 : Nat) "SmokedLettersModel" "clerks" "I") ∈ lw_all := lw_g (lw_at lw_m4 82 rfl) rfl
theorem q862 : (Jvm.Cond.fieldLink "SmokedLettersModel" (23 : Nat) "SmokedLettersModel" "clerk" "[I") ∈ lw_all := lw_g (lw_at lw_m4 83 rfl) rfl
theorem q863 : (Jvm.Cond.fieldLink "SmokedLettersModel" (26 : Nat) "SmokedLettersModel" "st" "[I") ∈ lw_all := lw_g (lw_at lw_m4 84 rfl) rfl
theorem q864 : (Jvm.Cond.fieldLink "SmokedLettersModel" (29 : Nat) "SmokedLettersModel" "was" "[I") ∈ lw_all := lw_g (lw_at lw_m4 85 rfl) rfl
theorem q865 : (Jvm.Cond.fieldLink "SmokedLettersModel" (152 : Nat) "SmokedLettersModel" "known" "I") ∈ lw_all := lw_g (lw_at lw_m4 86 rfl) rfl
theorem q866 : (Jvm.Cond.fieldLink "SmokedLettersModel" (32 : Nat) "SmokedLettersModel" "images" "[I") ∈ lw_all := lw_g (lw_at lw_m4 87 rfl) rfl
theorem q867 : (Jvm.Cond.fieldLink "SmokedLettersModel" (35 : Nat) "SmokedLettersModel" "isKept" "[Z") ∈ lw_all := lw_g (lw_at lw_m4 88 rfl) rfl
theorem q868 : (Jvm.Cond.fieldLink "SmokedLettersModel" (155 : Nat) "SmokedLettersModel" "copies" "I") ∈ lw_all := lw_g (lw_at lw_m4 89 rfl) rfl
theorem q869 : (Jvm.Cond.fieldLink "SmokedLettersModel" (228 : Nat) "SmokedLettersModel" "copyLong" "I") ∈ lw_all := lw_g (lw_at lw_m4 90 rfl) rfl
theorem q870 : (Jvm.Cond.fieldLink "SmokedLettersModel" (39 : Nat) "SmokedLettersModel" "copier" "[I") ∈ lw_all := lw_g (lw_at lw_m4 91 rfl) rfl
theorem q871 : (Jvm.Cond.fieldLink "SmokedLettersModel" (42 : Nat) "SmokedLettersModel" "copy" "[I") ∈ lw_all := lw_g (lw_at lw_m4 92 rfl) rfl
theorem q872 : (Jvm.Cond.fieldLink "SmokedLettersModel" (263 : Nat) "SmokedLettersModel" "trace" "J") ∈ lw_all := lw_g (lw_at lw_m4 93 rfl) rfl
theorem q873 : (Jvm.Cond.fieldLink "SmokedLettersModel" (45 : Nat) "SmokedLettersModel" "text" "[I") ∈ lw_all := lw_g (lw_at lw_m4 94 rfl) rfl
theorem q874 : (Jvm.Cond.fieldLink "SmokedLettersModel" (92 : Nat) "SmokedLettersModel" "texted" "I") ∈ lw_all := lw_g (lw_at lw_m4 95 rfl) rfl
theorem q875 : (Jvm.Cond.fieldLink "SmokedLettersModel" (95 : Nat) "SmokedLettersModel" "cursor" "I") ∈ lw_all := lw_g (lw_at lw_m4 96 rfl) rfl
theorem q876 : (Jvm.Cond.fieldLink "SmokedLettersModel" (102 : Nat) "SmokedLettersModel" "start" "I") ∈ lw_all := lw_g (lw_at lw_m4 97 rfl) rfl
theorem q877 : (Jvm.Cond.fieldLink "SmokedLettersModel" (105 : Nat) "SmokedLettersModel" "token" "I") ∈ lw_all := lw_g (lw_at lw_m4 98 rfl) rfl
theorem q878 : (Jvm.Cond.fieldLink "SmokedLettersModel" (108 : Nat) "SmokedLettersModel" "number" "I") ∈ lw_all := lw_g (lw_at lw_m4 99 rfl) rfl
theorem q879 : (Jvm.Cond.fieldLink "SmokedLettersModel" (111 : Nat) "SmokedLettersModel" "isWrong" "Z") ∈ lw_all := lw_g (lw_at lw_m4 100 rfl) rfl
theorem q880 : (Jvm.Cond.fieldLink "SmokedLettersModel" (133 : Nat) "SmokedLettersModel" "saidTravellers" "I") ∈ lw_all := lw_g (lw_at lw_m4 101 rfl) rfl
theorem q881 : (Jvm.Cond.fieldLink "SmokedLettersModel" (48 : Nat) "SmokedLettersModel" "saidTraveller" "[I") ∈ lw_all := lw_g (lw_at lw_m4 102 rfl) rfl
theorem q882 : (Jvm.Cond.fieldLink "SmokedLettersModel" (136 : Nat) "SmokedLettersModel" "saidClerks" "I") ∈ lw_all := lw_g (lw_at lw_m4 103 rfl) rfl
theorem q883 : (Jvm.Cond.fieldLink "SmokedLettersModel" (51 : Nat) "SmokedLettersModel" "saidClerk" "[I") ∈ lw_all := lw_g (lw_at lw_m4 104 rfl) rfl
theorem q884 : (Jvm.Cond.fieldLink "SmokedLettersModel" (54 : Nat) "SmokedLettersModel" "said" "[I") ∈ lw_all := lw_g (lw_at lw_m4 105 rfl) rfl
theorem q885 : (Jvm.Cond.fieldLink "SmokedLettersModel" (122 : Nat) "SmokedLettersModel" "saidSet" "I") ∈ lw_all := lw_g (lw_at lw_m4 106 rfl) rfl
theorem q886 : (Jvm.Cond.fieldLink "SmokedLettersModel" (57 : Nat) "SmokedLettersModel" "put" "[I") ∈ lw_all := lw_g (lw_at lw_m4 107 rfl) rfl
theorem q887 : (Jvm.Cond.fieldLink "SmokedLettersModel" (60 : Nat) "SmokedLettersModel" "lies" "[I") ∈ lw_all := lw_g (lw_at lw_m4 108 rfl) rfl
theorem q888 : (Jvm.Cond.fieldLink "SmokedLettersModel" (63 : Nat) "SmokedLettersModel" "days" "[I") ∈ lw_all := lw_g (lw_at lw_m4 109 rfl) rfl
theorem q889 : (Jvm.Cond.fieldLink "SmokedLettersModel" (66 : Nat) "SmokedLettersModel" "sailed" "[I") ∈ lw_all := lw_g (lw_at lw_m4 110 rfl) rfl
theorem q890 : (Jvm.Cond.fieldLink "SmokedLettersModel" (69 : Nat) "SmokedLettersModel" "sick" "[J") ∈ lw_all := lw_g (lw_at lw_m4 111 rfl) rfl
theorem q891 : (Jvm.Cond.fieldLink "SmokedLettersModel" (73 : Nat) "SmokedLettersModel" "letter" "[I") ∈ lw_all := lw_g (lw_at lw_m4 112 rfl) rfl
theorem q892 : (Jvm.Cond.fieldLink "SmokedLettersModel" (76 : Nat) "SmokedLettersModel" "smoked" "[I") ∈ lw_all := lw_g (lw_at lw_m4 113 rfl) rfl
theorem q893 : (Jvm.Cond.fieldLink "SmokedLettersModel" (243 : Nat) "SmokedLettersModel" "letterLong" "I") ∈ lw_all := lw_g (lw_at lw_m4 114 rfl) rfl
theorem q894 : (Jvm.Cond.fieldLink "SmokedLettersModel" (79 : Nat) "SmokedLettersModel" "row" "[I") ∈ lw_all := lw_g (lw_at lw_m4 115 rfl) rfl
theorem q895 : (Jvm.Cond.lays "SmokedLettersModel" "SmokedLettersModel" "hold" "I") ∈ lw_all := lw_g (lw_at lw_m4 116 rfl) rfl
theorem q896 : (Jvm.Cond.soleField "SmokedLettersModel" "hold") ∈ lw_all := lw_g (lw_at lw_m4 117 rfl) rfl
theorem q897 : (Jvm.Cond.lays "SmokedLettersModel" "SmokedLettersModel" "rows" "I") ∈ lw_all := lw_g (lw_at lw_m4 118 rfl) rfl
theorem q898 : (Jvm.Cond.soleField "SmokedLettersModel" "rows") ∈ lw_all := lw_g (lw_at lw_m4 119 rfl) rfl
theorem q899 : (Jvm.Cond.lays "SmokedLettersModel" "SmokedLettersModel" "boats" "I") ∈ lw_all := lw_g (lw_at lw_m4 120 rfl) rfl
theorem q900 : (Jvm.Cond.soleField "SmokedLettersModel" "boats") ∈ lw_all := lw_g (lw_at lw_m4 121 rfl) rfl
theorem q901 : (Jvm.Cond.lays "SmokedLettersModel" "SmokedLettersModel" "travellers" "I") ∈ lw_all := lw_g (lw_at lw_m4 122 rfl) rfl
theorem q902 : (Jvm.Cond.soleField "SmokedLettersModel" "travellers") ∈ lw_all := lw_g (lw_at lw_m4 123 rfl) rfl
theorem q903 : (Jvm.Cond.laysFinal "SmokedLettersModel" "SmokedLettersModel" "traveller" "[I") ∈ lw_all := lw_g (lw_at lw_m4 124 rfl) rfl
theorem q904 : (Jvm.Cond.soleField "SmokedLettersModel" "traveller") ∈ lw_all := lw_g (lw_at lw_m4 125 rfl) rfl
theorem q905 : (Jvm.Cond.lays "SmokedLettersModel" "SmokedLettersModel" "clerks" "I") ∈ lw_all := lw_g (lw_at lw_m4 126 rfl) rfl
theorem q906 : (Jvm.Cond.soleField "SmokedLettersModel" "clerks") ∈ lw_all := lw_g (lw_at lw_m4 127 rfl) rfl
theorem q907 : (Jvm.Cond.laysFinal "SmokedLettersModel" "SmokedLettersModel" "clerk" "[I") ∈ lw_all := lw_g (lw_at lw_m4 128 rfl) rfl
theorem q908 : (Jvm.Cond.soleField "SmokedLettersModel" "clerk") ∈ lw_all := lw_g (lw_at lw_m4 129 rfl) rfl
theorem q909 : (Jvm.Cond.laysFinal "SmokedLettersModel" "SmokedLettersModel" "st" "[I") ∈ lw_all := lw_g (lw_at lw_m4 130 rfl) rfl
theorem q910 : (Jvm.Cond.soleField "SmokedLettersModel" "st") ∈ lw_all := lw_g (lw_at lw_m4 131 rfl) rfl
theorem q911 : (Jvm.Cond.laysFinal "SmokedLettersModel" "SmokedLettersModel" "was" "[I") ∈ lw_all := lw_g (lw_at lw_m4 132 rfl) rfl
theorem q912 : (Jvm.Cond.soleField "SmokedLettersModel" "was") ∈ lw_all := lw_g (lw_at lw_m4 133 rfl) rfl
theorem q913 : (Jvm.Cond.lays "SmokedLettersModel" "SmokedLettersModel" "known" "I") ∈ lw_all := lw_g (lw_at lw_m4 134 rfl) rfl
theorem q914 : (Jvm.Cond.soleField "SmokedLettersModel" "known") ∈ lw_all := lw_g (lw_at lw_m4 135 rfl) rfl
theorem q915 : (Jvm.Cond.laysFinal "SmokedLettersModel" "SmokedLettersModel" "images" "[I") ∈ lw_all := lw_g (lw_at lw_m4 136 rfl) rfl
theorem q916 : (Jvm.Cond.soleField "SmokedLettersModel" "images") ∈ lw_all := lw_g (lw_at lw_m4 137 rfl) rfl
theorem q917 : (Jvm.Cond.laysFinal "SmokedLettersModel" "SmokedLettersModel" "isKept" "[Z") ∈ lw_all := lw_g (lw_at lw_m4 138 rfl) rfl
theorem q918 : (Jvm.Cond.soleField "SmokedLettersModel" "isKept") ∈ lw_all := lw_g (lw_at lw_m4 139 rfl) rfl
theorem q919 : (Jvm.Cond.lays "SmokedLettersModel" "SmokedLettersModel" "copies" "I") ∈ lw_all := lw_g (lw_at lw_m4 140 rfl) rfl
theorem q920 : (Jvm.Cond.soleField "SmokedLettersModel" "copies") ∈ lw_all := lw_g (lw_at lw_m4 141 rfl) rfl
theorem q921 : (Jvm.Cond.lays "SmokedLettersModel" "SmokedLettersModel" "copyLong" "I") ∈ lw_all := lw_g (lw_at lw_m4 142 rfl) rfl
theorem q922 : (Jvm.Cond.soleField "SmokedLettersModel" "copyLong") ∈ lw_all := lw_g (lw_at lw_m4 143 rfl) rfl
theorem q923 : (Jvm.Cond.laysFinal "SmokedLettersModel" "SmokedLettersModel" "copier" "[I") ∈ lw_all := lw_g (lw_at lw_m4 144 rfl) rfl
theorem q924 : (Jvm.Cond.soleField "SmokedLettersModel" "copier") ∈ lw_all := lw_g (lw_at lw_m4 145 rfl) rfl
theorem q925 : (Jvm.Cond.laysFinal "SmokedLettersModel" "SmokedLettersModel" "copy" "[I") ∈ lw_all := lw_g (lw_at lw_m4 146 rfl) rfl
theorem q926 : (Jvm.Cond.soleField "SmokedLettersModel" "copy") ∈ lw_all := lw_g (lw_at lw_m4 147 rfl) rfl
theorem q927 : (Jvm.Cond.lays "SmokedLettersModel" "SmokedLettersModel" "trace" "J") ∈ lw_all := lw_g (lw_at lw_m4 148 rfl) rfl
theorem q928 : (Jvm.Cond.soleField "SmokedLettersModel" "trace") ∈ lw_all := lw_g (lw_at lw_m4 149 rfl) rfl
theorem q929 : (Jvm.Cond.laysFinal "SmokedLettersModel" "SmokedLettersModel" "text" "[I") ∈ lw_all := lw_g (lw_at lw_m4 150 rfl) rfl
theorem q930 : (Jvm.Cond.soleField "SmokedLettersModel" "text") ∈ lw_all := lw_g (lw_at lw_m4 151 rfl) rfl
theorem q931 : (Jvm.Cond.lays "SmokedLettersModel" "SmokedLettersModel" "texted" "I") ∈ lw_all := lw_g (lw_at lw_m4 152 rfl) rfl
theorem q932 : (Jvm.Cond.soleField "SmokedLettersModel" "texted") ∈ lw_all := lw_g (lw_at lw_m4 153 rfl) rfl
theorem q933 : (Jvm.Cond.lays "SmokedLettersModel" "SmokedLettersModel" "cursor" "I") ∈ lw_all := lw_g (lw_at lw_m4 154 rfl) rfl
theorem q934 : (Jvm.Cond.soleField "SmokedLettersModel" "cursor") ∈ lw_all := lw_g (lw_at lw_m4 155 rfl) rfl
theorem q935 : (Jvm.Cond.lays "SmokedLettersModel" "SmokedLettersModel" "start" "I") ∈ lw_all := lw_g (lw_at lw_m4 156 rfl) rfl
theorem q936 : (Jvm.Cond.soleField "SmokedLettersModel" "start") ∈ lw_all := lw_g (lw_at lw_m4 157 rfl) rfl
theorem q937 : (Jvm.Cond.lays "SmokedLettersModel" "SmokedLettersModel" "token" "I") ∈ lw_all := lw_g (lw_at lw_m4 158 rfl) rfl
theorem q938 : (Jvm.Cond.soleField "SmokedLettersModel" "token") ∈ lw_all := lw_g (lw_at lw_m4 159 rfl) rfl
theorem q939 : (Jvm.Cond.lays "SmokedLettersModel" "SmokedLettersModel" "number" "I") ∈ lw_all := lw_g (lw_at lw_m4 160 rfl) rfl
theorem q940 : (Jvm.Cond.soleField "SmokedLettersModel" "number") ∈ lw_all := lw_g (lw_at lw_m4 161 rfl) rfl
theorem q941 : (Jvm.Cond.lays "SmokedLettersModel" "SmokedLettersModel" "isWrong" "Z") ∈ lw_all := lw_g (lw_at lw_m4 162 rfl) rfl
theorem q942 : (Jvm.Cond.soleField "SmokedLettersModel" "isWrong") ∈ lw_all := lw_g (lw_at lw_m4 163 rfl) rfl
theorem q943 : (Jvm.Cond.lays "SmokedLettersModel" "SmokedLettersModel" "saidTravellers" "I") ∈ lw_all := lw_g (lw_at lw_m4 164 rfl) rfl
theorem q944 : (Jvm.Cond.soleField "SmokedLettersModel" "saidTravellers") ∈ lw_all := lw_g (lw_at lw_m4 165 rfl) rfl
theorem q945 : (Jvm.Cond.laysFinal "SmokedLettersModel" "SmokedLettersModel" "saidTraveller" "[I") ∈ lw_all := lw_g (lw_at lw_m4 166 rfl) rfl
theorem q946 : (Jvm.Cond.soleField "SmokedLettersModel" "saidTraveller") ∈ lw_all := lw_g (lw_at lw_m4 167 rfl) rfl
theorem q947 : (Jvm.Cond.lays "SmokedLettersModel" "SmokedLettersModel" "saidClerks" "I") ∈ lw_all := lw_g (lw_at lw_m4 168 rfl) rfl
theorem q948 : (Jvm.Cond.soleField "SmokedLettersModel" "saidClerks") ∈ lw_all := lw_g (lw_at lw_m4 169 rfl) rfl
theorem q949 : (Jvm.Cond.laysFinal "SmokedLettersModel" "SmokedLettersModel" "saidClerk" "[I") ∈ lw_all := lw_g (lw_at lw_m4 170 rfl) rfl
theorem q950 : (Jvm.Cond.soleField "SmokedLettersModel" "saidClerk") ∈ lw_all := lw_g (lw_at lw_m4 171 rfl) rfl
theorem q951 : (Jvm.Cond.laysFinal "SmokedLettersModel" "SmokedLettersModel" "said" "[I") ∈ lw_all := lw_g (lw_at lw_m4 172 rfl) rfl
theorem q952 : (Jvm.Cond.soleField "SmokedLettersModel" "said") ∈ lw_all := lw_g (lw_at lw_m4 173 rfl) rfl
theorem q953 : (Jvm.Cond.lays "SmokedLettersModel" "SmokedLettersModel" "saidSet" "I") ∈ lw_all := lw_g (lw_at lw_m4 174 rfl) rfl
theorem q954 : (Jvm.Cond.soleField "SmokedLettersModel" "saidSet") ∈ lw_all := lw_g (lw_at lw_m4 175 rfl) rfl
theorem q955 : (Jvm.Cond.laysFinal "SmokedLettersModel" "SmokedLettersModel" "put" "[I") ∈ lw_all := lw_g (lw_at lw_m4 176 rfl) rfl
theorem q956 : (Jvm.Cond.soleField "SmokedLettersModel" "put") ∈ lw_all := lw_g (lw_at lw_m4 177 rfl) rfl
theorem q957 : (Jvm.Cond.laysFinal "SmokedLettersModel" "SmokedLettersModel" "lies" "[I") ∈ lw_all := lw_g (lw_at lw_m4 178 rfl) rfl
theorem q958 : (Jvm.Cond.soleField "SmokedLettersModel" "lies") ∈ lw_all := lw_g (lw_at lw_m4 179 rfl) rfl
theorem q959 : (Jvm.Cond.laysFinal "SmokedLettersModel" "SmokedLettersModel" "days" "[I") ∈ lw_all := lw_g (lw_at lw_m4 180 rfl) rfl
theorem q960 : (Jvm.Cond.soleField "SmokedLettersModel" "days") ∈ lw_all := lw_g (lw_at lw_m4 181 rfl) rfl
theorem q961 : (Jvm.Cond.laysFinal "SmokedLettersModel" "SmokedLettersModel" "sailed" "[I") ∈ lw_all := lw_g (lw_at lw_m4 182 rfl) rfl
theorem q962 : (Jvm.Cond.soleField "SmokedLettersModel" "sailed") ∈ lw_all := lw_g (lw_at lw_m4 183 rfl) rfl
theorem q963 : (Jvm.Cond.laysFinal "SmokedLettersModel" "SmokedLettersModel" "sick" "[J") ∈ lw_all := lw_g (lw_at lw_m4 184 rfl) rfl
theorem q964 : (Jvm.Cond.soleField "SmokedLettersModel" "sick") ∈ lw_all := lw_g (lw_at lw_m4 185 rfl) rfl
theorem q965 : (Jvm.Cond.laysFinal "SmokedLettersModel" "SmokedLettersModel" "letter" "[I") ∈ lw_all := lw_g (lw_at lw_m4 186 rfl) rfl
theorem q966 : (Jvm.Cond.soleField "SmokedLettersModel" "letter") ∈ lw_all := lw_g (lw_at lw_m4 187 rfl) rfl
theorem q967 : (Jvm.Cond.laysFinal "SmokedLettersModel" "SmokedLettersModel" "smoked" "[I") ∈ lw_all := lw_g (lw_at lw_m4 188 rfl) rfl
theorem q968 : (Jvm.Cond.soleField "SmokedLettersModel" "smoked") ∈ lw_all := lw_g (lw_at lw_m4 189 rfl) rfl
theorem q969 : (Jvm.Cond.lays "SmokedLettersModel" "SmokedLettersModel" "letterLong" "I") ∈ lw_all := lw_g (lw_at lw_m4 190 rfl) rfl
theorem q970 : (Jvm.Cond.soleField "SmokedLettersModel" "letterLong") ∈ lw_all := lw_g (lw_at lw_m4 191 rfl) rfl
theorem q971 : (Jvm.Cond.laysFinal "SmokedLettersModel" "SmokedLettersModel" "row" "[I") ∈ lw_all := lw_g (lw_at lw_m4 192 rfl) rfl
theorem q972 : (Jvm.Cond.soleField "SmokedLettersModel" "row") ∈ lw_all := lw_g (lw_at lw_m4 193 rfl) rfl
theorem q973 : (Jvm.Cond.superclass "SmokedLettersModel" "java/lang/Object") ∈ lw_all := lw_g (lw_at lw_m4 194 rfl) rfl
theorem q976 : (Jvm.Cond.instanceMethod ({ cls := "SmokedLettersModel", name := "type", desc := "(I)I" } : Jvm.MethodName)) ∈ lw_all := lw_g (lw_at lw_m4 197 rfl) rfl
theorem q977 : (Jvm.Cond.selects "SmokedLettersModel" ({ cls := "SmokedLettersModel", name := "type", desc := "(I)I" } : Jvm.MethodName) ({ cls := "SmokedLettersModel", name := "type", desc := "(I)I" } : Jvm.MethodName)) ∈ lw_all := lw_g (lw_at lw_m4 198 rfl) rfl
theorem q978 : (Jvm.Cond.code ({ cls := "SmokedLettersModel", name := "type", desc := "(I)I" } : Jvm.MethodName) prog_13_method_9_code (2 : Nat) (Option.some Jvm.ClassFile.FieldType.int)) ∈ lw_all := lw_g (lw_at lw_m4 199 rfl) rfl
theorem q979 : (Jvm.Cond.methodLink "SmokedLettersModel" (85 : Nat) ({ cls := "SmokedLettersModel", name := "in", desc := "(III)Z" } : Jvm.MethodName)) ∈ lw_all := lw_g (lw_at lw_m4 200 rfl) rfl
theorem q980 : (Jvm.Cond.static ({ cls := "SmokedLettersModel", name := "in", desc := "(III)Z" } : Jvm.MethodName)) ∈ lw_all := lw_g (lw_at lw_m4 201 rfl) rfl
theorem q981 : (Jvm.Cond.code ({ cls := "SmokedLettersModel", name := "in", desc := "(III)Z" } : Jvm.MethodName) prog_13_method_3_code (3 : Nat) (Option.some Jvm.ClassFile.FieldType.boolean)) ∈ lw_all := lw_g (lw_at lw_m4 202 rfl) rfl
theorem q983 : (Jvm.Cond.instanceMethod ({ cls := "SmokedLettersModel", name := "clear", desc := "()I" } : Jvm.MethodName)) ∈ lw_all := lw_g (lw_at lw_m4 204 rfl) rfl
theorem q984 : (Jvm.Cond.selects "SmokedLettersModel" ({ cls := "SmokedLettersModel", name := "clear", desc := "()I" } : Jvm.MethodName) ({ cls := "SmokedLettersModel", name := "clear", desc := "()I" } : Jvm.MethodName)) ∈ lw_all := lw_g (lw_at lw_m4 205 rfl) rfl
theorem q985 : (Jvm.Cond.code ({ cls := "SmokedLettersModel", name := "clear", desc := "()I" } : Jvm.MethodName) prog_13_method_10_code (2 : Nat) (Option.some Jvm.ClassFile.FieldType.int)) ∈ lw_all := lw_g (lw_at lw_m4 206 rfl) rfl
theorem q987 : (Jvm.Cond.instanceMethod ({ cls := "SmokedLettersModel", name := "island", desc := "()I" } : Jvm.MethodName)) ∈ lw_all := lw_g (lw_at lw_m4 208 rfl) rfl
theorem q988 : (Jvm.Cond.selects "SmokedLettersModel" ({ cls := "SmokedLettersModel", name := "island", desc := "()I" } : Jvm.MethodName) ({ cls := "SmokedLettersModel", name := "island", desc := "()I" } : Jvm.MethodName)) ∈ lw_all := lw_g (lw_at lw_m4 209 rfl) rfl
theorem q989 : (Jvm.Cond.code ({ cls := "SmokedLettersModel", name := "island", desc := "()I" } : Jvm.MethodName) prog_13_method_19_code (3 : Nat) (Option.some Jvm.ClassFile.FieldType.int)) ∈ lw_all := lw_g (lw_at lw_m4 210 rfl) rfl
theorem q990 : (Jvm.Cond.methodLink "SmokedLettersModel" (115 : Nat) ({ cls := "SmokedLettersModel", name := "next", desc := "()V" } : Jvm.MethodName)) ∈ lw_all := lw_g (lw_at lw_m4 211 rfl) rfl
theorem q991 : (Jvm.Cond.privateMethod ({ cls := "SmokedLettersModel", name := "next", desc := "()V" } : Jvm.MethodName)) ∈ lw_tbl := lw_at lw_m4 212 rfl
theorem q992 : (Jvm.Cond.instanceMethod ({ cls := "SmokedLettersModel", name := "next", desc := "()V" } : Jvm.MethodName)) ∈ lw_all := lw_g (lw_at lw_m4 213 rfl) rfl
theorem q993 : (Jvm.Cond.code ({ cls := "SmokedLettersModel", name := "next", desc := "()V" } : Jvm.MethodName) prog_13_method_12_code (3 : Nat) (Option.none : Option Jvm.ClassFile.FieldType)) ∈ lw_all := lw_g (lw_at lw_m4 214 rfl) rfl
theorem q994 : (Jvm.Cond.methodLink "SmokedLettersModel" (98 : Nat) ({ cls := "SmokedLettersModel", name := "letterAt", desc := "(I)I" } : Jvm.MethodName)) ∈ lw_all := lw_g (lw_at lw_m4 215 rfl) rfl
theorem q995 : (Jvm.Cond.privateMethod ({ cls := "SmokedLettersModel", name := "letterAt", desc := "(I)I" } : Jvm.MethodName)) ∈ lw_tbl := lw_at lw_m4 216 rfl
theorem q996 : (Jvm.Cond.instanceMethod ({ cls := "SmokedLettersModel", name := "letterAt", desc := "(I)I" } : Jvm.MethodName)) ∈ lw_all := lw_g (lw_at lw_m4 217 rfl) rfl
theorem q997 : (Jvm.Cond.code ({ cls := "SmokedLettersModel", name := "letterAt", desc := "(I)I" } : Jvm.MethodName) prog_13_method_11_code (2 : Nat) (Option.some Jvm.ClassFile.FieldType.int)) ∈ lw_all := lw_g (lw_at lw_m4 218 rfl) rfl
theorem q998 : (Jvm.Cond.methodLink "SmokedLettersModel" (149 : Nat) ({ cls := "SmokedLettersModel", name := "readItem", desc := "()V" } : Jvm.MethodName)) ∈ lw_all := lw_g (lw_at lw_m4 219 rfl) rfl
theorem q999 : (Jvm.Cond.privateMethod ({ cls := "SmokedLettersModel", name := "readItem", desc := "()V" } : Jvm.MethodName)) ∈ lw_tbl := lw_at lw_m4 220 rfl
theorem q1000 : (Jvm.Cond.instanceMethod ({ cls := "SmokedLettersModel", name := "readItem", desc := "()V" } : Jvm.MethodName)) ∈ lw_all := lw_g (lw_at lw_m4 221 rfl) rfl
theorem q1001 : (Jvm.Cond.code ({ cls := "SmokedLettersModel", name := "readItem", desc := "()V" } : Jvm.MethodName) prog_13_method_18_code (2 : Nat) (Option.none : Option Jvm.ClassFile.FieldType)) ∈ lw_all := lw_g (lw_at lw_m4 222 rfl) rfl
theorem q1002 : (Jvm.Cond.methodLink "SmokedLettersModel" (139 : Nat) ({ cls := "SmokedLettersModel", name := "readOne", desc := "(II)V" } : Jvm.MethodName)) ∈ lw_all := lw_g (lw_at lw_m4 223 rfl) rfl
theorem q1003 : (Jvm.Cond.privateMethod ({ cls := "SmokedLettersModel", name := "readOne", desc := "(II)V" } : Jvm.MethodName)) ∈ lw_tbl := lw_at lw_m4 224 rfl
theorem q1004 : (Jvm.Cond.instanceMethod ({ cls := "SmokedLettersModel", name := "readOne", desc := "(II)V" } : Jvm.MethodName)) ∈ lw_all := lw_g (lw_at lw_m4 225 rfl) rfl
theorem q1005 : (Jvm.Cond.code ({ cls := "SmokedLettersModel", name := "readOne", desc := "(II)V" } : Jvm.MethodName) prog_13_method_15_code (3 : Nat) (Option.none : Option Jvm.ClassFile.FieldType)) ∈ lw_all := lw_g (lw_at lw_m4 226 rfl) rfl
theorem q1006 : (Jvm.Cond.methodLink "SmokedLettersModel" (125 : Nat) ({ cls := "SmokedLettersModel", name := "has", desc := "(II)Z" } : Jvm.MethodName)) ∈ lw_all := lw_g (lw_at lw_m4 227 rfl) rfl
theorem q1007 : (Jvm.Cond.static ({ cls := "SmokedLettersModel", name := "has", desc := "(II)Z" } : Jvm.MethodName)) ∈ lw_all := lw_g (lw_at lw_m4 228 rfl) rfl
theorem q1008 : (Jvm.Cond.code ({ cls := "SmokedLettersModel", name := "has", desc := "(II)Z" } : Jvm.MethodName) prog_13_method_4_code (2 : Nat) (Option.some Jvm.ClassFile.FieldType.boolean)) ∈ lw_all := lw_g (lw_at lw_m4 229 rfl) rfl
theorem q1009 : (Jvm.Cond.methodLink "SmokedLettersModel" (118 : Nat) ({ cls := "SmokedLettersModel", name := "must", desc := "(Z)V" } : Jvm.MethodName)) ∈ lw_all := lw_g (lw_at lw_m4 230 rfl) rfl
theorem q1010 : (Jvm.Cond.privateMethod ({ cls := "SmokedLettersModel", name := "must", desc := "(Z)V" } : Jvm.MethodName)) ∈ lw_tbl := lw_at lw_m4 231 rfl
theorem q1011 : (Jvm.Cond.instanceMethod ({ cls := "SmokedLettersModel", name := "must", desc := "(Z)V" } : Jvm.MethodName)) ∈ lw_all := lw_g (lw_at lw_m4 232 rfl) rfl
theorem q1012 : (Jvm.Cond.code ({ cls := "SmokedLettersModel", name := "must", desc := "(Z)V" } : Jvm.MethodName) prog_13_method_13_code (2 : Nat) (Option.none : Option Jvm.ClassFile.FieldType)) ∈ lw_all := lw_g (lw_at lw_m4 233 rfl) rfl
theorem q1013 : (Jvm.Cond.methodLink "SmokedLettersModel" (129 : Nat) ({ cls := "SmokedLettersModel", name := "readInto", desc := "([IIII)I" } : Jvm.MethodName)) ∈ lw_all := lw_g (lw_at lw_m4 234 rfl) rfl
theorem q1014 : (Jvm.Cond.privateMethod ({ cls := "SmokedLettersModel", name := "readInto", desc := "([IIII)I" } : Jvm.MethodName)) ∈ lw_tbl := lw_at lw_m4 235 rfl
theorem q1015 : (Jvm.Cond.instanceMethod ({ cls := "SmokedLettersModel", name := "readInto", desc := "([IIII)I" } : Jvm.MethodName)) ∈ lw_all := lw_g (lw_at lw_m4 236 rfl) rfl
theorem q1016 : (Jvm.Cond.code ({ cls := "SmokedLettersModel", name := "readInto", desc := "([IIII)I" } : Jvm.MethodName) prog_13_method_14_code (6 : Nat) (Option.some Jvm.ClassFile.FieldType.int)) ∈ lw_all := lw_g (lw_at lw_m4 237 rfl) rfl
theorem q1017 : (Jvm.Cond.methodLink "SmokedLettersModel" (143 : Nat) ({ cls := "SmokedLettersModel", name := "readTraveller", desc := "()V" } : Jvm.MethodName)) ∈ lw_all := lw_g (lw_at lw_m4 238 rfl) rfl
theorem q1018 : (Jvm.Cond.privateMethod ({ cls := "SmokedLettersModel", name := "readTraveller", desc := "()V" } : Jvm.MethodName)) ∈ lw_tbl := lw_at lw_m4 239 rfl
theorem q1019 : (Jvm.Cond.instanceMethod ({ cls := "SmokedLettersModel", name := "readTraveller", desc := "()V" } : Jvm.MethodName)) ∈ lw_all := lw_g (lw_at lw_m5 0 rfl) rfl
theorem q1020 : (Jvm.Cond.code ({ cls := "SmokedLettersModel", name := "readTraveller", desc := "()V" } : Jvm.MethodName) prog_13_method_16_code (1 : Nat) (Option.none : Option Jvm.ClassFile.FieldType)) ∈ lw_all := lw_g (lw_at lw_m5 1 rfl) rfl
theorem q1021 : (Jvm.Cond.methodLink "SmokedLettersModel" (146 : Nat) ({ cls := "SmokedLettersModel", name := "readClerk", desc := "()V" } : Jvm.MethodName)) ∈ lw_all := lw_g (lw_at lw_m5 2 rfl) rfl
theorem q1022 : (Jvm.Cond.privateMethod ({ cls := "SmokedLettersModel", name := "readClerk", desc := "()V" } : Jvm.MethodName)) ∈ lw_tbl := lw_at lw_m5 3 rfl
theorem q1023 : (Jvm.Cond.instanceMethod ({ cls := "SmokedLettersModel", name := "readClerk", desc := "()V" } : Jvm.MethodName)) ∈ lw_all := lw_g (lw_at lw_m5 4 rfl) rfl
theorem q1024 : (Jvm.Cond.code ({ cls := "SmokedLettersModel", name := "readClerk", desc := "()V" } : Jvm.MethodName) prog_13_method_17_code (4 : Nat) (Option.none : Option Jvm.ClassFile.FieldType)) ∈ lw_all := lw_g (lw_at lw_m5 5 rfl) rfl
theorem q1026 : (Jvm.Cond.instanceMethod ({ cls := "SmokedLettersModel", name := "traveller", desc := "(II)I" } : Jvm.MethodName)) ∈ lw_all := lw_g (lw_at lw_m5 7 rfl) rfl
theorem q1027 : (Jvm.Cond.selects "SmokedLettersModel" ({ cls := "SmokedLettersModel", name := "traveller", desc := "(II)I" } : Jvm.MethodName) ({ cls := "SmokedLettersModel", name := "traveller", desc := "(II)I" } : Jvm.MethodName)) ∈ lw_all := lw_g (lw_at lw_m5 8 rfl) rfl
theorem q1028 : (Jvm.Cond.code ({ cls := "SmokedLettersModel", name := "traveller", desc := "(II)I" } : Jvm.MethodName) prog_13_method_22_code (3 : Nat) (Option.some Jvm.ClassFile.FieldType.int)) ∈ lw_all := lw_g (lw_at lw_m5 9 rfl) rfl
theorem q1029 : (Jvm.Cond.methodLink "SmokedLettersModel" (158 : Nat) ({ cls := "SmokedLettersModel", name := "isTraveller", desc := "(I)Z" } : Jvm.MethodName)) ∈ lw_all := lw_g (lw_at lw_m5 10 rfl) rfl
theorem q1030 : (Jvm.Cond.privateMethod ({ cls := "SmokedLettersModel", name := "isTraveller", desc := "(I)Z" } : Jvm.MethodName)) ∈ lw_tbl := lw_at lw_m5 11 rfl
theorem q1031 : (Jvm.Cond.instanceMethod ({ cls := "SmokedLettersModel", name := "isTraveller", desc := "(I)Z" } : Jvm.MethodName)) ∈ lw_all := lw_g (lw_at lw_m5 12 rfl) rfl
theorem q1032 : (Jvm.Cond.code ({ cls := "SmokedLettersModel", name := "isTraveller", desc := "(I)Z" } : Jvm.MethodName) prog_13_method_6_code (2 : Nat) (Option.some Jvm.ClassFile.FieldType.boolean)) ∈ lw_all := lw_g (lw_at lw_m5 13 rfl) rfl
theorem q1034 : (Jvm.Cond.instanceMethod ({ cls := "SmokedLettersModel", name := "clerk", desc := "(II)I" } : Jvm.MethodName)) ∈ lw_all := lw_g (lw_at lw_m5 15 rfl) rfl
theorem q1035 : (Jvm.Cond.selects "SmokedLettersModel" ({ cls := "SmokedLettersModel", name := "clerk", desc := "(II)I" } : Jvm.MethodName) ({ cls := "SmokedLettersModel", name := "clerk", desc := "(II)I" } : Jvm.MethodName)) ∈ lw_all := lw_g (lw_at lw_m5 16 rfl) rfl
theorem q1036 : (Jvm.Cond.code ({ cls := "SmokedLettersModel", name := "clerk", desc := "(II)I" } : Jvm.MethodName) prog_13_method_23_code (3 : Nat) (Option.some Jvm.ClassFile.FieldType.int)) ∈ lw_all := lw_g (lw_at lw_m5 17 rfl) rfl
theorem q1037 : (Jvm.Cond.methodLink "SmokedLettersModel" (162 : Nat) ({ cls := "SmokedLettersModel", name := "isClerk", desc := "(I)Z" } : Jvm.MethodName)) ∈ lw_all := lw_g (lw_at lw_m5 18 rfl) rfl
theorem q1038 : (Jvm.Cond.privateMethod ({ cls := "SmokedLettersModel", name := "isClerk", desc := "(I)Z" } : Jvm.MethodName)) ∈ lw_tbl := lw_at lw_m5 19 rfl
theorem q1039 : (Jvm.Cond.instanceMethod ({ cls := "SmokedLettersModel", name := "isClerk", desc := "(I)Z" } : Jvm.MethodName)) ∈ lw_all := lw_g (lw_at lw_m5 20 rfl) rfl
theorem q1040 : (Jvm.Cond.code ({ cls := "SmokedLettersModel", name := "isClerk", desc := "(I)Z" } : Jvm.MethodName) prog_13_method_8_code (2 : Nat) (Option.some Jvm.ClassFile.FieldType.boolean)) ∈ lw_all := lw_g (lw_at lw_m5 21 rfl) rfl
theorem q1042 : (Jvm.Cond.instanceMethod ({ cls := "SmokedLettersModel", name := "now", desc := "(I)I" } : Jvm.MethodName)) ∈ lw_all := lw_g (lw_at lw_m5 23 rfl) rfl
theorem q1043 : (Jvm.Cond.selects "SmokedLettersModel" ({ cls := "SmokedLettersModel", name := "now", desc := "(I)I" } : Jvm.MethodName) ({ cls := "SmokedLettersModel", name := "now", desc := "(I)I" } : Jvm.MethodName)) ∈ lw_all := lw_g (lw_at lw_m5 24 rfl) rfl
theorem q1044 : (Jvm.Cond.code ({ cls := "SmokedLettersModel", name := "now", desc := "(I)I" } : Jvm.MethodName) prog_13_method_26_code (2 : Nat) (Option.some Jvm.ClassFile.FieldType.int)) ∈ lw_all := lw_g (lw_at lw_m5 25 rfl) rfl
theorem q1045 : (Jvm.Cond.methodLink "SmokedLettersModel" (168 : Nat) ({ cls := "SmokedLettersModel", name := "leavers", desc := "()I" } : Jvm.MethodName)) ∈ lw_all := lw_g (lw_at lw_m5 26 rfl) rfl
theorem q1046 : (Jvm.Cond.privateMethod ({ cls := "SmokedLettersModel", name := "leavers", desc := "()I" } : Jvm.MethodName)) ∈ lw_tbl := lw_at lw_m5 27 rfl
theorem q1047 : (Jvm.Cond.instanceMethod ({ cls := "SmokedLettersModel", name := "leavers", desc := "()I" } : Jvm.MethodName)) ∈ lw_all := lw_g (lw_at lw_m5 28 rfl) rfl
theorem q1048 : (Jvm.Cond.code ({ cls := "SmokedLettersModel", name := "leavers", desc := "()I" } : Jvm.MethodName) prog_13_method_24_code (3 : Nat) (Option.some Jvm.ClassFile.FieldType.int)) ∈ lw_all := lw_g (lw_at lw_m5 29 rfl) rfl
theorem q1049 : (Jvm.Cond.methodLink "SmokedLettersModel" (165 : Nat) ({ cls := "SmokedLettersModel", name := "mayLeave", desc := "(I)Z" } : Jvm.MethodName)) ∈ lw_all := lw_g (lw_at lw_m5 30 rfl) rfl
theorem q1050 : (Jvm.Cond.privateMethod ({ cls := "SmokedLettersModel", name := "mayLeave", desc := "(I)Z" } : Jvm.MethodName)) ∈ lw_tbl := lw_at lw_m5 31 rfl
theorem q1051 : (Jvm.Cond.instanceMethod ({ cls := "SmokedLettersModel", name := "mayLeave", desc := "(I)Z" } : Jvm.MethodName)) ∈ lw_all := lw_g (lw_at lw_m5 32 rfl) rfl
theorem q1052 : (Jvm.Cond.code ({ cls := "SmokedLettersModel", name := "mayLeave", desc := "(I)Z" } : Jvm.MethodName) prog_13_method_20_code (2 : Nat) (Option.some Jvm.ClassFile.FieldType.boolean)) ∈ lw_all := lw_g (lw_at lw_m5 33 rfl) rfl
theorem q1053 : (Jvm.Cond.methodLink "SmokedLettersModel" (172 : Nat) ({ cls := "SmokedLettersModel", name := "goneSet", desc := "()I" } : Jvm.MethodName)) ∈ lw_all := lw_g (lw_at lw_m5 34 rfl) rfl
theorem q1054 : (Jvm.Cond.privateMethod ({ cls := "SmokedLettersModel", name := "goneSet", desc := "()I" } : Jvm.MethodName)) ∈ lw_tbl := lw_at lw_m5 35 rfl
theorem q1055 : (Jvm.Cond.instanceMethod ({ cls := "SmokedLettersModel", name := "goneSet", desc := "()I" } : Jvm.MethodName)) ∈ lw_all := lw_g (lw_at lw_m5 36 rfl) rfl
theorem q1056 : (Jvm.Cond.code ({ cls := "SmokedLettersModel", name := "goneSet", desc := "()I" } : Jvm.MethodName) prog_13_method_25_code (3 : Nat) (Option.some Jvm.ClassFile.FieldType.int)) ∈ lw_all := lw_g (lw_at lw_m5 37 rfl) rfl
theorem q1057 : (Jvm.Cond.methodLink "SmokedLettersModel" (175 : Nat) ({ cls := "SmokedLettersModel", name := "sailsOn", desc := "(I)Z" } : Jvm.MethodName)) ∈ lw_all := lw_g (lw_at lw_m5 38 rfl) rfl
theorem q1058 : (Jvm.Cond.privateMethod ({ cls := "SmokedLettersModel", name := "sailsOn", desc := "(I)Z" } : Jvm.MethodName)) ∈ lw_tbl := lw_at lw_m5 39 rfl
theorem q1059 : (Jvm.Cond.instanceMethod ({ cls := "SmokedLettersModel", name := "sailsOn", desc := "(I)Z" } : Jvm.MethodName)) ∈ lw_all := lw_g (lw_at lw_m5 40 rfl) rfl
theorem q1060 : (Jvm.Cond.code ({ cls := "SmokedLettersModel", name := "sailsOn", desc := "(I)Z" } : Jvm.MethodName) prog_13_method_21_code (2 : Nat) (Option.some Jvm.ClassFile.FieldType.boolean)) ∈ lw_all := lw_g (lw_at lw_m5 41 rfl) rfl
theorem q1062 : (Jvm.Cond.instanceMethod ({ cls := "SmokedLettersModel", name := "puts", desc := "(II)I" } : Jvm.MethodName)) ∈ lw_all := lw_g (lw_at lw_m5 43 rfl) rfl
theorem q1063 : (Jvm.Cond.selects "SmokedLettersModel" ({ cls := "SmokedLettersModel", name := "puts", desc := "(II)I" } : Jvm.MethodName) ({ cls := "SmokedLettersModel", name := "puts", desc := "(II)I" } : Jvm.MethodName)) ∈ lw_all := lw_g (lw_at lw_m5 44 rfl) rfl
theorem q1064 : (Jvm.Cond.code ({ cls := "SmokedLettersModel", name := "puts", desc := "(II)I" } : Jvm.MethodName) prog_13_method_28_code (6 : Nat) (Option.some Jvm.ClassFile.FieldType.int)) ∈ lw_all := lw_g (lw_at lw_m5 45 rfl) rfl
theorem q1065 : (Jvm.Cond.methodLink "SmokedLettersModel" (178 : Nat) ({ cls := "SmokedLettersModel", name := "isRow", desc := "(I)Z" } : Jvm.MethodName)) ∈ lw_all := lw_g (lw_at lw_m5 46 rfl) rfl
theorem q1066 : (Jvm.Cond.privateMethod ({ cls := "SmokedLettersModel", name := "isRow", desc := "(I)Z" } : Jvm.MethodName)) ∈ lw_tbl := lw_at lw_m5 47 rfl
theorem q1067 : (Jvm.Cond.instanceMethod ({ cls := "SmokedLettersModel", name := "isRow", desc := "(I)Z" } : Jvm.MethodName)) ∈ lw_all := lw_g (lw_at lw_m5 48 rfl) rfl
theorem q1068 : (Jvm.Cond.code ({ cls := "SmokedLettersModel", name := "isRow", desc := "(I)Z" } : Jvm.MethodName) prog_13_method_7_code (2 : Nat) (Option.some Jvm.ClassFile.FieldType.boolean)) ∈ lw_all := lw_g (lw_at lw_m5 49 rfl) rfl
theorem q1069 : (Jvm.Cond.methodLink "SmokedLettersModel" (181 : Nat) ({ cls := "SmokedLettersModel", name := "remembers", desc := "()V" } : Jvm.MethodName)) ∈ lw_all := lw_g (lw_at lw_m5 50 rfl) rfl
theorem q1070 : (Jvm.Cond.privateMethod ({ cls := "SmokedLettersModel", name := "remembers", desc := "()V" } : Jvm.MethodName)) ∈ lw_tbl := lw_at lw_m5 51 rfl
theorem q1071 : (Jvm.Cond.instanceMethod ({ cls := "SmokedLettersModel", name := "remembers", desc := "()V" } : Jvm.MethodName)) ∈ lw_all := lw_g (lw_at lw_m5 52 rfl) rfl
theorem q1072 : (Jvm.Cond.code ({ cls := "SmokedLettersModel", name := "remembers", desc := "()V" } : Jvm.MethodName) prog_13_method_27_code (2 : Nat) (Option.none : Option Jvm.ClassFile.FieldType)) ∈ lw_all := lw_g (lw_at lw_m5 53 rfl) rfl
theorem q1074 : (Jvm.Cond.instanceMethod ({ cls := "SmokedLettersModel", name := "day", desc := "()I" } : Jvm.MethodName)) ∈ lw_all := lw_g (lw_at lw_m5 55 rfl) rfl
theorem q1075 : (Jvm.Cond.selects "SmokedLettersModel" ({ cls := "SmokedLettersModel", name := "day", desc := "()I" } : Jvm.MethodName) ({ cls := "SmokedLettersModel", name := "day", desc := "()I" } : Jvm.MethodName)) ∈ lw_all := lw_g (lw_at lw_m5 56 rfl) rfl
theorem q1076 : (Jvm.Cond.code ({ cls := "SmokedLettersModel", name := "day", desc := "()I" } : Jvm.MethodName) prog_13_method_30_code (2 : Nat) (Option.some Jvm.ClassFile.FieldType.int)) ∈ lw_all := lw_g (lw_at lw_m5 57 rfl) rfl
theorem q1077 : (Jvm.Cond.methodLink "SmokedLettersModel" (184 : Nat) ({ cls := "SmokedLettersModel", name := "vinegar", desc := "([II)I" } : Jvm.MethodName)) ∈ lw_all := lw_g (lw_at lw_m5 58 rfl) rfl
theorem q1078 : (Jvm.Cond.privateMethod ({ cls := "SmokedLettersModel", name := "vinegar", desc := "([II)I" } : Jvm.MethodName)) ∈ lw_tbl := lw_at lw_m5 59 rfl
theorem q1079 : (Jvm.Cond.instanceMethod ({ cls := "SmokedLettersModel", name := "vinegar", desc := "([II)I" } : Jvm.MethodName)) ∈ lw_all := lw_g (lw_at lw_m5 60 rfl) rfl
theorem q1080 : (Jvm.Cond.code ({ cls := "SmokedLettersModel", name := "vinegar", desc := "([II)I" } : Jvm.MethodName) prog_13_method_29_code (7 : Nat) (Option.some Jvm.ClassFile.FieldType.int)) ∈ lw_all := lw_g (lw_at lw_m5 61 rfl) rfl
theorem q1082 : (Jvm.Cond.instanceMethod ({ cls := "SmokedLettersModel", name := "sails", desc := "(I)I" } : Jvm.MethodName)) ∈ lw_all := lw_g (lw_at lw_m5 63 rfl) rfl
theorem q1083 : (Jvm.Cond.selects "SmokedLettersModel" ({ cls := "SmokedLettersModel", name := "sails", desc := "(I)I" } : Jvm.MethodName) ({ cls := "SmokedLettersModel", name := "sails", desc := "(I)I" } : Jvm.MethodName)) ∈ lw_all := lw_g (lw_at lw_m5 64 rfl) rfl
theorem q1084 : (Jvm.Cond.code ({ cls := "SmokedLettersModel", name := "sails", desc := "(I)I" } : Jvm.MethodName) prog_13_method_31_code (2 : Nat) (Option.some Jvm.ClassFile.FieldType.int)) ∈ lw_all := lw_g (lw_at lw_m5 65 rfl) rfl
theorem q1085 : (Jvm.Cond.methodLink "SmokedLettersModel" (188 : Nat) ({ cls := "SmokedLettersModel", name := "bits", desc := "(I)I" } : Jvm.MethodName)) ∈ lw_all := lw_g (lw_at lw_m5 66 rfl) rfl
theorem q1086 : (Jvm.Cond.static ({ cls := "SmokedLettersModel", name := "bits", desc := "(I)I" } : Jvm.MethodName)) ∈ lw_all := lw_g (lw_at lw_m5 67 rfl) rfl
theorem q1087 : (Jvm.Cond.code ({ cls := "SmokedLettersModel", name := "bits", desc := "(I)I" } : Jvm.MethodName) prog_13_method_5_code (3 : Nat) (Option.some Jvm.ClassFile.FieldType.int)) ∈ lw_all := lw_g (lw_at lw_m5 68 rfl) rfl
theorem q1089 : (Jvm.Cond.instanceMethod ({ cls := "SmokedLettersModel", name := "undo", desc := "()I" } : Jvm.MethodName)) ∈ lw_all := lw_g (lw_at lw_m5 70 rfl) rfl
theorem q1090 : (Jvm.Cond.selects "SmokedLettersModel" ({ cls := "SmokedLettersModel", name := "undo", desc := "()I" } : Jvm.MethodName) ({ cls := "SmokedLettersModel", name := "undo", desc := "()I" } : Jvm.MethodName)) ∈ lw_all := lw_g (lw_at lw_m5 71 rfl) rfl
theorem q1091 : (Jvm.Cond.code ({ cls := "SmokedLettersModel", name := "undo", desc := "()I" } : Jvm.MethodName) prog_13_method_32_code (2 : Nat) (Option.some Jvm.ClassFile.FieldType.int)) ∈ lw_all := lw_g (lw_at lw_m5 72 rfl) rfl
theorem q1093 : (Jvm.Cond.instanceMethod ({ cls := "SmokedLettersModel", name := "most", desc := "(II)I" } : Jvm.MethodName)) ∈ lw_all := lw_g (lw_at lw_m5 74 rfl) rfl
theorem q1094 : (Jvm.Cond.selects "SmokedLettersModel" ({ cls := "SmokedLettersModel", name := "most", desc := "(II)I" } : Jvm.MethodName) ({ cls := "SmokedLettersModel", name := "most", desc := "(II)I" } : Jvm.MethodName)) ∈ lw_all := lw_g (lw_at lw_m5 75 rfl) rfl
theorem q1095 : (Jvm.Cond.code ({ cls := "SmokedLettersModel", name := "most", desc := "(II)I" } : Jvm.MethodName) prog_13_method_38_code (6 : Nat) (Option.some Jvm.ClassFile.FieldType.int)) ∈ lw_all := lw_g (lw_at lw_m5 76 rfl) rfl
theorem q1096 : (Jvm.Cond.methodLink "SmokedLettersModel" (195 : Nat) ({ cls := "SmokedLettersModel", name := "power", desc := "(II)I" } : Jvm.MethodName)) ∈ lw_all := lw_g (lw_at lw_m5 77 rfl) rfl
theorem q1097 : (Jvm.Cond.privateMethod ({ cls := "SmokedLettersModel", name := "power", desc := "(II)I" } : Jvm.MethodName)) ∈ lw_tbl := lw_at lw_m5 78 rfl
theorem q1098 : (Jvm.Cond.instanceMethod ({ cls := "SmokedLettersModel", name := "power", desc := "(II)I" } : Jvm.MethodName)) ∈ lw_all := lw_g (lw_at lw_m5 79 rfl) rfl
theorem q1099 : (Jvm.Cond.code ({ cls := "SmokedLettersModel", name := "power", desc := "(II)I" } : Jvm.MethodName) prog_13_method_35_code (5 : Nat) (Option.some Jvm.ClassFile.FieldType.int)) ∈ lw_all := lw_g (lw_at lw_m5 80 rfl) rfl
theorem q1100 : (Jvm.Cond.methodLink "SmokedLettersModel" (199 : Nat) ({ cls := "SmokedLettersModel", name := "lays", desc := "(I)V" } : Jvm.MethodName)) ∈ lw_all := lw_g (lw_at lw_m5 81 rfl) rfl
theorem q1101 : (Jvm.Cond.privateMethod ({ cls := "SmokedLettersModel", name := "lays", desc := "(I)V" } : Jvm.MethodName)) ∈ lw_tbl := lw_at lw_m5 82 rfl
theorem q1102 : (Jvm.Cond.instanceMethod ({ cls := "SmokedLettersModel", name := "lays", desc := "(I)V" } : Jvm.MethodName)) ∈ lw_all := lw_g (lw_at lw_m5 83 rfl) rfl
theorem q1103 : (Jvm.Cond.code ({ cls := "SmokedLettersModel", name := "lays", desc := "(I)V" } : Jvm.MethodName) prog_13_method_36_code (4 : Nat) (Option.none : Option Jvm.ClassFile.FieldType)) ∈ lw_all := lw_g (lw_at lw_m5 84 rfl) rfl
theorem q1104 : (Jvm.Cond.methodLink "SmokedLettersModel" (202 : Nat) ({ cls := "SmokedLettersModel", name := "goes", desc := "()I" } : Jvm.MethodName)) ∈ lw_all := lw_g (lw_at lw_m5 85 rfl) rfl
theorem q1105 : (Jvm.Cond.privateMethod ({ cls := "SmokedLettersModel", name := "goes", desc := "()I" } : Jvm.MethodName)) ∈ lw_tbl := lw_at lw_m5 86 rfl
theorem q1106 : (Jvm.Cond.instanceMethod ({ cls := "SmokedLettersModel", name := "goes", desc := "()I" } : Jvm.MethodName)) ∈ lw_all := lw_g (lw_at lw_m5 87 rfl) rfl
theorem q1107 : (Jvm.Cond.code ({ cls := "SmokedLettersModel", name := "goes", desc := "()I" } : Jvm.MethodName) prog_13_method_34_code (5 : Nat) (Option.some Jvm.ClassFile.FieldType.int)) ∈ lw_all := lw_g (lw_at lw_m5 88 rfl) rfl
theorem q1108 : (Jvm.Cond.methodLink "SmokedLettersModel" (191 : Nat) ({ cls := "SmokedLettersModel", name := "comes", desc := "(I)V" } : Jvm.MethodName)) ∈ lw_all := lw_g (lw_at lw_m5 89 rfl) rfl
theorem q1109 : (Jvm.Cond.privateMethod ({ cls := "SmokedLettersModel", name := "comes", desc := "(I)V" } : Jvm.MethodName)) ∈ lw_tbl := lw_at lw_m5 90 rfl
theorem q1110 : (Jvm.Cond.instanceMethod ({ cls := "SmokedLettersModel", name := "comes", desc := "(I)V" } : Jvm.MethodName)) ∈ lw_all := lw_g (lw_at lw_m5 91 rfl) rfl
theorem q1111 : (Jvm.Cond.code ({ cls := "SmokedLettersModel", name := "comes", desc := "(I)V" } : Jvm.MethodName) prog_13_method_33_code (3 : Nat) (Option.none : Option Jvm.ClassFile.FieldType)) ∈ lw_all := lw_g (lw_at lw_m5 92 rfl) rfl
theorem q1112 : (Jvm.Cond.methodLink "SmokedLettersModel" (205 : Nat) ({ cls := "SmokedLettersModel", name := "sailedBy", desc := "(I)I" } : Jvm.MethodName)) ∈ lw_all := lw_g (lw_at lw_m5 93 rfl) rfl
theorem q1113 : (Jvm.Cond.privateMethod ({ cls := "SmokedLettersModel", name := "sailedBy", desc := "(I)I" } : Jvm.MethodName)) ∈ lw_tbl := lw_at lw_m5 94 rfl
theorem q1114 : (Jvm.Cond.instanceMethod ({ cls := "SmokedLettersModel", name := "sailedBy", desc := "(I)I" } : Jvm.MethodName)) ∈ lw_all := lw_g (lw_at lw_m5 95 rfl) rfl
theorem q1115 : (Jvm.Cond.code ({ cls := "SmokedLettersModel", name := "sailedBy", desc := "(I)I" } : Jvm.MethodName) prog_13_method_37_code (4 : Nat) (Option.some Jvm.ClassFile.FieldType.int)) ∈ lw_all := lw_g (lw_at lw_m5 96 rfl) rfl
theorem q1117 : (Jvm.Cond.instanceMethod ({ cls := "SmokedLettersModel", name := "soonest", desc := "(I)I" } : Jvm.MethodName)) ∈ lw_all := lw_g (lw_at lw_m5 98 rfl) rfl
theorem q1118 : (Jvm.Cond.selects "SmokedLettersModel" ({ cls := "SmokedLettersModel", name := "soonest", desc := "(I)I" } : Jvm.MethodName) ({ cls := "SmokedLettersModel", name := "soonest", desc := "(I)I" } : Jvm.MethodName)) ∈ lw_all := lw_g (lw_at lw_m5 99 rfl) rfl
theorem q1119 : (Jvm.Cond.code ({ cls := "SmokedLettersModel", name := "soonest", desc := "(I)I" } : Jvm.MethodName) prog_13_method_40_code (5 : Nat) (Option.some Jvm.ClassFile.FieldType.int)) ∈ lw_all := lw_g (lw_at lw_m5 100 rfl) rfl
theorem q1120 : (Jvm.Cond.constant "SmokedLettersModel" (208 : Nat) (1000000000 : Int32)) ∈ lw_all := lw_g (lw_at lw_m5 101 rfl) rfl
theorem q1121 : (Jvm.Cond.methodLink "SmokedLettersModel" (209 : Nat) ({ cls := "SmokedLettersModel", name := "late", desc := "()I" } : Jvm.MethodName)) ∈ lw_all := lw_g (lw_at lw_m5 102 rfl) rfl
theorem q1122 : (Jvm.Cond.privateMethod ({ cls := "SmokedLettersModel", name := "late", desc := "()I" } : Jvm.MethodName)) ∈ lw_tbl := lw_at lw_m5 103 rfl
theorem q1123 : (Jvm.Cond.instanceMethod ({ cls := "SmokedLettersModel", name := "late", desc := "()I" } : Jvm.MethodName)) ∈ lw_all := lw_g (lw_at lw_m5 104 rfl) rfl
theorem q1124 : (Jvm.Cond.code ({ cls := "SmokedLettersModel", name := "late", desc := "()I" } : Jvm.MethodName) prog_13_method_39_code (4 : Nat) (Option.some Jvm.ClassFile.FieldType.int)) ∈ lw_all := lw_g (lw_at lw_m5 105 rfl) rfl
theorem q1126 : (Jvm.Cond.instanceMethod ({ cls := "SmokedLettersModel", name := "plan", desc := "(II)I" } : Jvm.MethodName)) ∈ lw_all := lw_g (lw_at lw_m5 107 rfl) rfl
theorem q1127 : (Jvm.Cond.selects "SmokedLettersModel" ({ cls := "SmokedLettersModel", name := "plan", desc := "(II)I" } : Jvm.MethodName) ({ cls := "SmokedLettersModel", name := "plan", desc := "(II)I" } : Jvm.MethodName)) ∈ lw_all := lw_g (lw_at lw_m5 108 rfl) rfl
theorem q1128 : (Jvm.Cond.code ({ cls := "SmokedLettersModel", name := "plan", desc := "(II)I" } : Jvm.MethodName) prog_13_method_41_code (5 : Nat) (Option.some Jvm.ClassFile.FieldType.int)) ∈ lw_all := lw_g (lw_at lw_m5 109 rfl) rfl
theorem q1130 : (Jvm.Cond.instanceMethod ({ cls := "SmokedLettersModel", name := "waits", desc := "(I)I" } : Jvm.MethodName)) ∈ lw_all := lw_g (lw_at lw_m5 111 rfl) rfl
theorem q1131 : (Jvm.Cond.selects "SmokedLettersModel" ({ cls := "SmokedLettersModel", name := "waits", desc := "(I)I" } : Jvm.MethodName) ({ cls := "SmokedLettersModel", name := "waits", desc := "(I)I" } : Jvm.MethodName)) ∈ lw_all := lw_g (lw_at lw_m5 112 rfl) rfl
theorem q1132 : (Jvm.Cond.code ({ cls := "SmokedLettersModel", name := "waits", desc := "(I)I" } : Jvm.MethodName) prog_13_method_42_code (2 : Nat) (Option.some Jvm.ClassFile.FieldType.int)) ∈ lw_all := lw_g (lw_at lw_m5 113 rfl) rfl
theorem q1134 : (Jvm.Cond.instanceMethod ({ cls := "SmokedLettersModel", name := "boat", desc := "(II)I" } : Jvm.MethodName)) ∈ lw_all := lw_g (lw_at lw_m5 115 rfl) rfl
theorem q1135 : (Jvm.Cond.selects "SmokedLettersModel" ({ cls := "SmokedLettersModel", name := "boat", desc := "(II)I" } : Jvm.MethodName) ({ cls := "SmokedLettersModel", name := "boat", desc := "(II)I" } : Jvm.MethodName)) ∈ lw_all := lw_g (lw_at lw_m5 116 rfl) rfl
theorem q1136 : (Jvm.Cond.code ({ cls := "SmokedLettersModel", name := "boat", desc := "(II)I" } : Jvm.MethodName) prog_13_method_43_code (8 : Nat) (Option.some Jvm.ClassFile.FieldType.int)) ∈ lw_all := lw_g (lw_at lw_m5 117 rfl) rfl
theorem q1138 : (Jvm.Cond.instanceMethod ({ cls := "SmokedLettersModel", name := "clean", desc := "(II)J" } : Jvm.MethodName)) ∈ lw_all := lw_g (lw_at lw_m5 119 rfl) rfl
theorem q1139 : (Jvm.Cond.selects "SmokedLettersModel" ({ cls := "SmokedLettersModel", name := "clean", desc := "(II)J" } : Jvm.MethodName) ({ cls := "SmokedLettersModel", name := "clean", desc := "(II)J" } : Jvm.MethodName)) ∈ lw_all := lw_g (lw_at lw_m5 120 rfl) rfl
theorem q1140 : (Jvm.Cond.code ({ cls := "SmokedLettersModel", name := "clean", desc := "(II)J" } : Jvm.MethodName) prog_13_method_45_code (8 : Nat) (Option.some Jvm.ClassFile.FieldType.long)) ∈ lw_all := lw_g (lw_at lw_m5 121 rfl) rfl
theorem q1141 : (Jvm.Cond.constantLong "SmokedLettersModel" (212 : Nat) (-1 : Int64)) ∈ lw_all := lw_g (lw_at lw_m5 122 rfl) rfl
theorem q1142 : (Jvm.Cond.constantLong "SmokedLettersModel" (214 : Nat) (10 : Int64)) ∈ lw_all := lw_g (lw_at lw_m5 123 rfl) rfl
theorem q1143 : (Jvm.Cond.methodLink "SmokedLettersModel" (216 : Nat) ({ cls := "SmokedLettersModel", name := "share", desc := "(JJI)J" } : Jvm.MethodName)) ∈ lw_all := lw_g (lw_at lw_m5 124 rfl) rfl
theorem q1144 : (Jvm.Cond.static ({ cls := "SmokedLettersModel", name := "share", desc := "(JJI)J" } : Jvm.MethodName)) ∈ lw_all := lw_g (lw_at lw_m5 125 rfl) rfl
theorem q1145 : (Jvm.Cond.code ({ cls := "SmokedLettersModel", name := "share", desc := "(JJI)J" } : Jvm.MethodName) prog_13_method_44_code (11 : Nat) (Option.some Jvm.ClassFile.FieldType.long)) ∈ lw_all := lw_g (lw_at lw_m5 126 rfl) rfl
theorem q1147 : (Jvm.Cond.instanceMethod ({ cls := "SmokedLettersModel", name := "well", desc := "(III)J" } : Jvm.MethodName)) ∈ lw_all := lw_g (lw_at lw_m5 128 rfl) rfl
theorem q1148 : (Jvm.Cond.selects "SmokedLettersModel" ({ cls := "SmokedLettersModel", name := "well", desc := "(III)J" } : Jvm.MethodName) ({ cls := "SmokedLettersModel", name := "well", desc := "(III)J" } : Jvm.MethodName)) ∈ lw_all := lw_g (lw_at lw_m5 129 rfl) rfl
theorem q1149 : (Jvm.Cond.code ({ cls := "SmokedLettersModel", name := "well", desc := "(III)J" } : Jvm.MethodName) prog_13_method_47_code (8 : Nat) (Option.some Jvm.ClassFile.FieldType.long)) ∈ lw_all := lw_g (lw_at lw_m5 130 rfl) rfl
theorem q1150 : (Jvm.Cond.methodLink "SmokedLettersModel" (220 : Nat) ({ cls := "SmokedLettersModel", name := "findSick", desc := "(I)V" } : Jvm.MethodName)) ∈ lw_all := lw_g (lw_at lw_m5 131 rfl) rfl
theorem q1151 : (Jvm.Cond.privateMethod ({ cls := "SmokedLettersModel", name := "findSick", desc := "(I)V" } : Jvm.MethodName)) ∈ lw_tbl := lw_at lw_m5 132 rfl
theorem q1152 : (Jvm.Cond.instanceMethod ({ cls := "SmokedLettersModel", name := "findSick", desc := "(I)V" } : Jvm.MethodName)) ∈ lw_all := lw_g (lw_at lw_m5 133 rfl) rfl
theorem q1153 : (Jvm.Cond.code ({ cls := "SmokedLettersModel", name := "findSick", desc := "(I)V" } : Jvm.MethodName) prog_13_method_46_code (5 : Nat) (Option.none : Option Jvm.ClassFile.FieldType)) ∈ lw_all := lw_g (lw_at lw_m5 134 rfl) rfl
theorem q1154 : (Jvm.Cond.constantLong "SmokedLettersModel" (223 : Nat) (-9 : Int64)) ∈ lw_all := lw_g (lw_at lw_m5 135 rfl) rfl
theorem q1156 : (Jvm.Cond.instanceMethod ({ cls := "SmokedLettersModel", name := "writes", desc := "(I)I" } : Jvm.MethodName)) ∈ lw_all := lw_g (lw_at lw_m5 137 rfl) rfl
theorem q1157 : (Jvm.Cond.selects "SmokedLettersModel" ({ cls := "SmokedLettersModel", name := "writes", desc := "(I)I" } : Jvm.MethodName) ({ cls := "SmokedLettersModel", name := "writes", desc := "(I)I" } : Jvm.MethodName)) ∈ lw_all := lw_g (lw_at lw_m5 138 rfl) rfl
theorem q1158 : (Jvm.Cond.code ({ cls := "SmokedLettersModel", name := "writes", desc := "(I)I" } : Jvm.MethodName) prog_13_method_48_code (2 : Nat) (Option.some Jvm.ClassFile.FieldType.int)) ∈ lw_all := lw_g (lw_at lw_m5 139 rfl) rfl
theorem q1160 : (Jvm.Cond.instanceMethod ({ cls := "SmokedLettersModel", name := "tears", desc := "()I" } : Jvm.MethodName)) ∈ lw_all := lw_g (lw_at lw_m5 141 rfl) rfl
theorem q1161 : (Jvm.Cond.selects "SmokedLettersModel" ({ cls := "SmokedLettersModel", name := "tears", desc := "()I" } : Jvm.MethodName) ({ cls := "SmokedLettersModel", name := "tears", desc := "()I" } : Jvm.MethodName)) ∈ lw_all := lw_g (lw_at lw_m5 142 rfl) rfl
theorem q1162 : (Jvm.Cond.code ({ cls := "SmokedLettersModel", name := "tears", desc := "()I" } : Jvm.MethodName) prog_13_method_49_code (3 : Nat) (Option.some Jvm.ClassFile.FieldType.int)) ∈ lw_all := lw_g (lw_at lw_m5 143 rfl) rfl
theorem q1164 : (Jvm.Cond.instanceMethod ({ cls := "SmokedLettersModel", name := "smokes", desc := "(I)I" } : Jvm.MethodName)) ∈ lw_all := lw_g (lw_at lw_m5 145 rfl) rfl
theorem q1165 : (Jvm.Cond.selects "SmokedLettersModel" ({ cls := "SmokedLettersModel", name := "smokes", desc := "(I)I" } : Jvm.MethodName) ({ cls := "SmokedLettersModel", name := "smokes", desc := "(I)I" } : Jvm.MethodName)) ∈ lw_all := lw_g (lw_at lw_m5 146 rfl) rfl
theorem q1166 : (Jvm.Cond.code ({ cls := "SmokedLettersModel", name := "smokes", desc := "(I)I" } : Jvm.MethodName) prog_13_method_51_code (4 : Nat) (Option.some Jvm.ClassFile.FieldType.int)) ∈ lw_all := lw_g (lw_at lw_m5 147 rfl) rfl
theorem q1167 : (Jvm.Cond.methodLink "SmokedLettersModel" (225 : Nat) ({ cls := "SmokedLettersModel", name := "madeOf", desc := "(II)I" } : Jvm.MethodName)) ∈ lw_all := lw_g (lw_at lw_m5 148 rfl) rfl
theorem q1168 : (Jvm.Cond.privateMethod ({ cls := "SmokedLettersModel", name := "madeOf", desc := "(II)I" } : Jvm.MethodName)) ∈ lw_tbl := lw_at lw_m5 149 rfl
theorem q1169 : (Jvm.Cond.instanceMethod ({ cls := "SmokedLettersModel", name := "madeOf", desc := "(II)I" } : Jvm.MethodName)) ∈ lw_all := lw_g (lw_at lw_m5 150 rfl) rfl
theorem q1170 : (Jvm.Cond.code ({ cls := "SmokedLettersModel", name := "madeOf", desc := "(II)I" } : Jvm.MethodName) prog_13_method_50_code (3 : Nat) (Option.some Jvm.ClassFile.FieldType.int)) ∈ lw_all := lw_g (lw_at lw_m5 151 rfl) rfl
theorem q1172 : (Jvm.Cond.instanceMethod ({ cls := "SmokedLettersModel", name := "word", desc := "(I)I" } : Jvm.MethodName)) ∈ lw_all := lw_g (lw_at lw_m5 153 rfl) rfl
theorem q1173 : (Jvm.Cond.selects "SmokedLettersModel" ({ cls := "SmokedLettersModel", name := "word", desc := "(I)I" } : Jvm.MethodName) ({ cls := "SmokedLettersModel", name := "word", desc := "(I)I" } : Jvm.MethodName)) ∈ lw_all := lw_g (lw_at lw_m5 154 rfl) rfl
theorem q1174 : (Jvm.Cond.code ({ cls := "SmokedLettersModel", name := "word", desc := "(I)I" } : Jvm.MethodName) prog_13_method_52_code (2 : Nat) (Option.some Jvm.ClassFile.FieldType.int)) ∈ lw_all := lw_g (lw_at lw_m5 155 rfl) rfl
theorem q1176 : (Jvm.Cond.instanceMethod ({ cls := "SmokedLettersModel", name := "brown", desc := "(I)I" } : Jvm.MethodName)) ∈ lw_all := lw_g (lw_at lw_m5 157 rfl) rfl
theorem q1177 : (Jvm.Cond.selects "SmokedLettersModel" ({ cls := "SmokedLettersModel", name := "brown", desc := "(I)I" } : Jvm.MethodName) ({ cls := "SmokedLettersModel", name := "brown", desc := "(I)I" } : Jvm.MethodName)) ∈ lw_all := lw_g (lw_at lw_m5 158 rfl) rfl
theorem q1178 : (Jvm.Cond.code ({ cls := "SmokedLettersModel", name := "brown", desc := "(I)I" } : Jvm.MethodName) prog_13_method_53_code (3 : Nat) (Option.some Jvm.ClassFile.FieldType.int)) ∈ lw_all := lw_g (lw_at lw_m5 159 rfl) rfl
theorem q1180 : (Jvm.Cond.instanceMethod ({ cls := "SmokedLettersModel", name := "burn", desc := "()I" } : Jvm.MethodName)) ∈ lw_all := lw_g (lw_at lw_m5 161 rfl) rfl
theorem q1181 : (Jvm.Cond.selects "SmokedLettersModel" ({ cls := "SmokedLettersModel", name := "burn", desc := "()I" } : Jvm.MethodName) ({ cls := "SmokedLettersModel", name := "burn", desc := "()I" } : Jvm.MethodName)) ∈ lw_all := lw_g (lw_at lw_m5 162 rfl) rfl
theorem q1182 : (Jvm.Cond.code ({ cls := "SmokedLettersModel", name := "burn", desc := "()I" } : Jvm.MethodName) prog_13_method_54_code (2 : Nat) (Option.some Jvm.ClassFile.FieldType.int)) ∈ lw_all := lw_g (lw_at lw_m5 163 rfl) rfl
theorem q1184 : (Jvm.Cond.instanceMethod ({ cls := "SmokedLettersModel", name := "stood", desc := "(I)I" } : Jvm.MethodName)) ∈ lw_all := lw_g (lw_at lw_m5 165 rfl) rfl
theorem q1185 : (Jvm.Cond.selects "SmokedLettersModel" ({ cls := "SmokedLettersModel", name := "stood", desc := "(I)I" } : Jvm.MethodName) ({ cls := "SmokedLettersModel", name := "stood", desc := "(I)I" } : Jvm.MethodName)) ∈ lw_all := lw_g (lw_at lw_m5 166 rfl) rfl
theorem q1186 : (Jvm.Cond.code ({ cls := "SmokedLettersModel", name := "stood", desc := "(I)I" } : Jvm.MethodName) prog_13_method_57_code (2 : Nat) (Option.some Jvm.ClassFile.FieldType.int)) ∈ lw_all := lw_g (lw_at lw_m5 167 rfl) rfl
theorem q1187 : (Jvm.Cond.methodLink "SmokedLettersModel" (231 : Nat) ({ cls := "SmokedLettersModel", name := "isCopied", desc := "(I)Z" } : Jvm.MethodName)) ∈ lw_all := lw_g (lw_at lw_m5 168 rfl) rfl
theorem q1188 : (Jvm.Cond.privateMethod ({ cls := "SmokedLettersModel", name := "isCopied", desc := "(I)Z" } : Jvm.MethodName)) ∈ lw_tbl := lw_at lw_m5 169 rfl
theorem q1189 : (Jvm.Cond.instanceMethod ({ cls := "SmokedLettersModel", name := "isCopied", desc := "(I)Z" } : Jvm.MethodName)) ∈ lw_all := lw_g (lw_at lw_m5 170 rfl) rfl
theorem q1190 : (Jvm.Cond.code ({ cls := "SmokedLettersModel", name := "isCopied", desc := "(I)Z" } : Jvm.MethodName) prog_13_method_55_code (2 : Nat) (Option.some Jvm.ClassFile.FieldType.boolean)) ∈ lw_all := lw_g (lw_at lw_m5 171 rfl) rfl
theorem q1191 : (Jvm.Cond.methodLink "SmokedLettersModel" (234 : Nat) ({ cls := "SmokedLettersModel", name := "stoodAt", desc := "(I)I" } : Jvm.MethodName)) ∈ lw_all := lw_g (lw_at lw_m5 172 rfl) rfl
theorem q1192 : (Jvm.Cond.privateMethod ({ cls := "SmokedLettersModel", name := "stoodAt", desc := "(I)I" } : Jvm.MethodName)) ∈ lw_tbl := lw_at lw_m5 173 rfl
theorem q1193 : (Jvm.Cond.instanceMethod ({ cls := "SmokedLettersModel", name := "stoodAt", desc := "(I)I" } : Jvm.MethodName)) ∈ lw_all := lw_g (lw_at lw_m5 174 rfl) rfl
theorem q1194 : (Jvm.Cond.code ({ cls := "SmokedLettersModel", name := "stoodAt", desc := "(I)I" } : Jvm.MethodName) prog_13_method_56_code (6 : Nat) (Option.some Jvm.ClassFile.FieldType.int)) ∈ lw_all := lw_g (lw_at lw_m5 175 rfl) rfl
theorem q1196 : (Jvm.Cond.instanceMethod ({ cls := "SmokedLettersModel", name := "letters", desc := "(I)I" } : Jvm.MethodName)) ∈ lw_all := lw_g (lw_at lw_m5 177 rfl) rfl
theorem q1197 : (Jvm.Cond.selects "SmokedLettersModel" ({ cls := "SmokedLettersModel", name := "letters", desc := "(I)I" } : Jvm.MethodName) ({ cls := "SmokedLettersModel", name := "letters", desc := "(I)I" } : Jvm.MethodName)) ∈ lw_all := lw_g (lw_at lw_m5 178 rfl) rfl
theorem q1198 : (Jvm.Cond.code ({ cls := "SmokedLettersModel", name := "letters", desc := "(I)I" } : Jvm.MethodName) prog_13_method_60_code (3 : Nat) (Option.some Jvm.ClassFile.FieldType.int)) ∈ lw_all := lw_g (lw_at lw_m5 179 rfl) rfl
theorem q1199 : (Jvm.Cond.methodLink "SmokedLettersModel" (237 : Nat) ({ cls := "SmokedLettersModel", name := "ways", desc := "()I" } : Jvm.MethodName)) ∈ lw_all := lw_g (lw_at lw_m5 180 rfl) rfl
theorem q1200 : (Jvm.Cond.privateMethod ({ cls := "SmokedLettersModel", name := "ways", desc := "()I" } : Jvm.MethodName)) ∈ lw_tbl := lw_at lw_m5 181 rfl
theorem q1201 : (Jvm.Cond.instanceMethod ({ cls := "SmokedLettersModel", name := "ways", desc := "()I" } : Jvm.MethodName)) ∈ lw_all := lw_g (lw_at lw_m5 182 rfl) rfl
theorem q1202 : (Jvm.Cond.code ({ cls := "SmokedLettersModel", name := "ways", desc := "()I" } : Jvm.MethodName) prog_13_method_59_code (3 : Nat) (Option.some Jvm.ClassFile.FieldType.int)) ∈ lw_all := lw_g (lw_at lw_m5 183 rfl) rfl
theorem q1203 : (Jvm.Cond.methodLink "SmokedLettersModel" (240 : Nat) ({ cls := "SmokedLettersModel", name := "sureOf", desc := "(I)I" } : Jvm.MethodName)) ∈ lw_all := lw_g (lw_at lw_m5 184 rfl) rfl
theorem q1204 : (Jvm.Cond.privateMethod ({ cls := "SmokedLettersModel", name := "sureOf", desc := "(I)I" } : Jvm.MethodName)) ∈ lw_tbl := lw_at lw_m5 185 rfl
theorem q1205 : (Jvm.Cond.instanceMethod ({ cls := "SmokedLettersModel", name := "sureOf", desc := "(I)I" } : Jvm.MethodName)) ∈ lw_all := lw_g (lw_at lw_m5 186 rfl) rfl
theorem q1206 : (Jvm.Cond.code ({ cls := "SmokedLettersModel", name := "sureOf", desc := "(I)I" } : Jvm.MethodName) prog_13_method_58_code (3 : Nat) (Option.some Jvm.ClassFile.FieldType.int)) ∈ lw_all := lw_g (lw_at lw_m5 187 rfl) rfl
theorem q1208 : (Jvm.Cond.instanceMethod ({ cls := "SmokedLettersModel", name := "whose", desc := "(I)I" } : Jvm.MethodName)) ∈ lw_all := lw_g (lw_at lw_m5 189 rfl) rfl
theorem q1209 : (Jvm.Cond.selects "SmokedLettersModel" ({ cls := "SmokedLettersModel", name := "whose", desc := "(I)I" } : Jvm.MethodName) ({ cls := "SmokedLettersModel", name := "whose", desc := "(I)I" } : Jvm.MethodName)) ∈ lw_all := lw_g (lw_at lw_m5 190 rfl) rfl
theorem q1210 : (Jvm.Cond.code ({ cls := "SmokedLettersModel", name := "whose", desc := "(I)I" } : Jvm.MethodName) prog_13_method_65_code (4 : Nat) (Option.some Jvm.ClassFile.FieldType.int)) ∈ lw_all := lw_g (lw_at lw_m5 191 rfl) rfl
theorem q1211 : (Jvm.Cond.methodLink "SmokedLettersModel" (247 : Nat) ({ cls := "SmokedLettersModel", name := "reads", desc := "(I)Z" } : Jvm.MethodName)) ∈ lw_all := lw_g (lw_at lw_m5 192 rfl) rfl
theorem q1212 : (Jvm.Cond.privateMethod ({ cls := "SmokedLettersModel", name := "reads", desc := "(I)Z" } : Jvm.MethodName)) ∈ lw_tbl := lw_at lw_m5 193 rfl
theorem q1213 : (Jvm.Cond.instanceMethod ({ cls := "SmokedLettersModel", name := "reads", desc := "(I)Z" } : Jvm.MethodName)) ∈ lw_all := lw_g (lw_at lw_m5 194 rfl) rfl
theorem q1214 : (Jvm.Cond.code ({ cls := "SmokedLettersModel", name := "reads", desc := "(I)Z" } : Jvm.MethodName) prog_13_method_61_code (5 : Nat) (Option.some Jvm.ClassFile.FieldType.boolean)) ∈ lw_all := lw_g (lw_at lw_m5 195 rfl) rfl
theorem q1215 : (Jvm.Cond.constant "SmokedLettersModel" (246 : Nat) (1771560 : Int32)) ∈ lw_all := lw_g (lw_at lw_m5 196 rfl) rfl
theorem q1216 : (Jvm.Cond.methodLink "SmokedLettersModel" (250 : Nat) ({ cls := "SmokedLettersModel", name := "begins", desc := "()V" } : Jvm.MethodName)) ∈ lw_all := lw_g (lw_at lw_m5 197 rfl) rfl
theorem q1217 : (Jvm.Cond.privateMethod ({ cls := "SmokedLettersModel", name := "begins", desc := "()V" } : Jvm.MethodName)) ∈ lw_tbl := lw_at lw_m5 198 rfl
theorem q1218 : (Jvm.Cond.instanceMethod ({ cls := "SmokedLettersModel", name := "begins", desc := "()V" } : Jvm.MethodName)) ∈ lw_all := lw_g (lw_at lw_m5 199 rfl) rfl
theorem q1219 : (Jvm.Cond.code ({ cls := "SmokedLettersModel", name := "begins", desc := "()V" } : Jvm.MethodName) prog_13_method_63_code (2 : Nat) (Option.none : Option Jvm.ClassFile.FieldType)) ∈ lw_all := lw_g (lw_at lw_m5 200 rfl) rfl
theorem q1220 : (Jvm.Cond.methodLink "SmokedLettersModel" (253 : Nat) ({ cls := "SmokedLettersModel", name := "smokesOn", desc := "(I)V" } : Jvm.MethodName)) ∈ lw_all := lw_g (lw_at lw_m5 201 rfl) rfl
theorem q1221 : (Jvm.Cond.privateMethod ({ cls := "SmokedLettersModel", name := "smokesOn", desc := "(I)V" } : Jvm.MethodName)) ∈ lw_tbl := lw_at lw_m5 202 rfl
theorem q1222 : (Jvm.Cond.instanceMethod ({ cls := "SmokedLettersModel", name := "smokesOn", desc := "(I)V" } : Jvm.MethodName)) ∈ lw_all := lw_g (lw_at lw_m5 203 rfl) rfl
theorem q1223 : (Jvm.Cond.code ({ cls := "SmokedLettersModel", name := "smokesOn", desc := "(I)V" } : Jvm.MethodName) prog_13_method_64_code (3 : Nat) (Option.none : Option Jvm.ClassFile.FieldType)) ∈ lw_all := lw_g (lw_at lw_m5 204 rfl) rfl
theorem q1224 : (Jvm.Cond.methodLink "SmokedLettersModel" (256 : Nat) ({ cls := "SmokedLettersModel", name := "isLetter", desc := "([I)Z" } : Jvm.MethodName)) ∈ lw_all := lw_g (lw_at lw_m5 205 rfl) rfl
theorem q1225 : (Jvm.Cond.privateMethod ({ cls := "SmokedLettersModel", name := "isLetter", desc := "([I)Z" } : Jvm.MethodName)) ∈ lw_tbl := lw_at lw_m5 206 rfl
theorem q1226 : (Jvm.Cond.instanceMethod ({ cls := "SmokedLettersModel", name := "isLetter", desc := "([I)Z" } : Jvm.MethodName)) ∈ lw_all := lw_g (lw_at lw_m5 207 rfl) rfl
theorem q1227 : (Jvm.Cond.code ({ cls := "SmokedLettersModel", name := "isLetter", desc := "([I)Z" } : Jvm.MethodName) prog_13_method_62_code (4 : Nat) (Option.some Jvm.ClassFile.FieldType.boolean)) ∈ lw_all := lw_g (lw_at lw_m5 208 rfl) rfl
theorem q1229 : (Jvm.Cond.instanceMethod ({ cls := "SmokedLettersModel", name := "chain", desc := "(II)I" } : Jvm.MethodName)) ∈ lw_all := lw_g (lw_at lw_m5 210 rfl) rfl
theorem q1230 : (Jvm.Cond.selects "SmokedLettersModel" ({ cls := "SmokedLettersModel", name := "chain", desc := "(II)I" } : Jvm.MethodName) ({ cls := "SmokedLettersModel", name := "chain", desc := "(II)I" } : Jvm.MethodName)) ∈ lw_all := lw_g (lw_at lw_m5 211 rfl) rfl
theorem q1231 : (Jvm.Cond.code ({ cls := "SmokedLettersModel", name := "chain", desc := "(II)I" } : Jvm.MethodName) prog_13_method_67_code (5 : Nat) (Option.some Jvm.ClassFile.FieldType.int)) ∈ lw_all := lw_g (lw_at lw_m5 212 rfl) rfl
theorem q1232 : (Jvm.Cond.methodLink "SmokedLettersModel" (260 : Nat) ({ cls := "SmokedLettersModel", name := "makes", desc := "(II)Z" } : Jvm.MethodName)) ∈ lw_all := lw_g (lw_at lw_m5 213 rfl) rfl
theorem q1233 : (Jvm.Cond.privateMethod ({ cls := "SmokedLettersModel", name := "makes", desc := "(II)Z" } : Jvm.MethodName)) ∈ lw_tbl := lw_at lw_m5 214 rfl
theorem q1234 : (Jvm.Cond.instanceMethod ({ cls := "SmokedLettersModel", name := "makes", desc := "(II)Z" } : Jvm.MethodName)) ∈ lw_all := lw_g (lw_at lw_m5 215 rfl) rfl
theorem q1235 : (Jvm.Cond.code ({ cls := "SmokedLettersModel", name := "makes", desc := "(II)Z" } : Jvm.MethodName) prog_13_method_66_code (6 : Nat) (Option.some Jvm.ClassFile.FieldType.boolean)) ∈ lw_all := lw_g (lw_at lw_m5 216 rfl) rfl
theorem q1237 : (Jvm.Cond.instanceMethod ({ cls := "SmokedLettersModel", name := "rate", desc := "(II)I" } : Jvm.MethodName)) ∈ lw_all := lw_g (lw_at lw_m5 218 rfl) rfl
theorem q1238 : (Jvm.Cond.selects "SmokedLettersModel" ({ cls := "SmokedLettersModel", name := "rate", desc := "(II)I" } : Jvm.MethodName) ({ cls := "SmokedLettersModel", name := "rate", desc := "(II)I" } : Jvm.MethodName)) ∈ lw_all := lw_g (lw_at lw_m5 219 rfl) rfl
theorem q1239 : (Jvm.Cond.code ({ cls := "SmokedLettersModel", name := "rate", desc := "(II)I" } : Jvm.MethodName) prog_13_method_71_code (3 : Nat) (Option.some Jvm.ClassFile.FieldType.int)) ∈ lw_all := lw_g (lw_at lw_m5 220 rfl) rfl
theorem q1240 : (Jvm.Cond.constant "SmokedLettersModel" (272 : Nat) (-1000000 : Int32)) ∈ lw_all := lw_g (lw_at lw_m5 221 rfl) rfl
theorem q1241 : (Jvm.Cond.methodLink "SmokedLettersModel" (267 : Nat) ({ cls := "SmokedLettersModel", name := "clerkRate", desc := "(I)I" } : Jvm.MethodName)) ∈ lw_all := lw_g (lw_at lw_m5 222 rfl) rfl
theorem q1242 : (Jvm.Cond.privateMethod ({ cls := "SmokedLettersModel", name := "clerkRate", desc := "(I)I" } : Jvm.MethodName)) ∈ lw_tbl := lw_at lw_m5 223 rfl
theorem q1243 : (Jvm.Cond.instanceMethod ({ cls := "SmokedLettersModel", name := "clerkRate", desc := "(I)I" } : Jvm.MethodName)) ∈ lw_all := lw_g (lw_at lw_m5 224 rfl) rfl
theorem q1244 : (Jvm.Cond.code ({ cls := "SmokedLettersModel", name := "clerkRate", desc := "(I)I" } : Jvm.MethodName) prog_13_method_68_code (2 : Nat) (Option.some Jvm.ClassFile.FieldType.int)) ∈ lw_all := lw_g (lw_at lw_m5 225 rfl) rfl
theorem q1245 : (Jvm.Cond.methodLink "SmokedLettersModel" (273 : Nat) ({ cls := "SmokedLettersModel", name := "nunRate", desc := "(I)I" } : Jvm.MethodName)) ∈ lw_all := lw_g (lw_at lw_m5 226 rfl) rfl
theorem q1246 : (Jvm.Cond.privateMethod ({ cls := "SmokedLettersModel", name := "nunRate", desc := "(I)I" } : Jvm.MethodName)) ∈ lw_tbl := lw_at lw_m5 227 rfl
theorem q1247 : (Jvm.Cond.instanceMethod ({ cls := "SmokedLettersModel", name := "nunRate", desc := "(I)I" } : Jvm.MethodName)) ∈ lw_all := lw_g (lw_at lw_m5 228 rfl) rfl
theorem q1248 : (Jvm.Cond.code ({ cls := "SmokedLettersModel", name := "nunRate", desc := "(I)I" } : Jvm.MethodName) prog_13_method_69_code (2 : Nat) (Option.some Jvm.ClassFile.FieldType.int)) ∈ lw_all := lw_g (lw_at lw_m5 229 rfl) rfl
theorem q1249 : (Jvm.Cond.methodLink "SmokedLettersModel" (276 : Nat) ({ cls := "SmokedLettersModel", name := "nephewRate", desc := "(I)I" } : Jvm.MethodName)) ∈ lw_all := lw_g (lw_at lw_m5 230 rfl) rfl
theorem q1250 : (Jvm.Cond.privateMethod ({ cls := "SmokedLettersModel", name := "nephewRate", desc := "(I)I" } : Jvm.MethodName)) ∈ lw_tbl := lw_at lw_m5 231 rfl
theorem q1251 : (Jvm.Cond.instanceMethod ({ cls := "SmokedLettersModel", name := "nephewRate", desc := "(I)I" } : Jvm.MethodName)) ∈ lw_all := lw_g (lw_at lw_m5 232 rfl) rfl
theorem q1252 : (Jvm.Cond.code ({ cls := "SmokedLettersModel", name := "nephewRate", desc := "(I)I" } : Jvm.MethodName) prog_13_method_70_code (2 : Nat) (Option.some Jvm.ClassFile.FieldType.int)) ∈ lw_all := lw_g (lw_at lw_m5 233 rfl) rfl
theorem q1253 : (Jvm.Cond.constantLong "SmokedLettersModel" (270 : Nat) (100 : Int64)) ∈ lw_all := lw_g (lw_at lw_m5 234 rfl) rfl
theorem q1254 : (Jvm.Cond.constantLong "SmokedLettersModel" (279 : Nat) (1000 : Int64)) ∈ lw_all := lw_g (lw_at lw_m5 235 rfl) rfl
theorem q1255 : (Jvm.Cond.constantLong "SmokedLettersModel" (281 : Nat) (10000 : Int64)) ∈ lw_all := lw_g (lw_at lw_m5 236 rfl) rfl
theorem q1256 : (Jvm.Cond.constantLong "SmokedLettersModel" (283 : Nat) (100000 : Int64)) ∈ lw_all := lw_g (lw_at lw_m5 237 rfl) rfl
theorem q1258 : (Jvm.Cond.instanceMethod ({ cls := "SmokedLettersModel", name := "keep", desc := "(I)I" } : Jvm.MethodName)) ∈ lw_all := lw_g (lw_at lw_m5 239 rfl) rfl
theorem q1259 : (Jvm.Cond.selects "SmokedLettersModel" ({ cls := "SmokedLettersModel", name := "keep", desc := "(I)I" } : Jvm.MethodName) ({ cls := "SmokedLettersModel", name := "keep", desc := "(I)I" } : Jvm.MethodName)) ∈ lw_all := lw_g (lw_at lw_m6 0 rfl) rfl
theorem q1260 : (Jvm.Cond.code ({ cls := "SmokedLettersModel", name := "keep", desc := "(I)I" } : Jvm.MethodName) prog_13_method_72_code (3 : Nat) (Option.some Jvm.ClassFile.FieldType.int)) ∈ lw_all := lw_g (lw_at lw_m6 1 rfl) rfl
theorem q1262 : (Jvm.Cond.instanceMethod ({ cls := "SmokedLettersModel", name := "back", desc := "(I)I" } : Jvm.MethodName)) ∈ lw_all := lw_g (lw_at lw_m6 3 rfl) rfl
theorem q1263 : (Jvm.Cond.selects "SmokedLettersModel" ({ cls := "SmokedLettersModel", name := "back", desc := "(I)I" } : Jvm.MethodName) ({ cls := "SmokedLettersModel", name := "back", desc := "(I)I" } : Jvm.MethodName)) ∈ lw_all := lw_g (lw_at lw_m6 4 rfl) rfl
theorem q1264 : (Jvm.Cond.code ({ cls := "SmokedLettersModel", name := "back", desc := "(I)I" } : Jvm.MethodName) prog_13_method_73_code (3 : Nat) (Option.some Jvm.ClassFile.FieldType.int)) ∈ lw_all := lw_g (lw_at lw_m6 5 rfl) rfl
theorem q1266 : (Jvm.Cond.instanceMethod ({ cls := "SmokedLettersModel", name := "count", desc := "(I)I" } : Jvm.MethodName)) ∈ lw_all := lw_g (lw_at lw_m6 7 rfl) rfl
theorem q1267 : (Jvm.Cond.selects "SmokedLettersModel" ({ cls := "SmokedLettersModel", name := "count", desc := "(I)I" } : Jvm.MethodName) ({ cls := "SmokedLettersModel", name := "count", desc := "(I)I" } : Jvm.MethodName)) ∈ lw_all := lw_g (lw_at lw_m6 8 rfl) rfl
theorem q1268 : (Jvm.Cond.code ({ cls := "SmokedLettersModel", name := "count", desc := "(I)I" } : Jvm.MethodName) prog_13_method_74_code (2 : Nat) (Option.some Jvm.ClassFile.FieldType.int)) ∈ lw_all := lw_g (lw_at lw_m6 9 rfl) rfl
theorem q1270 : (Jvm.Cond.instanceMethod ({ cls := "SmokedLettersModel", name := "trace", desc := "()J" } : Jvm.MethodName)) ∈ lw_all := lw_g (lw_at lw_m6 11 rfl) rfl
theorem q1271 : (Jvm.Cond.selects "SmokedLettersModel" ({ cls := "SmokedLettersModel", name := "trace", desc := "()J" } : Jvm.MethodName) ({ cls := "SmokedLettersModel", name := "trace", desc := "()J" } : Jvm.MethodName)) ∈ lw_all := lw_g (lw_at lw_m6 12 rfl) rfl
theorem q1272 : (Jvm.Cond.code ({ cls := "SmokedLettersModel", name := "trace", desc := "()J" } : Jvm.MethodName) prog_13_method_75_code (1 : Nat) (Option.some Jvm.ClassFile.FieldType.long)) ∈ lw_all := lw_g (lw_at lw_m6 13 rfl) rfl
theorem in_X9 : ∀ w ∈ wsX90, w ∈ lw_all := lw_in wsX90 [895, 897, 899, 901, 903, 905, 907, 909, 911, 913, 915, 917, 919, 921, 923, 925, 927, 929, 931, 933, 935, 937, 939, 941, 943, 945, 947, 949, 951, 953, 955, 957, 959, 961, 963, 965, 967, 969, 971] (by decide +kernel) (by decide +kernel)
