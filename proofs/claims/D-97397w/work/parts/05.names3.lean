/-! java/util/Arrays -/
set_option maxRecDepth 100000
def RJ0 : String := "java/util/Arrays"
abbrev cJ0_fill : ByteArray := prog_24_method_103_code
def yJ0_fill : MethodName := ⟨RJ0, "fill", "([II)V"⟩
def dkwJ0_fill_0 : List UInt8 := [3, 61, 42, 190, 62, 28, 29, 162, 0, 13, 42, 28, 27, 79, 132, 2, 1, 167, 255, 244, 177]
abbrev dktJ0_fill_0 : List UInt8 := dkwJ0_fill_0 ++ []
theorem dksJ0_fill_0 : cJ0_fill.data.toList.drop 0 = dktJ0_fill_0 := by decide +kernel
theorem dJ0_fill_0 : decode cJ0_fill 0 = .ok (.iconst 0, 1) := dk_3 (dk_at dksJ0_fill_0 0 rfl rfl)
theorem dJ0_fill_1 : decode cJ0_fill 1 = .ok (.istore_n 2, 1) := dk_61 (dk_at dksJ0_fill_0 1 rfl rfl)
theorem dJ0_fill_2 : decode cJ0_fill 2 = .ok (.aload_n 0, 1) := dk_42 (dk_at dksJ0_fill_0 2 rfl rfl)
theorem dJ0_fill_3 : decode cJ0_fill 3 = .ok (.arraylength, 1) := dk_190 (dk_at dksJ0_fill_0 3 rfl rfl)
theorem dJ0_fill_4 : decode cJ0_fill 4 = .ok (.istore_n 3, 1) := dk_62 (dk_at dksJ0_fill_0 4 rfl rfl)
theorem dJ0_fill_5 : decode cJ0_fill 5 = .ok (.iload_n 2, 1) := dk_28 (dk_at dksJ0_fill_0 5 rfl rfl)
theorem dJ0_fill_6 : decode cJ0_fill 6 = .ok (.iload_n 3, 1) := dk_29 (dk_at dksJ0_fill_0 6 rfl rfl)
theorem dJ0_fill_7 : decode cJ0_fill 7 = .ok (.if_icmp .ge 13, 3) := dk_162 0 13 (dk_at dksJ0_fill_0 7 rfl rfl)
theorem dJ0_fill_10 : decode cJ0_fill 10 = .ok (.aload_n 0, 1) := dk_42 (dk_at dksJ0_fill_0 10 rfl rfl)
theorem dJ0_fill_11 : decode cJ0_fill 11 = .ok (.iload_n 2, 1) := dk_28 (dk_at dksJ0_fill_0 11 rfl rfl)
theorem dJ0_fill_12 : decode cJ0_fill 12 = .ok (.iload_n 1, 1) := dk_27 (dk_at dksJ0_fill_0 12 rfl rfl)
theorem dJ0_fill_13 : decode cJ0_fill 13 = .ok (.iastore, 1) := dk_79 (dk_at dksJ0_fill_0 13 rfl rfl)
theorem dJ0_fill_14 : decode cJ0_fill 14 = .ok (.iinc 2 1, 3) := dk_132 2 1 (dk_at dksJ0_fill_0 14 rfl rfl)
theorem dJ0_fill_17 : decode cJ0_fill 17 = .ok (.goto (-12), 3) := dk_167 255 244 (dk_at dksJ0_fill_0 17 rfl rfl)
theorem dJ0_fill_20 : decode cJ0_fill 20 = .ok (.return_, 1) := dk_177 (dk_at dksJ0_fill_0 20 rfl rfl)
abbrev cJ0_fill_2 : ByteArray := prog_24_method_111_code
def yJ0_fill_2 : MethodName := ⟨RJ0, "fill", "([ZZ)V"⟩
def dkwJ0_fill_2_0 : List UInt8 := [3, 61, 42, 190, 62, 28, 29, 162, 0, 13, 42, 28, 27, 84, 132, 2, 1, 167, 255, 244, 177]
abbrev dktJ0_fill_2_0 : List UInt8 := dkwJ0_fill_2_0 ++ []
theorem dksJ0_fill_2_0 : cJ0_fill_2.data.toList.drop 0 = dktJ0_fill_2_0 := by decide +kernel
theorem dJ0_fill_2_0 : decode cJ0_fill_2 0 = .ok (.iconst 0, 1) := dk_3 (dk_at dksJ0_fill_2_0 0 rfl rfl)
theorem dJ0_fill_2_1 : decode cJ0_fill_2 1 = .ok (.istore_n 2, 1) := dk_61 (dk_at dksJ0_fill_2_0 1 rfl rfl)
theorem dJ0_fill_2_2 : decode cJ0_fill_2 2 = .ok (.aload_n 0, 1) := dk_42 (dk_at dksJ0_fill_2_0 2 rfl rfl)
theorem dJ0_fill_2_3 : decode cJ0_fill_2 3 = .ok (.arraylength, 1) := dk_190 (dk_at dksJ0_fill_2_0 3 rfl rfl)
theorem dJ0_fill_2_4 : decode cJ0_fill_2 4 = .ok (.istore_n 3, 1) := dk_62 (dk_at dksJ0_fill_2_0 4 rfl rfl)
theorem dJ0_fill_2_5 : decode cJ0_fill_2 5 = .ok (.iload_n 2, 1) := dk_28 (dk_at dksJ0_fill_2_0 5 rfl rfl)
theorem dJ0_fill_2_6 : decode cJ0_fill_2 6 = .ok (.iload_n 3, 1) := dk_29 (dk_at dksJ0_fill_2_0 6 rfl rfl)
theorem dJ0_fill_2_7 : decode cJ0_fill_2 7 = .ok (.if_icmp .ge 13, 3) := dk_162 0 13 (dk_at dksJ0_fill_2_0 7 rfl rfl)
theorem dJ0_fill_2_10 : decode cJ0_fill_2 10 = .ok (.aload_n 0, 1) := dk_42 (dk_at dksJ0_fill_2_0 10 rfl rfl)
theorem dJ0_fill_2_11 : decode cJ0_fill_2 11 = .ok (.iload_n 2, 1) := dk_28 (dk_at dksJ0_fill_2_0 11 rfl rfl)
theorem dJ0_fill_2_12 : decode cJ0_fill_2 12 = .ok (.iload_n 1, 1) := dk_27 (dk_at dksJ0_fill_2_0 12 rfl rfl)
theorem dJ0_fill_2_13 : decode cJ0_fill_2 13 = .ok (.bastore, 1) := dk_84 (dk_at dksJ0_fill_2_0 13 rfl rfl)
theorem dJ0_fill_2_14 : decode cJ0_fill_2 14 = .ok (.iinc 2 1, 3) := dk_132 2 1 (dk_at dksJ0_fill_2_0 14 rfl rfl)
theorem dJ0_fill_2_17 : decode cJ0_fill_2 17 = .ok (.goto (-12), 3) := dk_167 255 244 (dk_at dksJ0_fill_2_0 17 rfl rfl)
theorem dJ0_fill_2_20 : decode cJ0_fill_2 20 = .ok (.return_, 1) := dk_177 (dk_at dksJ0_fill_2_0 20 rfl rfl)
theorem q63 : (Jvm.Cond.initialized "java/util/Arrays") ∈ lw_all := lw_g (lw_at lw_m1 4 rfl) rfl
theorem q158 : (Jvm.Cond.static ({ cls := "java/util/Arrays", name := "fill", desc := "([II)V" } : Jvm.MethodName)) ∈ lw_all := lw_g (lw_at lw_m1 99 rfl) rfl
theorem q159 : (Jvm.Cond.code ({ cls := "java/util/Arrays", name := "fill", desc := "([II)V" } : Jvm.MethodName) prog_24_method_103_code (4 : Nat) (Option.none : Option Jvm.ClassFile.FieldType)) ∈ lw_all := lw_g (lw_at lw_m1 100 rfl) rfl
theorem q574 : (Jvm.Cond.static ({ cls := "java/util/Arrays", name := "fill", desc := "([ZZ)V" } : Jvm.MethodName)) ∈ lw_all := lw_g (lw_at lw_m3 35 rfl) rfl
theorem q575 : (Jvm.Cond.code ({ cls := "java/util/Arrays", name := "fill", desc := "([ZZ)V" } : Jvm.MethodName) prog_24_method_111_code (4 : Nat) (Option.none : Option Jvm.ClassFile.FieldType)) ∈ lw_all := lw_g (lw_at lw_m3 36 rfl) rfl

/-! java/lang/Math -/
set_option maxRecDepth 100000
def RJ1 : String := "java/lang/Math"
abbrev cJ1_min : ByteArray := prog_17_method_69_code
def yJ1_min : MethodName := ⟨RJ1, "min", "(II)I"⟩
def dkwJ1_min_0 : List UInt8 := [26, 27, 163, 0, 7, 26, 167, 0, 4, 27, 172]
abbrev dktJ1_min_0 : List UInt8 := dkwJ1_min_0 ++ []
theorem dksJ1_min_0 : cJ1_min.data.toList.drop 0 = dktJ1_min_0 := by decide +kernel
theorem dJ1_min_0 : decode cJ1_min 0 = .ok (.iload_n 0, 1) := dk_26 (dk_at dksJ1_min_0 0 rfl rfl)
theorem dJ1_min_1 : decode cJ1_min 1 = .ok (.iload_n 1, 1) := dk_27 (dk_at dksJ1_min_0 1 rfl rfl)
theorem dJ1_min_2 : decode cJ1_min 2 = .ok (.if_icmp .gt 7, 3) := dk_163 0 7 (dk_at dksJ1_min_0 2 rfl rfl)
theorem dJ1_min_5 : decode cJ1_min 5 = .ok (.iload_n 0, 1) := dk_26 (dk_at dksJ1_min_0 5 rfl rfl)
theorem dJ1_min_6 : decode cJ1_min 6 = .ok (.goto 4, 3) := dk_167 0 4 (dk_at dksJ1_min_0 6 rfl rfl)
theorem dJ1_min_9 : decode cJ1_min 9 = .ok (.iload_n 1, 1) := dk_27 (dk_at dksJ1_min_0 9 rfl rfl)
theorem dJ1_min_10 : decode cJ1_min 10 = .ok (.ireturn, 1) := dk_172 (dk_at dksJ1_min_0 10 rfl rfl)
abbrev cJ1_max : ByteArray := prog_17_method_65_code
def yJ1_max : MethodName := ⟨RJ1, "max", "(II)I"⟩
def dkwJ1_max_0 : List UInt8 := [26, 27, 161, 0, 7, 26, 167, 0, 4, 27, 172]
abbrev dktJ1_max_0 : List UInt8 := dkwJ1_max_0 ++ []
theorem dksJ1_max_0 : cJ1_max.data.toList.drop 0 = dktJ1_max_0 := by decide +kernel
theorem dJ1_max_0 : decode cJ1_max 0 = .ok (.iload_n 0, 1) := dk_26 (dk_at dksJ1_max_0 0 rfl rfl)
theorem dJ1_max_1 : decode cJ1_max 1 = .ok (.iload_n 1, 1) := dk_27 (dk_at dksJ1_max_0 1 rfl rfl)
theorem dJ1_max_2 : decode cJ1_max 2 = .ok (.if_icmp .lt 7, 3) := dk_161 0 7 (dk_at dksJ1_max_0 2 rfl rfl)
theorem dJ1_max_5 : decode cJ1_max 5 = .ok (.iload_n 0, 1) := dk_26 (dk_at dksJ1_max_0 5 rfl rfl)
theorem dJ1_max_6 : decode cJ1_max 6 = .ok (.goto 4, 3) := dk_167 0 4 (dk_at dksJ1_max_0 6 rfl rfl)
theorem dJ1_max_9 : decode cJ1_max 9 = .ok (.iload_n 1, 1) := dk_27 (dk_at dksJ1_max_0 9 rfl rfl)
theorem dJ1_max_10 : decode cJ1_max 10 = .ok (.ireturn, 1) := dk_172 (dk_at dksJ1_max_0 10 rfl rfl)
theorem q72 : (Jvm.Cond.initialized "java/lang/Math") ∈ lw_all := lw_g (lw_at lw_m1 13 rfl) rfl
theorem q399 : (Jvm.Cond.static ({ cls := "java/lang/Math", name := "min", desc := "(II)I" } : Jvm.MethodName)) ∈ lw_all := lw_g (lw_at lw_m2 100 rfl) rfl
theorem q400 : (Jvm.Cond.code ({ cls := "java/lang/Math", name := "min", desc := "(II)I" } : Jvm.MethodName) prog_17_method_69_code (2 : Nat) (Option.some Jvm.ClassFile.FieldType.int)) ∈ lw_all := lw_g (lw_at lw_m2 101 rfl) rfl
theorem q431 : (Jvm.Cond.static ({ cls := "java/lang/Math", name := "max", desc := "(II)I" } : Jvm.MethodName)) ∈ lw_all := lw_g (lw_at lw_m2 132 rfl) rfl
theorem q432 : (Jvm.Cond.code ({ cls := "java/lang/Math", name := "max", desc := "(II)I" } : Jvm.MethodName) prog_17_method_65_code (2 : Nat) (Option.some Jvm.ClassFile.FieldType.int)) ∈ lw_all := lw_g (lw_at lw_m2 133 rfl) rfl

/-! java/lang/Integer -/
set_option maxRecDepth 100000
def RJ10 : String := "java/lang/Integer"
abbrev cJ10_bitCount : ByteArray := prog_16_method_49_code
def yJ10_bitCount : MethodName := ⟨RJ10, "bitCount", "(I)I"⟩
def dkwJ10_bitCount_2 : List UInt8 := [26, 16, 63, 126, 172]
abbrev dktJ10_bitCount_2 : List UInt8 := dkwJ10_bitCount_2 ++ []
def dkwJ10_bitCount_1 : List UInt8 := [26, 26, 7, 124, 96, 19, 1, 11, 126, 59, 26, 26, 16, 8, 124, 96, 59, 26, 26, 16, 16, 124, 96, 59]
abbrev dktJ10_bitCount_1 : List UInt8 := dkwJ10_bitCount_1 ++ dktJ10_bitCount_2
def dkwJ10_bitCount_0 : List UInt8 := [26, 26, 4, 124, 19, 1, 9, 126, 100, 59, 26, 19, 1, 10, 126, 26, 5, 124, 19, 1, 10, 126, 96, 59]
abbrev dktJ10_bitCount_0 : List UInt8 := dkwJ10_bitCount_0 ++ dktJ10_bitCount_1
theorem dksJ10_bitCount_0 : cJ10_bitCount.data.toList.drop 0 = dktJ10_bitCount_0 := by decide +kernel
theorem dksJ10_bitCount_1 : cJ10_bitCount.data.toList.drop 24 = dktJ10_bitCount_1 := dk_seg dksJ10_bitCount_0 24 rfl rfl
theorem dksJ10_bitCount_2 : cJ10_bitCount.data.toList.drop 48 = dktJ10_bitCount_2 := dk_seg dksJ10_bitCount_1 24 rfl rfl
theorem dJ10_bitCount_0 : decode cJ10_bitCount 0 = .ok (.iload_n 0, 1) := dk_26 (dk_at dksJ10_bitCount_0 0 rfl rfl)
theorem dJ10_bitCount_1 : decode cJ10_bitCount 1 = .ok (.iload_n 0, 1) := dk_26 (dk_at dksJ10_bitCount_0 1 rfl rfl)
theorem dJ10_bitCount_2 : decode cJ10_bitCount 2 = .ok (.iconst 1, 1) := dk_4 (dk_at dksJ10_bitCount_0 2 rfl rfl)
theorem dJ10_bitCount_3 : decode cJ10_bitCount 3 = .ok (.iushr, 1) := dk_124 (dk_at dksJ10_bitCount_0 3 rfl rfl)
theorem dJ10_bitCount_4 : decode cJ10_bitCount 4 = .ok (.ldc_w 265, 3) := dk_19 1 9 (dk_at dksJ10_bitCount_0 4 rfl rfl)
theorem dJ10_bitCount_7 : decode cJ10_bitCount 7 = .ok (.iand, 1) := dk_126 (dk_at dksJ10_bitCount_0 7 rfl rfl)
theorem dJ10_bitCount_8 : decode cJ10_bitCount 8 = .ok (.isub, 1) := dk_100 (dk_at dksJ10_bitCount_0 8 rfl rfl)
theorem dJ10_bitCount_9 : decode cJ10_bitCount 9 = .ok (.istore_n 0, 1) := dk_59 (dk_at dksJ10_bitCount_0 9 rfl rfl)
theorem dJ10_bitCount_10 : decode cJ10_bitCount 10 = .ok (.iload_n 0, 1) := dk_26 (dk_at dksJ10_bitCount_0 10 rfl rfl)
theorem dJ10_bitCount_11 : decode cJ10_bitCount 11 = .ok (.ldc_w 266, 3) := dk_19 1 10 (dk_at dksJ10_bitCount_0 11 rfl rfl)
theorem dJ10_bitCount_14 : decode cJ10_bitCount 14 = .ok (.iand, 1) := dk_126 (dk_at dksJ10_bitCount_0 14 rfl rfl)
theorem dJ10_bitCount_15 : decode cJ10_bitCount 15 = .ok (.iload_n 0, 1) := dk_26 (dk_at dksJ10_bitCount_0 15 rfl rfl)
theorem dJ10_bitCount_16 : decode cJ10_bitCount 16 = .ok (.iconst 2, 1) := dk_5 (dk_at dksJ10_bitCount_0 16 rfl rfl)
theorem dJ10_bitCount_17 : decode cJ10_bitCount 17 = .ok (.iushr, 1) := dk_124 (dk_at dksJ10_bitCount_0 17 rfl rfl)
theorem dJ10_bitCount_18 : decode cJ10_bitCount 18 = .ok (.ldc_w 266, 3) := dk_19 1 10 (dk_at dksJ10_bitCount_0 18 rfl rfl)
theorem dJ10_bitCount_21 : decode cJ10_bitCount 21 = .ok (.iand, 1) := dk_126 (dk_at dksJ10_bitCount_0 21 rfl rfl)
theorem dJ10_bitCount_22 : decode cJ10_bitCount 22 = .ok (.iadd, 1) := dk_96 (dk_at dksJ10_bitCount_0 22 rfl rfl)
theorem dJ10_bitCount_23 : decode cJ10_bitCount 23 = .ok (.istore_n 0, 1) := dk_59 (dk_at dksJ10_bitCount_0 23 rfl rfl)
theorem dJ10_bitCount_24 : decode cJ10_bitCount 24 = .ok (.iload_n 0, 1) := dk_26 (dk_at dksJ10_bitCount_1 0 rfl rfl)
theorem dJ10_bitCount_25 : decode cJ10_bitCount 25 = .ok (.iload_n 0, 1) := dk_26 (dk_at dksJ10_bitCount_1 1 rfl rfl)
theorem dJ10_bitCount_26 : decode cJ10_bitCount 26 = .ok (.iconst 4, 1) := dk_7 (dk_at dksJ10_bitCount_1 2 rfl rfl)
theorem dJ10_bitCount_27 : decode cJ10_bitCount 27 = .ok (.iushr, 1) := dk_124 (dk_at dksJ10_bitCount_1 3 rfl rfl)
theorem dJ10_bitCount_28 : decode cJ10_bitCount 28 = .ok (.iadd, 1) := dk_96 (dk_at dksJ10_bitCount_1 4 rfl rfl)
theorem dJ10_bitCount_29 : decode cJ10_bitCount 29 = .ok (.ldc_w 267, 3) := dk_19 1 11 (dk_at dksJ10_bitCount_1 5 rfl rfl)
theorem dJ10_bitCount_32 : decode cJ10_bitCount 32 = .ok (.iand, 1) := dk_126 (dk_at dksJ10_bitCount_1 8 rfl rfl)
theorem dJ10_bitCount_33 : decode cJ10_bitCount 33 = .ok (.istore_n 0, 1) := dk_59 (dk_at dksJ10_bitCount_1 9 rfl rfl)
theorem dJ10_bitCount_34 : decode cJ10_bitCount 34 = .ok (.iload_n 0, 1) := dk_26 (dk_at dksJ10_bitCount_1 10 rfl rfl)
theorem dJ10_bitCount_35 : decode cJ10_bitCount 35 = .ok (.iload_n 0, 1) := dk_26 (dk_at dksJ10_bitCount_1 11 rfl rfl)
theorem dJ10_bitCount_36 : decode cJ10_bitCount 36 = .ok (.bipush 8, 2) := dk_16 8 (dk_at dksJ10_bitCount_1 12 rfl rfl)
theorem dJ10_bitCount_38 : decode cJ10_bitCount 38 = .ok (.iushr, 1) := dk_124 (dk_at dksJ10_bitCount_1 14 rfl rfl)
theorem dJ10_bitCount_39 : decode cJ10_bitCount 39 = .ok (.iadd, 1) := dk_96 (dk_at dksJ10_bitCount_1 15 rfl rfl)
theorem dJ10_bitCount_40 : decode cJ10_bitCount 40 = .ok (.istore_n 0, 1) := dk_59 (dk_at dksJ10_bitCount_1 16 rfl rfl)
theorem dJ10_bitCount_41 : decode cJ10_bitCount 41 = .ok (.iload_n 0, 1) := dk_26 (dk_at dksJ10_bitCount_1 17 rfl rfl)
theorem dJ10_bitCount_42 : decode cJ10_bitCount 42 = .ok (.iload_n 0, 1) := dk_26 (dk_at dksJ10_bitCount_1 18 rfl rfl)
theorem dJ10_bitCount_43 : decode cJ10_bitCount 43 = .ok (.bipush 16, 2) := dk_16 16 (dk_at dksJ10_bitCount_1 19 rfl rfl)
theorem dJ10_bitCount_45 : decode cJ10_bitCount 45 = .ok (.iushr, 1) := dk_124 (dk_at dksJ10_bitCount_1 21 rfl rfl)
theorem dJ10_bitCount_46 : decode cJ10_bitCount 46 = .ok (.iadd, 1) := dk_96 (dk_at dksJ10_bitCount_1 22 rfl rfl)
theorem dJ10_bitCount_47 : decode cJ10_bitCount 47 = .ok (.istore_n 0, 1) := dk_59 (dk_at dksJ10_bitCount_1 23 rfl rfl)
theorem dJ10_bitCount_48 : decode cJ10_bitCount 48 = .ok (.iload_n 0, 1) := dk_26 (dk_at dksJ10_bitCount_2 0 rfl rfl)
theorem dJ10_bitCount_49 : decode cJ10_bitCount 49 = .ok (.bipush 63, 2) := dk_16 63 (dk_at dksJ10_bitCount_2 1 rfl rfl)
theorem dJ10_bitCount_51 : decode cJ10_bitCount 51 = .ok (.iand, 1) := dk_126 (dk_at dksJ10_bitCount_2 3 rfl rfl)
theorem dJ10_bitCount_52 : decode cJ10_bitCount 52 = .ok (.ireturn, 1) := dk_172 (dk_at dksJ10_bitCount_2 4 rfl rfl)
abbrev cJ10_numberOfTrailingZeros : ByteArray := prog_16_method_48_code
def yJ10_numberOfTrailingZeros : MethodName := ⟨RJ10, "numberOfTrailingZeros", "(I)I"⟩
def dkwJ10_numberOfTrailingZeros_3 : List UInt8 := [5, 124, 59, 27, 26, 4, 124, 96, 172]
abbrev dktJ10_numberOfTrailingZeros_3 : List UInt8 := dkwJ10_numberOfTrailingZeros_3 ++ []
def dkwJ10_numberOfTrailingZeros_2 : List UInt8 := [124, 59, 26, 16, 16, 164, 0, 10, 132, 1, 4, 26, 7, 124, 59, 26, 7, 164, 0, 10, 132, 1, 2, 26]
abbrev dktJ10_numberOfTrailingZeros_2 : List UInt8 := dkwJ10_numberOfTrailingZeros_2 ++ dktJ10_numberOfTrailingZeros_3
def dkwJ10_numberOfTrailingZeros_1 : List UInt8 := [164, 0, 11, 132, 1, 16, 26, 16, 16, 124, 59, 26, 17, 1, 0, 164, 0, 11, 132, 1, 8, 26, 16, 8]
abbrev dktJ10_numberOfTrailingZeros_1 : List UInt8 := dkwJ10_numberOfTrailingZeros_1 ++ dktJ10_numberOfTrailingZeros_2
def dkwJ10_numberOfTrailingZeros_0 : List UInt8 := [26, 2, 130, 26, 4, 100, 126, 59, 26, 157, 0, 8, 26, 16, 32, 126, 172, 4, 60, 26, 19, 1, 8]
abbrev dktJ10_numberOfTrailingZeros_0 : List UInt8 := dkwJ10_numberOfTrailingZeros_0 ++ dktJ10_numberOfTrailingZeros_1
theorem dksJ10_numberOfTrailingZeros_0 : cJ10_numberOfTrailingZeros.data.toList.drop 0 = dktJ10_numberOfTrailingZeros_0 := by decide +kernel
theorem dksJ10_numberOfTrailingZeros_1 : cJ10_numberOfTrailingZeros.data.toList.drop 23 = dktJ10_numberOfTrailingZeros_1 := dk_seg dksJ10_numberOfTrailingZeros_0 23 rfl rfl
theorem dksJ10_numberOfTrailingZeros_2 : cJ10_numberOfTrailingZeros.data.toList.drop 47 = dktJ10_numberOfTrailingZeros_2 := dk_seg dksJ10_numberOfTrailingZeros_1 24 rfl rfl
theorem dksJ10_numberOfTrailingZeros_3 : cJ10_numberOfTrailingZeros.data.toList.drop 71 = dktJ10_numberOfTrailingZeros_3 := dk_seg dksJ10_numberOfTrailingZeros_2 24 rfl rfl
theorem dJ10_numberOfTrailingZeros_0 : decode cJ10_numberOfTrailingZeros 0 = .ok (.iload_n 0, 1) := dk_26 (dk_at dksJ10_numberOfTrailingZeros_0 0 rfl rfl)
theorem dJ10_numberOfTrailingZeros_1 : decode cJ10_numberOfTrailingZeros 1 = .ok (.iconst (-1), 1) := dk_2 (dk_at dksJ10_numberOfTrailingZeros_0 1 rfl rfl)
theorem dJ10_numberOfTrailingZeros_2 : decode cJ10_numberOfTrailingZeros 2 = .ok (.ixor, 1) := dk_130 (dk_at dksJ10_numberOfTrailingZeros_0 2 rfl rfl)
theorem dJ10_numberOfTrailingZeros_3 : decode cJ10_numberOfTrailingZeros 3 = .ok (.iload_n 0, 1) := dk_26 (dk_at dksJ10_numberOfTrailingZeros_0 3 rfl rfl)
theorem dJ10_numberOfTrailingZeros_4 : decode cJ10_numberOfTrailingZeros 4 = .ok (.iconst 1, 1) := dk_4 (dk_at dksJ10_numberOfTrailingZeros_0 4 rfl rfl)
theorem dJ10_numberOfTrailingZeros_5 : decode cJ10_numberOfTrailingZeros 5 = .ok (.isub, 1) := dk_100 (dk_at dksJ10_numberOfTrailingZeros_0 5 rfl rfl)
theorem dJ10_numberOfTrailingZeros_6 : decode cJ10_numberOfTrailingZeros 6 = .ok (.iand, 1) := dk_126 (dk_at dksJ10_numberOfTrailingZeros_0 6 rfl rfl)
theorem dJ10_numberOfTrailingZeros_7 : decode cJ10_numberOfTrailingZeros 7 = .ok (.istore_n 0, 1) := dk_59 (dk_at dksJ10_numberOfTrailingZeros_0 7 rfl rfl)
theorem dJ10_numberOfTrailingZeros_8 : decode cJ10_numberOfTrailingZeros 8 = .ok (.iload_n 0, 1) := dk_26 (dk_at dksJ10_numberOfTrailingZeros_0 8 rfl rfl)
theorem dJ10_numberOfTrailingZeros_9 : decode cJ10_numberOfTrailingZeros 9 = .ok (.ifCond .gt 8, 3) := dk_157 0 8 (dk_at dksJ10_numberOfTrailingZeros_0 9 rfl rfl)
theorem dJ10_numberOfTrailingZeros_12 : decode cJ10_numberOfTrailingZeros 12 = .ok (.iload_n 0, 1) := dk_26 (dk_at dksJ10_numberOfTrailingZeros_0 12 rfl rfl)
theorem dJ10_numberOfTrailingZeros_13 : decode cJ10_numberOfTrailingZeros 13 = .ok (.bipush 32, 2) := dk_16 32 (dk_at dksJ10_numberOfTrailingZeros_0 13 rfl rfl)
theorem dJ10_numberOfTrailingZeros_15 : decode cJ10_numberOfTrailingZeros 15 = .ok (.iand, 1) := dk_126 (dk_at dksJ10_numberOfTrailingZeros_0 15 rfl rfl)
theorem dJ10_numberOfTrailingZeros_16 : decode cJ10_numberOfTrailingZeros 16 = .ok (.ireturn, 1) := dk_172 (dk_at dksJ10_numberOfTrailingZeros_0 16 rfl rfl)
theorem dJ10_numberOfTrailingZeros_17 : decode cJ10_numberOfTrailingZeros 17 = .ok (.iconst 1, 1) := dk_4 (dk_at dksJ10_numberOfTrailingZeros_0 17 rfl rfl)
theorem dJ10_numberOfTrailingZeros_18 : decode cJ10_numberOfTrailingZeros 18 = .ok (.istore_n 1, 1) := dk_60 (dk_at dksJ10_numberOfTrailingZeros_0 18 rfl rfl)
theorem dJ10_numberOfTrailingZeros_19 : decode cJ10_numberOfTrailingZeros 19 = .ok (.iload_n 0, 1) := dk_26 (dk_at dksJ10_numberOfTrailingZeros_0 19 rfl rfl)
theorem dJ10_numberOfTrailingZeros_20 : decode cJ10_numberOfTrailingZeros 20 = .ok (.ldc_w 264, 3) := dk_19 1 8 (dk_at dksJ10_numberOfTrailingZeros_0 20 rfl rfl)
theorem dJ10_numberOfTrailingZeros_23 : decode cJ10_numberOfTrailingZeros 23 = .ok (.if_icmp .le 11, 3) := dk_164 0 11 (dk_at dksJ10_numberOfTrailingZeros_1 0 rfl rfl)
theorem dJ10_numberOfTrailingZeros_26 : decode cJ10_numberOfTrailingZeros 26 = .ok (.iinc 1 16, 3) := dk_132 1 16 (dk_at dksJ10_numberOfTrailingZeros_1 3 rfl rfl)
theorem dJ10_numberOfTrailingZeros_29 : decode cJ10_numberOfTrailingZeros 29 = .ok (.iload_n 0, 1) := dk_26 (dk_at dksJ10_numberOfTrailingZeros_1 6 rfl rfl)
theorem dJ10_numberOfTrailingZeros_30 : decode cJ10_numberOfTrailingZeros 30 = .ok (.bipush 16, 2) := dk_16 16 (dk_at dksJ10_numberOfTrailingZeros_1 7 rfl rfl)
theorem dJ10_numberOfTrailingZeros_32 : decode cJ10_numberOfTrailingZeros 32 = .ok (.iushr, 1) := dk_124 (dk_at dksJ10_numberOfTrailingZeros_1 9 rfl rfl)
theorem dJ10_numberOfTrailingZeros_33 : decode cJ10_numberOfTrailingZeros 33 = .ok (.istore_n 0, 1) := dk_59 (dk_at dksJ10_numberOfTrailingZeros_1 10 rfl rfl)
theorem dJ10_numberOfTrailingZeros_34 : decode cJ10_numberOfTrailingZeros 34 = .ok (.iload_n 0, 1) := dk_26 (dk_at dksJ10_numberOfTrailingZeros_1 11 rfl rfl)
theorem dJ10_numberOfTrailingZeros_35 : decode cJ10_numberOfTrailingZeros 35 = .ok (.sipush 256, 3) := dk_17 1 0 (dk_at dksJ10_numberOfTrailingZeros_1 12 rfl rfl)
theorem dJ10_numberOfTrailingZeros_38 : decode cJ10_numberOfTrailingZeros 38 = .ok (.if_icmp .le 11, 3) := dk_164 0 11 (dk_at dksJ10_numberOfTrailingZeros_1 15 rfl rfl)
theorem dJ10_numberOfTrailingZeros_41 : decode cJ10_numberOfTrailingZeros 41 = .ok (.iinc 1 8, 3) := dk_132 1 8 (dk_at dksJ10_numberOfTrailingZeros_1 18 rfl rfl)
theorem dJ10_numberOfTrailingZeros_44 : decode cJ10_numberOfTrailingZeros 44 = .ok (.iload_n 0, 1) := dk_26 (dk_at dksJ10_numberOfTrailingZeros_1 21 rfl rfl)
theorem dJ10_numberOfTrailingZeros_45 : decode cJ10_numberOfTrailingZeros 45 = .ok (.bipush 8, 2) := dk_16 8 (dk_at dksJ10_numberOfTrailingZeros_1 22 rfl rfl)
theorem dJ10_numberOfTrailingZeros_47 : decode cJ10_numberOfTrailingZeros 47 = .ok (.iushr, 1) := dk_124 (dk_at dksJ10_numberOfTrailingZeros_2 0 rfl rfl)
theorem dJ10_numberOfTrailingZeros_48 : decode cJ10_numberOfTrailingZeros 48 = .ok (.istore_n 0, 1) := dk_59 (dk_at dksJ10_numberOfTrailingZeros_2 1 rfl rfl)
theorem dJ10_numberOfTrailingZeros_49 : decode cJ10_numberOfTrailingZeros 49 = .ok (.iload_n 0, 1) := dk_26 (dk_at dksJ10_numberOfTrailingZeros_2 2 rfl rfl)
theorem dJ10_numberOfTrailingZeros_50 : decode cJ10_numberOfTrailingZeros 50 = .ok (.bipush 16, 2) := dk_16 16 (dk_at dksJ10_numberOfTrailingZeros_2 3 rfl rfl)
theorem dJ10_numberOfTrailingZeros_52 : decode cJ10_numberOfTrailingZeros 52 = .ok (.if_icmp .le 10, 3) := dk_164 0 10 (dk_at dksJ10_numberOfTrailingZeros_2 5 rfl rfl)
theorem dJ10_numberOfTrailingZeros_55 : decode cJ10_numberOfTrailingZeros 55 = .ok (.iinc 1 4, 3) := dk_132 1 4 (dk_at dksJ10_numberOfTrailingZeros_2 8 rfl rfl)
theorem dJ10_numberOfTrailingZeros_58 : decode cJ10_numberOfTrailingZeros 58 = .ok (.iload_n 0, 1) := dk_26 (dk_at dksJ10_numberOfTrailingZeros_2 11 rfl rfl)
theorem dJ10_numberOfTrailingZeros_59 : decode cJ10_numberOfTrailingZeros 59 = .ok (.iconst 4, 1) := dk_7 (dk_at dksJ10_numberOfTrailingZeros_2 12 rfl rfl)
theorem dJ10_numberOfTrailingZeros_60 : decode cJ10_numberOfTrailingZeros 60 = .ok (.iushr, 1) := dk_124 (dk_at dksJ10_numberOfTrailingZeros_2 13 rfl rfl)
theorem dJ10_numberOfTrailingZeros_61 : decode cJ10_numberOfTrailingZeros 61 = .ok (.istore_n 0, 1) := dk_59 (dk_at dksJ10_numberOfTrailingZeros_2 14 rfl rfl)
theorem dJ10_numberOfTrailingZeros_62 : decode cJ10_numberOfTrailingZeros 62 = .ok (.iload_n 0, 1) := dk_26 (dk_at dksJ10_numberOfTrailingZeros_2 15 rfl rfl)
theorem dJ10_numberOfTrailingZeros_63 : decode cJ10_numberOfTrailingZeros 63 = .ok (.iconst 4, 1) := dk_7 (dk_at dksJ10_numberOfTrailingZeros_2 16 rfl rfl)
theorem dJ10_numberOfTrailingZeros_64 : decode cJ10_numberOfTrailingZeros 64 = .ok (.if_icmp .le 10, 3) := dk_164 0 10 (dk_at dksJ10_numberOfTrailingZeros_2 17 rfl rfl)
theorem dJ10_numberOfTrailingZeros_67 : decode cJ10_numberOfTrailingZeros 67 = .ok (.iinc 1 2, 3) := dk_132 1 2 (dk_at dksJ10_numberOfTrailingZeros_2 20 rfl rfl)
theorem dJ10_numberOfTrailingZeros_70 : decode cJ10_numberOfTrailingZeros 70 = .ok (.iload_n 0, 1) := dk_26 (dk_at dksJ10_numberOfTrailingZeros_2 23 rfl rfl)
theorem dJ10_numberOfTrailingZeros_71 : decode cJ10_numberOfTrailingZeros 71 = .ok (.iconst 2, 1) := dk_5 (dk_at dksJ10_numberOfTrailingZeros_3 0 rfl rfl)
theorem dJ10_numberOfTrailingZeros_72 : decode cJ10_numberOfTrailingZeros 72 = .ok (.iushr, 1) := dk_124 (dk_at dksJ10_numberOfTrailingZeros_3 1 rfl rfl)
theorem dJ10_numberOfTrailingZeros_73 : decode cJ10_numberOfTrailingZeros 73 = .ok (.istore_n 0, 1) := dk_59 (dk_at dksJ10_numberOfTrailingZeros_3 2 rfl rfl)
theorem dJ10_numberOfTrailingZeros_74 : decode cJ10_numberOfTrailingZeros 74 = .ok (.iload_n 1, 1) := dk_27 (dk_at dksJ10_numberOfTrailingZeros_3 3 rfl rfl)
theorem dJ10_numberOfTrailingZeros_75 : decode cJ10_numberOfTrailingZeros 75 = .ok (.iload_n 0, 1) := dk_26 (dk_at dksJ10_numberOfTrailingZeros_3 4 rfl rfl)
theorem dJ10_numberOfTrailingZeros_76 : decode cJ10_numberOfTrailingZeros 76 = .ok (.iconst 1, 1) := dk_4 (dk_at dksJ10_numberOfTrailingZeros_3 5 rfl rfl)
theorem dJ10_numberOfTrailingZeros_77 : decode cJ10_numberOfTrailingZeros 77 = .ok (.iushr, 1) := dk_124 (dk_at dksJ10_numberOfTrailingZeros_3 6 rfl rfl)
theorem dJ10_numberOfTrailingZeros_78 : decode cJ10_numberOfTrailingZeros 78 = .ok (.iadd, 1) := dk_96 (dk_at dksJ10_numberOfTrailingZeros_3 7 rfl rfl)
theorem dJ10_numberOfTrailingZeros_79 : decode cJ10_numberOfTrailingZeros 79 = .ok (.ireturn, 1) := dk_172 (dk_at dksJ10_numberOfTrailingZeros_3 8 rfl rfl)
theorem q83 : (Jvm.Cond.initialized "java/lang/Integer") ∈ lw_all := lw_g (lw_at lw_m1 24 rfl) rfl
theorem q654 : (Jvm.Cond.static ({ cls := "java/lang/Integer", name := "bitCount", desc := "(I)I" } : Jvm.MethodName)) ∈ lw_all := lw_g (lw_at lw_m3 115 rfl) rfl
theorem q655 : (Jvm.Cond.code ({ cls := "java/lang/Integer", name := "bitCount", desc := "(I)I" } : Jvm.MethodName) prog_16_method_49_code (1 : Nat) (Option.some Jvm.ClassFile.FieldType.int)) ∈ lw_all := lw_g (lw_at lw_m3 116 rfl) rfl
theorem q656 : (Jvm.Cond.constant "java/lang/Integer" (265 : Nat) (1431655765 : Int32)) ∈ lw_all := lw_g (lw_at lw_m3 117 rfl) rfl
theorem q657 : (Jvm.Cond.constant "java/lang/Integer" (266 : Nat) (858993459 : Int32)) ∈ lw_all := lw_g (lw_at lw_m3 118 rfl) rfl
theorem q658 : (Jvm.Cond.constant "java/lang/Integer" (267 : Nat) (252645135 : Int32)) ∈ lw_all := lw_g (lw_at lw_m3 119 rfl) rfl
theorem q774 : (Jvm.Cond.static ({ cls := "java/lang/Integer", name := "numberOfTrailingZeros", desc := "(I)I" } : Jvm.MethodName)) ∈ lw_all := lw_g (lw_at lw_m3 235 rfl) rfl
theorem q775 : (Jvm.Cond.code ({ cls := "java/lang/Integer", name := "numberOfTrailingZeros", desc := "(I)I" } : Jvm.MethodName) prog_16_method_48_code (2 : Nat) (Option.some Jvm.ClassFile.FieldType.int)) ∈ lw_all := lw_g (lw_at lw_m3 236 rfl) rfl
theorem q776 : (Jvm.Cond.constant "java/lang/Integer" (264 : Nat) (65536 : Int32)) ∈ lw_all := lw_g (lw_at lw_m3 237 rfl) rfl

/-! java/lang/Object -/
set_option maxRecDepth 100000
def RJ11 : String := "java/lang/Object"
abbrev cJ11_init : ByteArray := object_method_1_code
def yJ11_init : MethodName := ⟨RJ11, "<init>", "()V"⟩
theorem dJ11_init_0 : decode cJ11_init 0 = .ok (.return_, 1) := by decide +kernel
theorem q90 : (Jvm.Cond.instanceMethod ({ cls := "java/lang/Object", name := "<init>", desc := "()V" } : Jvm.MethodName)) ∈ lw_all := lw_g (lw_at lw_m1 31 rfl) rfl
theorem q91 : (Jvm.Cond.code ({ cls := "java/lang/Object", name := "<init>", desc := "()V" } : Jvm.MethodName) object_method_1_code (1 : Nat) (Option.none : Option Jvm.ClassFile.FieldType)) ∈ lw_all := lw_g (lw_at lw_m1 32 rfl) rfl

/-! java/lang/String -/
set_option maxRecDepth 100000
def RJ2 : String := "java/lang/String"
abbrev cJ2_indexOf : ByteArray := prog_19_method_79_code
def yJ2_indexOf : MethodName := ⟨RJ2, "indexOf", "(I)I"⟩
def dkwJ2_indexOf_0 : List UInt8 := [42, 27, 3, 182, 2, 121, 172]
abbrev dktJ2_indexOf_0 : List UInt8 := dkwJ2_indexOf_0 ++ []
theorem dksJ2_indexOf_0 : cJ2_indexOf.data.toList.drop 0 = dktJ2_indexOf_0 := by decide +kernel
theorem dJ2_indexOf_0 : decode cJ2_indexOf 0 = .ok (.aload_n 0, 1) := dk_42 (dk_at dksJ2_indexOf_0 0 rfl rfl)
theorem dJ2_indexOf_1 : decode cJ2_indexOf 1 = .ok (.iload_n 1, 1) := dk_27 (dk_at dksJ2_indexOf_0 1 rfl rfl)
theorem dJ2_indexOf_2 : decode cJ2_indexOf 2 = .ok (.iconst 0, 1) := dk_3 (dk_at dksJ2_indexOf_0 2 rfl rfl)
theorem dJ2_indexOf_3 : decode cJ2_indexOf 3 = .ok (.invokevirtual 633, 3) := dk_182 2 121 (dk_at dksJ2_indexOf_0 3 rfl rfl)
theorem dJ2_indexOf_6 : decode cJ2_indexOf 6 = .ok (.ireturn, 1) := dk_172 (dk_at dksJ2_indexOf_0 6 rfl rfl)
abbrev cJ2_indexOf_2 : ByteArray := prog_19_method_80_code
def yJ2_indexOf_2 : MethodName := ⟨RJ2, "indexOf", "(II)I"⟩
def dkwJ2_indexOf_2_1 : List UInt8 := [180, 0, 9, 27, 28, 42, 182, 1, 249, 184, 2, 128, 172]
abbrev dktJ2_indexOf_2_1 : List UInt8 := dkwJ2_indexOf_2_1 ++ []
def dkwJ2_indexOf_2_0 : List UInt8 := [42, 182, 1, 236, 153, 0, 19, 42, 180, 0, 9, 27, 28, 42, 182, 1, 249, 184, 2, 125, 167, 0, 16, 42]
abbrev dktJ2_indexOf_2_0 : List UInt8 := dkwJ2_indexOf_2_0 ++ dktJ2_indexOf_2_1
theorem dksJ2_indexOf_2_0 : cJ2_indexOf_2.data.toList.drop 0 = dktJ2_indexOf_2_0 := by decide +kernel
theorem dksJ2_indexOf_2_1 : cJ2_indexOf_2.data.toList.drop 24 = dktJ2_indexOf_2_1 := dk_seg dksJ2_indexOf_2_0 24 rfl rfl
theorem dJ2_indexOf_2_0 : decode cJ2_indexOf_2 0 = .ok (.aload_n 0, 1) := dk_42 (dk_at dksJ2_indexOf_2_0 0 rfl rfl)
theorem dJ2_indexOf_2_1 : decode cJ2_indexOf_2 1 = .ok (.invokevirtual 492, 3) := dk_182 1 236 (dk_at dksJ2_indexOf_2_0 1 rfl rfl)
theorem dJ2_indexOf_2_4 : decode cJ2_indexOf_2 4 = .ok (.ifCond .eq 19, 3) := dk_153 0 19 (dk_at dksJ2_indexOf_2_0 4 rfl rfl)
theorem dJ2_indexOf_2_7 : decode cJ2_indexOf_2 7 = .ok (.aload_n 0, 1) := dk_42 (dk_at dksJ2_indexOf_2_0 7 rfl rfl)
theorem dJ2_indexOf_2_8 : decode cJ2_indexOf_2 8 = .ok (.getfield 9, 3) := dk_180 0 9 (dk_at dksJ2_indexOf_2_0 8 rfl rfl)
theorem dJ2_indexOf_2_11 : decode cJ2_indexOf_2 11 = .ok (.iload_n 1, 1) := dk_27 (dk_at dksJ2_indexOf_2_0 11 rfl rfl)
theorem dJ2_indexOf_2_12 : decode cJ2_indexOf_2 12 = .ok (.iload_n 2, 1) := dk_28 (dk_at dksJ2_indexOf_2_0 12 rfl rfl)
theorem dJ2_indexOf_2_13 : decode cJ2_indexOf_2 13 = .ok (.aload_n 0, 1) := dk_42 (dk_at dksJ2_indexOf_2_0 13 rfl rfl)
theorem dJ2_indexOf_2_14 : decode cJ2_indexOf_2 14 = .ok (.invokevirtual 505, 3) := dk_182 1 249 (dk_at dksJ2_indexOf_2_0 14 rfl rfl)
theorem dJ2_indexOf_2_17 : decode cJ2_indexOf_2 17 = .ok (.invokestatic 637, 3) := dk_184 2 125 (dk_at dksJ2_indexOf_2_0 17 rfl rfl)
theorem dJ2_indexOf_2_20 : decode cJ2_indexOf_2 20 = .ok (.goto 16, 3) := dk_167 0 16 (dk_at dksJ2_indexOf_2_0 20 rfl rfl)
theorem dJ2_indexOf_2_23 : decode cJ2_indexOf_2 23 = .ok (.aload_n 0, 1) := dk_42 (dk_at dksJ2_indexOf_2_0 23 rfl rfl)
theorem dJ2_indexOf_2_24 : decode cJ2_indexOf_2 24 = .ok (.getfield 9, 3) := dk_180 0 9 (dk_at dksJ2_indexOf_2_1 0 rfl rfl)
theorem dJ2_indexOf_2_27 : decode cJ2_indexOf_2 27 = .ok (.iload_n 1, 1) := dk_27 (dk_at dksJ2_indexOf_2_1 3 rfl rfl)
theorem dJ2_indexOf_2_28 : decode cJ2_indexOf_2 28 = .ok (.iload_n 2, 1) := dk_28 (dk_at dksJ2_indexOf_2_1 4 rfl rfl)
theorem dJ2_indexOf_2_29 : decode cJ2_indexOf_2 29 = .ok (.aload_n 0, 1) := dk_42 (dk_at dksJ2_indexOf_2_1 5 rfl rfl)
theorem dJ2_indexOf_2_30 : decode cJ2_indexOf_2 30 = .ok (.invokevirtual 505, 3) := dk_182 1 249 (dk_at dksJ2_indexOf_2_1 6 rfl rfl)
theorem dJ2_indexOf_2_33 : decode cJ2_indexOf_2 33 = .ok (.invokestatic 640, 3) := dk_184 2 128 (dk_at dksJ2_indexOf_2_1 9 rfl rfl)
theorem dJ2_indexOf_2_36 : decode cJ2_indexOf_2 36 = .ok (.ireturn, 1) := dk_172 (dk_at dksJ2_indexOf_2_1 12 rfl rfl)
abbrev cJ2_isLatin1 : ByteArray := prog_19_method_154_code
def yJ2_isLatin1 : MethodName := ⟨RJ2, "isLatin1", "()Z"⟩
def dkwJ2_isLatin1_0 : List UInt8 := [178, 0, 38, 153, 0, 14, 42, 180, 0, 15, 154, 0, 7, 4, 167, 0, 4, 3, 172]
abbrev dktJ2_isLatin1_0 : List UInt8 := dkwJ2_isLatin1_0 ++ []
theorem dksJ2_isLatin1_0 : cJ2_isLatin1.data.toList.drop 0 = dktJ2_isLatin1_0 := by decide +kernel
theorem dJ2_isLatin1_0 : decode cJ2_isLatin1 0 = .ok (.getstatic 38, 3) := dk_178 0 38 (dk_at dksJ2_isLatin1_0 0 rfl rfl)
theorem dJ2_isLatin1_3 : decode cJ2_isLatin1 3 = .ok (.ifCond .eq 14, 3) := dk_153 0 14 (dk_at dksJ2_isLatin1_0 3 rfl rfl)
theorem dJ2_isLatin1_6 : decode cJ2_isLatin1 6 = .ok (.aload_n 0, 1) := dk_42 (dk_at dksJ2_isLatin1_0 6 rfl rfl)
theorem dJ2_isLatin1_7 : decode cJ2_isLatin1 7 = .ok (.getfield 15, 3) := dk_180 0 15 (dk_at dksJ2_isLatin1_0 7 rfl rfl)
theorem dJ2_isLatin1_10 : decode cJ2_isLatin1 10 = .ok (.ifCond .ne 7, 3) := dk_154 0 7 (dk_at dksJ2_isLatin1_0 10 rfl rfl)
theorem dJ2_isLatin1_13 : decode cJ2_isLatin1 13 = .ok (.iconst 1, 1) := dk_4 (dk_at dksJ2_isLatin1_0 13 rfl rfl)
theorem dJ2_isLatin1_14 : decode cJ2_isLatin1 14 = .ok (.goto 4, 3) := dk_167 0 4 (dk_at dksJ2_isLatin1_0 14 rfl rfl)
theorem dJ2_isLatin1_17 : decode cJ2_isLatin1 17 = .ok (.iconst 0, 1) := dk_3 (dk_at dksJ2_isLatin1_0 17 rfl rfl)
theorem dJ2_isLatin1_18 : decode cJ2_isLatin1 18 = .ok (.ireturn, 1) := dk_172 (dk_at dksJ2_isLatin1_0 18 rfl rfl)
abbrev cJ2_length : ByteArray := prog_19_method_54_code
def yJ2_length : MethodName := ⟨RJ2, "length", "()I"⟩
def dkwJ2_length_0 : List UInt8 := [42, 180, 0, 9, 190, 42, 182, 1, 79, 122, 172]
abbrev dktJ2_length_0 : List UInt8 := dkwJ2_length_0 ++ []
theorem dksJ2_length_0 : cJ2_length.data.toList.drop 0 = dktJ2_length_0 := by decide +kernel
theorem dJ2_length_0 : decode cJ2_length 0 = .ok (.aload_n 0, 1) := dk_42 (dk_at dksJ2_length_0 0 rfl rfl)
theorem dJ2_length_1 : decode cJ2_length 1 = .ok (.getfield 9, 3) := dk_180 0 9 (dk_at dksJ2_length_0 1 rfl rfl)
theorem dJ2_length_4 : decode cJ2_length 4 = .ok (.arraylength, 1) := dk_190 (dk_at dksJ2_length_0 4 rfl rfl)
theorem dJ2_length_5 : decode cJ2_length 5 = .ok (.aload_n 0, 1) := dk_42 (dk_at dksJ2_length_0 5 rfl rfl)
theorem dJ2_length_6 : decode cJ2_length 6 = .ok (.invokevirtual 335, 3) := dk_182 1 79 (dk_at dksJ2_length_0 6 rfl rfl)
theorem dJ2_length_9 : decode cJ2_length 9 = .ok (.ishr, 1) := dk_122 (dk_at dksJ2_length_0 9 rfl rfl)
theorem dJ2_length_10 : decode cJ2_length 10 = .ok (.ireturn, 1) := dk_172 (dk_at dksJ2_length_0 10 rfl rfl)
abbrev cJ2_coder : ByteArray := prog_19_method_152_code
def yJ2_coder : MethodName := ⟨RJ2, "coder", "()B"⟩
def dkwJ2_coder_0 : List UInt8 := [178, 0, 38, 153, 0, 10, 42, 180, 0, 15, 167, 0, 4, 4, 172]
abbrev dktJ2_coder_0 : List UInt8 := dkwJ2_coder_0 ++ []
theorem dksJ2_coder_0 : cJ2_coder.data.toList.drop 0 = dktJ2_coder_0 := by decide +kernel
theorem dJ2_coder_0 : decode cJ2_coder 0 = .ok (.getstatic 38, 3) := dk_178 0 38 (dk_at dksJ2_coder_0 0 rfl rfl)
theorem dJ2_coder_3 : decode cJ2_coder 3 = .ok (.ifCond .eq 10, 3) := dk_153 0 10 (dk_at dksJ2_coder_0 3 rfl rfl)
theorem dJ2_coder_6 : decode cJ2_coder 6 = .ok (.aload_n 0, 1) := dk_42 (dk_at dksJ2_coder_0 6 rfl rfl)
theorem dJ2_coder_7 : decode cJ2_coder 7 = .ok (.getfield 15, 3) := dk_180 0 15 (dk_at dksJ2_coder_0 7 rfl rfl)
theorem dJ2_coder_10 : decode cJ2_coder 10 = .ok (.goto 4, 3) := dk_167 0 4 (dk_at dksJ2_coder_0 10 rfl rfl)
theorem dJ2_coder_13 : decode cJ2_coder 13 = .ok (.iconst 1, 1) := dk_4 (dk_at dksJ2_coder_0 13 rfl rfl)
theorem dJ2_coder_14 : decode cJ2_coder 14 = .ok (.ireturn, 1) := dk_172 (dk_at dksJ2_coder_0 14 rfl rfl)
abbrev cJ2_checkBoundsBeginEnd : ByteArray := prog_19_method_158_code
def yJ2_checkBoundsBeginEnd : MethodName := ⟨RJ2, "checkBoundsBeginEnd", "(III)V"⟩
def dkwJ2_checkBoundsBeginEnd_0 : List UInt8 := [26, 27, 28, 178, 4, 29, 184, 4, 38, 87, 177]
abbrev dktJ2_checkBoundsBeginEnd_0 : List UInt8 := dkwJ2_checkBoundsBeginEnd_0 ++ []
theorem dksJ2_checkBoundsBeginEnd_0 : cJ2_checkBoundsBeginEnd.data.toList.drop 0 = dktJ2_checkBoundsBeginEnd_0 := by decide +kernel
theorem dJ2_checkBoundsBeginEnd_0 : decode cJ2_checkBoundsBeginEnd 0 = .ok (.iload_n 0, 1) := dk_26 (dk_at dksJ2_checkBoundsBeginEnd_0 0 rfl rfl)
theorem dJ2_checkBoundsBeginEnd_1 : decode cJ2_checkBoundsBeginEnd 1 = .ok (.iload_n 1, 1) := dk_27 (dk_at dksJ2_checkBoundsBeginEnd_0 1 rfl rfl)
theorem dJ2_checkBoundsBeginEnd_2 : decode cJ2_checkBoundsBeginEnd 2 = .ok (.iload_n 2, 1) := dk_28 (dk_at dksJ2_checkBoundsBeginEnd_0 2 rfl rfl)
theorem dJ2_checkBoundsBeginEnd_3 : decode cJ2_checkBoundsBeginEnd 3 = .ok (.getstatic 1053, 3) := dk_178 4 29 (dk_at dksJ2_checkBoundsBeginEnd_0 3 rfl rfl)
theorem dJ2_checkBoundsBeginEnd_6 : decode cJ2_checkBoundsBeginEnd 6 = .ok (.invokestatic 1062, 3) := dk_184 4 38 (dk_at dksJ2_checkBoundsBeginEnd_0 6 rfl rfl)
theorem dJ2_checkBoundsBeginEnd_9 : decode cJ2_checkBoundsBeginEnd 9 = .ok (.pop, 1) := dk_87 (dk_at dksJ2_checkBoundsBeginEnd_0 9 rfl rfl)
theorem dJ2_checkBoundsBeginEnd_10 : decode cJ2_checkBoundsBeginEnd 10 = .ok (.return_, 1) := dk_177 (dk_at dksJ2_checkBoundsBeginEnd_0 10 rfl rfl)
theorem q73 : (Jvm.Cond.initialized "java/lang/String") ∈ lw_all := lw_g (lw_at lw_m1 14 rfl) rfl
theorem q403 : (Jvm.Cond.instanceMethod ({ cls := "java/lang/String", name := "indexOf", desc := "(I)I" } : Jvm.MethodName)) ∈ lw_all := lw_g (lw_at lw_m2 104 rfl) rfl
theorem q404 : (Jvm.Cond.selects "java/lang/String" ({ cls := "java/lang/String", name := "indexOf", desc := "(I)I" } : Jvm.MethodName) ({ cls := "java/lang/String", name := "indexOf", desc := "(I)I" } : Jvm.MethodName)) ∈ lw_all := lw_g (lw_at lw_m2 105 rfl) rfl
theorem q405 : (Jvm.Cond.code ({ cls := "java/lang/String", name := "indexOf", desc := "(I)I" } : Jvm.MethodName) prog_19_method_79_code (2 : Nat) (Option.some Jvm.ClassFile.FieldType.int)) ∈ lw_all := lw_g (lw_at lw_m2 106 rfl) rfl
theorem q406 : (Jvm.Cond.methodLink "java/lang/String" (633 : Nat) ({ cls := "java/lang/String", name := "indexOf", desc := "(II)I" } : Jvm.MethodName)) ∈ lw_all := lw_g (lw_at lw_m2 107 rfl) rfl
theorem q407 : (Jvm.Cond.instanceMethod ({ cls := "java/lang/String", name := "indexOf", desc := "(II)I" } : Jvm.MethodName)) ∈ lw_all := lw_g (lw_at lw_m2 108 rfl) rfl
theorem q408 : (Jvm.Cond.selects "java/lang/String" ({ cls := "java/lang/String", name := "indexOf", desc := "(II)I" } : Jvm.MethodName) ({ cls := "java/lang/String", name := "indexOf", desc := "(II)I" } : Jvm.MethodName)) ∈ lw_all := lw_g (lw_at lw_m2 109 rfl) rfl
theorem q409 : (Jvm.Cond.code ({ cls := "java/lang/String", name := "indexOf", desc := "(II)I" } : Jvm.MethodName) prog_19_method_80_code (3 : Nat) (Option.some Jvm.ClassFile.FieldType.int)) ∈ lw_all := lw_g (lw_at lw_m2 110 rfl) rfl
theorem q410 : (Jvm.Cond.methodLink "java/lang/String" (492 : Nat) ({ cls := "java/lang/String", name := "isLatin1", desc := "()Z" } : Jvm.MethodName)) ∈ lw_all := lw_g (lw_at lw_m2 111 rfl) rfl
theorem q411 : (Jvm.Cond.instanceMethod ({ cls := "java/lang/String", name := "isLatin1", desc := "()Z" } : Jvm.MethodName)) ∈ lw_all := lw_g (lw_at lw_m2 112 rfl) rfl
theorem q412 : (Jvm.Cond.selects "java/lang/String" ({ cls := "java/lang/String", name := "isLatin1", desc := "()Z" } : Jvm.MethodName) ({ cls := "java/lang/String", name := "isLatin1", desc := "()Z" } : Jvm.MethodName)) ∈ lw_all := lw_g (lw_at lw_m2 113 rfl) rfl
theorem q413 : (Jvm.Cond.code ({ cls := "java/lang/String", name := "isLatin1", desc := "()Z" } : Jvm.MethodName) prog_19_method_154_code (1 : Nat) (Option.some Jvm.ClassFile.FieldType.boolean)) ∈ lw_all := lw_g (lw_at lw_m2 114 rfl) rfl
theorem q414 : (Jvm.Cond.fieldLink "java/lang/String" (38 : Nat) "java/lang/String" "COMPACT_STRINGS" "Z") ∈ lw_all := lw_g (lw_at lw_m2 115 rfl) rfl
theorem q415 : (Jvm.Cond.laysStatic "java/lang/String" "COMPACT_STRINGS" "Z") ∈ lw_tbl := lw_at lw_m2 116 rfl
theorem q416 : (Jvm.Cond.methodLink "java/lang/String" (505 : Nat) ({ cls := "java/lang/String", name := "length", desc := "()I" } : Jvm.MethodName)) ∈ lw_all := lw_g (lw_at lw_m2 117 rfl) rfl
theorem q417 : (Jvm.Cond.instanceMethod ({ cls := "java/lang/String", name := "length", desc := "()I" } : Jvm.MethodName)) ∈ lw_all := lw_g (lw_at lw_m2 118 rfl) rfl
theorem q418 : (Jvm.Cond.selects "java/lang/String" ({ cls := "java/lang/String", name := "length", desc := "()I" } : Jvm.MethodName) ({ cls := "java/lang/String", name := "length", desc := "()I" } : Jvm.MethodName)) ∈ lw_all := lw_g (lw_at lw_m2 119 rfl) rfl
theorem q419 : (Jvm.Cond.code ({ cls := "java/lang/String", name := "length", desc := "()I" } : Jvm.MethodName) prog_19_method_54_code (1 : Nat) (Option.some Jvm.ClassFile.FieldType.int)) ∈ lw_all := lw_g (lw_at lw_m2 120 rfl) rfl
theorem q420 : (Jvm.Cond.methodLink "java/lang/String" (335 : Nat) ({ cls := "java/lang/String", name := "coder", desc := "()B" } : Jvm.MethodName)) ∈ lw_all := lw_g (lw_at lw_m2 121 rfl) rfl
theorem q421 : (Jvm.Cond.instanceMethod ({ cls := "java/lang/String", name := "coder", desc := "()B" } : Jvm.MethodName)) ∈ lw_all := lw_g (lw_at lw_m2 122 rfl) rfl
theorem q422 : (Jvm.Cond.selects "java/lang/String" ({ cls := "java/lang/String", name := "coder", desc := "()B" } : Jvm.MethodName) ({ cls := "java/lang/String", name := "coder", desc := "()B" } : Jvm.MethodName)) ∈ lw_all := lw_g (lw_at lw_m2 123 rfl) rfl
theorem q423 : (Jvm.Cond.code ({ cls := "java/lang/String", name := "coder", desc := "()B" } : Jvm.MethodName) prog_19_method_152_code (1 : Nat) (Option.some Jvm.ClassFile.FieldType.byte)) ∈ lw_all := lw_g (lw_at lw_m2 124 rfl) rfl
theorem q424 : (Jvm.Cond.methodLink "java/lang/String" (637 : Nat) ({ cls := "java/lang/StringLatin1", name := "indexOf", desc := "([BIII)I" } : Jvm.MethodName)) ∈ lw_all := lw_g (lw_at lw_m2 125 rfl) rfl
theorem q437 : (Jvm.Cond.methodLink "java/lang/String" (640 : Nat) ({ cls := "java/lang/StringUTF16", name := "indexOf", desc := "([BIII)I" } : Jvm.MethodName)) ∈ lw_all := lw_g (lw_at lw_m2 138 rfl) rfl
theorem q453 : (Jvm.Cond.static ({ cls := "java/lang/String", name := "checkBoundsBeginEnd", desc := "(III)V" } : Jvm.MethodName)) ∈ lw_all := lw_g (lw_at lw_m2 154 rfl) rfl
theorem q454 : (Jvm.Cond.code ({ cls := "java/lang/String", name := "checkBoundsBeginEnd", desc := "(III)V" } : Jvm.MethodName) prog_19_method_158_code (3 : Nat) (Option.none : Option Jvm.ClassFile.FieldType)) ∈ lw_all := lw_g (lw_at lw_m2 155 rfl) rfl
theorem q455 : (Jvm.Cond.fieldLink "java/lang/String" (1053 : Nat) "jdk/internal/util/Preconditions" "SIOOBE_FORMATTER" "Ljava/util/function/BiFunction;") ∈ lw_all := lw_g (lw_at lw_m2 156 rfl) rfl
theorem q457 : (Jvm.Cond.methodLink "java/lang/String" (1062 : Nat) ({ cls := "jdk/internal/util/Preconditions", name := "checkFromToIndex", desc := "(IIILjava/util/function/BiFunction;)I" } : Jvm.MethodName)) ∈ lw_all := lw_g (lw_at lw_m2 158 rfl) rfl
theorem q1281 : (Jvm.Cond.fieldLink "java/lang/String" (15 : Nat) "java/lang/String" "coder" "B") ∈ lw_all := lw_g (lw_at lw_m6 22 rfl) rfl
theorem q1282 : (Jvm.Cond.fieldLink "java/lang/String" (9 : Nat) "java/lang/String" "value" "[B") ∈ lw_all := lw_g (lw_at lw_m6 23 rfl) rfl

/-! java/lang/StringLatin1 -/
set_option maxRecDepth 100000
def RJ3 : String := "java/lang/StringLatin1"
abbrev cJ3_indexOf : ByteArray := prog_20_method_22_code
def yJ3_indexOf : MethodName := ⟨RJ3, "indexOf", "([BIII)I"⟩
def dkwJ3_indexOf_1 : List UInt8 := [161, 0, 5, 2, 172, 42, 27, 28, 29, 184, 0, 95, 172]
abbrev dktJ3_indexOf_1 : List UInt8 := dkwJ3_indexOf_1 ++ []
def dkwJ3_indexOf_0 : List UInt8 := [27, 184, 0, 88, 154, 0, 5, 2, 172, 28, 3, 184, 0, 92, 61, 29, 42, 190, 184, 0, 38, 62, 28, 29]
abbrev dktJ3_indexOf_0 : List UInt8 := dkwJ3_indexOf_0 ++ dktJ3_indexOf_1
theorem dksJ3_indexOf_0 : cJ3_indexOf.data.toList.drop 0 = dktJ3_indexOf_0 := by decide +kernel
theorem dksJ3_indexOf_1 : cJ3_indexOf.data.toList.drop 24 = dktJ3_indexOf_1 := dk_seg dksJ3_indexOf_0 24 rfl rfl
theorem dJ3_indexOf_0 : decode cJ3_indexOf 0 = .ok (.iload_n 1, 1) := dk_27 (dk_at dksJ3_indexOf_0 0 rfl rfl)
theorem dJ3_indexOf_1 : decode cJ3_indexOf 1 = .ok (.invokestatic 88, 3) := dk_184 0 88 (dk_at dksJ3_indexOf_0 1 rfl rfl)
theorem dJ3_indexOf_4 : decode cJ3_indexOf 4 = .ok (.ifCond .ne 5, 3) := dk_154 0 5 (dk_at dksJ3_indexOf_0 4 rfl rfl)
theorem dJ3_indexOf_7 : decode cJ3_indexOf 7 = .ok (.iconst (-1), 1) := dk_2 (dk_at dksJ3_indexOf_0 7 rfl rfl)
theorem dJ3_indexOf_8 : decode cJ3_indexOf 8 = .ok (.ireturn, 1) := dk_172 (dk_at dksJ3_indexOf_0 8 rfl rfl)
theorem dJ3_indexOf_9 : decode cJ3_indexOf 9 = .ok (.iload_n 2, 1) := dk_28 (dk_at dksJ3_indexOf_0 9 rfl rfl)
theorem dJ3_indexOf_10 : decode cJ3_indexOf 10 = .ok (.iconst 0, 1) := dk_3 (dk_at dksJ3_indexOf_0 10 rfl rfl)
theorem dJ3_indexOf_11 : decode cJ3_indexOf 11 = .ok (.invokestatic 92, 3) := dk_184 0 92 (dk_at dksJ3_indexOf_0 11 rfl rfl)
theorem dJ3_indexOf_14 : decode cJ3_indexOf 14 = .ok (.istore_n 2, 1) := dk_61 (dk_at dksJ3_indexOf_0 14 rfl rfl)
theorem dJ3_indexOf_15 : decode cJ3_indexOf 15 = .ok (.iload_n 3, 1) := dk_29 (dk_at dksJ3_indexOf_0 15 rfl rfl)
theorem dJ3_indexOf_16 : decode cJ3_indexOf 16 = .ok (.aload_n 0, 1) := dk_42 (dk_at dksJ3_indexOf_0 16 rfl rfl)
theorem dJ3_indexOf_17 : decode cJ3_indexOf 17 = .ok (.arraylength, 1) := dk_190 (dk_at dksJ3_indexOf_0 17 rfl rfl)
theorem dJ3_indexOf_18 : decode cJ3_indexOf 18 = .ok (.invokestatic 38, 3) := dk_184 0 38 (dk_at dksJ3_indexOf_0 18 rfl rfl)
theorem dJ3_indexOf_21 : decode cJ3_indexOf 21 = .ok (.istore_n 3, 1) := dk_62 (dk_at dksJ3_indexOf_0 21 rfl rfl)
theorem dJ3_indexOf_22 : decode cJ3_indexOf 22 = .ok (.iload_n 2, 1) := dk_28 (dk_at dksJ3_indexOf_0 22 rfl rfl)
theorem dJ3_indexOf_23 : decode cJ3_indexOf 23 = .ok (.iload_n 3, 1) := dk_29 (dk_at dksJ3_indexOf_0 23 rfl rfl)
theorem dJ3_indexOf_24 : decode cJ3_indexOf 24 = .ok (.if_icmp .lt 5, 3) := dk_161 0 5 (dk_at dksJ3_indexOf_1 0 rfl rfl)
theorem dJ3_indexOf_27 : decode cJ3_indexOf 27 = .ok (.iconst (-1), 1) := dk_2 (dk_at dksJ3_indexOf_1 3 rfl rfl)
theorem dJ3_indexOf_28 : decode cJ3_indexOf 28 = .ok (.ireturn, 1) := dk_172 (dk_at dksJ3_indexOf_1 4 rfl rfl)
theorem dJ3_indexOf_29 : decode cJ3_indexOf 29 = .ok (.aload_n 0, 1) := dk_42 (dk_at dksJ3_indexOf_1 5 rfl rfl)
theorem dJ3_indexOf_30 : decode cJ3_indexOf 30 = .ok (.iload_n 1, 1) := dk_27 (dk_at dksJ3_indexOf_1 6 rfl rfl)
theorem dJ3_indexOf_31 : decode cJ3_indexOf 31 = .ok (.iload_n 2, 1) := dk_28 (dk_at dksJ3_indexOf_1 7 rfl rfl)
theorem dJ3_indexOf_32 : decode cJ3_indexOf 32 = .ok (.iload_n 3, 1) := dk_29 (dk_at dksJ3_indexOf_1 8 rfl rfl)
theorem dJ3_indexOf_33 : decode cJ3_indexOf 33 = .ok (.invokestatic 95, 3) := dk_184 0 95 (dk_at dksJ3_indexOf_1 9 rfl rfl)
theorem dJ3_indexOf_36 : decode cJ3_indexOf 36 = .ok (.ireturn, 1) := dk_172 (dk_at dksJ3_indexOf_1 12 rfl rfl)
abbrev cJ3_canEncode : ByteArray := prog_20_method_4_code
def yJ3_canEncode : MethodName := ⟨RJ3, "canEncode", "(I)Z"⟩
def dkwJ3_canEncode_0 : List UInt8 := [26, 155, 0, 14, 26, 17, 0, 255, 163, 0, 7, 4, 167, 0, 4, 3, 172]
abbrev dktJ3_canEncode_0 : List UInt8 := dkwJ3_canEncode_0 ++ []
theorem dksJ3_canEncode_0 : cJ3_canEncode.data.toList.drop 0 = dktJ3_canEncode_0 := by decide +kernel
theorem dJ3_canEncode_0 : decode cJ3_canEncode 0 = .ok (.iload_n 0, 1) := dk_26 (dk_at dksJ3_canEncode_0 0 rfl rfl)
theorem dJ3_canEncode_1 : decode cJ3_canEncode 1 = .ok (.ifCond .lt 14, 3) := dk_155 0 14 (dk_at dksJ3_canEncode_0 1 rfl rfl)
theorem dJ3_canEncode_4 : decode cJ3_canEncode 4 = .ok (.iload_n 0, 1) := dk_26 (dk_at dksJ3_canEncode_0 4 rfl rfl)
theorem dJ3_canEncode_5 : decode cJ3_canEncode 5 = .ok (.sipush 255, 3) := dk_17 0 255 (dk_at dksJ3_canEncode_0 5 rfl rfl)
theorem dJ3_canEncode_8 : decode cJ3_canEncode 8 = .ok (.if_icmp .gt 7, 3) := dk_163 0 7 (dk_at dksJ3_canEncode_0 8 rfl rfl)
theorem dJ3_canEncode_11 : decode cJ3_canEncode 11 = .ok (.iconst 1, 1) := dk_4 (dk_at dksJ3_canEncode_0 11 rfl rfl)
theorem dJ3_canEncode_12 : decode cJ3_canEncode 12 = .ok (.goto 4, 3) := dk_167 0 4 (dk_at dksJ3_canEncode_0 12 rfl rfl)
theorem dJ3_canEncode_15 : decode cJ3_canEncode 15 = .ok (.iconst 0, 1) := dk_3 (dk_at dksJ3_canEncode_0 15 rfl rfl)
theorem dJ3_canEncode_16 : decode cJ3_canEncode 16 = .ok (.ireturn, 1) := dk_172 (dk_at dksJ3_canEncode_0 16 rfl rfl)
abbrev cJ3_indexOfChar : ByteArray := prog_20_method_23_code
def yJ3_indexOfChar : MethodName := ⟨RJ3, "indexOfChar", "([BIII)I"⟩
def dkwJ3_indexOfChar_1 : List UInt8 := [172, 132, 5, 1, 167, 255, 235, 2, 172]
abbrev dktJ3_indexOfChar_1 : List UInt8 := dkwJ3_indexOfChar_1 ++ []
def dkwJ3_indexOfChar_0 : List UInt8 := [27, 145, 54, 4, 28, 54, 5, 21, 5, 29, 162, 0, 21, 42, 21, 5, 51, 21, 4, 160, 0, 6, 21, 5]
abbrev dktJ3_indexOfChar_0 : List UInt8 := dkwJ3_indexOfChar_0 ++ dktJ3_indexOfChar_1
theorem dksJ3_indexOfChar_0 : cJ3_indexOfChar.data.toList.drop 0 = dktJ3_indexOfChar_0 := by decide +kernel
theorem dksJ3_indexOfChar_1 : cJ3_indexOfChar.data.toList.drop 24 = dktJ3_indexOfChar_1 := dk_seg dksJ3_indexOfChar_0 24 rfl rfl
theorem dJ3_indexOfChar_0 : decode cJ3_indexOfChar 0 = .ok (.iload_n 1, 1) := dk_27 (dk_at dksJ3_indexOfChar_0 0 rfl rfl)
theorem dJ3_indexOfChar_1 : decode cJ3_indexOfChar 1 = .ok (.i2b, 1) := dk_145 (dk_at dksJ3_indexOfChar_0 1 rfl rfl)
theorem dJ3_indexOfChar_2 : decode cJ3_indexOfChar 2 = .ok (.istore 4, 2) := dk_54 4 (dk_at dksJ3_indexOfChar_0 2 rfl rfl)
theorem dJ3_indexOfChar_4 : decode cJ3_indexOfChar 4 = .ok (.iload_n 2, 1) := dk_28 (dk_at dksJ3_indexOfChar_0 4 rfl rfl)
theorem dJ3_indexOfChar_5 : decode cJ3_indexOfChar 5 = .ok (.istore 5, 2) := dk_54 5 (dk_at dksJ3_indexOfChar_0 5 rfl rfl)
theorem dJ3_indexOfChar_7 : decode cJ3_indexOfChar 7 = .ok (.iload 5, 2) := dk_21 5 (dk_at dksJ3_indexOfChar_0 7 rfl rfl)
theorem dJ3_indexOfChar_9 : decode cJ3_indexOfChar 9 = .ok (.iload_n 3, 1) := dk_29 (dk_at dksJ3_indexOfChar_0 9 rfl rfl)
theorem dJ3_indexOfChar_10 : decode cJ3_indexOfChar 10 = .ok (.if_icmp .ge 21, 3) := dk_162 0 21 (dk_at dksJ3_indexOfChar_0 10 rfl rfl)
theorem dJ3_indexOfChar_13 : decode cJ3_indexOfChar 13 = .ok (.aload_n 0, 1) := dk_42 (dk_at dksJ3_indexOfChar_0 13 rfl rfl)
theorem dJ3_indexOfChar_14 : decode cJ3_indexOfChar 14 = .ok (.iload 5, 2) := dk_21 5 (dk_at dksJ3_indexOfChar_0 14 rfl rfl)
theorem dJ3_indexOfChar_16 : decode cJ3_indexOfChar 16 = .ok (.baload, 1) := dk_51 (dk_at dksJ3_indexOfChar_0 16 rfl rfl)
theorem dJ3_indexOfChar_17 : decode cJ3_indexOfChar 17 = .ok (.iload 4, 2) := dk_21 4 (dk_at dksJ3_indexOfChar_0 17 rfl rfl)
theorem dJ3_indexOfChar_19 : decode cJ3_indexOfChar 19 = .ok (.if_icmp .ne 6, 3) := dk_160 0 6 (dk_at dksJ3_indexOfChar_0 19 rfl rfl)
theorem dJ3_indexOfChar_22 : decode cJ3_indexOfChar 22 = .ok (.iload 5, 2) := dk_21 5 (dk_at dksJ3_indexOfChar_0 22 rfl rfl)
theorem dJ3_indexOfChar_24 : decode cJ3_indexOfChar 24 = .ok (.ireturn, 1) := dk_172 (dk_at dksJ3_indexOfChar_1 0 rfl rfl)
theorem dJ3_indexOfChar_25 : decode cJ3_indexOfChar 25 = .ok (.iinc 5 1, 3) := dk_132 5 1 (dk_at dksJ3_indexOfChar_1 1 rfl rfl)
theorem dJ3_indexOfChar_28 : decode cJ3_indexOfChar 28 = .ok (.goto (-21), 3) := dk_167 255 235 (dk_at dksJ3_indexOfChar_1 4 rfl rfl)
theorem dJ3_indexOfChar_31 : decode cJ3_indexOfChar 31 = .ok (.iconst (-1), 1) := dk_2 (dk_at dksJ3_indexOfChar_1 7 rfl rfl)
theorem dJ3_indexOfChar_32 : decode cJ3_indexOfChar 32 = .ok (.ireturn, 1) := dk_172 (dk_at dksJ3_indexOfChar_1 8 rfl rfl)
theorem q74 : (Jvm.Cond.initialized "java/lang/StringLatin1") ∈ lw_all := lw_g (lw_at lw_m1 15 rfl) rfl
theorem q425 : (Jvm.Cond.static ({ cls := "java/lang/StringLatin1", name := "indexOf", desc := "([BIII)I" } : Jvm.MethodName)) ∈ lw_all := lw_g (lw_at lw_m2 126 rfl) rfl
theorem q426 : (Jvm.Cond.code ({ cls := "java/lang/StringLatin1", name := "indexOf", desc := "([BIII)I" } : Jvm.MethodName) prog_20_method_22_code (4 : Nat) (Option.some Jvm.ClassFile.FieldType.int)) ∈ lw_all := lw_g (lw_at lw_m2 127 rfl) rfl
theorem q427 : (Jvm.Cond.methodLink "java/lang/StringLatin1" (88 : Nat) ({ cls := "java/lang/StringLatin1", name := "canEncode", desc := "(I)Z" } : Jvm.MethodName)) ∈ lw_all := lw_g (lw_at lw_m2 128 rfl) rfl
theorem q428 : (Jvm.Cond.static ({ cls := "java/lang/StringLatin1", name := "canEncode", desc := "(I)Z" } : Jvm.MethodName)) ∈ lw_all := lw_g (lw_at lw_m2 129 rfl) rfl
theorem q429 : (Jvm.Cond.code ({ cls := "java/lang/StringLatin1", name := "canEncode", desc := "(I)Z" } : Jvm.MethodName) prog_20_method_4_code (1 : Nat) (Option.some Jvm.ClassFile.FieldType.boolean)) ∈ lw_all := lw_g (lw_at lw_m2 130 rfl) rfl
theorem q430 : (Jvm.Cond.methodLink "java/lang/StringLatin1" (92 : Nat) ({ cls := "java/lang/Math", name := "max", desc := "(II)I" } : Jvm.MethodName)) ∈ lw_all := lw_g (lw_at lw_m2 131 rfl) rfl
theorem q433 : (Jvm.Cond.methodLink "java/lang/StringLatin1" (38 : Nat) ({ cls := "java/lang/Math", name := "min", desc := "(II)I" } : Jvm.MethodName)) ∈ lw_all := lw_g (lw_at lw_m2 134 rfl) rfl
theorem q434 : (Jvm.Cond.methodLink "java/lang/StringLatin1" (95 : Nat) ({ cls := "java/lang/StringLatin1", name := "indexOfChar", desc := "([BIII)I" } : Jvm.MethodName)) ∈ lw_all := lw_g (lw_at lw_m2 135 rfl) rfl
theorem q435 : (Jvm.Cond.static ({ cls := "java/lang/StringLatin1", name := "indexOfChar", desc := "([BIII)I" } : Jvm.MethodName)) ∈ lw_all := lw_g (lw_at lw_m2 136 rfl) rfl
theorem q436 : (Jvm.Cond.code ({ cls := "java/lang/StringLatin1", name := "indexOfChar", desc := "([BIII)I" } : Jvm.MethodName) prog_20_method_23_code (6 : Nat) (Option.some Jvm.ClassFile.FieldType.int)) ∈ lw_all := lw_g (lw_at lw_m2 137 rfl) rfl

/-! java/lang/StringUTF16 -/
set_option maxRecDepth 100000
def RJ4 : String := "java/lang/StringUTF16"
abbrev cJ4_indexOf : ByteArray := prog_21_method_40_code
def yJ4_indexOf : MethodName := ⟨RJ4, "indexOf", "([BIII)I"⟩
def dkwJ4_indexOf_1 : List UInt8 := [18, 227, 162, 0, 11, 42, 27, 28, 29, 184, 0, 228, 172, 42, 27, 28, 29, 184, 0, 232, 172]
abbrev dktJ4_indexOf_1 : List UInt8 := dkwJ4_indexOf_1 ++ []
def dkwJ4_indexOf_0 : List UInt8 := [28, 3, 184, 0, 224, 61, 29, 42, 190, 4, 122, 184, 0, 183, 62, 28, 29, 161, 0, 5, 2, 172, 27]
abbrev dktJ4_indexOf_0 : List UInt8 := dkwJ4_indexOf_0 ++ dktJ4_indexOf_1
theorem dksJ4_indexOf_0 : cJ4_indexOf.data.toList.drop 0 = dktJ4_indexOf_0 := by decide +kernel
theorem dksJ4_indexOf_1 : cJ4_indexOf.data.toList.drop 23 = dktJ4_indexOf_1 := dk_seg dksJ4_indexOf_0 23 rfl rfl
theorem dJ4_indexOf_0 : decode cJ4_indexOf 0 = .ok (.iload_n 2, 1) := dk_28 (dk_at dksJ4_indexOf_0 0 rfl rfl)
theorem dJ4_indexOf_1 : decode cJ4_indexOf 1 = .ok (.iconst 0, 1) := dk_3 (dk_at dksJ4_indexOf_0 1 rfl rfl)
theorem dJ4_indexOf_2 : decode cJ4_indexOf 2 = .ok (.invokestatic 224, 3) := dk_184 0 224 (dk_at dksJ4_indexOf_0 2 rfl rfl)
theorem dJ4_indexOf_5 : decode cJ4_indexOf 5 = .ok (.istore_n 2, 1) := dk_61 (dk_at dksJ4_indexOf_0 5 rfl rfl)
theorem dJ4_indexOf_6 : decode cJ4_indexOf 6 = .ok (.iload_n 3, 1) := dk_29 (dk_at dksJ4_indexOf_0 6 rfl rfl)
theorem dJ4_indexOf_7 : decode cJ4_indexOf 7 = .ok (.aload_n 0, 1) := dk_42 (dk_at dksJ4_indexOf_0 7 rfl rfl)
theorem dJ4_indexOf_8 : decode cJ4_indexOf 8 = .ok (.arraylength, 1) := dk_190 (dk_at dksJ4_indexOf_0 8 rfl rfl)
theorem dJ4_indexOf_9 : decode cJ4_indexOf 9 = .ok (.iconst 1, 1) := dk_4 (dk_at dksJ4_indexOf_0 9 rfl rfl)
theorem dJ4_indexOf_10 : decode cJ4_indexOf 10 = .ok (.ishr, 1) := dk_122 (dk_at dksJ4_indexOf_0 10 rfl rfl)
theorem dJ4_indexOf_11 : decode cJ4_indexOf 11 = .ok (.invokestatic 183, 3) := dk_184 0 183 (dk_at dksJ4_indexOf_0 11 rfl rfl)
theorem dJ4_indexOf_14 : decode cJ4_indexOf 14 = .ok (.istore_n 3, 1) := dk_62 (dk_at dksJ4_indexOf_0 14 rfl rfl)
theorem dJ4_indexOf_15 : decode cJ4_indexOf 15 = .ok (.iload_n 2, 1) := dk_28 (dk_at dksJ4_indexOf_0 15 rfl rfl)
theorem dJ4_indexOf_16 : decode cJ4_indexOf 16 = .ok (.iload_n 3, 1) := dk_29 (dk_at dksJ4_indexOf_0 16 rfl rfl)
theorem dJ4_indexOf_17 : decode cJ4_indexOf 17 = .ok (.if_icmp .lt 5, 3) := dk_161 0 5 (dk_at dksJ4_indexOf_0 17 rfl rfl)
theorem dJ4_indexOf_20 : decode cJ4_indexOf 20 = .ok (.iconst (-1), 1) := dk_2 (dk_at dksJ4_indexOf_0 20 rfl rfl)
theorem dJ4_indexOf_21 : decode cJ4_indexOf 21 = .ok (.ireturn, 1) := dk_172 (dk_at dksJ4_indexOf_0 21 rfl rfl)
theorem dJ4_indexOf_22 : decode cJ4_indexOf 22 = .ok (.iload_n 1, 1) := dk_27 (dk_at dksJ4_indexOf_0 22 rfl rfl)
theorem dJ4_indexOf_23 : decode cJ4_indexOf 23 = .ok (.ldc 227, 2) := dk_18 227 (dk_at dksJ4_indexOf_1 0 rfl rfl)
theorem dJ4_indexOf_25 : decode cJ4_indexOf 25 = .ok (.if_icmp .ge 11, 3) := dk_162 0 11 (dk_at dksJ4_indexOf_1 2 rfl rfl)
theorem dJ4_indexOf_28 : decode cJ4_indexOf 28 = .ok (.aload_n 0, 1) := dk_42 (dk_at dksJ4_indexOf_1 5 rfl rfl)
theorem dJ4_indexOf_29 : decode cJ4_indexOf 29 = .ok (.iload_n 1, 1) := dk_27 (dk_at dksJ4_indexOf_1 6 rfl rfl)
theorem dJ4_indexOf_30 : decode cJ4_indexOf 30 = .ok (.iload_n 2, 1) := dk_28 (dk_at dksJ4_indexOf_1 7 rfl rfl)
theorem dJ4_indexOf_31 : decode cJ4_indexOf 31 = .ok (.iload_n 3, 1) := dk_29 (dk_at dksJ4_indexOf_1 8 rfl rfl)
theorem dJ4_indexOf_32 : decode cJ4_indexOf 32 = .ok (.invokestatic 228, 3) := dk_184 0 228 (dk_at dksJ4_indexOf_1 9 rfl rfl)
theorem dJ4_indexOf_35 : decode cJ4_indexOf 35 = .ok (.ireturn, 1) := dk_172 (dk_at dksJ4_indexOf_1 12 rfl rfl)
theorem dJ4_indexOf_36 : decode cJ4_indexOf 36 = .ok (.aload_n 0, 1) := dk_42 (dk_at dksJ4_indexOf_1 13 rfl rfl)
theorem dJ4_indexOf_37 : decode cJ4_indexOf 37 = .ok (.iload_n 1, 1) := dk_27 (dk_at dksJ4_indexOf_1 14 rfl rfl)
theorem dJ4_indexOf_38 : decode cJ4_indexOf 38 = .ok (.iload_n 2, 1) := dk_28 (dk_at dksJ4_indexOf_1 15 rfl rfl)
theorem dJ4_indexOf_39 : decode cJ4_indexOf 39 = .ok (.iload_n 3, 1) := dk_29 (dk_at dksJ4_indexOf_1 16 rfl rfl)
theorem dJ4_indexOf_40 : decode cJ4_indexOf 40 = .ok (.invokestatic 232, 3) := dk_184 0 232 (dk_at dksJ4_indexOf_1 17 rfl rfl)
theorem dJ4_indexOf_43 : decode cJ4_indexOf 43 = .ok (.ireturn, 1) := dk_172 (dk_at dksJ4_indexOf_1 20 rfl rfl)
abbrev cJ4_indexOfChar : ByteArray := prog_21_method_47_code
def yJ4_indexOfChar : MethodName := ⟨RJ4, "indexOfChar", "([BIII)I"⟩
def dkwJ4_indexOfChar_0 : List UInt8 := [28, 29, 42, 184, 0, 96, 42, 27, 28, 29, 184, 0, 244, 172]
abbrev dktJ4_indexOfChar_0 : List UInt8 := dkwJ4_indexOfChar_0 ++ []
theorem dksJ4_indexOfChar_0 : cJ4_indexOfChar.data.toList.drop 0 = dktJ4_indexOfChar_0 := by decide +kernel
theorem dJ4_indexOfChar_0 : decode cJ4_indexOfChar 0 = .ok (.iload_n 2, 1) := dk_28 (dk_at dksJ4_indexOfChar_0 0 rfl rfl)
theorem dJ4_indexOfChar_1 : decode cJ4_indexOfChar 1 = .ok (.iload_n 3, 1) := dk_29 (dk_at dksJ4_indexOfChar_0 1 rfl rfl)
theorem dJ4_indexOfChar_2 : decode cJ4_indexOfChar 2 = .ok (.aload_n 0, 1) := dk_42 (dk_at dksJ4_indexOfChar_0 2 rfl rfl)
theorem dJ4_indexOfChar_3 : decode cJ4_indexOfChar 3 = .ok (.invokestatic 96, 3) := dk_184 0 96 (dk_at dksJ4_indexOfChar_0 3 rfl rfl)
theorem dJ4_indexOfChar_6 : decode cJ4_indexOfChar 6 = .ok (.aload_n 0, 1) := dk_42 (dk_at dksJ4_indexOfChar_0 6 rfl rfl)
theorem dJ4_indexOfChar_7 : decode cJ4_indexOfChar 7 = .ok (.iload_n 1, 1) := dk_27 (dk_at dksJ4_indexOfChar_0 7 rfl rfl)
theorem dJ4_indexOfChar_8 : decode cJ4_indexOfChar 8 = .ok (.iload_n 2, 1) := dk_28 (dk_at dksJ4_indexOfChar_0 8 rfl rfl)
theorem dJ4_indexOfChar_9 : decode cJ4_indexOfChar 9 = .ok (.iload_n 3, 1) := dk_29 (dk_at dksJ4_indexOfChar_0 9 rfl rfl)
theorem dJ4_indexOfChar_10 : decode cJ4_indexOfChar 10 = .ok (.invokestatic 244, 3) := dk_184 0 244 (dk_at dksJ4_indexOfChar_0 10 rfl rfl)
theorem dJ4_indexOfChar_13 : decode cJ4_indexOfChar 13 = .ok (.ireturn, 1) := dk_172 (dk_at dksJ4_indexOfChar_0 13 rfl rfl)
abbrev cJ4_checkBoundsBeginEnd : ByteArray := prog_21_method_93_code
def yJ4_checkBoundsBeginEnd : MethodName := ⟨RJ4, "checkBoundsBeginEnd", "(II[B)V"⟩
def dkwJ4_checkBoundsBeginEnd_0 : List UInt8 := [26, 27, 44, 184, 0, 48, 184, 0, 241, 177]
abbrev dktJ4_checkBoundsBeginEnd_0 : List UInt8 := dkwJ4_checkBoundsBeginEnd_0 ++ []
theorem dksJ4_checkBoundsBeginEnd_0 : cJ4_checkBoundsBeginEnd.data.toList.drop 0 = dktJ4_checkBoundsBeginEnd_0 := by decide +kernel
theorem dJ4_checkBoundsBeginEnd_0 : decode cJ4_checkBoundsBeginEnd 0 = .ok (.iload_n 0, 1) := dk_26 (dk_at dksJ4_checkBoundsBeginEnd_0 0 rfl rfl)
theorem dJ4_checkBoundsBeginEnd_1 : decode cJ4_checkBoundsBeginEnd 1 = .ok (.iload_n 1, 1) := dk_27 (dk_at dksJ4_checkBoundsBeginEnd_0 1 rfl rfl)
theorem dJ4_checkBoundsBeginEnd_2 : decode cJ4_checkBoundsBeginEnd 2 = .ok (.aload_n 2, 1) := dk_44 (dk_at dksJ4_checkBoundsBeginEnd_0 2 rfl rfl)
theorem dJ4_checkBoundsBeginEnd_3 : decode cJ4_checkBoundsBeginEnd 3 = .ok (.invokestatic 48, 3) := dk_184 0 48 (dk_at dksJ4_checkBoundsBeginEnd_0 3 rfl rfl)
theorem dJ4_checkBoundsBeginEnd_6 : decode cJ4_checkBoundsBeginEnd 6 = .ok (.invokestatic 241, 3) := dk_184 0 241 (dk_at dksJ4_checkBoundsBeginEnd_0 6 rfl rfl)
theorem dJ4_checkBoundsBeginEnd_9 : decode cJ4_checkBoundsBeginEnd 9 = .ok (.return_, 1) := dk_177 (dk_at dksJ4_checkBoundsBeginEnd_0 9 rfl rfl)
abbrev cJ4_length : ByteArray := prog_21_method_6_code
def yJ4_length : MethodName := ⟨RJ4, "length", "([B)I"⟩
def dkwJ4_length_0 : List UInt8 := [42, 190, 4, 122, 172]
abbrev dktJ4_length_0 : List UInt8 := dkwJ4_length_0 ++ []
theorem dksJ4_length_0 : cJ4_length.data.toList.drop 0 = dktJ4_length_0 := by decide +kernel
theorem dJ4_length_0 : decode cJ4_length 0 = .ok (.aload_n 0, 1) := dk_42 (dk_at dksJ4_length_0 0 rfl rfl)
theorem dJ4_length_1 : decode cJ4_length 1 = .ok (.arraylength, 1) := dk_190 (dk_at dksJ4_length_0 1 rfl rfl)
theorem dJ4_length_2 : decode cJ4_length 2 = .ok (.iconst 1, 1) := dk_4 (dk_at dksJ4_length_0 2 rfl rfl)
theorem dJ4_length_3 : decode cJ4_length 3 = .ok (.ishr, 1) := dk_122 (dk_at dksJ4_length_0 3 rfl rfl)
theorem dJ4_length_4 : decode cJ4_length 4 = .ok (.ireturn, 1) := dk_172 (dk_at dksJ4_length_0 4 rfl rfl)
abbrev cJ4_indexOfCharUnsafe : ByteArray := prog_21_method_48_code
def yJ4_indexOfCharUnsafe : MethodName := ⟨RJ4, "indexOfCharUnsafe", "([BIII)I"⟩
def dkwJ4_indexOfCharUnsafe_1 : List UInt8 := [132, 4, 1, 167, 255, 234, 2, 172]
abbrev dktJ4_indexOfCharUnsafe_1 : List UInt8 := dkwJ4_indexOfCharUnsafe_1 ++ []
def dkwJ4_indexOfCharUnsafe_0 : List UInt8 := [28, 54, 4, 21, 4, 29, 162, 0, 22, 42, 21, 4, 184, 0, 71, 27, 160, 0, 6, 21, 4, 172]
abbrev dktJ4_indexOfCharUnsafe_0 : List UInt8 := dkwJ4_indexOfCharUnsafe_0 ++ dktJ4_indexOfCharUnsafe_1
theorem dksJ4_indexOfCharUnsafe_0 : cJ4_indexOfCharUnsafe.data.toList.drop 0 = dktJ4_indexOfCharUnsafe_0 := by decide +kernel
theorem dksJ4_indexOfCharUnsafe_1 : cJ4_indexOfCharUnsafe.data.toList.drop 22 = dktJ4_indexOfCharUnsafe_1 := dk_seg dksJ4_indexOfCharUnsafe_0 22 rfl rfl
theorem dJ4_indexOfCharUnsafe_0 : decode cJ4_indexOfCharUnsafe 0 = .ok (.iload_n 2, 1) := dk_28 (dk_at dksJ4_indexOfCharUnsafe_0 0 rfl rfl)
theorem dJ4_indexOfCharUnsafe_1 : decode cJ4_indexOfCharUnsafe 1 = .ok (.istore 4, 2) := dk_54 4 (dk_at dksJ4_indexOfCharUnsafe_0 1 rfl rfl)
theorem dJ4_indexOfCharUnsafe_3 : decode cJ4_indexOfCharUnsafe 3 = .ok (.iload 4, 2) := dk_21 4 (dk_at dksJ4_indexOfCharUnsafe_0 3 rfl rfl)
theorem dJ4_indexOfCharUnsafe_5 : decode cJ4_indexOfCharUnsafe 5 = .ok (.iload_n 3, 1) := dk_29 (dk_at dksJ4_indexOfCharUnsafe_0 5 rfl rfl)
theorem dJ4_indexOfCharUnsafe_6 : decode cJ4_indexOfCharUnsafe 6 = .ok (.if_icmp .ge 22, 3) := dk_162 0 22 (dk_at dksJ4_indexOfCharUnsafe_0 6 rfl rfl)
theorem dJ4_indexOfCharUnsafe_9 : decode cJ4_indexOfCharUnsafe 9 = .ok (.aload_n 0, 1) := dk_42 (dk_at dksJ4_indexOfCharUnsafe_0 9 rfl rfl)
theorem dJ4_indexOfCharUnsafe_10 : decode cJ4_indexOfCharUnsafe 10 = .ok (.iload 4, 2) := dk_21 4 (dk_at dksJ4_indexOfCharUnsafe_0 10 rfl rfl)
theorem dJ4_indexOfCharUnsafe_12 : decode cJ4_indexOfCharUnsafe 12 = .ok (.invokestatic 71, 3) := dk_184 0 71 (dk_at dksJ4_indexOfCharUnsafe_0 12 rfl rfl)
theorem dJ4_indexOfCharUnsafe_15 : decode cJ4_indexOfCharUnsafe 15 = .ok (.iload_n 1, 1) := dk_27 (dk_at dksJ4_indexOfCharUnsafe_0 15 rfl rfl)
theorem dJ4_indexOfCharUnsafe_16 : decode cJ4_indexOfCharUnsafe 16 = .ok (.if_icmp .ne 6, 3) := dk_160 0 6 (dk_at dksJ4_indexOfCharUnsafe_0 16 rfl rfl)
theorem dJ4_indexOfCharUnsafe_19 : decode cJ4_indexOfCharUnsafe 19 = .ok (.iload 4, 2) := dk_21 4 (dk_at dksJ4_indexOfCharUnsafe_0 19 rfl rfl)
theorem dJ4_indexOfCharUnsafe_21 : decode cJ4_indexOfCharUnsafe 21 = .ok (.ireturn, 1) := dk_172 (dk_at dksJ4_indexOfCharUnsafe_0 21 rfl rfl)
theorem dJ4_indexOfCharUnsafe_22 : decode cJ4_indexOfCharUnsafe 22 = .ok (.iinc 4 1, 3) := dk_132 4 1 (dk_at dksJ4_indexOfCharUnsafe_1 0 rfl rfl)
theorem dJ4_indexOfCharUnsafe_25 : decode cJ4_indexOfCharUnsafe 25 = .ok (.goto (-22), 3) := dk_167 255 234 (dk_at dksJ4_indexOfCharUnsafe_1 3 rfl rfl)
theorem dJ4_indexOfCharUnsafe_28 : decode cJ4_indexOfCharUnsafe 28 = .ok (.iconst (-1), 1) := dk_2 (dk_at dksJ4_indexOfCharUnsafe_1 6 rfl rfl)
theorem dJ4_indexOfCharUnsafe_29 : decode cJ4_indexOfCharUnsafe 29 = .ok (.ireturn, 1) := dk_172 (dk_at dksJ4_indexOfCharUnsafe_1 7 rfl rfl)
abbrev cJ4_getChar : ByteArray := prog_21_method_5_code
def yJ4_getChar : MethodName := ⟨RJ4, "getChar", "([BI)C"⟩
def dkwJ4_getChar_2 : List UInt8 := [51, 17, 0, 255, 126, 178, 0, 63, 120, 128, 146, 172]
abbrev dktJ4_getChar_2 : List UInt8 := dkwJ4_getChar_2 ++ []
def dkwJ4_getChar_1 : List UInt8 := [183, 0, 56, 191, 27, 4, 120, 60, 42, 27, 132, 1, 1, 51, 17, 0, 255, 126, 178, 0, 59, 120, 42, 27]
abbrev dktJ4_getChar_1 : List UInt8 := dkwJ4_getChar_1 ++ dktJ4_getChar_2
def dkwJ4_getChar_0 : List UInt8 := [178, 0, 44, 154, 0, 25, 27, 155, 0, 11, 27, 42, 184, 0, 48, 161, 0, 13, 187, 0, 52, 89, 18, 54]
abbrev dktJ4_getChar_0 : List UInt8 := dkwJ4_getChar_0 ++ dktJ4_getChar_1
theorem dksJ4_getChar_0 : cJ4_getChar.data.toList.drop 0 = dktJ4_getChar_0 := by decide +kernel
theorem dksJ4_getChar_1 : cJ4_getChar.data.toList.drop 24 = dktJ4_getChar_1 := dk_seg dksJ4_getChar_0 24 rfl rfl
theorem dksJ4_getChar_2 : cJ4_getChar.data.toList.drop 48 = dktJ4_getChar_2 := dk_seg dksJ4_getChar_1 24 rfl rfl
theorem dJ4_getChar_0 : decode cJ4_getChar 0 = .ok (.getstatic 44, 3) := dk_178 0 44 (dk_at dksJ4_getChar_0 0 rfl rfl)
theorem dJ4_getChar_3 : decode cJ4_getChar 3 = .ok (.ifCond .ne 25, 3) := dk_154 0 25 (dk_at dksJ4_getChar_0 3 rfl rfl)
theorem dJ4_getChar_6 : decode cJ4_getChar 6 = .ok (.iload_n 1, 1) := dk_27 (dk_at dksJ4_getChar_0 6 rfl rfl)
theorem dJ4_getChar_7 : decode cJ4_getChar 7 = .ok (.ifCond .lt 11, 3) := dk_155 0 11 (dk_at dksJ4_getChar_0 7 rfl rfl)
theorem dJ4_getChar_10 : decode cJ4_getChar 10 = .ok (.iload_n 1, 1) := dk_27 (dk_at dksJ4_getChar_0 10 rfl rfl)
theorem dJ4_getChar_11 : decode cJ4_getChar 11 = .ok (.aload_n 0, 1) := dk_42 (dk_at dksJ4_getChar_0 11 rfl rfl)
theorem dJ4_getChar_12 : decode cJ4_getChar 12 = .ok (.invokestatic 48, 3) := dk_184 0 48 (dk_at dksJ4_getChar_0 12 rfl rfl)
theorem dJ4_getChar_15 : decode cJ4_getChar 15 = .ok (.if_icmp .lt 13, 3) := dk_161 0 13 (dk_at dksJ4_getChar_0 15 rfl rfl)
theorem dJ4_getChar_18 : decode cJ4_getChar 18 = .ok (.new 52, 3) := dk_187 0 52 (dk_at dksJ4_getChar_0 18 rfl rfl)
theorem dJ4_getChar_21 : decode cJ4_getChar 21 = .ok (.dup, 1) := dk_89 (dk_at dksJ4_getChar_0 21 rfl rfl)
theorem dJ4_getChar_22 : decode cJ4_getChar 22 = .ok (.ldc 54, 2) := dk_18 54 (dk_at dksJ4_getChar_0 22 rfl rfl)
theorem dJ4_getChar_24 : decode cJ4_getChar 24 = .ok (.invokespecial 56, 3) := dk_183 0 56 (dk_at dksJ4_getChar_1 0 rfl rfl)
theorem dJ4_getChar_27 : decode cJ4_getChar 27 = .ok (.athrow, 1) := dk_191 (dk_at dksJ4_getChar_1 3 rfl rfl)
theorem dJ4_getChar_28 : decode cJ4_getChar 28 = .ok (.iload_n 1, 1) := dk_27 (dk_at dksJ4_getChar_1 4 rfl rfl)
theorem dJ4_getChar_29 : decode cJ4_getChar 29 = .ok (.iconst 1, 1) := dk_4 (dk_at dksJ4_getChar_1 5 rfl rfl)
theorem dJ4_getChar_30 : decode cJ4_getChar 30 = .ok (.ishl, 1) := dk_120 (dk_at dksJ4_getChar_1 6 rfl rfl)
theorem dJ4_getChar_31 : decode cJ4_getChar 31 = .ok (.istore_n 1, 1) := dk_60 (dk_at dksJ4_getChar_1 7 rfl rfl)
theorem dJ4_getChar_32 : decode cJ4_getChar 32 = .ok (.aload_n 0, 1) := dk_42 (dk_at dksJ4_getChar_1 8 rfl rfl)
theorem dJ4_getChar_33 : decode cJ4_getChar 33 = .ok (.iload_n 1, 1) := dk_27 (dk_at dksJ4_getChar_1 9 rfl rfl)
theorem dJ4_getChar_34 : decode cJ4_getChar 34 = .ok (.iinc 1 1, 3) := dk_132 1 1 (dk_at dksJ4_getChar_1 10 rfl rfl)
theorem dJ4_getChar_37 : decode cJ4_getChar 37 = .ok (.baload, 1) := dk_51 (dk_at dksJ4_getChar_1 13 rfl rfl)
theorem dJ4_getChar_38 : decode cJ4_getChar 38 = .ok (.sipush 255, 3) := dk_17 0 255 (dk_at dksJ4_getChar_1 14 rfl rfl)
theorem dJ4_getChar_41 : decode cJ4_getChar 41 = .ok (.iand, 1) := dk_126 (dk_at dksJ4_getChar_1 17 rfl rfl)
theorem dJ4_getChar_42 : decode cJ4_getChar 42 = .ok (.getstatic 59, 3) := dk_178 0 59 (dk_at dksJ4_getChar_1 18 rfl rfl)
theorem dJ4_getChar_45 : decode cJ4_getChar 45 = .ok (.ishl, 1) := dk_120 (dk_at dksJ4_getChar_1 21 rfl rfl)
theorem dJ4_getChar_46 : decode cJ4_getChar 46 = .ok (.aload_n 0, 1) := dk_42 (dk_at dksJ4_getChar_1 22 rfl rfl)
theorem dJ4_getChar_47 : decode cJ4_getChar 47 = .ok (.iload_n 1, 1) := dk_27 (dk_at dksJ4_getChar_1 23 rfl rfl)
theorem dJ4_getChar_48 : decode cJ4_getChar 48 = .ok (.baload, 1) := dk_51 (dk_at dksJ4_getChar_2 0 rfl rfl)
theorem dJ4_getChar_49 : decode cJ4_getChar 49 = .ok (.sipush 255, 3) := dk_17 0 255 (dk_at dksJ4_getChar_2 1 rfl rfl)
theorem dJ4_getChar_52 : decode cJ4_getChar 52 = .ok (.iand, 1) := dk_126 (dk_at dksJ4_getChar_2 4 rfl rfl)
theorem dJ4_getChar_53 : decode cJ4_getChar 53 = .ok (.getstatic 63, 3) := dk_178 0 63 (dk_at dksJ4_getChar_2 5 rfl rfl)
theorem dJ4_getChar_56 : decode cJ4_getChar 56 = .ok (.ishl, 1) := dk_120 (dk_at dksJ4_getChar_2 8 rfl rfl)
theorem dJ4_getChar_57 : decode cJ4_getChar 57 = .ok (.ior, 1) := dk_128 (dk_at dksJ4_getChar_2 9 rfl rfl)
theorem dJ4_getChar_58 : decode cJ4_getChar 58 = .ok (.i2c, 1) := dk_146 (dk_at dksJ4_getChar_2 10 rfl rfl)
theorem dJ4_getChar_59 : decode cJ4_getChar 59 = .ok (.ireturn, 1) := dk_172 (dk_at dksJ4_getChar_2 11 rfl rfl)
abbrev cJ4_indexOfSupplementary : ByteArray := prog_21_method_49_code
def yJ4_indexOfSupplementary : MethodName := ⟨RJ4, "indexOfSupplementary", "([BIII)I"⟩
def dkwJ4_indexOfSupplementary_3 : List UInt8 := [167, 255, 218, 2, 172]
abbrev dktJ4_indexOfSupplementary_3 : List UInt8 := dkwJ4_indexOfSupplementary_3 ++ []
def dkwJ4_indexOfSupplementary_2 : List UInt8 := [160, 0, 19, 42, 21, 6, 4, 96, 184, 0, 71, 21, 5, 160, 0, 6, 21, 6, 172, 132, 6, 1]
abbrev dktJ4_indexOfSupplementary_2 : List UInt8 := dkwJ4_indexOfSupplementary_2 ++ dktJ4_indexOfSupplementary_3
def dkwJ4_indexOfSupplementary_1 : List UInt8 := [184, 0, 96, 28, 54, 6, 21, 6, 29, 4, 100, 162, 0, 36, 42, 21, 6, 184, 0, 71, 21, 4]
abbrev dktJ4_indexOfSupplementary_1 : List UInt8 := dkwJ4_indexOfSupplementary_1 ++ dktJ4_indexOfSupplementary_2
def dkwJ4_indexOfSupplementary_0 : List UInt8 := [27, 184, 0, 164, 153, 0, 65, 27, 184, 0, 157, 54, 4, 27, 184, 0, 161, 54, 5, 28, 29, 42]
abbrev dktJ4_indexOfSupplementary_0 : List UInt8 := dkwJ4_indexOfSupplementary_0 ++ dktJ4_indexOfSupplementary_1
theorem dksJ4_indexOfSupplementary_0 : cJ4_indexOfSupplementary.data.toList.drop 0 = dktJ4_indexOfSupplementary_0 := by decide +kernel
theorem dksJ4_indexOfSupplementary_1 : cJ4_indexOfSupplementary.data.toList.drop 22 = dktJ4_indexOfSupplementary_1 := dk_seg dksJ4_indexOfSupplementary_0 22 rfl rfl
theorem dksJ4_indexOfSupplementary_2 : cJ4_indexOfSupplementary.data.toList.drop 44 = dktJ4_indexOfSupplementary_2 := dk_seg dksJ4_indexOfSupplementary_1 22 rfl rfl
theorem dksJ4_indexOfSupplementary_3 : cJ4_indexOfSupplementary.data.toList.drop 66 = dktJ4_indexOfSupplementary_3 := dk_seg dksJ4_indexOfSupplementary_2 22 rfl rfl
theorem dJ4_indexOfSupplementary_0 : decode cJ4_indexOfSupplementary 0 = .ok (.iload_n 1, 1) := dk_27 (dk_at dksJ4_indexOfSupplementary_0 0 rfl rfl)
theorem dJ4_indexOfSupplementary_1 : decode cJ4_indexOfSupplementary 1 = .ok (.invokestatic 164, 3) := dk_184 0 164 (dk_at dksJ4_indexOfSupplementary_0 1 rfl rfl)
theorem dJ4_indexOfSupplementary_4 : decode cJ4_indexOfSupplementary 4 = .ok (.ifCond .eq 65, 3) := dk_153 0 65 (dk_at dksJ4_indexOfSupplementary_0 4 rfl rfl)
theorem dJ4_indexOfSupplementary_7 : decode cJ4_indexOfSupplementary 7 = .ok (.iload_n 1, 1) := dk_27 (dk_at dksJ4_indexOfSupplementary_0 7 rfl rfl)
theorem dJ4_indexOfSupplementary_8 : decode cJ4_indexOfSupplementary 8 = .ok (.invokestatic 157, 3) := dk_184 0 157 (dk_at dksJ4_indexOfSupplementary_0 8 rfl rfl)
theorem dJ4_indexOfSupplementary_11 : decode cJ4_indexOfSupplementary 11 = .ok (.istore 4, 2) := dk_54 4 (dk_at dksJ4_indexOfSupplementary_0 11 rfl rfl)
theorem dJ4_indexOfSupplementary_13 : decode cJ4_indexOfSupplementary 13 = .ok (.iload_n 1, 1) := dk_27 (dk_at dksJ4_indexOfSupplementary_0 13 rfl rfl)
theorem dJ4_indexOfSupplementary_14 : decode cJ4_indexOfSupplementary 14 = .ok (.invokestatic 161, 3) := dk_184 0 161 (dk_at dksJ4_indexOfSupplementary_0 14 rfl rfl)
theorem dJ4_indexOfSupplementary_17 : decode cJ4_indexOfSupplementary 17 = .ok (.istore 5, 2) := dk_54 5 (dk_at dksJ4_indexOfSupplementary_0 17 rfl rfl)
theorem dJ4_indexOfSupplementary_19 : decode cJ4_indexOfSupplementary 19 = .ok (.iload_n 2, 1) := dk_28 (dk_at dksJ4_indexOfSupplementary_0 19 rfl rfl)
theorem dJ4_indexOfSupplementary_20 : decode cJ4_indexOfSupplementary 20 = .ok (.iload_n 3, 1) := dk_29 (dk_at dksJ4_indexOfSupplementary_0 20 rfl rfl)
theorem dJ4_indexOfSupplementary_21 : decode cJ4_indexOfSupplementary 21 = .ok (.aload_n 0, 1) := dk_42 (dk_at dksJ4_indexOfSupplementary_0 21 rfl rfl)
theorem dJ4_indexOfSupplementary_22 : decode cJ4_indexOfSupplementary 22 = .ok (.invokestatic 96, 3) := dk_184 0 96 (dk_at dksJ4_indexOfSupplementary_1 0 rfl rfl)
theorem dJ4_indexOfSupplementary_25 : decode cJ4_indexOfSupplementary 25 = .ok (.iload_n 2, 1) := dk_28 (dk_at dksJ4_indexOfSupplementary_1 3 rfl rfl)
theorem dJ4_indexOfSupplementary_26 : decode cJ4_indexOfSupplementary 26 = .ok (.istore 6, 2) := dk_54 6 (dk_at dksJ4_indexOfSupplementary_1 4 rfl rfl)
theorem dJ4_indexOfSupplementary_28 : decode cJ4_indexOfSupplementary 28 = .ok (.iload 6, 2) := dk_21 6 (dk_at dksJ4_indexOfSupplementary_1 6 rfl rfl)
theorem dJ4_indexOfSupplementary_30 : decode cJ4_indexOfSupplementary 30 = .ok (.iload_n 3, 1) := dk_29 (dk_at dksJ4_indexOfSupplementary_1 8 rfl rfl)
theorem dJ4_indexOfSupplementary_31 : decode cJ4_indexOfSupplementary 31 = .ok (.iconst 1, 1) := dk_4 (dk_at dksJ4_indexOfSupplementary_1 9 rfl rfl)
theorem dJ4_indexOfSupplementary_32 : decode cJ4_indexOfSupplementary 32 = .ok (.isub, 1) := dk_100 (dk_at dksJ4_indexOfSupplementary_1 10 rfl rfl)
theorem dJ4_indexOfSupplementary_33 : decode cJ4_indexOfSupplementary 33 = .ok (.if_icmp .ge 36, 3) := dk_162 0 36 (dk_at dksJ4_indexOfSupplementary_1 11 rfl rfl)
theorem dJ4_indexOfSupplementary_36 : decode cJ4_indexOfSupplementary 36 = .ok (.aload_n 0, 1) := dk_42 (dk_at dksJ4_indexOfSupplementary_1 14 rfl rfl)
theorem dJ4_indexOfSupplementary_37 : decode cJ4_indexOfSupplementary 37 = .ok (.iload 6, 2) := dk_21 6 (dk_at dksJ4_indexOfSupplementary_1 15 rfl rfl)
theorem dJ4_indexOfSupplementary_39 : decode cJ4_indexOfSupplementary 39 = .ok (.invokestatic 71, 3) := dk_184 0 71 (dk_at dksJ4_indexOfSupplementary_1 17 rfl rfl)
theorem dJ4_indexOfSupplementary_42 : decode cJ4_indexOfSupplementary 42 = .ok (.iload 4, 2) := dk_21 4 (dk_at dksJ4_indexOfSupplementary_1 20 rfl rfl)
theorem dJ4_indexOfSupplementary_44 : decode cJ4_indexOfSupplementary 44 = .ok (.if_icmp .ne 19, 3) := dk_160 0 19 (dk_at dksJ4_indexOfSupplementary_2 0 rfl rfl)
theorem dJ4_indexOfSupplementary_47 : decode cJ4_indexOfSupplementary 47 = .ok (.aload_n 0, 1) := dk_42 (dk_at dksJ4_indexOfSupplementary_2 3 rfl rfl)
theorem dJ4_indexOfSupplementary_48 : decode cJ4_indexOfSupplementary 48 = .ok (.iload 6, 2) := dk_21 6 (dk_at dksJ4_indexOfSupplementary_2 4 rfl rfl)
theorem dJ4_indexOfSupplementary_50 : decode cJ4_indexOfSupplementary 50 = .ok (.iconst 1, 1) := dk_4 (dk_at dksJ4_indexOfSupplementary_2 6 rfl rfl)
theorem dJ4_indexOfSupplementary_51 : decode cJ4_indexOfSupplementary 51 = .ok (.iadd, 1) := dk_96 (dk_at dksJ4_indexOfSupplementary_2 7 rfl rfl)
theorem dJ4_indexOfSupplementary_52 : decode cJ4_indexOfSupplementary 52 = .ok (.invokestatic 71, 3) := dk_184 0 71 (dk_at dksJ4_indexOfSupplementary_2 8 rfl rfl)
theorem dJ4_indexOfSupplementary_55 : decode cJ4_indexOfSupplementary 55 = .ok (.iload 5, 2) := dk_21 5 (dk_at dksJ4_indexOfSupplementary_2 11 rfl rfl)
theorem dJ4_indexOfSupplementary_57 : decode cJ4_indexOfSupplementary 57 = .ok (.if_icmp .ne 6, 3) := dk_160 0 6 (dk_at dksJ4_indexOfSupplementary_2 13 rfl rfl)
theorem dJ4_indexOfSupplementary_60 : decode cJ4_indexOfSupplementary 60 = .ok (.iload 6, 2) := dk_21 6 (dk_at dksJ4_indexOfSupplementary_2 16 rfl rfl)
theorem dJ4_indexOfSupplementary_62 : decode cJ4_indexOfSupplementary 62 = .ok (.ireturn, 1) := dk_172 (dk_at dksJ4_indexOfSupplementary_2 18 rfl rfl)
theorem dJ4_indexOfSupplementary_63 : decode cJ4_indexOfSupplementary 63 = .ok (.iinc 6 1, 3) := dk_132 6 1 (dk_at dksJ4_indexOfSupplementary_2 19 rfl rfl)
theorem dJ4_indexOfSupplementary_66 : decode cJ4_indexOfSupplementary 66 = .ok (.goto (-38), 3) := dk_167 255 218 (dk_at dksJ4_indexOfSupplementary_3 0 rfl rfl)
theorem dJ4_indexOfSupplementary_69 : decode cJ4_indexOfSupplementary 69 = .ok (.iconst (-1), 1) := dk_2 (dk_at dksJ4_indexOfSupplementary_3 3 rfl rfl)
theorem dJ4_indexOfSupplementary_70 : decode cJ4_indexOfSupplementary 70 = .ok (.ireturn, 1) := dk_172 (dk_at dksJ4_indexOfSupplementary_3 4 rfl rfl)
theorem q75 : (Jvm.Cond.initialized "java/lang/StringUTF16") ∈ lw_all := lw_g (lw_at lw_m1 16 rfl) rfl
theorem q438 : (Jvm.Cond.static ({ cls := "java/lang/StringUTF16", name := "indexOf", desc := "([BIII)I" } : Jvm.MethodName)) ∈ lw_all := lw_g (lw_at lw_m2 139 rfl) rfl
theorem q439 : (Jvm.Cond.code ({ cls := "java/lang/StringUTF16", name := "indexOf", desc := "([BIII)I" } : Jvm.MethodName) prog_21_method_40_code (4 : Nat) (Option.some Jvm.ClassFile.FieldType.int)) ∈ lw_all := lw_g (lw_at lw_m2 140 rfl) rfl
theorem q440 : (Jvm.Cond.methodLink "java/lang/StringUTF16" (224 : Nat) ({ cls := "java/lang/Math", name := "max", desc := "(II)I" } : Jvm.MethodName)) ∈ lw_all := lw_g (lw_at lw_m2 141 rfl) rfl
theorem q441 : (Jvm.Cond.methodLink "java/lang/StringUTF16" (183 : Nat) ({ cls := "java/lang/Math", name := "min", desc := "(II)I" } : Jvm.MethodName)) ∈ lw_all := lw_g (lw_at lw_m2 142 rfl) rfl
theorem q442 : (Jvm.Cond.constant "java/lang/StringUTF16" (227 : Nat) (65536 : Int32)) ∈ lw_all := lw_g (lw_at lw_m2 143 rfl) rfl
theorem q443 : (Jvm.Cond.methodLink "java/lang/StringUTF16" (228 : Nat) ({ cls := "java/lang/StringUTF16", name := "indexOfChar", desc := "([BIII)I" } : Jvm.MethodName)) ∈ lw_all := lw_g (lw_at lw_m2 144 rfl) rfl
theorem q444 : (Jvm.Cond.static ({ cls := "java/lang/StringUTF16", name := "indexOfChar", desc := "([BIII)I" } : Jvm.MethodName)) ∈ lw_all := lw_g (lw_at lw_m2 145 rfl) rfl
theorem q445 : (Jvm.Cond.code ({ cls := "java/lang/StringUTF16", name := "indexOfChar", desc := "([BIII)I" } : Jvm.MethodName) prog_21_method_47_code (4 : Nat) (Option.some Jvm.ClassFile.FieldType.int)) ∈ lw_all := lw_g (lw_at lw_m2 146 rfl) rfl
theorem q446 : (Jvm.Cond.methodLink "java/lang/StringUTF16" (96 : Nat) ({ cls := "java/lang/StringUTF16", name := "checkBoundsBeginEnd", desc := "(II[B)V" } : Jvm.MethodName)) ∈ lw_all := lw_g (lw_at lw_m2 147 rfl) rfl
theorem q447 : (Jvm.Cond.static ({ cls := "java/lang/StringUTF16", name := "checkBoundsBeginEnd", desc := "(II[B)V" } : Jvm.MethodName)) ∈ lw_all := lw_g (lw_at lw_m2 148 rfl) rfl
theorem q448 : (Jvm.Cond.code ({ cls := "java/lang/StringUTF16", name := "checkBoundsBeginEnd", desc := "(II[B)V" } : Jvm.MethodName) prog_21_method_93_code (3 : Nat) (Option.none : Option Jvm.ClassFile.FieldType)) ∈ lw_all := lw_g (lw_at lw_m2 149 rfl) rfl
theorem q449 : (Jvm.Cond.methodLink "java/lang/StringUTF16" (48 : Nat) ({ cls := "java/lang/StringUTF16", name := "length", desc := "([B)I" } : Jvm.MethodName)) ∈ lw_all := lw_g (lw_at lw_m2 150 rfl) rfl
theorem q450 : (Jvm.Cond.static ({ cls := "java/lang/StringUTF16", name := "length", desc := "([B)I" } : Jvm.MethodName)) ∈ lw_all := lw_g (lw_at lw_m2 151 rfl) rfl
theorem q451 : (Jvm.Cond.code ({ cls := "java/lang/StringUTF16", name := "length", desc := "([B)I" } : Jvm.MethodName) prog_21_method_6_code (1 : Nat) (Option.some Jvm.ClassFile.FieldType.int)) ∈ lw_all := lw_g (lw_at lw_m2 152 rfl) rfl
theorem q452 : (Jvm.Cond.methodLink "java/lang/StringUTF16" (241 : Nat) ({ cls := "java/lang/String", name := "checkBoundsBeginEnd", desc := "(III)V" } : Jvm.MethodName)) ∈ lw_all := lw_g (lw_at lw_m2 153 rfl) rfl
theorem q460 : (Jvm.Cond.methodLink "java/lang/StringUTF16" (244 : Nat) ({ cls := "java/lang/StringUTF16", name := "indexOfCharUnsafe", desc := "([BIII)I" } : Jvm.MethodName)) ∈ lw_all := lw_g (lw_at lw_m2 161 rfl) rfl
theorem q461 : (Jvm.Cond.static ({ cls := "java/lang/StringUTF16", name := "indexOfCharUnsafe", desc := "([BIII)I" } : Jvm.MethodName)) ∈ lw_all := lw_g (lw_at lw_m2 162 rfl) rfl
theorem q462 : (Jvm.Cond.code ({ cls := "java/lang/StringUTF16", name := "indexOfCharUnsafe", desc := "([BIII)I" } : Jvm.MethodName) prog_21_method_48_code (5 : Nat) (Option.some Jvm.ClassFile.FieldType.int)) ∈ lw_all := lw_g (lw_at lw_m2 163 rfl) rfl
theorem q463 : (Jvm.Cond.methodLink "java/lang/StringUTF16" (71 : Nat) ({ cls := "java/lang/StringUTF16", name := "getChar", desc := "([BI)C" } : Jvm.MethodName)) ∈ lw_all := lw_g (lw_at lw_m2 164 rfl) rfl
theorem q464 : (Jvm.Cond.static ({ cls := "java/lang/StringUTF16", name := "getChar", desc := "([BI)C" } : Jvm.MethodName)) ∈ lw_all := lw_g (lw_at lw_m2 165 rfl) rfl
theorem q465 : (Jvm.Cond.code ({ cls := "java/lang/StringUTF16", name := "getChar", desc := "([BI)C" } : Jvm.MethodName) prog_21_method_5_code (2 : Nat) (Option.some Jvm.ClassFile.FieldType.char)) ∈ lw_all := lw_g (lw_at lw_m2 166 rfl) rfl
theorem q466 : (Jvm.Cond.fieldLink "java/lang/StringUTF16" (44 : Nat) "java/lang/StringUTF16" "$assertionsDisabled" "Z") ∈ lw_all := lw_g (lw_at lw_m2 167 rfl) rfl
theorem q467 : (Jvm.Cond.laysStatic "java/lang/StringUTF16" "$assertionsDisabled" "Z") ∈ lw_tbl := lw_at lw_m2 168 rfl
theorem q468 : (Jvm.Cond.fieldLink "java/lang/StringUTF16" (59 : Nat) "java/lang/StringUTF16" "HI_BYTE_SHIFT" "I") ∈ lw_all := lw_g (lw_at lw_m2 169 rfl) rfl
theorem q469 : (Jvm.Cond.laysStatic "java/lang/StringUTF16" "HI_BYTE_SHIFT" "I") ∈ lw_tbl := lw_at lw_m2 170 rfl
theorem q470 : (Jvm.Cond.fieldLink "java/lang/StringUTF16" (63 : Nat) "java/lang/StringUTF16" "LO_BYTE_SHIFT" "I") ∈ lw_all := lw_g (lw_at lw_m2 171 rfl) rfl
theorem q471 : (Jvm.Cond.laysStatic "java/lang/StringUTF16" "LO_BYTE_SHIFT" "I") ∈ lw_tbl := lw_at lw_m2 172 rfl
theorem q472 : (Jvm.Cond.methodLink "java/lang/StringUTF16" (232 : Nat) ({ cls := "java/lang/StringUTF16", name := "indexOfSupplementary", desc := "([BIII)I" } : Jvm.MethodName)) ∈ lw_all := lw_g (lw_at lw_m2 173 rfl) rfl
theorem q473 : (Jvm.Cond.static ({ cls := "java/lang/StringUTF16", name := "indexOfSupplementary", desc := "([BIII)I" } : Jvm.MethodName)) ∈ lw_all := lw_g (lw_at lw_m2 174 rfl) rfl
theorem q474 : (Jvm.Cond.code ({ cls := "java/lang/StringUTF16", name := "indexOfSupplementary", desc := "([BIII)I" } : Jvm.MethodName) prog_21_method_49_code (7 : Nat) (Option.some Jvm.ClassFile.FieldType.int)) ∈ lw_all := lw_g (lw_at lw_m2 175 rfl) rfl
theorem q475 : (Jvm.Cond.methodLink "java/lang/StringUTF16" (164 : Nat) ({ cls := "java/lang/Character", name := "isValidCodePoint", desc := "(I)Z" } : Jvm.MethodName)) ∈ lw_all := lw_g (lw_at lw_m2 176 rfl) rfl
theorem q478 : (Jvm.Cond.methodLink "java/lang/StringUTF16" (157 : Nat) ({ cls := "java/lang/Character", name := "highSurrogate", desc := "(I)C" } : Jvm.MethodName)) ∈ lw_all := lw_g (lw_at lw_m2 179 rfl) rfl
theorem q482 : (Jvm.Cond.methodLink "java/lang/StringUTF16" (161 : Nat) ({ cls := "java/lang/Character", name := "lowSurrogate", desc := "(I)C" } : Jvm.MethodName)) ∈ lw_all := lw_g (lw_at lw_m2 183 rfl) rfl

/-! jdk/internal/util/Preconditions -/
set_option maxRecDepth 100000
def RJ5 : String := "jdk/internal/util/Preconditions"
abbrev cJ5_checkFromToIndex : ByteArray := prog_25_method_12_code
def yJ5_checkFromToIndex : MethodName := ⟨RJ5, "checkFromToIndex", "(IIILjava/util/function/BiFunction;)I"⟩
def dkwJ5_checkFromToIndex_0 : List UInt8 := [26, 155, 0, 13, 26, 27, 163, 0, 8, 27, 28, 164, 0, 11, 45, 26, 27, 28, 184, 0, 99, 191, 26, 172]
abbrev dktJ5_checkFromToIndex_0 : List UInt8 := dkwJ5_checkFromToIndex_0 ++ []
theorem dksJ5_checkFromToIndex_0 : cJ5_checkFromToIndex.data.toList.drop 0 = dktJ5_checkFromToIndex_0 := by decide +kernel
theorem dJ5_checkFromToIndex_0 : decode cJ5_checkFromToIndex 0 = .ok (.iload_n 0, 1) := dk_26 (dk_at dksJ5_checkFromToIndex_0 0 rfl rfl)
theorem dJ5_checkFromToIndex_1 : decode cJ5_checkFromToIndex 1 = .ok (.ifCond .lt 13, 3) := dk_155 0 13 (dk_at dksJ5_checkFromToIndex_0 1 rfl rfl)
theorem dJ5_checkFromToIndex_4 : decode cJ5_checkFromToIndex 4 = .ok (.iload_n 0, 1) := dk_26 (dk_at dksJ5_checkFromToIndex_0 4 rfl rfl)
theorem dJ5_checkFromToIndex_5 : decode cJ5_checkFromToIndex 5 = .ok (.iload_n 1, 1) := dk_27 (dk_at dksJ5_checkFromToIndex_0 5 rfl rfl)
theorem dJ5_checkFromToIndex_6 : decode cJ5_checkFromToIndex 6 = .ok (.if_icmp .gt 8, 3) := dk_163 0 8 (dk_at dksJ5_checkFromToIndex_0 6 rfl rfl)
theorem dJ5_checkFromToIndex_9 : decode cJ5_checkFromToIndex 9 = .ok (.iload_n 1, 1) := dk_27 (dk_at dksJ5_checkFromToIndex_0 9 rfl rfl)
theorem dJ5_checkFromToIndex_10 : decode cJ5_checkFromToIndex 10 = .ok (.iload_n 2, 1) := dk_28 (dk_at dksJ5_checkFromToIndex_0 10 rfl rfl)
theorem dJ5_checkFromToIndex_11 : decode cJ5_checkFromToIndex 11 = .ok (.if_icmp .le 11, 3) := dk_164 0 11 (dk_at dksJ5_checkFromToIndex_0 11 rfl rfl)
theorem dJ5_checkFromToIndex_14 : decode cJ5_checkFromToIndex 14 = .ok (.aload_n 3, 1) := dk_45 (dk_at dksJ5_checkFromToIndex_0 14 rfl rfl)
theorem dJ5_checkFromToIndex_15 : decode cJ5_checkFromToIndex 15 = .ok (.iload_n 0, 1) := dk_26 (dk_at dksJ5_checkFromToIndex_0 15 rfl rfl)
theorem dJ5_checkFromToIndex_16 : decode cJ5_checkFromToIndex 16 = .ok (.iload_n 1, 1) := dk_27 (dk_at dksJ5_checkFromToIndex_0 16 rfl rfl)
theorem dJ5_checkFromToIndex_17 : decode cJ5_checkFromToIndex 17 = .ok (.iload_n 2, 1) := dk_28 (dk_at dksJ5_checkFromToIndex_0 17 rfl rfl)
theorem dJ5_checkFromToIndex_18 : decode cJ5_checkFromToIndex 18 = .ok (.invokestatic 99, 3) := dk_184 0 99 (dk_at dksJ5_checkFromToIndex_0 18 rfl rfl)
theorem dJ5_checkFromToIndex_21 : decode cJ5_checkFromToIndex 21 = .ok (.athrow, 1) := dk_191 (dk_at dksJ5_checkFromToIndex_0 21 rfl rfl)
theorem dJ5_checkFromToIndex_22 : decode cJ5_checkFromToIndex 22 = .ok (.iload_n 0, 1) := dk_26 (dk_at dksJ5_checkFromToIndex_0 22 rfl rfl)
theorem dJ5_checkFromToIndex_23 : decode cJ5_checkFromToIndex 23 = .ok (.ireturn, 1) := dk_172 (dk_at dksJ5_checkFromToIndex_0 23 rfl rfl)
theorem q76 : (Jvm.Cond.initialized "jdk/internal/util/Preconditions") ∈ lw_all := lw_g (lw_at lw_m1 17 rfl) rfl
theorem q456 : (Jvm.Cond.laysStatic "jdk/internal/util/Preconditions" "SIOOBE_FORMATTER" "Ljava/util/function/BiFunction;") ∈ lw_tbl := lw_at lw_m2 157 rfl
theorem q458 : (Jvm.Cond.static ({ cls := "jdk/internal/util/Preconditions", name := "checkFromToIndex", desc := "(IIILjava/util/function/BiFunction;)I" } : Jvm.MethodName)) ∈ lw_all := lw_g (lw_at lw_m2 159 rfl) rfl
theorem q459 : (Jvm.Cond.code ({ cls := "jdk/internal/util/Preconditions", name := "checkFromToIndex", desc := "(IIILjava/util/function/BiFunction;)I" } : Jvm.MethodName) prog_25_method_12_code (4 : Nat) (Option.some Jvm.ClassFile.FieldType.int)) ∈ lw_all := lw_g (lw_at lw_m2 160 rfl) rfl

/-! java/lang/Character -/
set_option maxRecDepth 100000
def RJ6 : String := "java/lang/Character"
abbrev cJ6_isValidCodePoint : ByteArray := prog_14_method_11_code
def yJ6_isValidCodePoint : MethodName := ⟨RJ6, "isValidCodePoint", "(I)Z"⟩
def dkwJ6_isValidCodePoint_0 : List UInt8 := [26, 16, 16, 124, 60, 27, 16, 17, 162, 0, 7, 4, 167, 0, 4, 3, 172]
abbrev dktJ6_isValidCodePoint_0 : List UInt8 := dkwJ6_isValidCodePoint_0 ++ []
theorem dksJ6_isValidCodePoint_0 : cJ6_isValidCodePoint.data.toList.drop 0 = dktJ6_isValidCodePoint_0 := by decide +kernel
theorem dJ6_isValidCodePoint_0 : decode cJ6_isValidCodePoint 0 = .ok (.iload_n 0, 1) := dk_26 (dk_at dksJ6_isValidCodePoint_0 0 rfl rfl)
theorem dJ6_isValidCodePoint_1 : decode cJ6_isValidCodePoint 1 = .ok (.bipush 16, 2) := dk_16 16 (dk_at dksJ6_isValidCodePoint_0 1 rfl rfl)
theorem dJ6_isValidCodePoint_3 : decode cJ6_isValidCodePoint 3 = .ok (.iushr, 1) := dk_124 (dk_at dksJ6_isValidCodePoint_0 3 rfl rfl)
theorem dJ6_isValidCodePoint_4 : decode cJ6_isValidCodePoint 4 = .ok (.istore_n 1, 1) := dk_60 (dk_at dksJ6_isValidCodePoint_0 4 rfl rfl)
theorem dJ6_isValidCodePoint_5 : decode cJ6_isValidCodePoint 5 = .ok (.iload_n 1, 1) := dk_27 (dk_at dksJ6_isValidCodePoint_0 5 rfl rfl)
theorem dJ6_isValidCodePoint_6 : decode cJ6_isValidCodePoint 6 = .ok (.bipush 17, 2) := dk_16 17 (dk_at dksJ6_isValidCodePoint_0 6 rfl rfl)
theorem dJ6_isValidCodePoint_8 : decode cJ6_isValidCodePoint 8 = .ok (.if_icmp .ge 7, 3) := dk_162 0 7 (dk_at dksJ6_isValidCodePoint_0 8 rfl rfl)
theorem dJ6_isValidCodePoint_11 : decode cJ6_isValidCodePoint 11 = .ok (.iconst 1, 1) := dk_4 (dk_at dksJ6_isValidCodePoint_0 11 rfl rfl)
theorem dJ6_isValidCodePoint_12 : decode cJ6_isValidCodePoint 12 = .ok (.goto 4, 3) := dk_167 0 4 (dk_at dksJ6_isValidCodePoint_0 12 rfl rfl)
theorem dJ6_isValidCodePoint_15 : decode cJ6_isValidCodePoint 15 = .ok (.iconst 0, 1) := dk_3 (dk_at dksJ6_isValidCodePoint_0 15 rfl rfl)
theorem dJ6_isValidCodePoint_16 : decode cJ6_isValidCodePoint 16 = .ok (.ireturn, 1) := dk_172 (dk_at dksJ6_isValidCodePoint_0 16 rfl rfl)
abbrev cJ6_highSurrogate : ByteArray := prog_14_method_28_code
def yJ6_highSurrogate : MethodName := ⟨RJ6, "highSurrogate", "(I)C"⟩
def dkwJ6_highSurrogate_0 : List UInt8 := [26, 16, 10, 124, 18, 110, 96, 146, 172]
abbrev dktJ6_highSurrogate_0 : List UInt8 := dkwJ6_highSurrogate_0 ++ []
theorem dksJ6_highSurrogate_0 : cJ6_highSurrogate.data.toList.drop 0 = dktJ6_highSurrogate_0 := by decide +kernel
theorem dJ6_highSurrogate_0 : decode cJ6_highSurrogate 0 = .ok (.iload_n 0, 1) := dk_26 (dk_at dksJ6_highSurrogate_0 0 rfl rfl)
theorem dJ6_highSurrogate_1 : decode cJ6_highSurrogate 1 = .ok (.bipush 10, 2) := dk_16 10 (dk_at dksJ6_highSurrogate_0 1 rfl rfl)
theorem dJ6_highSurrogate_3 : decode cJ6_highSurrogate 3 = .ok (.iushr, 1) := dk_124 (dk_at dksJ6_highSurrogate_0 3 rfl rfl)
theorem dJ6_highSurrogate_4 : decode cJ6_highSurrogate 4 = .ok (.ldc 110, 2) := dk_18 110 (dk_at dksJ6_highSurrogate_0 4 rfl rfl)
theorem dJ6_highSurrogate_6 : decode cJ6_highSurrogate 6 = .ok (.iadd, 1) := dk_96 (dk_at dksJ6_highSurrogate_0 6 rfl rfl)
theorem dJ6_highSurrogate_7 : decode cJ6_highSurrogate 7 = .ok (.i2c, 1) := dk_146 (dk_at dksJ6_highSurrogate_0 7 rfl rfl)
theorem dJ6_highSurrogate_8 : decode cJ6_highSurrogate 8 = .ok (.ireturn, 1) := dk_172 (dk_at dksJ6_highSurrogate_0 8 rfl rfl)
abbrev cJ6_lowSurrogate : ByteArray := prog_14_method_29_code
def yJ6_lowSurrogate : MethodName := ⟨RJ6, "lowSurrogate", "(I)C"⟩
def dkwJ6_lowSurrogate_0 : List UInt8 := [26, 17, 3, 255, 126, 18, 76, 96, 146, 172]
abbrev dktJ6_lowSurrogate_0 : List UInt8 := dkwJ6_lowSurrogate_0 ++ []
theorem dksJ6_lowSurrogate_0 : cJ6_lowSurrogate.data.toList.drop 0 = dktJ6_lowSurrogate_0 := by decide +kernel
theorem dJ6_lowSurrogate_0 : decode cJ6_lowSurrogate 0 = .ok (.iload_n 0, 1) := dk_26 (dk_at dksJ6_lowSurrogate_0 0 rfl rfl)
theorem dJ6_lowSurrogate_1 : decode cJ6_lowSurrogate 1 = .ok (.sipush 1023, 3) := dk_17 3 255 (dk_at dksJ6_lowSurrogate_0 1 rfl rfl)
theorem dJ6_lowSurrogate_4 : decode cJ6_lowSurrogate 4 = .ok (.iand, 1) := dk_126 (dk_at dksJ6_lowSurrogate_0 4 rfl rfl)
theorem dJ6_lowSurrogate_5 : decode cJ6_lowSurrogate 5 = .ok (.ldc 76, 2) := dk_18 76 (dk_at dksJ6_lowSurrogate_0 5 rfl rfl)
theorem dJ6_lowSurrogate_7 : decode cJ6_lowSurrogate 7 = .ok (.iadd, 1) := dk_96 (dk_at dksJ6_lowSurrogate_0 7 rfl rfl)
theorem dJ6_lowSurrogate_8 : decode cJ6_lowSurrogate 8 = .ok (.i2c, 1) := dk_146 (dk_at dksJ6_lowSurrogate_0 8 rfl rfl)
theorem dJ6_lowSurrogate_9 : decode cJ6_lowSurrogate 9 = .ok (.ireturn, 1) := dk_172 (dk_at dksJ6_lowSurrogate_0 9 rfl rfl)
theorem q77 : (Jvm.Cond.initialized "java/lang/Character") ∈ lw_all := lw_g (lw_at lw_m1 18 rfl) rfl
theorem q476 : (Jvm.Cond.static ({ cls := "java/lang/Character", name := "isValidCodePoint", desc := "(I)Z" } : Jvm.MethodName)) ∈ lw_all := lw_g (lw_at lw_m2 177 rfl) rfl
theorem q477 : (Jvm.Cond.code ({ cls := "java/lang/Character", name := "isValidCodePoint", desc := "(I)Z" } : Jvm.MethodName) prog_14_method_11_code (2 : Nat) (Option.some Jvm.ClassFile.FieldType.boolean)) ∈ lw_all := lw_g (lw_at lw_m2 178 rfl) rfl
theorem q479 : (Jvm.Cond.static ({ cls := "java/lang/Character", name := "highSurrogate", desc := "(I)C" } : Jvm.MethodName)) ∈ lw_all := lw_g (lw_at lw_m2 180 rfl) rfl
theorem q480 : (Jvm.Cond.code ({ cls := "java/lang/Character", name := "highSurrogate", desc := "(I)C" } : Jvm.MethodName) prog_14_method_28_code (1 : Nat) (Option.some Jvm.ClassFile.FieldType.char)) ∈ lw_all := lw_g (lw_at lw_m2 181 rfl) rfl
theorem q481 : (Jvm.Cond.constant "java/lang/Character" (110 : Nat) (55232 : Int32)) ∈ lw_all := lw_g (lw_at lw_m2 182 rfl) rfl
theorem q483 : (Jvm.Cond.static ({ cls := "java/lang/Character", name := "lowSurrogate", desc := "(I)C" } : Jvm.MethodName)) ∈ lw_all := lw_g (lw_at lw_m2 184 rfl) rfl
theorem q484 : (Jvm.Cond.code ({ cls := "java/lang/Character", name := "lowSurrogate", desc := "(I)C" } : Jvm.MethodName) prog_14_method_29_code (1 : Nat) (Option.some Jvm.ClassFile.FieldType.char)) ∈ lw_all := lw_g (lw_at lw_m2 185 rfl) rfl
theorem q485 : (Jvm.Cond.constant "java/lang/Character" (76 : Nat) (56320 : Int32)) ∈ lw_all := lw_g (lw_at lw_m2 186 rfl) rfl

/-! java/lang/Throwable -/
set_option maxRecDepth 100000
def RJ7 : String := "java/lang/Throwable"
def TJ7 : u_T := fun k => match k with
  | 0 => ("java/lang/Throwable", "cause", "Ljava/lang/Throwable;", false)
  | 1 => ("java/lang/Throwable", "stackTrace", "[Ljava/lang/StackTraceElement;", false)
  | 2 => ("java/lang/Throwable", "suppressedExceptions", "Ljava/util/List;", false)
  | 3 => ("java/lang/Throwable", "detailMessage", "Ljava/lang/String;", false)
  | _ => ("java/lang/Throwable", "backtrace", "Ljava/lang/Object;", false)
def tyJ7 : Nat → FieldType := fun k => match k with
  | 0 => .object "java/lang/Throwable"
  | 1 => .array (.object "java/lang/StackTraceElement")
  | 2 => .object "java/util/List"
  | 3 => .object "java/lang/String"
  | _ => .object "java/lang/Object"
abbrev wsJ70 : List Cond := u_ws RJ7 TJ7 5
theorem nmJ7 : ∀ a, a < 5 → ∀ b, b < 5 → a ≠ b → (TJ7 a).2.1 ≠ (TJ7 b).2.1 := by decide +kernel
theorem tyJ7_ok : ∀ k, k < 5 → parseFieldDescriptor (TJ7 k).2.2.1 = some (tyJ7 k) := by decide +kernel
abbrev cJ7_init : ByteArray := prog_23_method_1_code
def yJ7_init : MethodName := ⟨RJ7, "<init>", "()V"⟩
def dkwJ7_init_1 : List UInt8 := [182, 0, 27, 87, 177]
abbrev dktJ7_init_1 : List UInt8 := dkwJ7_init_1 ++ []
def dkwJ7_init_0 : List UInt8 := [42, 183, 0, 1, 42, 42, 181, 0, 7, 42, 178, 0, 13, 181, 0, 17, 42, 178, 0, 20, 181, 0, 24, 42]
abbrev dktJ7_init_0 : List UInt8 := dkwJ7_init_0 ++ dktJ7_init_1
theorem dksJ7_init_0 : cJ7_init.data.toList.drop 0 = dktJ7_init_0 := by decide +kernel
theorem dksJ7_init_1 : cJ7_init.data.toList.drop 24 = dktJ7_init_1 := dk_seg dksJ7_init_0 24 rfl rfl
theorem dJ7_init_0 : decode cJ7_init 0 = .ok (.aload_n 0, 1) := dk_42 (dk_at dksJ7_init_0 0 rfl rfl)
theorem dJ7_init_1 : decode cJ7_init 1 = .ok (.invokespecial 1, 3) := dk_183 0 1 (dk_at dksJ7_init_0 1 rfl rfl)
theorem dJ7_init_4 : decode cJ7_init 4 = .ok (.aload_n 0, 1) := dk_42 (dk_at dksJ7_init_0 4 rfl rfl)
theorem dJ7_init_5 : decode cJ7_init 5 = .ok (.aload_n 0, 1) := dk_42 (dk_at dksJ7_init_0 5 rfl rfl)
theorem dJ7_init_6 : decode cJ7_init 6 = .ok (.putfield 7, 3) := dk_181 0 7 (dk_at dksJ7_init_0 6 rfl rfl)
theorem dJ7_init_9 : decode cJ7_init 9 = .ok (.aload_n 0, 1) := dk_42 (dk_at dksJ7_init_0 9 rfl rfl)
theorem dJ7_init_10 : decode cJ7_init 10 = .ok (.getstatic 13, 3) := dk_178 0 13 (dk_at dksJ7_init_0 10 rfl rfl)
theorem dJ7_init_13 : decode cJ7_init 13 = .ok (.putfield 17, 3) := dk_181 0 17 (dk_at dksJ7_init_0 13 rfl rfl)
theorem dJ7_init_16 : decode cJ7_init 16 = .ok (.aload_n 0, 1) := dk_42 (dk_at dksJ7_init_0 16 rfl rfl)
theorem dJ7_init_17 : decode cJ7_init 17 = .ok (.getstatic 20, 3) := dk_178 0 20 (dk_at dksJ7_init_0 17 rfl rfl)
theorem dJ7_init_20 : decode cJ7_init 20 = .ok (.putfield 24, 3) := dk_181 0 24 (dk_at dksJ7_init_0 20 rfl rfl)
theorem dJ7_init_23 : decode cJ7_init 23 = .ok (.aload_n 0, 1) := dk_42 (dk_at dksJ7_init_0 23 rfl rfl)
theorem dJ7_init_24 : decode cJ7_init 24 = .ok (.invokevirtual 27, 3) := dk_182 0 27 (dk_at dksJ7_init_1 0 rfl rfl)
theorem dJ7_init_27 : decode cJ7_init 27 = .ok (.pop, 1) := dk_87 (dk_at dksJ7_init_1 3 rfl rfl)
theorem dJ7_init_28 : decode cJ7_init 28 = .ok (.return_, 1) := dk_177 (dk_at dksJ7_init_1 4 rfl rfl)
abbrev cJ7_init_2 : ByteArray := prog_23_method_5_code
def yJ7_init_2 : MethodName := ⟨RJ7, "<init>", "(Ljava/lang/String;Ljava/lang/Throwable;ZZ)V"⟩
def dkwJ7_init_2_2 : List UInt8 := [44, 181, 0, 7, 29, 154, 0, 8, 42, 1, 181, 0, 24, 177]
abbrev dktJ7_init_2_2 : List UInt8 := dkwJ7_init_2_2 ++ []
def dkwJ7_init_2_1 : List UInt8 := [21, 4, 153, 0, 11, 42, 182, 0, 27, 87, 167, 0, 8, 42, 1, 181, 0, 17, 42, 43, 181, 0, 31, 42]
abbrev dktJ7_init_2_1 : List UInt8 := dkwJ7_init_2_1 ++ dktJ7_init_2_2
def dkwJ7_init_2_0 : List UInt8 := [42, 183, 0, 1, 42, 42, 181, 0, 7, 42, 178, 0, 13, 181, 0, 17, 42, 178, 0, 20, 181, 0, 24]
abbrev dktJ7_init_2_0 : List UInt8 := dkwJ7_init_2_0 ++ dktJ7_init_2_1
theorem dksJ7_init_2_0 : cJ7_init_2.data.toList.drop 0 = dktJ7_init_2_0 := by decide +kernel
theorem dksJ7_init_2_1 : cJ7_init_2.data.toList.drop 23 = dktJ7_init_2_1 := dk_seg dksJ7_init_2_0 23 rfl rfl
theorem dksJ7_init_2_2 : cJ7_init_2.data.toList.drop 47 = dktJ7_init_2_2 := dk_seg dksJ7_init_2_1 24 rfl rfl
theorem dJ7_init_2_0 : decode cJ7_init_2 0 = .ok (.aload_n 0, 1) := dk_42 (dk_at dksJ7_init_2_0 0 rfl rfl)
theorem dJ7_init_2_1 : decode cJ7_init_2 1 = .ok (.invokespecial 1, 3) := dk_183 0 1 (dk_at dksJ7_init_2_0 1 rfl rfl)
theorem dJ7_init_2_4 : decode cJ7_init_2 4 = .ok (.aload_n 0, 1) := dk_42 (dk_at dksJ7_init_2_0 4 rfl rfl)
theorem dJ7_init_2_5 : decode cJ7_init_2 5 = .ok (.aload_n 0, 1) := dk_42 (dk_at dksJ7_init_2_0 5 rfl rfl)
theorem dJ7_init_2_6 : decode cJ7_init_2 6 = .ok (.putfield 7, 3) := dk_181 0 7 (dk_at dksJ7_init_2_0 6 rfl rfl)
theorem dJ7_init_2_9 : decode cJ7_init_2 9 = .ok (.aload_n 0, 1) := dk_42 (dk_at dksJ7_init_2_0 9 rfl rfl)
theorem dJ7_init_2_10 : decode cJ7_init_2 10 = .ok (.getstatic 13, 3) := dk_178 0 13 (dk_at dksJ7_init_2_0 10 rfl rfl)
theorem dJ7_init_2_13 : decode cJ7_init_2 13 = .ok (.putfield 17, 3) := dk_181 0 17 (dk_at dksJ7_init_2_0 13 rfl rfl)
theorem dJ7_init_2_16 : decode cJ7_init_2 16 = .ok (.aload_n 0, 1) := dk_42 (dk_at dksJ7_init_2_0 16 rfl rfl)
theorem dJ7_init_2_17 : decode cJ7_init_2 17 = .ok (.getstatic 20, 3) := dk_178 0 20 (dk_at dksJ7_init_2_0 17 rfl rfl)
theorem dJ7_init_2_20 : decode cJ7_init_2 20 = .ok (.putfield 24, 3) := dk_181 0 24 (dk_at dksJ7_init_2_0 20 rfl rfl)
theorem dJ7_init_2_23 : decode cJ7_init_2 23 = .ok (.iload 4, 2) := dk_21 4 (dk_at dksJ7_init_2_1 0 rfl rfl)
theorem dJ7_init_2_25 : decode cJ7_init_2 25 = .ok (.ifCond .eq 11, 3) := dk_153 0 11 (dk_at dksJ7_init_2_1 2 rfl rfl)
theorem dJ7_init_2_28 : decode cJ7_init_2 28 = .ok (.aload_n 0, 1) := dk_42 (dk_at dksJ7_init_2_1 5 rfl rfl)
theorem dJ7_init_2_29 : decode cJ7_init_2 29 = .ok (.invokevirtual 27, 3) := dk_182 0 27 (dk_at dksJ7_init_2_1 6 rfl rfl)
theorem dJ7_init_2_32 : decode cJ7_init_2 32 = .ok (.pop, 1) := dk_87 (dk_at dksJ7_init_2_1 9 rfl rfl)
theorem dJ7_init_2_33 : decode cJ7_init_2 33 = .ok (.goto 8, 3) := dk_167 0 8 (dk_at dksJ7_init_2_1 10 rfl rfl)
theorem dJ7_init_2_36 : decode cJ7_init_2 36 = .ok (.aload_n 0, 1) := dk_42 (dk_at dksJ7_init_2_1 13 rfl rfl)
theorem dJ7_init_2_37 : decode cJ7_init_2 37 = .ok (.aconst_null, 1) := dk_1 (dk_at dksJ7_init_2_1 14 rfl rfl)
theorem dJ7_init_2_38 : decode cJ7_init_2 38 = .ok (.putfield 17, 3) := dk_181 0 17 (dk_at dksJ7_init_2_1 15 rfl rfl)
theorem dJ7_init_2_41 : decode cJ7_init_2 41 = .ok (.aload_n 0, 1) := dk_42 (dk_at dksJ7_init_2_1 18 rfl rfl)
theorem dJ7_init_2_42 : decode cJ7_init_2 42 = .ok (.aload_n 1, 1) := dk_43 (dk_at dksJ7_init_2_1 19 rfl rfl)
theorem dJ7_init_2_43 : decode cJ7_init_2 43 = .ok (.putfield 31, 3) := dk_181 0 31 (dk_at dksJ7_init_2_1 20 rfl rfl)
theorem dJ7_init_2_46 : decode cJ7_init_2 46 = .ok (.aload_n 0, 1) := dk_42 (dk_at dksJ7_init_2_1 23 rfl rfl)
theorem dJ7_init_2_47 : decode cJ7_init_2 47 = .ok (.aload_n 2, 1) := dk_44 (dk_at dksJ7_init_2_2 0 rfl rfl)
theorem dJ7_init_2_48 : decode cJ7_init_2 48 = .ok (.putfield 7, 3) := dk_181 0 7 (dk_at dksJ7_init_2_2 1 rfl rfl)
theorem dJ7_init_2_51 : decode cJ7_init_2 51 = .ok (.iload_n 3, 1) := dk_29 (dk_at dksJ7_init_2_2 4 rfl rfl)
theorem dJ7_init_2_52 : decode cJ7_init_2 52 = .ok (.ifCond .ne 8, 3) := dk_154 0 8 (dk_at dksJ7_init_2_2 5 rfl rfl)
theorem dJ7_init_2_55 : decode cJ7_init_2 55 = .ok (.aload_n 0, 1) := dk_42 (dk_at dksJ7_init_2_2 8 rfl rfl)
theorem dJ7_init_2_56 : decode cJ7_init_2 56 = .ok (.aconst_null, 1) := dk_1 (dk_at dksJ7_init_2_2 9 rfl rfl)
theorem dJ7_init_2_57 : decode cJ7_init_2 57 = .ok (.putfield 24, 3) := dk_181 0 24 (dk_at dksJ7_init_2_2 10 rfl rfl)
theorem dJ7_init_2_60 : decode cJ7_init_2 60 = .ok (.return_, 1) := dk_177 (dk_at dksJ7_init_2_2 13 rfl rfl)
theorem q78 : (Jvm.Cond.initialized "java/lang/Throwable") ∈ lw_all := lw_g (lw_at lw_m1 19 rfl) rfl
theorem q501 : (Jvm.Cond.declares ({ cls := "java/lang/Throwable", name := "<init>", desc := "()V" } : Jvm.MethodName)) ∈ lw_tbl := lw_at lw_m2 202 rfl
theorem q502 : (Jvm.Cond.declares ({ cls := "java/lang/Throwable", name := "<init>", desc := "(Ljava/lang/String;)V" } : Jvm.MethodName)) ∈ lw_tbl := lw_at lw_m2 203 rfl
theorem q506 : (Jvm.Cond.lays "java/lang/Throwable" "java/lang/Throwable" "cause" "Ljava/lang/Throwable;") ∈ lw_all := lw_g (lw_at lw_m2 207 rfl) rfl
theorem q508 : (Jvm.Cond.lays "java/lang/Throwable" "java/lang/Throwable" "stackTrace" "[Ljava/lang/StackTraceElement;") ∈ lw_all := lw_g (lw_at lw_m2 209 rfl) rfl
theorem q510 : (Jvm.Cond.lays "java/lang/Throwable" "java/lang/Throwable" "suppressedExceptions" "Ljava/util/List;") ∈ lw_all := lw_g (lw_at lw_m2 211 rfl) rfl
theorem q512 : (Jvm.Cond.lays "java/lang/Throwable" "java/lang/Throwable" "detailMessage" "Ljava/lang/String;") ∈ lw_all := lw_g (lw_at lw_m2 213 rfl) rfl
theorem q514 : (Jvm.Cond.lays "java/lang/Throwable" "java/lang/Throwable" "backtrace" "Ljava/lang/Object;") ∈ lw_all := lw_g (lw_at lw_m2 215 rfl) rfl
theorem q515 : (Jvm.Cond.fieldLink "java/lang/Throwable" (198 : Nat) "java/lang/Throwable" "backtrace" "Ljava/lang/Object;") ∈ lw_all := lw_g (lw_at lw_m2 216 rfl) rfl
theorem q516 : (Jvm.Cond.superclass "java/lang/Throwable" "java/lang/Object") ∈ lw_all := lw_g (lw_at lw_m2 217 rfl) rfl
theorem q517 : (Jvm.Cond.instanceMethod ({ cls := "java/lang/Throwable", name := "<init>", desc := "()V" } : Jvm.MethodName)) ∈ lw_all := lw_g (lw_at lw_m2 218 rfl) rfl
theorem q518 : (Jvm.Cond.code ({ cls := "java/lang/Throwable", name := "<init>", desc := "()V" } : Jvm.MethodName) prog_23_method_1_code (1 : Nat) (Option.none : Option Jvm.ClassFile.FieldType)) ∈ lw_all := lw_g (lw_at lw_m2 219 rfl) rfl
theorem q519 : (Jvm.Cond.methodLink "java/lang/Throwable" (1 : Nat) ({ cls := "java/lang/Object", name := "<init>", desc := "()V" } : Jvm.MethodName)) ∈ lw_all := lw_g (lw_at lw_m2 220 rfl) rfl
theorem q520 : (Jvm.Cond.fieldLink "java/lang/Throwable" (13 : Nat) "java/lang/Throwable" "UNASSIGNED_STACK" "[Ljava/lang/StackTraceElement;") ∈ lw_all := lw_g (lw_at lw_m2 221 rfl) rfl
theorem q521 : (Jvm.Cond.laysStatic "java/lang/Throwable" "UNASSIGNED_STACK" "[Ljava/lang/StackTraceElement;") ∈ lw_tbl := lw_at lw_m2 222 rfl
theorem q522 : (Jvm.Cond.fieldLink "java/lang/Throwable" (20 : Nat) "java/lang/Throwable" "SUPPRESSED_SENTINEL" "Ljava/util/List;") ∈ lw_all := lw_g (lw_at lw_m2 223 rfl) rfl
theorem q523 : (Jvm.Cond.laysStatic "java/lang/Throwable" "SUPPRESSED_SENTINEL" "Ljava/util/List;") ∈ lw_tbl := lw_at lw_m2 224 rfl
theorem q524 : (Jvm.Cond.methodLink "java/lang/Throwable" (27 : Nat) ({ cls := "java/lang/Throwable", name := "fillInStackTrace", desc := "()Ljava/lang/Throwable;" } : Jvm.MethodName)) ∈ lw_all := lw_g (lw_at lw_m2 225 rfl) rfl
theorem q525 : (Jvm.Cond.instanceMethod ({ cls := "java/lang/Throwable", name := "fillInStackTrace", desc := "()Ljava/lang/Throwable;" } : Jvm.MethodName)) ∈ lw_all := lw_g (lw_at lw_m2 226 rfl) rfl
theorem q526 : (Jvm.Cond.sameMethod "java/lang/Throwable" "java/lang/Throwable" "fillInStackTrace" "()Ljava/lang/Throwable;") ∈ lw_all := lw_g (lw_at lw_m2 227 rfl) rfl
theorem q527 : (Jvm.Cond.codeSync ({ cls := "java/lang/Throwable", name := "fillInStackTrace", desc := "()Ljava/lang/Throwable;" } : Jvm.MethodName) prog_23_method_18_code (1 : Nat) (Option.some (Jvm.ClassFile.FieldType.object "java/lang/Throwable"))) ∈ lw_all := lw_g (lw_at lw_m2 228 rfl) rfl
theorem q528 : (Jvm.Cond.methodLink "java/lang/Throwable" (202 : Nat) ({ cls := "java/lang/Throwable", name := "fillInStackTrace", desc := "(I)Ljava/lang/Throwable;" } : Jvm.MethodName)) ∈ lw_all := lw_g (lw_at lw_m2 229 rfl) rfl
theorem q529 : (Jvm.Cond.privateMethod ({ cls := "java/lang/Throwable", name := "fillInStackTrace", desc := "(I)Ljava/lang/Throwable;" } : Jvm.MethodName)) ∈ lw_tbl := lw_at lw_m2 230 rfl
theorem q530 : (Jvm.Cond.instanceMethod ({ cls := "java/lang/Throwable", name := "fillInStackTrace", desc := "(I)Ljava/lang/Throwable;" } : Jvm.MethodName)) ∈ lw_all := lw_g (lw_at lw_m2 231 rfl) rfl
theorem q531 : (Jvm.Cond.instantiable "java/lang/Throwable" (6 : Nat)) ∈ lw_all := lw_g (lw_at lw_m2 232 rfl) rfl
theorem q532 : (Jvm.Cond.native ({ cls := "java/lang/Throwable", name := "fillInStackTrace", desc := "(I)Ljava/lang/Throwable;" } : Jvm.MethodName)) ∈ lw_all := lw_g (lw_at lw_m2 233 rfl) rfl
theorem q543 : (Jvm.Cond.instanceMethod ({ cls := "java/lang/Throwable", name := "<init>", desc := "(Ljava/lang/String;Ljava/lang/Throwable;ZZ)V" } : Jvm.MethodName)) ∈ lw_all := lw_g (lw_at lw_m3 4 rfl) rfl
theorem q544 : (Jvm.Cond.code ({ cls := "java/lang/Throwable", name := "<init>", desc := "(Ljava/lang/String;Ljava/lang/Throwable;ZZ)V" } : Jvm.MethodName) prog_23_method_5_code (5 : Nat) (Option.none : Option Jvm.ClassFile.FieldType)) ∈ lw_all := lw_g (lw_at lw_m3 5 rfl) rfl
theorem q547 : (Jvm.Cond.fieldLink "java/lang/Throwable" (198 : Nat) "java/lang/Throwable" "backtrace" "Ljava/lang/Object;") ∈ lw_all := lw_g (lw_at lw_m3 8 rfl) rfl
theorem q548 : (Jvm.Cond.fieldLink "java/lang/Throwable" (31 : Nat) "java/lang/Throwable" "detailMessage" "Ljava/lang/String;") ∈ lw_all := lw_g (lw_at lw_m3 9 rfl) rfl
theorem q549 : (Jvm.Cond.fieldLink "java/lang/Throwable" (7 : Nat) "java/lang/Throwable" "cause" "Ljava/lang/Throwable;") ∈ lw_all := lw_g (lw_at lw_m3 10 rfl) rfl
theorem q550 : (Jvm.Cond.fieldLink "java/lang/Throwable" (17 : Nat) "java/lang/Throwable" "stackTrace" "[Ljava/lang/StackTraceElement;") ∈ lw_all := lw_g (lw_at lw_m3 11 rfl) rfl
theorem q551 : (Jvm.Cond.fieldLink "java/lang/Throwable" (24 : Nat) "java/lang/Throwable" "suppressedExceptions" "Ljava/util/List;") ∈ lw_all := lw_g (lw_at lw_m3 12 rfl) rfl
theorem q554 : (Jvm.Cond.soleField "java/lang/Throwable" "backtrace") ∈ lw_all := lw_g (lw_at lw_m3 15 rfl) rfl
theorem q555 : (Jvm.Cond.soleField "java/lang/Throwable" "detailMessage") ∈ lw_all := lw_g (lw_at lw_m3 16 rfl) rfl
theorem q556 : (Jvm.Cond.soleField "java/lang/Throwable" "cause") ∈ lw_all := lw_g (lw_at lw_m3 17 rfl) rfl
theorem q557 : (Jvm.Cond.soleField "java/lang/Throwable" "stackTrace") ∈ lw_all := lw_g (lw_at lw_m3 18 rfl) rfl
theorem q559 : (Jvm.Cond.soleField "java/lang/Throwable" "depth") ∈ lw_all := lw_g (lw_at lw_m3 20 rfl) rfl
theorem q560 : (Jvm.Cond.soleField "java/lang/Throwable" "suppressedExceptions") ∈ lw_all := lw_g (lw_at lw_m3 21 rfl) rfl
theorem q1273 : (Jvm.Cond.sameMethod "java/lang/Throwable" "java/lang/Throwable" "fillInStackTrace" "(I)Ljava/lang/Throwable;") ∈ lw_all := lw_g (lw_at lw_m6 14 rfl) rfl
theorem in_J7 : ∀ w ∈ wsJ70, w ∈ lw_all := lw_in wsJ70 [506, 508, 510, 512, 514] (by decide +kernel) (by decide +kernel)

/-! java/lang/Exception -/
set_option maxRecDepth 100000
def RJ8 : String := "java/lang/Exception"
abbrev cJ8_init : ByteArray := prog_15_method_5_code
def yJ8_init : MethodName := ⟨RJ8, "<init>", "(Ljava/lang/String;Ljava/lang/Throwable;ZZ)V"⟩
def dkwJ8_init_0 : List UInt8 := [42, 43, 44, 29, 21, 4, 183, 0, 16, 177]
abbrev dktJ8_init_0 : List UInt8 := dkwJ8_init_0 ++ []
theorem dksJ8_init_0 : cJ8_init.data.toList.drop 0 = dktJ8_init_0 := by decide +kernel
theorem dJ8_init_0 : decode cJ8_init 0 = .ok (.aload_n 0, 1) := dk_42 (dk_at dksJ8_init_0 0 rfl rfl)
theorem dJ8_init_1 : decode cJ8_init 1 = .ok (.aload_n 1, 1) := dk_43 (dk_at dksJ8_init_0 1 rfl rfl)
theorem dJ8_init_2 : decode cJ8_init 2 = .ok (.aload_n 2, 1) := dk_44 (dk_at dksJ8_init_0 2 rfl rfl)
theorem dJ8_init_3 : decode cJ8_init 3 = .ok (.iload_n 3, 1) := dk_29 (dk_at dksJ8_init_0 3 rfl rfl)
theorem dJ8_init_4 : decode cJ8_init 4 = .ok (.iload 4, 2) := dk_21 4 (dk_at dksJ8_init_0 4 rfl rfl)
theorem dJ8_init_6 : decode cJ8_init 6 = .ok (.invokespecial 16, 3) := dk_183 0 16 (dk_at dksJ8_init_0 6 rfl rfl)
theorem dJ8_init_9 : decode cJ8_init 9 = .ok (.return_, 1) := dk_177 (dk_at dksJ8_init_0 9 rfl rfl)
theorem q79 : (Jvm.Cond.initialized "java/lang/Exception") ∈ lw_all := lw_g (lw_at lw_m1 20 rfl) rfl
theorem q499 : (Jvm.Cond.declares ({ cls := "java/lang/Exception", name := "<init>", desc := "()V" } : Jvm.MethodName)) ∈ lw_tbl := lw_at lw_m2 200 rfl
theorem q500 : (Jvm.Cond.declares ({ cls := "java/lang/Exception", name := "<init>", desc := "(Ljava/lang/String;)V" } : Jvm.MethodName)) ∈ lw_tbl := lw_at lw_m2 201 rfl
theorem q540 : (Jvm.Cond.instanceMethod ({ cls := "java/lang/Exception", name := "<init>", desc := "(Ljava/lang/String;Ljava/lang/Throwable;ZZ)V" } : Jvm.MethodName)) ∈ lw_all := lw_g (lw_at lw_m3 1 rfl) rfl
theorem q541 : (Jvm.Cond.code ({ cls := "java/lang/Exception", name := "<init>", desc := "(Ljava/lang/String;Ljava/lang/Throwable;ZZ)V" } : Jvm.MethodName) prog_15_method_5_code (5 : Nat) (Option.none : Option Jvm.ClassFile.FieldType)) ∈ lw_all := lw_g (lw_at lw_m3 2 rfl) rfl
theorem q542 : (Jvm.Cond.methodLink "java/lang/Exception" (16 : Nat) ({ cls := "java/lang/Throwable", name := "<init>", desc := "(Ljava/lang/String;Ljava/lang/Throwable;ZZ)V" } : Jvm.MethodName)) ∈ lw_all := lw_g (lw_at lw_m3 3 rfl) rfl

/-! java/lang/RuntimeException -/
set_option maxRecDepth 100000
def RJ9 : String := "java/lang/RuntimeException"
abbrev cJ9_init : ByteArray := prog_18_method_5_code
def yJ9_init : MethodName := ⟨RJ9, "<init>", "(Ljava/lang/String;Ljava/lang/Throwable;ZZ)V"⟩
def dkwJ9_init_0 : List UInt8 := [42, 43, 44, 29, 21, 4, 183, 0, 16, 177]
abbrev dktJ9_init_0 : List UInt8 := dkwJ9_init_0 ++ []
theorem dksJ9_init_0 : cJ9_init.data.toList.drop 0 = dktJ9_init_0 := by decide +kernel
theorem dJ9_init_0 : decode cJ9_init 0 = .ok (.aload_n 0, 1) := dk_42 (dk_at dksJ9_init_0 0 rfl rfl)
theorem dJ9_init_1 : decode cJ9_init 1 = .ok (.aload_n 1, 1) := dk_43 (dk_at dksJ9_init_0 1 rfl rfl)
theorem dJ9_init_2 : decode cJ9_init 2 = .ok (.aload_n 2, 1) := dk_44 (dk_at dksJ9_init_0 2 rfl rfl)
theorem dJ9_init_3 : decode cJ9_init 3 = .ok (.iload_n 3, 1) := dk_29 (dk_at dksJ9_init_0 3 rfl rfl)
theorem dJ9_init_4 : decode cJ9_init 4 = .ok (.iload 4, 2) := dk_21 4 (dk_at dksJ9_init_0 4 rfl rfl)
theorem dJ9_init_6 : decode cJ9_init 6 = .ok (.invokespecial 16, 3) := dk_183 0 16 (dk_at dksJ9_init_0 6 rfl rfl)
theorem dJ9_init_9 : decode cJ9_init 9 = .ok (.return_, 1) := dk_177 (dk_at dksJ9_init_0 9 rfl rfl)
theorem q80 : (Jvm.Cond.initialized "java/lang/RuntimeException") ∈ lw_all := lw_g (lw_at lw_m1 21 rfl) rfl
theorem q497 : (Jvm.Cond.declares ({ cls := "java/lang/RuntimeException", name := "<init>", desc := "()V" } : Jvm.MethodName)) ∈ lw_tbl := lw_at lw_m2 198 rfl
theorem q498 : (Jvm.Cond.declares ({ cls := "java/lang/RuntimeException", name := "<init>", desc := "(Ljava/lang/String;)V" } : Jvm.MethodName)) ∈ lw_tbl := lw_at lw_m2 199 rfl
theorem q537 : (Jvm.Cond.instanceMethod ({ cls := "java/lang/RuntimeException", name := "<init>", desc := "(Ljava/lang/String;Ljava/lang/Throwable;ZZ)V" } : Jvm.MethodName)) ∈ lw_all := lw_g (lw_at lw_m2 238 rfl) rfl
theorem q538 : (Jvm.Cond.code ({ cls := "java/lang/RuntimeException", name := "<init>", desc := "(Ljava/lang/String;Ljava/lang/Throwable;ZZ)V" } : Jvm.MethodName) prog_18_method_5_code (5 : Nat) (Option.none : Option Jvm.ClassFile.FieldType)) ∈ lw_all := lw_g (lw_at lw_m2 239 rfl) rfl
theorem q539 : (Jvm.Cond.methodLink "java/lang/RuntimeException" (16 : Nat) ({ cls := "java/lang/Exception", name := "<init>", desc := "(Ljava/lang/String;Ljava/lang/Throwable;ZZ)V" } : Jvm.MethodName)) ∈ lw_all := lw_g (lw_at lw_m3 0 rfl) rfl

/-! SmokedLetters$Book -/
set_option maxRecDepth 100000
def RX1 : String := "SmokedLetters$Book"
def TX1 : u_T := fun k => match k with
  | 0 => ("SmokedLetters$Book", "law", "[I", true)
  | 1 => ("SmokedLetters$Book", "comes", "[I", true)
  | 2 => ("SmokedLetters$Book", "chance", "[I", true)
  | 3 => ("SmokedLetters$Book", "burns", "[I", true)
  | 4 => ("SmokedLetters$Book", "mercyOf", "[I", true)
  | 5 => ("SmokedLetters$Book", "mercyTo", "[I", true)
  | 6 => ("SmokedLetters$Book", "travellers", "I", false)
  | 7 => ("SmokedLetters$Book", "clerks", "I", false)
  | _ => ("SmokedLetters$Book", "items", "I", false)
def tyX1 : Nat → FieldType := fun k => match k with
  | 0 => .array .int
  | 1 => .array .int
  | 2 => .array .int
  | 3 => .array .int
  | 4 => .array .int
  | 5 => .array .int
  | 6 => .int
  | 7 => .int
  | _ => .int
abbrev wsX10 : List Cond := u_ws RX1 TX1 9
theorem nmX1 : ∀ a, a < 9 → ∀ b, b < 9 → a ≠ b → (TX1 a).2.1 ≠ (TX1 b).2.1 := by decide +kernel
theorem tyX1_ok : ∀ k, k < 9 → parseFieldDescriptor (TX1 k).2.2.1 = some (tyX1 k) := by decide +kernel
abbrev cX1_init : ByteArray := prog_3_method_1_code
def yX1_init : MethodName := ⟨RX1, "<init>", "()V"⟩
def dkwX1_init_2 : List UInt8 := [7, 188, 10, 181, 0, 24, 42, 7, 188, 10, 181, 0, 27, 177]
abbrev dktX1_init_2 : List UInt8 := dkwX1_init_2 ++ []
def dkwX1_init_1 : List UInt8 := [42, 16, 6, 188, 10, 181, 0, 15, 42, 16, 6, 188, 10, 181, 0, 18, 42, 7, 188, 10, 181, 0, 21, 42]
abbrev dktX1_init_1 : List UInt8 := dkwX1_init_1 ++ dktX1_init_2
def dkwX1_init_0 : List UInt8 := [42, 183, 0, 3, 42, 6, 188, 10, 89, 3, 16, 10, 79, 89, 4, 5, 79, 89, 5, 4, 79, 181, 0, 9]
abbrev dktX1_init_0 : List UInt8 := dkwX1_init_0 ++ dktX1_init_1
theorem dksX1_init_0 : cX1_init.data.toList.drop 0 = dktX1_init_0 := by decide +kernel
theorem dksX1_init_1 : cX1_init.data.toList.drop 24 = dktX1_init_1 := dk_seg dksX1_init_0 24 rfl rfl
theorem dksX1_init_2 : cX1_init.data.toList.drop 48 = dktX1_init_2 := dk_seg dksX1_init_1 24 rfl rfl
theorem dX1_init_0 : decode cX1_init 0 = .ok (.aload_n 0, 1) := dk_42 (dk_at dksX1_init_0 0 rfl rfl)
theorem dX1_init_1 : decode cX1_init 1 = .ok (.invokespecial 3, 3) := dk_183 0 3 (dk_at dksX1_init_0 1 rfl rfl)
theorem dX1_init_4 : decode cX1_init 4 = .ok (.aload_n 0, 1) := dk_42 (dk_at dksX1_init_0 4 rfl rfl)
theorem dX1_init_5 : decode cX1_init 5 = .ok (.iconst 3, 1) := dk_6 (dk_at dksX1_init_0 5 rfl rfl)
theorem dX1_init_6 : decode cX1_init 6 = .ok (.newarray .int, 2) := dk_188_10 (dk_at dksX1_init_0 6 rfl rfl)
theorem dX1_init_8 : decode cX1_init 8 = .ok (.dup, 1) := dk_89 (dk_at dksX1_init_0 8 rfl rfl)
theorem dX1_init_9 : decode cX1_init 9 = .ok (.iconst 0, 1) := dk_3 (dk_at dksX1_init_0 9 rfl rfl)
theorem dX1_init_10 : decode cX1_init 10 = .ok (.bipush 10, 2) := dk_16 10 (dk_at dksX1_init_0 10 rfl rfl)
theorem dX1_init_12 : decode cX1_init 12 = .ok (.iastore, 1) := dk_79 (dk_at dksX1_init_0 12 rfl rfl)
theorem dX1_init_13 : decode cX1_init 13 = .ok (.dup, 1) := dk_89 (dk_at dksX1_init_0 13 rfl rfl)
theorem dX1_init_14 : decode cX1_init 14 = .ok (.iconst 1, 1) := dk_4 (dk_at dksX1_init_0 14 rfl rfl)
theorem dX1_init_15 : decode cX1_init 15 = .ok (.iconst 2, 1) := dk_5 (dk_at dksX1_init_0 15 rfl rfl)
theorem dX1_init_16 : decode cX1_init 16 = .ok (.iastore, 1) := dk_79 (dk_at dksX1_init_0 16 rfl rfl)
theorem dX1_init_17 : decode cX1_init 17 = .ok (.dup, 1) := dk_89 (dk_at dksX1_init_0 17 rfl rfl)
theorem dX1_init_18 : decode cX1_init 18 = .ok (.iconst 2, 1) := dk_5 (dk_at dksX1_init_0 18 rfl rfl)
theorem dX1_init_19 : decode cX1_init 19 = .ok (.iconst 1, 1) := dk_4 (dk_at dksX1_init_0 19 rfl rfl)
theorem dX1_init_20 : decode cX1_init 20 = .ok (.iastore, 1) := dk_79 (dk_at dksX1_init_0 20 rfl rfl)
theorem dX1_init_21 : decode cX1_init 21 = .ok (.putfield 9, 3) := dk_181 0 9 (dk_at dksX1_init_0 21 rfl rfl)
theorem dX1_init_24 : decode cX1_init 24 = .ok (.aload_n 0, 1) := dk_42 (dk_at dksX1_init_1 0 rfl rfl)
theorem dX1_init_25 : decode cX1_init 25 = .ok (.bipush 6, 2) := dk_16 6 (dk_at dksX1_init_1 1 rfl rfl)
theorem dX1_init_27 : decode cX1_init 27 = .ok (.newarray .int, 2) := dk_188_10 (dk_at dksX1_init_1 3 rfl rfl)
theorem dX1_init_29 : decode cX1_init 29 = .ok (.putfield 15, 3) := dk_181 0 15 (dk_at dksX1_init_1 5 rfl rfl)
theorem dX1_init_32 : decode cX1_init 32 = .ok (.aload_n 0, 1) := dk_42 (dk_at dksX1_init_1 8 rfl rfl)
theorem dX1_init_33 : decode cX1_init 33 = .ok (.bipush 6, 2) := dk_16 6 (dk_at dksX1_init_1 9 rfl rfl)
theorem dX1_init_35 : decode cX1_init 35 = .ok (.newarray .int, 2) := dk_188_10 (dk_at dksX1_init_1 11 rfl rfl)
theorem dX1_init_37 : decode cX1_init 37 = .ok (.putfield 18, 3) := dk_181 0 18 (dk_at dksX1_init_1 13 rfl rfl)
theorem dX1_init_40 : decode cX1_init 40 = .ok (.aload_n 0, 1) := dk_42 (dk_at dksX1_init_1 16 rfl rfl)
theorem dX1_init_41 : decode cX1_init 41 = .ok (.iconst 4, 1) := dk_7 (dk_at dksX1_init_1 17 rfl rfl)
theorem dX1_init_42 : decode cX1_init 42 = .ok (.newarray .int, 2) := dk_188_10 (dk_at dksX1_init_1 18 rfl rfl)
theorem dX1_init_44 : decode cX1_init 44 = .ok (.putfield 21, 3) := dk_181 0 21 (dk_at dksX1_init_1 20 rfl rfl)
theorem dX1_init_47 : decode cX1_init 47 = .ok (.aload_n 0, 1) := dk_42 (dk_at dksX1_init_1 23 rfl rfl)
theorem dX1_init_48 : decode cX1_init 48 = .ok (.iconst 4, 1) := dk_7 (dk_at dksX1_init_2 0 rfl rfl)
theorem dX1_init_49 : decode cX1_init 49 = .ok (.newarray .int, 2) := dk_188_10 (dk_at dksX1_init_2 1 rfl rfl)
theorem dX1_init_51 : decode cX1_init 51 = .ok (.putfield 24, 3) := dk_181 0 24 (dk_at dksX1_init_2 3 rfl rfl)
theorem dX1_init_54 : decode cX1_init 54 = .ok (.aload_n 0, 1) := dk_42 (dk_at dksX1_init_2 6 rfl rfl)
theorem dX1_init_55 : decode cX1_init 55 = .ok (.iconst 4, 1) := dk_7 (dk_at dksX1_init_2 7 rfl rfl)
theorem dX1_init_56 : decode cX1_init 56 = .ok (.newarray .int, 2) := dk_188_10 (dk_at dksX1_init_2 8 rfl rfl)
theorem dX1_init_58 : decode cX1_init 58 = .ok (.putfield 27, 3) := dk_181 0 27 (dk_at dksX1_init_2 10 rfl rfl)
theorem dX1_init_61 : decode cX1_init 61 = .ok (.return_, 1) := dk_177 (dk_at dksX1_init_2 13 rfl rfl)
abbrev cX1_isBoat : ByteArray := prog_3_method_3_code
def yX1_isBoat : MethodName := ⟨RX1, "isBoat", "(I)Z"⟩
def dkwX1_isBoat_0 : List UInt8 := [27, 42, 180, 0, 9, 5, 46, 112, 154, 0, 7, 4, 167, 0, 4, 3, 172]
abbrev dktX1_isBoat_0 : List UInt8 := dkwX1_isBoat_0 ++ []
theorem dksX1_isBoat_0 : cX1_isBoat.data.toList.drop 0 = dktX1_isBoat_0 := by decide +kernel
theorem dX1_isBoat_0 : decode cX1_isBoat 0 = .ok (.iload_n 1, 1) := dk_27 (dk_at dksX1_isBoat_0 0 rfl rfl)
theorem dX1_isBoat_1 : decode cX1_isBoat 1 = .ok (.aload_n 0, 1) := dk_42 (dk_at dksX1_isBoat_0 1 rfl rfl)
theorem dX1_isBoat_2 : decode cX1_isBoat 2 = .ok (.getfield 9, 3) := dk_180 0 9 (dk_at dksX1_isBoat_0 2 rfl rfl)
theorem dX1_isBoat_5 : decode cX1_isBoat 5 = .ok (.iconst 2, 1) := dk_5 (dk_at dksX1_isBoat_0 5 rfl rfl)
theorem dX1_isBoat_6 : decode cX1_isBoat 6 = .ok (.iaload, 1) := dk_46 (dk_at dksX1_isBoat_0 6 rfl rfl)
theorem dX1_isBoat_7 : decode cX1_isBoat 7 = .ok (.irem, 1) := dk_112 (dk_at dksX1_isBoat_0 7 rfl rfl)
theorem dX1_isBoat_8 : decode cX1_isBoat 8 = .ok (.ifCond .ne 7, 3) := dk_154 0 7 (dk_at dksX1_isBoat_0 8 rfl rfl)
theorem dX1_isBoat_11 : decode cX1_isBoat 11 = .ok (.iconst 1, 1) := dk_4 (dk_at dksX1_isBoat_0 11 rfl rfl)
theorem dX1_isBoat_12 : decode cX1_isBoat 12 = .ok (.goto 4, 3) := dk_167 0 4 (dk_at dksX1_isBoat_0 12 rfl rfl)
theorem dX1_isBoat_15 : decode cX1_isBoat 15 = .ok (.iconst 0, 1) := dk_3 (dk_at dksX1_isBoat_0 15 rfl rfl)
theorem dX1_isBoat_16 : decode cX1_isBoat 16 = .ok (.ireturn, 1) := dk_172 (dk_at dksX1_isBoat_0 16 rfl rfl)
abbrev cX1_copied : ByteArray := prog_3_method_2_code
def yX1_copied : MethodName := ⟨RX1, "copied", "(II)I"⟩
def dkwX1_copied_1 : List UInt8 := [42, 180, 0, 24, 27, 46, 160, 0, 12, 42, 180, 0, 27, 27, 46, 167, 0, 4, 28, 172]
abbrev dktX1_copied_1 : List UInt8 := dkwX1_copied_1 ++ []
def dkwX1_copied_0 : List UInt8 := [28, 16, 10, 159, 0, 17, 42, 180, 0, 21, 27, 46, 28, 122, 4, 126, 4, 160, 0, 6, 16, 10, 172, 28]
abbrev dktX1_copied_0 : List UInt8 := dkwX1_copied_0 ++ dktX1_copied_1
theorem dksX1_copied_0 : cX1_copied.data.toList.drop 0 = dktX1_copied_0 := by decide +kernel
theorem dksX1_copied_1 : cX1_copied.data.toList.drop 24 = dktX1_copied_1 := dk_seg dksX1_copied_0 24 rfl rfl
theorem dX1_copied_0 : decode cX1_copied 0 = .ok (.iload_n 2, 1) := dk_28 (dk_at dksX1_copied_0 0 rfl rfl)
theorem dX1_copied_1 : decode cX1_copied 1 = .ok (.bipush 10, 2) := dk_16 10 (dk_at dksX1_copied_0 1 rfl rfl)
theorem dX1_copied_3 : decode cX1_copied 3 = .ok (.if_icmp .eq 17, 3) := dk_159 0 17 (dk_at dksX1_copied_0 3 rfl rfl)
theorem dX1_copied_6 : decode cX1_copied 6 = .ok (.aload_n 0, 1) := dk_42 (dk_at dksX1_copied_0 6 rfl rfl)
theorem dX1_copied_7 : decode cX1_copied 7 = .ok (.getfield 21, 3) := dk_180 0 21 (dk_at dksX1_copied_0 7 rfl rfl)
theorem dX1_copied_10 : decode cX1_copied 10 = .ok (.iload_n 1, 1) := dk_27 (dk_at dksX1_copied_0 10 rfl rfl)
theorem dX1_copied_11 : decode cX1_copied 11 = .ok (.iaload, 1) := dk_46 (dk_at dksX1_copied_0 11 rfl rfl)
theorem dX1_copied_12 : decode cX1_copied 12 = .ok (.iload_n 2, 1) := dk_28 (dk_at dksX1_copied_0 12 rfl rfl)
theorem dX1_copied_13 : decode cX1_copied 13 = .ok (.ishr, 1) := dk_122 (dk_at dksX1_copied_0 13 rfl rfl)
theorem dX1_copied_14 : decode cX1_copied 14 = .ok (.iconst 1, 1) := dk_4 (dk_at dksX1_copied_0 14 rfl rfl)
theorem dX1_copied_15 : decode cX1_copied 15 = .ok (.iand, 1) := dk_126 (dk_at dksX1_copied_0 15 rfl rfl)
theorem dX1_copied_16 : decode cX1_copied 16 = .ok (.iconst 1, 1) := dk_4 (dk_at dksX1_copied_0 16 rfl rfl)
theorem dX1_copied_17 : decode cX1_copied 17 = .ok (.if_icmp .ne 6, 3) := dk_160 0 6 (dk_at dksX1_copied_0 17 rfl rfl)
theorem dX1_copied_20 : decode cX1_copied 20 = .ok (.bipush 10, 2) := dk_16 10 (dk_at dksX1_copied_0 20 rfl rfl)
theorem dX1_copied_22 : decode cX1_copied 22 = .ok (.ireturn, 1) := dk_172 (dk_at dksX1_copied_0 22 rfl rfl)
theorem dX1_copied_23 : decode cX1_copied 23 = .ok (.iload_n 2, 1) := dk_28 (dk_at dksX1_copied_0 23 rfl rfl)
theorem dX1_copied_24 : decode cX1_copied 24 = .ok (.aload_n 0, 1) := dk_42 (dk_at dksX1_copied_1 0 rfl rfl)
theorem dX1_copied_25 : decode cX1_copied 25 = .ok (.getfield 24, 3) := dk_180 0 24 (dk_at dksX1_copied_1 1 rfl rfl)
theorem dX1_copied_28 : decode cX1_copied 28 = .ok (.iload_n 1, 1) := dk_27 (dk_at dksX1_copied_1 4 rfl rfl)
theorem dX1_copied_29 : decode cX1_copied 29 = .ok (.iaload, 1) := dk_46 (dk_at dksX1_copied_1 5 rfl rfl)
theorem dX1_copied_30 : decode cX1_copied 30 = .ok (.if_icmp .ne 12, 3) := dk_160 0 12 (dk_at dksX1_copied_1 6 rfl rfl)
theorem dX1_copied_33 : decode cX1_copied 33 = .ok (.aload_n 0, 1) := dk_42 (dk_at dksX1_copied_1 9 rfl rfl)
theorem dX1_copied_34 : decode cX1_copied 34 = .ok (.getfield 27, 3) := dk_180 0 27 (dk_at dksX1_copied_1 10 rfl rfl)
theorem dX1_copied_37 : decode cX1_copied 37 = .ok (.iload_n 1, 1) := dk_27 (dk_at dksX1_copied_1 13 rfl rfl)
theorem dX1_copied_38 : decode cX1_copied 38 = .ok (.iaload, 1) := dk_46 (dk_at dksX1_copied_1 14 rfl rfl)
theorem dX1_copied_39 : decode cX1_copied 39 = .ok (.goto 4, 3) := dk_167 0 4 (dk_at dksX1_copied_1 15 rfl rfl)
theorem dX1_copied_42 : decode cX1_copied 42 = .ok (.iload_n 2, 1) := dk_28 (dk_at dksX1_copied_1 18 rfl rfl)
theorem dX1_copied_43 : decode cX1_copied 43 = .ok (.ireturn, 1) := dk_172 (dk_at dksX1_copied_1 19 rfl rfl)
theorem q61 : (Jvm.Cond.initialized "SmokedLetters$Book") ∈ lw_all := lw_g (lw_at lw_m1 2 rfl) rfl
theorem q93 : (Jvm.Cond.instantiable "SmokedLetters$Book" (9 : Nat)) ∈ lw_all := lw_g (lw_at lw_m1 34 rfl) rfl
theorem q95 : (Jvm.Cond.instanceMethod ({ cls := "SmokedLetters$Book", name := "<init>", desc := "()V" } : Jvm.MethodName)) ∈ lw_all := lw_g (lw_at lw_m1 36 rfl) rfl
theorem q96 : (Jvm.Cond.code ({ cls := "SmokedLetters$Book", name := "<init>", desc := "()V" } : Jvm.MethodName) prog_3_method_1_code (1 : Nat) (Option.none : Option Jvm.ClassFile.FieldType)) ∈ lw_all := lw_g (lw_at lw_m1 37 rfl) rfl
theorem q97 : (Jvm.Cond.methodLink "SmokedLetters$Book" (3 : Nat) ({ cls := "java/lang/Object", name := "<init>", desc := "()V" } : Jvm.MethodName)) ∈ lw_all := lw_g (lw_at lw_m1 38 rfl) rfl
theorem q98 : (Jvm.Cond.fieldLink "SmokedLetters$Book" (9 : Nat) "SmokedLetters$Book" "law" "[I") ∈ lw_all := lw_g (lw_at lw_m1 39 rfl) rfl
theorem q102 : (Jvm.Cond.fieldLink "SmokedLetters$Book" (15 : Nat) "SmokedLetters$Book" "comes" "[I") ∈ lw_all := lw_g (lw_at lw_m1 43 rfl) rfl
theorem q105 : (Jvm.Cond.fieldLink "SmokedLetters$Book" (18 : Nat) "SmokedLetters$Book" "chance" "[I") ∈ lw_all := lw_g (lw_at lw_m1 46 rfl) rfl
theorem q108 : (Jvm.Cond.fieldLink "SmokedLetters$Book" (21 : Nat) "SmokedLetters$Book" "burns" "[I") ∈ lw_all := lw_g (lw_at lw_m1 49 rfl) rfl
theorem q112 : (Jvm.Cond.fieldLink "SmokedLetters$Book" (24 : Nat) "SmokedLetters$Book" "mercyOf" "[I") ∈ lw_all := lw_g (lw_at lw_m1 53 rfl) rfl
theorem q116 : (Jvm.Cond.fieldLink "SmokedLetters$Book" (27 : Nat) "SmokedLetters$Book" "mercyTo" "[I") ∈ lw_all := lw_g (lw_at lw_m1 57 rfl) rfl
theorem q127 : (Jvm.Cond.laysFinal "SmokedLetters$Book" "SmokedLetters$Book" "law" "[I") ∈ lw_all := lw_g (lw_at lw_m1 68 rfl) rfl
theorem q128 : (Jvm.Cond.soleField "SmokedLetters$Book" "law") ∈ lw_all := lw_g (lw_at lw_m1 69 rfl) rfl
theorem q129 : (Jvm.Cond.laysFinal "SmokedLetters$Book" "SmokedLetters$Book" "comes" "[I") ∈ lw_all := lw_g (lw_at lw_m1 70 rfl) rfl
theorem q130 : (Jvm.Cond.soleField "SmokedLetters$Book" "comes") ∈ lw_all := lw_g (lw_at lw_m1 71 rfl) rfl
theorem q131 : (Jvm.Cond.laysFinal "SmokedLetters$Book" "SmokedLetters$Book" "chance" "[I") ∈ lw_all := lw_g (lw_at lw_m1 72 rfl) rfl
theorem q132 : (Jvm.Cond.soleField "SmokedLetters$Book" "chance") ∈ lw_all := lw_g (lw_at lw_m1 73 rfl) rfl
theorem q133 : (Jvm.Cond.laysFinal "SmokedLetters$Book" "SmokedLetters$Book" "burns" "[I") ∈ lw_all := lw_g (lw_at lw_m1 74 rfl) rfl
theorem q134 : (Jvm.Cond.soleField "SmokedLetters$Book" "burns") ∈ lw_all := lw_g (lw_at lw_m1 75 rfl) rfl
theorem q135 : (Jvm.Cond.laysFinal "SmokedLetters$Book" "SmokedLetters$Book" "mercyOf" "[I") ∈ lw_all := lw_g (lw_at lw_m1 76 rfl) rfl
theorem q136 : (Jvm.Cond.soleField "SmokedLetters$Book" "mercyOf") ∈ lw_all := lw_g (lw_at lw_m1 77 rfl) rfl
theorem q137 : (Jvm.Cond.laysFinal "SmokedLetters$Book" "SmokedLetters$Book" "mercyTo" "[I") ∈ lw_all := lw_g (lw_at lw_m1 78 rfl) rfl
theorem q138 : (Jvm.Cond.soleField "SmokedLetters$Book" "mercyTo") ∈ lw_all := lw_g (lw_at lw_m1 79 rfl) rfl
theorem q139 : (Jvm.Cond.lays "SmokedLetters$Book" "SmokedLetters$Book" "travellers" "I") ∈ lw_all := lw_g (lw_at lw_m1 80 rfl) rfl
theorem q140 : (Jvm.Cond.soleField "SmokedLetters$Book" "travellers") ∈ lw_all := lw_g (lw_at lw_m1 81 rfl) rfl
theorem q141 : (Jvm.Cond.lays "SmokedLetters$Book" "SmokedLetters$Book" "clerks" "I") ∈ lw_all := lw_g (lw_at lw_m1 82 rfl) rfl
theorem q142 : (Jvm.Cond.soleField "SmokedLetters$Book" "clerks") ∈ lw_all := lw_g (lw_at lw_m1 83 rfl) rfl
theorem q143 : (Jvm.Cond.lays "SmokedLetters$Book" "SmokedLetters$Book" "items" "I") ∈ lw_all := lw_g (lw_at lw_m1 84 rfl) rfl
theorem q144 : (Jvm.Cond.soleField "SmokedLetters$Book" "items") ∈ lw_all := lw_g (lw_at lw_m1 85 rfl) rfl
theorem q145 : (Jvm.Cond.superclass "SmokedLetters$Book" "java/lang/Object") ∈ lw_all := lw_g (lw_at lw_m1 86 rfl) rfl
theorem q605 : (Jvm.Cond.instanceMethod ({ cls := "SmokedLetters$Book", name := "isBoat", desc := "(I)Z" } : Jvm.MethodName)) ∈ lw_all := lw_g (lw_at lw_m3 66 rfl) rfl
theorem q606 : (Jvm.Cond.selects "SmokedLetters$Book" ({ cls := "SmokedLetters$Book", name := "isBoat", desc := "(I)Z" } : Jvm.MethodName) ({ cls := "SmokedLetters$Book", name := "isBoat", desc := "(I)Z" } : Jvm.MethodName)) ∈ lw_all := lw_g (lw_at lw_m3 67 rfl) rfl
theorem q607 : (Jvm.Cond.code ({ cls := "SmokedLetters$Book", name := "isBoat", desc := "(I)Z" } : Jvm.MethodName) prog_3_method_3_code (2 : Nat) (Option.some Jvm.ClassFile.FieldType.boolean)) ∈ lw_all := lw_g (lw_at lw_m3 68 rfl) rfl
theorem q742 : (Jvm.Cond.instanceMethod ({ cls := "SmokedLetters$Book", name := "copied", desc := "(II)I" } : Jvm.MethodName)) ∈ lw_all := lw_g (lw_at lw_m3 203 rfl) rfl
theorem q743 : (Jvm.Cond.selects "SmokedLetters$Book" ({ cls := "SmokedLetters$Book", name := "copied", desc := "(II)I" } : Jvm.MethodName) ({ cls := "SmokedLetters$Book", name := "copied", desc := "(II)I" } : Jvm.MethodName)) ∈ lw_all := lw_g (lw_at lw_m3 204 rfl) rfl
theorem q744 : (Jvm.Cond.code ({ cls := "SmokedLetters$Book", name := "copied", desc := "(II)I" } : Jvm.MethodName) prog_3_method_2_code (3 : Nat) (Option.some Jvm.ClassFile.FieldType.int)) ∈ lw_all := lw_g (lw_at lw_m3 205 rfl) rfl
theorem in_X1 : ∀ w ∈ wsX10, w ∈ lw_all := lw_in wsX10 [127, 129, 131, 133, 135, 137, 139, 141, 143] (by decide +kernel) (by decide +kernel)

/-! SmokedLetters$Reader -/
set_option maxRecDepth 100000
def RX10 : String := "SmokedLetters$Reader"
def TX10 : u_T := fun k => match k with
  | 0 => ("SmokedLetters$Reader", "at", "I", false)
  | 1 => ("SmokedLetters$Reader", "start", "I", false)
  | 2 => ("SmokedLetters$Reader", "sort", "I", false)
  | 3 => ("SmokedLetters$Reader", "value", "I", false)
  | 4 => ("SmokedLetters$Reader", "told", "I", false)
  | 5 => ("SmokedLetters$Reader", "made", "LSmokedLetters$Book;", true)
  | _ => ("SmokedLetters$Reader", "this$0", "LSmokedLetters;", true)
def tyX10 : Nat → FieldType := fun k => match k with
  | 0 => .int
  | 1 => .int
  | 2 => .int
  | 3 => .int
  | 4 => .int
  | 5 => .object "SmokedLetters$Book"
  | _ => .object "SmokedLetters"
abbrev wsX100 : List Cond := u_ws RX10 TX10 7
theorem nmX10 : ∀ a, a < 7 → ∀ b, b < 7 → a ≠ b → (TX10 a).2.1 ≠ (TX10 b).2.1 := by decide +kernel
theorem tyX10_ok : ∀ k, k < 7 → parseFieldDescriptor (TX10 k).2.2.1 = some (tyX10 k) := by decide +kernel
abbrev cX10_init : ByteArray := prog_10_method_1_code
def yX10_init : MethodName := ⟨RX10, "<init>", "(LSmokedLetters;)V"⟩
def dkwX10_init_0 : List UInt8 := [42, 43, 181, 0, 3, 42, 183, 0, 9, 42, 187, 0, 15, 89, 183, 0, 17, 181, 0, 18, 177]
abbrev dktX10_init_0 : List UInt8 := dkwX10_init_0 ++ []
theorem dksX10_init_0 : cX10_init.data.toList.drop 0 = dktX10_init_0 := by decide +kernel
theorem dX10_init_0 : decode cX10_init 0 = .ok (.aload_n 0, 1) := dk_42 (dk_at dksX10_init_0 0 rfl rfl)
theorem dX10_init_1 : decode cX10_init 1 = .ok (.aload_n 1, 1) := dk_43 (dk_at dksX10_init_0 1 rfl rfl)
theorem dX10_init_2 : decode cX10_init 2 = .ok (.putfield 3, 3) := dk_181 0 3 (dk_at dksX10_init_0 2 rfl rfl)
theorem dX10_init_5 : decode cX10_init 5 = .ok (.aload_n 0, 1) := dk_42 (dk_at dksX10_init_0 5 rfl rfl)
theorem dX10_init_6 : decode cX10_init 6 = .ok (.invokespecial 9, 3) := dk_183 0 9 (dk_at dksX10_init_0 6 rfl rfl)
theorem dX10_init_9 : decode cX10_init 9 = .ok (.aload_n 0, 1) := dk_42 (dk_at dksX10_init_0 9 rfl rfl)
theorem dX10_init_10 : decode cX10_init 10 = .ok (.new 15, 3) := dk_187 0 15 (dk_at dksX10_init_0 10 rfl rfl)
theorem dX10_init_13 : decode cX10_init 13 = .ok (.dup, 1) := dk_89 (dk_at dksX10_init_0 13 rfl rfl)
theorem dX10_init_14 : decode cX10_init 14 = .ok (.invokespecial 17, 3) := dk_183 0 17 (dk_at dksX10_init_0 14 rfl rfl)
theorem dX10_init_17 : decode cX10_init 17 = .ok (.putfield 18, 3) := dk_181 0 18 (dk_at dksX10_init_0 17 rfl rfl)
theorem dX10_init_20 : decode cX10_init 20 = .ok (.return_, 1) := dk_177 (dk_at dksX10_init_0 20 rfl rfl)
abbrev cX10_read : ByteArray := prog_10_method_8_code
def yX10_read : MethodName := ⟨RX10, "read", "()LSmokedLetters$Book;"⟩
def dkwX10_read_3 : List UInt8 := [180, 0, 117, 4, 96, 181, 0, 117, 167, 255, 183, 42, 180, 0, 18, 176]
abbrev dktX10_read_3 : List UInt8 := dkwX10_read_3 ++ []
def dkwX10_read_2 : List UInt8 := [180, 0, 43, 16, 6, 160, 0, 7, 4, 167, 0, 4, 3, 182, 0, 72, 87, 42, 180, 0, 18, 89]
abbrev dktX10_read_2 : List UInt8 := dkwX10_read_2 ++ dktX10_read_3
def dkwX10_read_1 : List UInt8 := [182, 0, 72, 87, 42, 89, 180, 0, 107, 4, 27, 120, 128, 181, 0, 107, 42, 27, 182, 0, 114, 42, 42]
abbrev dktX10_read_1 : List UInt8 := dkwX10_read_1 ++ dktX10_read_2
def dkwX10_read_0 : List UInt8 := [42, 182, 0, 69, 42, 180, 0, 43, 16, 7, 159, 0, 70, 42, 180, 0, 43, 60, 42, 42, 27, 182, 0, 110]
abbrev dktX10_read_0 : List UInt8 := dkwX10_read_0 ++ dktX10_read_1
theorem dksX10_read_0 : cX10_read.data.toList.drop 0 = dktX10_read_0 := by decide +kernel
theorem dksX10_read_1 : cX10_read.data.toList.drop 24 = dktX10_read_1 := dk_seg dksX10_read_0 24 rfl rfl
theorem dksX10_read_2 : cX10_read.data.toList.drop 47 = dktX10_read_2 := dk_seg dksX10_read_1 23 rfl rfl
theorem dksX10_read_3 : cX10_read.data.toList.drop 69 = dktX10_read_3 := dk_seg dksX10_read_2 22 rfl rfl
theorem dX10_read_0 : decode cX10_read 0 = .ok (.aload_n 0, 1) := dk_42 (dk_at dksX10_read_0 0 rfl rfl)
theorem dX10_read_1 : decode cX10_read 1 = .ok (.invokevirtual 69, 3) := dk_182 0 69 (dk_at dksX10_read_0 1 rfl rfl)
theorem dX10_read_4 : decode cX10_read 4 = .ok (.aload_n 0, 1) := dk_42 (dk_at dksX10_read_0 4 rfl rfl)
theorem dX10_read_5 : decode cX10_read 5 = .ok (.getfield 43, 3) := dk_180 0 43 (dk_at dksX10_read_0 5 rfl rfl)
theorem dX10_read_8 : decode cX10_read 8 = .ok (.bipush 7, 2) := dk_16 7 (dk_at dksX10_read_0 8 rfl rfl)
theorem dX10_read_10 : decode cX10_read 10 = .ok (.if_icmp .eq 70, 3) := dk_159 0 70 (dk_at dksX10_read_0 10 rfl rfl)
theorem dX10_read_13 : decode cX10_read 13 = .ok (.aload_n 0, 1) := dk_42 (dk_at dksX10_read_0 13 rfl rfl)
theorem dX10_read_14 : decode cX10_read 14 = .ok (.getfield 43, 3) := dk_180 0 43 (dk_at dksX10_read_0 14 rfl rfl)
theorem dX10_read_17 : decode cX10_read 17 = .ok (.istore_n 1, 1) := dk_60 (dk_at dksX10_read_0 17 rfl rfl)
theorem dX10_read_18 : decode cX10_read 18 = .ok (.aload_n 0, 1) := dk_42 (dk_at dksX10_read_0 18 rfl rfl)
theorem dX10_read_19 : decode cX10_read 19 = .ok (.aload_n 0, 1) := dk_42 (dk_at dksX10_read_0 19 rfl rfl)
theorem dX10_read_20 : decode cX10_read 20 = .ok (.iload_n 1, 1) := dk_27 (dk_at dksX10_read_0 20 rfl rfl)
theorem dX10_read_21 : decode cX10_read 21 = .ok (.invokevirtual 110, 3) := dk_182 0 110 (dk_at dksX10_read_0 21 rfl rfl)
theorem dX10_read_24 : decode cX10_read 24 = .ok (.invokevirtual 72, 3) := dk_182 0 72 (dk_at dksX10_read_1 0 rfl rfl)
theorem dX10_read_27 : decode cX10_read 27 = .ok (.pop, 1) := dk_87 (dk_at dksX10_read_1 3 rfl rfl)
theorem dX10_read_28 : decode cX10_read 28 = .ok (.aload_n 0, 1) := dk_42 (dk_at dksX10_read_1 4 rfl rfl)
theorem dX10_read_29 : decode cX10_read 29 = .ok (.dup, 1) := dk_89 (dk_at dksX10_read_1 5 rfl rfl)
theorem dX10_read_30 : decode cX10_read 30 = .ok (.getfield 107, 3) := dk_180 0 107 (dk_at dksX10_read_1 6 rfl rfl)
theorem dX10_read_33 : decode cX10_read 33 = .ok (.iconst 1, 1) := dk_4 (dk_at dksX10_read_1 9 rfl rfl)
theorem dX10_read_34 : decode cX10_read 34 = .ok (.iload_n 1, 1) := dk_27 (dk_at dksX10_read_1 10 rfl rfl)
theorem dX10_read_35 : decode cX10_read 35 = .ok (.ishl, 1) := dk_120 (dk_at dksX10_read_1 11 rfl rfl)
theorem dX10_read_36 : decode cX10_read 36 = .ok (.ior, 1) := dk_128 (dk_at dksX10_read_1 12 rfl rfl)
theorem dX10_read_37 : decode cX10_read 37 = .ok (.putfield 107, 3) := dk_181 0 107 (dk_at dksX10_read_1 13 rfl rfl)
theorem dX10_read_40 : decode cX10_read 40 = .ok (.aload_n 0, 1) := dk_42 (dk_at dksX10_read_1 16 rfl rfl)
theorem dX10_read_41 : decode cX10_read 41 = .ok (.iload_n 1, 1) := dk_27 (dk_at dksX10_read_1 17 rfl rfl)
theorem dX10_read_42 : decode cX10_read 42 = .ok (.invokevirtual 114, 3) := dk_182 0 114 (dk_at dksX10_read_1 18 rfl rfl)
theorem dX10_read_45 : decode cX10_read 45 = .ok (.aload_n 0, 1) := dk_42 (dk_at dksX10_read_1 21 rfl rfl)
theorem dX10_read_46 : decode cX10_read 46 = .ok (.aload_n 0, 1) := dk_42 (dk_at dksX10_read_1 22 rfl rfl)
theorem dX10_read_47 : decode cX10_read 47 = .ok (.getfield 43, 3) := dk_180 0 43 (dk_at dksX10_read_2 0 rfl rfl)
theorem dX10_read_50 : decode cX10_read 50 = .ok (.bipush 6, 2) := dk_16 6 (dk_at dksX10_read_2 3 rfl rfl)
theorem dX10_read_52 : decode cX10_read 52 = .ok (.if_icmp .ne 7, 3) := dk_160 0 7 (dk_at dksX10_read_2 5 rfl rfl)
theorem dX10_read_55 : decode cX10_read 55 = .ok (.iconst 1, 1) := dk_4 (dk_at dksX10_read_2 8 rfl rfl)
theorem dX10_read_56 : decode cX10_read 56 = .ok (.goto 4, 3) := dk_167 0 4 (dk_at dksX10_read_2 9 rfl rfl)
theorem dX10_read_59 : decode cX10_read 59 = .ok (.iconst 0, 1) := dk_3 (dk_at dksX10_read_2 12 rfl rfl)
theorem dX10_read_60 : decode cX10_read 60 = .ok (.invokevirtual 72, 3) := dk_182 0 72 (dk_at dksX10_read_2 13 rfl rfl)
theorem dX10_read_63 : decode cX10_read 63 = .ok (.pop, 1) := dk_87 (dk_at dksX10_read_2 16 rfl rfl)
theorem dX10_read_64 : decode cX10_read 64 = .ok (.aload_n 0, 1) := dk_42 (dk_at dksX10_read_2 17 rfl rfl)
theorem dX10_read_65 : decode cX10_read 65 = .ok (.getfield 18, 3) := dk_180 0 18 (dk_at dksX10_read_2 18 rfl rfl)
theorem dX10_read_68 : decode cX10_read 68 = .ok (.dup, 1) := dk_89 (dk_at dksX10_read_2 21 rfl rfl)
theorem dX10_read_69 : decode cX10_read 69 = .ok (.getfield 117, 3) := dk_180 0 117 (dk_at dksX10_read_3 0 rfl rfl)
theorem dX10_read_72 : decode cX10_read 72 = .ok (.iconst 1, 1) := dk_4 (dk_at dksX10_read_3 3 rfl rfl)
theorem dX10_read_73 : decode cX10_read 73 = .ok (.iadd, 1) := dk_96 (dk_at dksX10_read_3 4 rfl rfl)
theorem dX10_read_74 : decode cX10_read 74 = .ok (.putfield 117, 3) := dk_181 0 117 (dk_at dksX10_read_3 5 rfl rfl)
theorem dX10_read_77 : decode cX10_read 77 = .ok (.goto (-73), 3) := dk_167 255 183 (dk_at dksX10_read_3 8 rfl rfl)
theorem dX10_read_80 : decode cX10_read 80 = .ok (.aload_n 0, 1) := dk_42 (dk_at dksX10_read_3 11 rfl rfl)
theorem dX10_read_81 : decode cX10_read 81 = .ok (.getfield 18, 3) := dk_180 0 18 (dk_at dksX10_read_3 12 rfl rfl)
theorem dX10_read_84 : decode cX10_read 84 = .ok (.areturn, 1) := dk_176 (dk_at dksX10_read_3 15 rfl rfl)
abbrev cX10_next : ByteArray := prog_10_method_3_code
def yX10_next : MethodName := ⟨RX10, "next", "()V"⟩
def dkwX10_next_8 : List UInt8 := [155, 0, 7, 28, 167, 0, 5, 16, 8, 181, 0, 43, 177]
abbrev dktX10_next_8 : List UInt8 := dkwX10_next_8 ++ []
def dkwX10_next_7 : List UInt8 := [181, 0, 22, 18, 56, 27, 182, 0, 58, 61, 42, 27, 16, 59, 160, 0, 8, 16, 6, 167, 0, 13, 28]
abbrev dktX10_next_7 : List UInt8 := dkwX10_next_7 ++ dktX10_next_8
def dkwX10_next_6 : List UInt8 := [4, 164, 0, 8, 16, 8, 167, 0, 4, 8, 181, 0, 43, 167, 0, 45, 42, 89, 180, 0, 22, 4, 96]
abbrev dktX10_next_6 : List UInt8 := dkwX10_next_6 ++ dktX10_next_7
def dkwX10_next_5 : List UInt8 := [180, 0, 40, 17, 3, 255, 163, 0, 22, 27, 16, 48, 160, 0, 21, 42, 180, 0, 22, 42, 180, 0, 37, 100]
abbrev dktX10_next_5 : List UInt8 := dkwX10_next_5 ++ dktX10_next_6
def dkwX10_next_4 : List UInt8 := [16, 48, 100, 184, 0, 50, 181, 0, 40, 42, 89, 180, 0, 22, 4, 96, 181, 0, 22, 167, 255, 207, 42, 42]
abbrev dktX10_next_4 : List UInt8 := dkwX10_next_4 ++ dktX10_next_5
def dkwX10_next_3 : List UInt8 := [16, 57, 184, 0, 46, 153, 0, 41, 42, 17, 4, 0, 16, 10, 42, 180, 0, 40, 104, 42, 182, 0, 33, 96]
abbrev dktX10_next_3 : List UInt8 := dkwX10_next_3 ++ dktX10_next_4
def dkwX10_next_2 : List UInt8 := [181, 0, 43, 167, 0, 150, 27, 16, 48, 16, 57, 184, 0, 46, 153, 0, 97, 42, 182, 0, 33, 16, 48]
abbrev dktX10_next_2 : List UInt8 := dkwX10_next_2 ++ dktX10_next_3
def dkwX10_next_1 : List UInt8 := [180, 0, 22, 181, 0, 37, 42, 3, 181, 0, 40, 42, 182, 0, 33, 60, 27, 156, 0, 12, 42, 16, 7]
abbrev dktX10_next_1 : List UInt8 := dkwX10_next_1 ++ dktX10_next_2
def dkwX10_next_0 : List UInt8 := [42, 182, 0, 33, 16, 32, 160, 0, 16, 42, 89, 180, 0, 22, 4, 96, 181, 0, 22, 167, 255, 237, 42, 42]
abbrev dktX10_next_0 : List UInt8 := dkwX10_next_0 ++ dktX10_next_1
theorem dksX10_next_0 : cX10_next.data.toList.drop 0 = dktX10_next_0 := by decide +kernel
theorem dksX10_next_1 : cX10_next.data.toList.drop 24 = dktX10_next_1 := dk_seg dksX10_next_0 24 rfl rfl
theorem dksX10_next_2 : cX10_next.data.toList.drop 47 = dktX10_next_2 := dk_seg dksX10_next_1 23 rfl rfl
theorem dksX10_next_3 : cX10_next.data.toList.drop 70 = dktX10_next_3 := dk_seg dksX10_next_2 23 rfl rfl
theorem dksX10_next_4 : cX10_next.data.toList.drop 94 = dktX10_next_4 := dk_seg dksX10_next_3 24 rfl rfl
theorem dksX10_next_5 : cX10_next.data.toList.drop 118 = dktX10_next_5 := dk_seg dksX10_next_4 24 rfl rfl
theorem dksX10_next_6 : cX10_next.data.toList.drop 142 = dktX10_next_6 := dk_seg dksX10_next_5 24 rfl rfl
theorem dksX10_next_7 : cX10_next.data.toList.drop 165 = dktX10_next_7 := dk_seg dksX10_next_6 23 rfl rfl
theorem dksX10_next_8 : cX10_next.data.toList.drop 188 = dktX10_next_8 := dk_seg dksX10_next_7 23 rfl rfl
theorem dX10_next_0 : decode cX10_next 0 = .ok (.aload_n 0, 1) := dk_42 (dk_at dksX10_next_0 0 rfl rfl)
theorem dX10_next_1 : decode cX10_next 1 = .ok (.invokevirtual 33, 3) := dk_182 0 33 (dk_at dksX10_next_0 1 rfl rfl)
theorem dX10_next_4 : decode cX10_next 4 = .ok (.bipush 32, 2) := dk_16 32 (dk_at dksX10_next_0 4 rfl rfl)
theorem dX10_next_6 : decode cX10_next 6 = .ok (.if_icmp .ne 16, 3) := dk_160 0 16 (dk_at dksX10_next_0 6 rfl rfl)
theorem dX10_next_9 : decode cX10_next 9 = .ok (.aload_n 0, 1) := dk_42 (dk_at dksX10_next_0 9 rfl rfl)
theorem dX10_next_10 : decode cX10_next 10 = .ok (.dup, 1) := dk_89 (dk_at dksX10_next_0 10 rfl rfl)
theorem dX10_next_11 : decode cX10_next 11 = .ok (.getfield 22, 3) := dk_180 0 22 (dk_at dksX10_next_0 11 rfl rfl)
theorem dX10_next_14 : decode cX10_next 14 = .ok (.iconst 1, 1) := dk_4 (dk_at dksX10_next_0 14 rfl rfl)
theorem dX10_next_15 : decode cX10_next 15 = .ok (.iadd, 1) := dk_96 (dk_at dksX10_next_0 15 rfl rfl)
theorem dX10_next_16 : decode cX10_next 16 = .ok (.putfield 22, 3) := dk_181 0 22 (dk_at dksX10_next_0 16 rfl rfl)
theorem dX10_next_19 : decode cX10_next 19 = .ok (.goto (-19), 3) := dk_167 255 237 (dk_at dksX10_next_0 19 rfl rfl)
theorem dX10_next_22 : decode cX10_next 22 = .ok (.aload_n 0, 1) := dk_42 (dk_at dksX10_next_0 22 rfl rfl)
theorem dX10_next_23 : decode cX10_next 23 = .ok (.aload_n 0, 1) := dk_42 (dk_at dksX10_next_0 23 rfl rfl)
theorem dX10_next_24 : decode cX10_next 24 = .ok (.getfield 22, 3) := dk_180 0 22 (dk_at dksX10_next_1 0 rfl rfl)
theorem dX10_next_27 : decode cX10_next 27 = .ok (.putfield 37, 3) := dk_181 0 37 (dk_at dksX10_next_1 3 rfl rfl)
theorem dX10_next_30 : decode cX10_next 30 = .ok (.aload_n 0, 1) := dk_42 (dk_at dksX10_next_1 6 rfl rfl)
theorem dX10_next_31 : decode cX10_next 31 = .ok (.iconst 0, 1) := dk_3 (dk_at dksX10_next_1 7 rfl rfl)
theorem dX10_next_32 : decode cX10_next 32 = .ok (.putfield 40, 3) := dk_181 0 40 (dk_at dksX10_next_1 8 rfl rfl)
theorem dX10_next_35 : decode cX10_next 35 = .ok (.aload_n 0, 1) := dk_42 (dk_at dksX10_next_1 11 rfl rfl)
theorem dX10_next_36 : decode cX10_next 36 = .ok (.invokevirtual 33, 3) := dk_182 0 33 (dk_at dksX10_next_1 12 rfl rfl)
theorem dX10_next_39 : decode cX10_next 39 = .ok (.istore_n 1, 1) := dk_60 (dk_at dksX10_next_1 15 rfl rfl)
theorem dX10_next_40 : decode cX10_next 40 = .ok (.iload_n 1, 1) := dk_27 (dk_at dksX10_next_1 16 rfl rfl)
theorem dX10_next_41 : decode cX10_next 41 = .ok (.ifCond .ge 12, 3) := dk_156 0 12 (dk_at dksX10_next_1 17 rfl rfl)
theorem dX10_next_44 : decode cX10_next 44 = .ok (.aload_n 0, 1) := dk_42 (dk_at dksX10_next_1 20 rfl rfl)
theorem dX10_next_45 : decode cX10_next 45 = .ok (.bipush 7, 2) := dk_16 7 (dk_at dksX10_next_1 21 rfl rfl)
theorem dX10_next_47 : decode cX10_next 47 = .ok (.putfield 43, 3) := dk_181 0 43 (dk_at dksX10_next_2 0 rfl rfl)
theorem dX10_next_50 : decode cX10_next 50 = .ok (.goto 150, 3) := dk_167 0 150 (dk_at dksX10_next_2 3 rfl rfl)
theorem dX10_next_53 : decode cX10_next 53 = .ok (.iload_n 1, 1) := dk_27 (dk_at dksX10_next_2 6 rfl rfl)
theorem dX10_next_54 : decode cX10_next 54 = .ok (.bipush 48, 2) := dk_16 48 (dk_at dksX10_next_2 7 rfl rfl)
theorem dX10_next_56 : decode cX10_next 56 = .ok (.bipush 57, 2) := dk_16 57 (dk_at dksX10_next_2 9 rfl rfl)
theorem dX10_next_58 : decode cX10_next 58 = .ok (.invokestatic 46, 3) := dk_184 0 46 (dk_at dksX10_next_2 11 rfl rfl)
theorem dX10_next_61 : decode cX10_next 61 = .ok (.ifCond .eq 97, 3) := dk_153 0 97 (dk_at dksX10_next_2 14 rfl rfl)
theorem dX10_next_64 : decode cX10_next 64 = .ok (.aload_n 0, 1) := dk_42 (dk_at dksX10_next_2 17 rfl rfl)
theorem dX10_next_65 : decode cX10_next 65 = .ok (.invokevirtual 33, 3) := dk_182 0 33 (dk_at dksX10_next_2 18 rfl rfl)
theorem dX10_next_68 : decode cX10_next 68 = .ok (.bipush 48, 2) := dk_16 48 (dk_at dksX10_next_2 21 rfl rfl)
theorem dX10_next_70 : decode cX10_next 70 = .ok (.bipush 57, 2) := dk_16 57 (dk_at dksX10_next_3 0 rfl rfl)
theorem dX10_next_72 : decode cX10_next 72 = .ok (.invokestatic 46, 3) := dk_184 0 46 (dk_at dksX10_next_3 2 rfl rfl)
theorem dX10_next_75 : decode cX10_next 75 = .ok (.ifCond .eq 41, 3) := dk_153 0 41 (dk_at dksX10_next_3 5 rfl rfl)
theorem dX10_next_78 : decode cX10_next 78 = .ok (.aload_n 0, 1) := dk_42 (dk_at dksX10_next_3 8 rfl rfl)
theorem dX10_next_79 : decode cX10_next 79 = .ok (.sipush 1024, 3) := dk_17 4 0 (dk_at dksX10_next_3 9 rfl rfl)
theorem dX10_next_82 : decode cX10_next 82 = .ok (.bipush 10, 2) := dk_16 10 (dk_at dksX10_next_3 12 rfl rfl)
theorem dX10_next_84 : decode cX10_next 84 = .ok (.aload_n 0, 1) := dk_42 (dk_at dksX10_next_3 14 rfl rfl)
theorem dX10_next_85 : decode cX10_next 85 = .ok (.getfield 40, 3) := dk_180 0 40 (dk_at dksX10_next_3 15 rfl rfl)
theorem dX10_next_88 : decode cX10_next 88 = .ok (.imul, 1) := dk_104 (dk_at dksX10_next_3 18 rfl rfl)
theorem dX10_next_89 : decode cX10_next 89 = .ok (.aload_n 0, 1) := dk_42 (dk_at dksX10_next_3 19 rfl rfl)
theorem dX10_next_90 : decode cX10_next 90 = .ok (.invokevirtual 33, 3) := dk_182 0 33 (dk_at dksX10_next_3 20 rfl rfl)
theorem dX10_next_93 : decode cX10_next 93 = .ok (.iadd, 1) := dk_96 (dk_at dksX10_next_3 23 rfl rfl)
theorem dX10_next_94 : decode cX10_next 94 = .ok (.bipush 48, 2) := dk_16 48 (dk_at dksX10_next_4 0 rfl rfl)
theorem dX10_next_96 : decode cX10_next 96 = .ok (.isub, 1) := dk_100 (dk_at dksX10_next_4 2 rfl rfl)
theorem dX10_next_97 : decode cX10_next 97 = .ok (.invokestatic 50, 3) := dk_184 0 50 (dk_at dksX10_next_4 3 rfl rfl)
theorem dX10_next_100 : decode cX10_next 100 = .ok (.putfield 40, 3) := dk_181 0 40 (dk_at dksX10_next_4 6 rfl rfl)
theorem dX10_next_103 : decode cX10_next 103 = .ok (.aload_n 0, 1) := dk_42 (dk_at dksX10_next_4 9 rfl rfl)
theorem dX10_next_104 : decode cX10_next 104 = .ok (.dup, 1) := dk_89 (dk_at dksX10_next_4 10 rfl rfl)
theorem dX10_next_105 : decode cX10_next 105 = .ok (.getfield 22, 3) := dk_180 0 22 (dk_at dksX10_next_4 11 rfl rfl)
theorem dX10_next_108 : decode cX10_next 108 = .ok (.iconst 1, 1) := dk_4 (dk_at dksX10_next_4 14 rfl rfl)
theorem dX10_next_109 : decode cX10_next 109 = .ok (.iadd, 1) := dk_96 (dk_at dksX10_next_4 15 rfl rfl)
theorem dX10_next_110 : decode cX10_next 110 = .ok (.putfield 22, 3) := dk_181 0 22 (dk_at dksX10_next_4 16 rfl rfl)
theorem dX10_next_113 : decode cX10_next 113 = .ok (.goto (-49), 3) := dk_167 255 207 (dk_at dksX10_next_4 19 rfl rfl)
theorem dX10_next_116 : decode cX10_next 116 = .ok (.aload_n 0, 1) := dk_42 (dk_at dksX10_next_4 22 rfl rfl)
theorem dX10_next_117 : decode cX10_next 117 = .ok (.aload_n 0, 1) := dk_42 (dk_at dksX10_next_4 23 rfl rfl)
theorem dX10_next_118 : decode cX10_next 118 = .ok (.getfield 40, 3) := dk_180 0 40 (dk_at dksX10_next_5 0 rfl rfl)
theorem dX10_next_121 : decode cX10_next 121 = .ok (.sipush 1023, 3) := dk_17 3 255 (dk_at dksX10_next_5 3 rfl rfl)
theorem dX10_next_124 : decode cX10_next 124 = .ok (.if_icmp .gt 22, 3) := dk_163 0 22 (dk_at dksX10_next_5 6 rfl rfl)
theorem dX10_next_127 : decode cX10_next 127 = .ok (.iload_n 1, 1) := dk_27 (dk_at dksX10_next_5 9 rfl rfl)
theorem dX10_next_128 : decode cX10_next 128 = .ok (.bipush 48, 2) := dk_16 48 (dk_at dksX10_next_5 10 rfl rfl)
theorem dX10_next_130 : decode cX10_next 130 = .ok (.if_icmp .ne 21, 3) := dk_160 0 21 (dk_at dksX10_next_5 12 rfl rfl)
theorem dX10_next_133 : decode cX10_next 133 = .ok (.aload_n 0, 1) := dk_42 (dk_at dksX10_next_5 15 rfl rfl)
theorem dX10_next_134 : decode cX10_next 134 = .ok (.getfield 22, 3) := dk_180 0 22 (dk_at dksX10_next_5 16 rfl rfl)
theorem dX10_next_137 : decode cX10_next 137 = .ok (.aload_n 0, 1) := dk_42 (dk_at dksX10_next_5 19 rfl rfl)
theorem dX10_next_138 : decode cX10_next 138 = .ok (.getfield 37, 3) := dk_180 0 37 (dk_at dksX10_next_5 20 rfl rfl)
theorem dX10_next_141 : decode cX10_next 141 = .ok (.isub, 1) := dk_100 (dk_at dksX10_next_5 23 rfl rfl)
theorem dX10_next_142 : decode cX10_next 142 = .ok (.iconst 1, 1) := dk_4 (dk_at dksX10_next_6 0 rfl rfl)
theorem dX10_next_143 : decode cX10_next 143 = .ok (.if_icmp .le 8, 3) := dk_164 0 8 (dk_at dksX10_next_6 1 rfl rfl)
theorem dX10_next_146 : decode cX10_next 146 = .ok (.bipush 8, 2) := dk_16 8 (dk_at dksX10_next_6 4 rfl rfl)
theorem dX10_next_148 : decode cX10_next 148 = .ok (.goto 4, 3) := dk_167 0 4 (dk_at dksX10_next_6 6 rfl rfl)
theorem dX10_next_151 : decode cX10_next 151 = .ok (.iconst 5, 1) := dk_8 (dk_at dksX10_next_6 9 rfl rfl)
theorem dX10_next_152 : decode cX10_next 152 = .ok (.putfield 43, 3) := dk_181 0 43 (dk_at dksX10_next_6 10 rfl rfl)
theorem dX10_next_155 : decode cX10_next 155 = .ok (.goto 45, 3) := dk_167 0 45 (dk_at dksX10_next_6 13 rfl rfl)
theorem dX10_next_158 : decode cX10_next 158 = .ok (.aload_n 0, 1) := dk_42 (dk_at dksX10_next_6 16 rfl rfl)
theorem dX10_next_159 : decode cX10_next 159 = .ok (.dup, 1) := dk_89 (dk_at dksX10_next_6 17 rfl rfl)
theorem dX10_next_160 : decode cX10_next 160 = .ok (.getfield 22, 3) := dk_180 0 22 (dk_at dksX10_next_6 18 rfl rfl)
theorem dX10_next_163 : decode cX10_next 163 = .ok (.iconst 1, 1) := dk_4 (dk_at dksX10_next_6 21 rfl rfl)
theorem dX10_next_164 : decode cX10_next 164 = .ok (.iadd, 1) := dk_96 (dk_at dksX10_next_6 22 rfl rfl)
theorem dX10_next_165 : decode cX10_next 165 = .ok (.putfield 22, 3) := dk_181 0 22 (dk_at dksX10_next_7 0 rfl rfl)
theorem dX10_next_168 : decode cX10_next 168 = .ok (.ldc 56, 2) := dk_18 56 (dk_at dksX10_next_7 3 rfl rfl)
theorem dX10_next_170 : decode cX10_next 170 = .ok (.iload_n 1, 1) := dk_27 (dk_at dksX10_next_7 5 rfl rfl)
theorem dX10_next_171 : decode cX10_next 171 = .ok (.invokevirtual 58, 3) := dk_182 0 58 (dk_at dksX10_next_7 6 rfl rfl)
theorem dX10_next_174 : decode cX10_next 174 = .ok (.istore_n 2, 1) := dk_61 (dk_at dksX10_next_7 9 rfl rfl)
theorem dX10_next_175 : decode cX10_next 175 = .ok (.aload_n 0, 1) := dk_42 (dk_at dksX10_next_7 10 rfl rfl)
theorem dX10_next_176 : decode cX10_next 176 = .ok (.iload_n 1, 1) := dk_27 (dk_at dksX10_next_7 11 rfl rfl)
theorem dX10_next_177 : decode cX10_next 177 = .ok (.bipush 59, 2) := dk_16 59 (dk_at dksX10_next_7 12 rfl rfl)
theorem dX10_next_179 : decode cX10_next 179 = .ok (.if_icmp .ne 8, 3) := dk_160 0 8 (dk_at dksX10_next_7 14 rfl rfl)
theorem dX10_next_182 : decode cX10_next 182 = .ok (.bipush 6, 2) := dk_16 6 (dk_at dksX10_next_7 17 rfl rfl)
theorem dX10_next_184 : decode cX10_next 184 = .ok (.goto 13, 3) := dk_167 0 13 (dk_at dksX10_next_7 19 rfl rfl)
theorem dX10_next_187 : decode cX10_next 187 = .ok (.iload_n 2, 1) := dk_28 (dk_at dksX10_next_7 22 rfl rfl)
theorem dX10_next_188 : decode cX10_next 188 = .ok (.ifCond .lt 7, 3) := dk_155 0 7 (dk_at dksX10_next_8 0 rfl rfl)
theorem dX10_next_191 : decode cX10_next 191 = .ok (.iload_n 2, 1) := dk_28 (dk_at dksX10_next_8 3 rfl rfl)
theorem dX10_next_192 : decode cX10_next 192 = .ok (.goto 5, 3) := dk_167 0 5 (dk_at dksX10_next_8 4 rfl rfl)
theorem dX10_next_195 : decode cX10_next 195 = .ok (.bipush 8, 2) := dk_16 8 (dk_at dksX10_next_8 7 rfl rfl)
theorem dX10_next_197 : decode cX10_next 197 = .ok (.putfield 43, 3) := dk_181 0 43 (dk_at dksX10_next_8 9 rfl rfl)
theorem dX10_next_200 : decode cX10_next 200 = .ok (.return_, 1) := dk_177 (dk_at dksX10_next_8 12 rfl rfl)
abbrev cX10_here : ByteArray := prog_10_method_2_code
def yX10_here : MethodName := ⟨RX10, "here", "()I"⟩
def dkwX10_here_1 : List UInt8 := [180, 0, 22, 51, 17, 0, 255, 126, 167, 0, 4, 2, 172]
abbrev dktX10_here_1 : List UInt8 := dkwX10_here_1 ++ []
def dkwX10_here_0 : List UInt8 := [42, 180, 0, 22, 42, 180, 0, 3, 180, 0, 26, 162, 0, 22, 42, 180, 0, 3, 180, 0, 29, 42]
abbrev dktX10_here_0 : List UInt8 := dkwX10_here_0 ++ dktX10_here_1
theorem dksX10_here_0 : cX10_here.data.toList.drop 0 = dktX10_here_0 := by decide +kernel
theorem dksX10_here_1 : cX10_here.data.toList.drop 22 = dktX10_here_1 := dk_seg dksX10_here_0 22 rfl rfl
theorem dX10_here_0 : decode cX10_here 0 = .ok (.aload_n 0, 1) := dk_42 (dk_at dksX10_here_0 0 rfl rfl)
theorem dX10_here_1 : decode cX10_here 1 = .ok (.getfield 22, 3) := dk_180 0 22 (dk_at dksX10_here_0 1 rfl rfl)
theorem dX10_here_4 : decode cX10_here 4 = .ok (.aload_n 0, 1) := dk_42 (dk_at dksX10_here_0 4 rfl rfl)
theorem dX10_here_5 : decode cX10_here 5 = .ok (.getfield 3, 3) := dk_180 0 3 (dk_at dksX10_here_0 5 rfl rfl)
theorem dX10_here_8 : decode cX10_here 8 = .ok (.getfield 26, 3) := dk_180 0 26 (dk_at dksX10_here_0 8 rfl rfl)
theorem dX10_here_11 : decode cX10_here 11 = .ok (.if_icmp .ge 22, 3) := dk_162 0 22 (dk_at dksX10_here_0 11 rfl rfl)
theorem dX10_here_14 : decode cX10_here 14 = .ok (.aload_n 0, 1) := dk_42 (dk_at dksX10_here_0 14 rfl rfl)
theorem dX10_here_15 : decode cX10_here 15 = .ok (.getfield 3, 3) := dk_180 0 3 (dk_at dksX10_here_0 15 rfl rfl)
theorem dX10_here_18 : decode cX10_here 18 = .ok (.getfield 29, 3) := dk_180 0 29 (dk_at dksX10_here_0 18 rfl rfl)
theorem dX10_here_21 : decode cX10_here 21 = .ok (.aload_n 0, 1) := dk_42 (dk_at dksX10_here_0 21 rfl rfl)
theorem dX10_here_22 : decode cX10_here 22 = .ok (.getfield 22, 3) := dk_180 0 22 (dk_at dksX10_here_1 0 rfl rfl)
theorem dX10_here_25 : decode cX10_here 25 = .ok (.baload, 1) := dk_51 (dk_at dksX10_here_1 3 rfl rfl)
theorem dX10_here_26 : decode cX10_here 26 = .ok (.sipush 255, 3) := dk_17 0 255 (dk_at dksX10_here_1 4 rfl rfl)
theorem dX10_here_29 : decode cX10_here 29 = .ok (.iand, 1) := dk_126 (dk_at dksX10_here_1 7 rfl rfl)
theorem dX10_here_30 : decode cX10_here 30 = .ok (.goto 4, 3) := dk_167 0 4 (dk_at dksX10_here_1 8 rfl rfl)
theorem dX10_here_33 : decode cX10_here 33 = .ok (.iconst (-1), 1) := dk_2 (dk_at dksX10_here_1 11 rfl rfl)
theorem dX10_here_34 : decode cX10_here 34 = .ok (.ireturn, 1) := dk_172 (dk_at dksX10_here_1 12 rfl rfl)
abbrev cX10_may : ByteArray := prog_10_method_7_code
def yX10_may : MethodName := ⟨RX10, "may", "(I)Z"⟩
def dkwX10_may_4 : List UInt8 := [4, 126, 154, 0, 7, 4, 167, 0, 4, 3, 172]
abbrev dktX10_may_4 : List UInt8 := dkwX10_may_4 ++ []
def dkwX10_may_3 : List UInt8 := [180, 0, 92, 7, 162, 0, 7, 4, 167, 0, 4, 3, 172, 27, 5, 163, 0, 18, 42, 180, 0, 107, 27, 122]
abbrev dktX10_may_3 : List UInt8 := dkwX10_may_3 ++ dktX10_may_4
def dkwX10_may_2 : List UInt8 := [42, 180, 0, 18, 180, 0, 80, 16, 6, 162, 0, 7, 4, 167, 0, 4, 3, 172, 42, 180, 0, 18]
abbrev dktX10_may_2 : List UInt8 := dkwX10_may_2 ++ dktX10_may_3
def dkwX10_may_1 : List UInt8 := [171, 0, 0, 0, 0, 0, 62, 0, 0, 0, 2, 0, 0, 0, 3, 0, 0, 0, 27, 0, 0, 0, 4, 0, 0, 0, 45]
abbrev dktX10_may_1 : List UInt8 := dkwX10_may_1 ++ dktX10_may_2
def dkwX10_may_0 : List UInt8 := [27]
abbrev dktX10_may_0 : List UInt8 := dkwX10_may_0 ++ dktX10_may_1
theorem dksX10_may_0 : cX10_may.data.toList.drop 0 = dktX10_may_0 := by decide +kernel
theorem dksX10_may_1 : cX10_may.data.toList.drop 1 = dktX10_may_1 := dk_seg dksX10_may_0 1 rfl rfl
theorem dksX10_may_2 : cX10_may.data.toList.drop 28 = dktX10_may_2 := dk_seg dksX10_may_1 27 rfl rfl
theorem dksX10_may_3 : cX10_may.data.toList.drop 50 = dktX10_may_3 := dk_seg dksX10_may_2 22 rfl rfl
theorem dksX10_may_4 : cX10_may.data.toList.drop 74 = dktX10_may_4 := dk_seg dksX10_may_3 24 rfl rfl
theorem dX10_may_0 : decode cX10_may 0 = .ok (.iload_n 1, 1) := dk_27 (dk_at dksX10_may_0 0 rfl rfl)
theorem dX10_may_1 : decode cX10_may 1 = .ok (.lookupswitch 62 #[(3, 27), (4, 45)], 27) := by decide +kernel
theorem dX10_may_28 : decode cX10_may 28 = .ok (.aload_n 0, 1) := dk_42 (dk_at dksX10_may_2 0 rfl rfl)
theorem dX10_may_29 : decode cX10_may 29 = .ok (.getfield 18, 3) := dk_180 0 18 (dk_at dksX10_may_2 1 rfl rfl)
theorem dX10_may_32 : decode cX10_may 32 = .ok (.getfield 80, 3) := dk_180 0 80 (dk_at dksX10_may_2 4 rfl rfl)
theorem dX10_may_35 : decode cX10_may 35 = .ok (.bipush 6, 2) := dk_16 6 (dk_at dksX10_may_2 7 rfl rfl)
theorem dX10_may_37 : decode cX10_may 37 = .ok (.if_icmp .ge 7, 3) := dk_162 0 7 (dk_at dksX10_may_2 9 rfl rfl)
theorem dX10_may_40 : decode cX10_may 40 = .ok (.iconst 1, 1) := dk_4 (dk_at dksX10_may_2 12 rfl rfl)
theorem dX10_may_41 : decode cX10_may 41 = .ok (.goto 4, 3) := dk_167 0 4 (dk_at dksX10_may_2 13 rfl rfl)
theorem dX10_may_44 : decode cX10_may 44 = .ok (.iconst 0, 1) := dk_3 (dk_at dksX10_may_2 16 rfl rfl)
theorem dX10_may_45 : decode cX10_may 45 = .ok (.ireturn, 1) := dk_172 (dk_at dksX10_may_2 17 rfl rfl)
theorem dX10_may_46 : decode cX10_may 46 = .ok (.aload_n 0, 1) := dk_42 (dk_at dksX10_may_2 18 rfl rfl)
theorem dX10_may_47 : decode cX10_may 47 = .ok (.getfield 18, 3) := dk_180 0 18 (dk_at dksX10_may_2 19 rfl rfl)
theorem dX10_may_50 : decode cX10_may 50 = .ok (.getfield 92, 3) := dk_180 0 92 (dk_at dksX10_may_3 0 rfl rfl)
theorem dX10_may_53 : decode cX10_may 53 = .ok (.iconst 4, 1) := dk_7 (dk_at dksX10_may_3 3 rfl rfl)
theorem dX10_may_54 : decode cX10_may 54 = .ok (.if_icmp .ge 7, 3) := dk_162 0 7 (dk_at dksX10_may_3 4 rfl rfl)
theorem dX10_may_57 : decode cX10_may 57 = .ok (.iconst 1, 1) := dk_4 (dk_at dksX10_may_3 7 rfl rfl)
theorem dX10_may_58 : decode cX10_may 58 = .ok (.goto 4, 3) := dk_167 0 4 (dk_at dksX10_may_3 8 rfl rfl)
theorem dX10_may_61 : decode cX10_may 61 = .ok (.iconst 0, 1) := dk_3 (dk_at dksX10_may_3 11 rfl rfl)
theorem dX10_may_62 : decode cX10_may 62 = .ok (.ireturn, 1) := dk_172 (dk_at dksX10_may_3 12 rfl rfl)
theorem dX10_may_63 : decode cX10_may 63 = .ok (.iload_n 1, 1) := dk_27 (dk_at dksX10_may_3 13 rfl rfl)
theorem dX10_may_64 : decode cX10_may 64 = .ok (.iconst 2, 1) := dk_5 (dk_at dksX10_may_3 14 rfl rfl)
theorem dX10_may_65 : decode cX10_may 65 = .ok (.if_icmp .gt 18, 3) := dk_163 0 18 (dk_at dksX10_may_3 15 rfl rfl)
theorem dX10_may_68 : decode cX10_may 68 = .ok (.aload_n 0, 1) := dk_42 (dk_at dksX10_may_3 18 rfl rfl)
theorem dX10_may_69 : decode cX10_may 69 = .ok (.getfield 107, 3) := dk_180 0 107 (dk_at dksX10_may_3 19 rfl rfl)
theorem dX10_may_72 : decode cX10_may 72 = .ok (.iload_n 1, 1) := dk_27 (dk_at dksX10_may_3 22 rfl rfl)
theorem dX10_may_73 : decode cX10_may 73 = .ok (.ishr, 1) := dk_122 (dk_at dksX10_may_3 23 rfl rfl)
theorem dX10_may_74 : decode cX10_may 74 = .ok (.iconst 1, 1) := dk_4 (dk_at dksX10_may_4 0 rfl rfl)
theorem dX10_may_75 : decode cX10_may 75 = .ok (.iand, 1) := dk_126 (dk_at dksX10_may_4 1 rfl rfl)
theorem dX10_may_76 : decode cX10_may 76 = .ok (.ifCond .ne 7, 3) := dk_154 0 7 (dk_at dksX10_may_4 2 rfl rfl)
theorem dX10_may_79 : decode cX10_may 79 = .ok (.iconst 1, 1) := dk_4 (dk_at dksX10_may_4 5 rfl rfl)
theorem dX10_may_80 : decode cX10_may 80 = .ok (.goto 4, 3) := dk_167 0 4 (dk_at dksX10_may_4 6 rfl rfl)
theorem dX10_may_83 : decode cX10_may 83 = .ok (.iconst 0, 1) := dk_3 (dk_at dksX10_may_4 9 rfl rfl)
theorem dX10_may_84 : decode cX10_may 84 = .ok (.ireturn, 1) := dk_172 (dk_at dksX10_may_4 10 rfl rfl)
abbrev cX10_due : ByteArray := prog_10_method_4_code
def yX10_due : MethodName := ⟨RX10, "due", "(Z)I"⟩
def dkwX10_due_1 : List UInt8 := [182, 0, 69, 28, 172]
abbrev dktX10_due_1 : List UInt8 := dkwX10_due_1 ++ []
def dkwX10_due_0 : List UInt8 := [27, 154, 0, 15, 187, 0, 64, 89, 42, 180, 0, 37, 183, 0, 66, 191, 42, 180, 0, 40, 61, 42]
abbrev dktX10_due_0 : List UInt8 := dkwX10_due_0 ++ dktX10_due_1
theorem dksX10_due_0 : cX10_due.data.toList.drop 0 = dktX10_due_0 := by decide +kernel
theorem dksX10_due_1 : cX10_due.data.toList.drop 22 = dktX10_due_1 := dk_seg dksX10_due_0 22 rfl rfl
theorem dX10_due_0 : decode cX10_due 0 = .ok (.iload_n 1, 1) := dk_27 (dk_at dksX10_due_0 0 rfl rfl)
theorem dX10_due_1 : decode cX10_due 1 = .ok (.ifCond .ne 15, 3) := dk_154 0 15 (dk_at dksX10_due_0 1 rfl rfl)
theorem dX10_due_4 : decode cX10_due 4 = .ok (.new 64, 3) := dk_187 0 64 (dk_at dksX10_due_0 4 rfl rfl)
theorem dX10_due_7 : decode cX10_due 7 = .ok (.dup, 1) := dk_89 (dk_at dksX10_due_0 7 rfl rfl)
theorem dX10_due_8 : decode cX10_due 8 = .ok (.aload_n 0, 1) := dk_42 (dk_at dksX10_due_0 8 rfl rfl)
theorem dX10_due_9 : decode cX10_due 9 = .ok (.getfield 37, 3) := dk_180 0 37 (dk_at dksX10_due_0 9 rfl rfl)
theorem dX10_due_12 : decode cX10_due 12 = .ok (.invokespecial 66, 3) := dk_183 0 66 (dk_at dksX10_due_0 12 rfl rfl)
theorem dX10_due_15 : decode cX10_due 15 = .ok (.athrow, 1) := dk_191 (dk_at dksX10_due_0 15 rfl rfl)
theorem dX10_due_16 : decode cX10_due 16 = .ok (.aload_n 0, 1) := dk_42 (dk_at dksX10_due_0 16 rfl rfl)
theorem dX10_due_17 : decode cX10_due 17 = .ok (.getfield 40, 3) := dk_180 0 40 (dk_at dksX10_due_0 17 rfl rfl)
theorem dX10_due_20 : decode cX10_due 20 = .ok (.istore_n 2, 1) := dk_61 (dk_at dksX10_due_0 20 rfl rfl)
theorem dX10_due_21 : decode cX10_due 21 = .ok (.aload_n 0, 1) := dk_42 (dk_at dksX10_due_0 21 rfl rfl)
theorem dX10_due_22 : decode cX10_due 22 = .ok (.invokevirtual 69, 3) := dk_182 0 69 (dk_at dksX10_due_1 0 rfl rfl)
theorem dX10_due_25 : decode cX10_due 25 = .ok (.iload_n 2, 1) := dk_28 (dk_at dksX10_due_1 3 rfl rfl)
theorem dX10_due_26 : decode cX10_due 26 = .ok (.ireturn, 1) := dk_172 (dk_at dksX10_due_1 4 rfl rfl)
abbrev cX10_item : ByteArray := prog_10_method_6_code
def yX10_item : MethodName := ⟨RX10, "item", "(I)V"⟩
def dkwX10_item_11 : List UInt8 := [79, 177]
abbrev dktX10_item_11 : List UInt8 := dkwX10_item_11 ++ []
def dkwX10_item_10 : List UInt8 := [181, 0, 92, 167, 0, 22, 42, 180, 0, 18, 180, 0, 101, 27, 42, 4, 178, 0, 104, 27, 46, 182, 0, 83]
abbrev dktX10_item_10 : List UInt8 := dkwX10_item_10 ++ dktX10_item_11
def dkwX10_item_9 : List UInt8 := [28, 159, 0, 7, 4, 167, 0, 4, 3, 182, 0, 72, 79, 42, 180, 0, 18, 89, 180, 0, 92, 4, 96]
abbrev dktX10_item_9 : List UInt8 := dkwX10_item_9 ++ dktX10_item_10
def dkwX10_item_8 : List UInt8 := [180, 0, 40, 16, 10, 160, 0, 27, 167, 0, 20, 42, 180, 0, 40, 16, 10, 162, 0, 15, 42, 180, 0, 40]
abbrev dktX10_item_8 : List UInt8 := dkwX10_item_8 ++ dktX10_item_9
def dkwX10_item_7 : List UInt8 := [180, 0, 18, 180, 0, 92, 42, 42, 180, 0, 43, 8, 160, 0, 42, 28, 16, 10, 160, 0, 15, 42]
abbrev dktX10_item_7 : List UInt8 := dkwX10_item_7 ++ dktX10_item_8
def dkwX10_item_6 : List UInt8 := [180, 0, 18, 180, 0, 95, 42, 180, 0, 18, 180, 0, 92, 28, 79, 42, 180, 0, 18, 180, 0, 98, 42]
abbrev dktX10_item_6 : List UInt8 := dkwX10_item_6 ++ dktX10_item_7
def dkwX10_item_5 : List UInt8 := [180, 0, 18, 180, 0, 92, 42, 3, 17, 3, 255, 182, 0, 83, 79, 42, 3, 16, 10, 182, 0, 83, 61, 42]
abbrev dktX10_item_5 : List UInt8 := dkwX10_item_5 ++ dktX10_item_6
def dkwX10_item_4 : List UInt8 := [180, 0, 18, 89, 180, 0, 80, 4, 96, 181, 0, 80, 167, 0, 152, 42, 180, 0, 18, 180, 0, 89, 42]
abbrev dktX10_item_4 : List UInt8 := dkwX10_item_4 ++ dktX10_item_5
def dkwX10_item_3 : List UInt8 := [180, 0, 18, 180, 0, 86, 42, 180, 0, 18, 180, 0, 80, 42, 3, 16, 10, 182, 0, 83, 79, 42]
abbrev dktX10_item_3 : List UInt8 := dkwX10_item_3 ++ dktX10_item_4
def dkwX10_item_2 : List UInt8 := [42, 180, 0, 18, 180, 0, 76, 42, 180, 0, 18, 180, 0, 80, 42, 3, 16, 40, 182, 0, 83, 79, 42]
abbrev dktX10_item_2 : List UInt8 := dkwX10_item_2 ++ dktX10_item_3
def dkwX10_item_1 : List UInt8 := [171, 0, 0, 0, 0, 0, 217, 0, 0, 0, 2, 0, 0, 0, 3, 0, 0, 0, 27, 0, 0, 0, 4, 0, 0, 0, 87]
abbrev dktX10_item_1 : List UInt8 := dkwX10_item_1 ++ dktX10_item_2
def dkwX10_item_0 : List UInt8 := [27]
abbrev dktX10_item_0 : List UInt8 := dkwX10_item_0 ++ dktX10_item_1
theorem dksX10_item_0 : cX10_item.data.toList.drop 0 = dktX10_item_0 := by decide +kernel
theorem dksX10_item_1 : cX10_item.data.toList.drop 1 = dktX10_item_1 := dk_seg dksX10_item_0 1 rfl rfl
theorem dksX10_item_2 : cX10_item.data.toList.drop 28 = dktX10_item_2 := dk_seg dksX10_item_1 27 rfl rfl
theorem dksX10_item_3 : cX10_item.data.toList.drop 51 = dktX10_item_3 := dk_seg dksX10_item_2 23 rfl rfl
theorem dksX10_item_4 : cX10_item.data.toList.drop 73 = dktX10_item_4 := dk_seg dksX10_item_3 22 rfl rfl
theorem dksX10_item_5 : cX10_item.data.toList.drop 96 = dktX10_item_5 := dk_seg dksX10_item_4 23 rfl rfl
theorem dksX10_item_6 : cX10_item.data.toList.drop 120 = dktX10_item_6 := dk_seg dksX10_item_5 24 rfl rfl
theorem dksX10_item_7 : cX10_item.data.toList.drop 143 = dktX10_item_7 := dk_seg dksX10_item_6 23 rfl rfl
theorem dksX10_item_8 : cX10_item.data.toList.drop 165 = dktX10_item_8 := dk_seg dksX10_item_7 22 rfl rfl
theorem dksX10_item_9 : cX10_item.data.toList.drop 189 = dktX10_item_9 := dk_seg dksX10_item_8 24 rfl rfl
theorem dksX10_item_10 : cX10_item.data.toList.drop 212 = dktX10_item_10 := dk_seg dksX10_item_9 23 rfl rfl
theorem dksX10_item_11 : cX10_item.data.toList.drop 236 = dktX10_item_11 := dk_seg dksX10_item_10 24 rfl rfl
theorem dX10_item_0 : decode cX10_item 0 = .ok (.iload_n 1, 1) := dk_27 (dk_at dksX10_item_0 0 rfl rfl)
theorem dX10_item_1 : decode cX10_item 1 = .ok (.lookupswitch 217 #[(3, 27), (4, 87)], 27) := by decide +kernel
theorem dX10_item_28 : decode cX10_item 28 = .ok (.aload_n 0, 1) := dk_42 (dk_at dksX10_item_2 0 rfl rfl)
theorem dX10_item_29 : decode cX10_item 29 = .ok (.getfield 18, 3) := dk_180 0 18 (dk_at dksX10_item_2 1 rfl rfl)
theorem dX10_item_32 : decode cX10_item 32 = .ok (.getfield 76, 3) := dk_180 0 76 (dk_at dksX10_item_2 4 rfl rfl)
theorem dX10_item_35 : decode cX10_item 35 = .ok (.aload_n 0, 1) := dk_42 (dk_at dksX10_item_2 7 rfl rfl)
theorem dX10_item_36 : decode cX10_item 36 = .ok (.getfield 18, 3) := dk_180 0 18 (dk_at dksX10_item_2 8 rfl rfl)
theorem dX10_item_39 : decode cX10_item 39 = .ok (.getfield 80, 3) := dk_180 0 80 (dk_at dksX10_item_2 11 rfl rfl)
theorem dX10_item_42 : decode cX10_item 42 = .ok (.aload_n 0, 1) := dk_42 (dk_at dksX10_item_2 14 rfl rfl)
theorem dX10_item_43 : decode cX10_item 43 = .ok (.iconst 0, 1) := dk_3 (dk_at dksX10_item_2 15 rfl rfl)
theorem dX10_item_44 : decode cX10_item 44 = .ok (.bipush 40, 2) := dk_16 40 (dk_at dksX10_item_2 16 rfl rfl)
theorem dX10_item_46 : decode cX10_item 46 = .ok (.invokevirtual 83, 3) := dk_182 0 83 (dk_at dksX10_item_2 18 rfl rfl)
theorem dX10_item_49 : decode cX10_item 49 = .ok (.iastore, 1) := dk_79 (dk_at dksX10_item_2 21 rfl rfl)
theorem dX10_item_50 : decode cX10_item 50 = .ok (.aload_n 0, 1) := dk_42 (dk_at dksX10_item_2 22 rfl rfl)
theorem dX10_item_51 : decode cX10_item 51 = .ok (.getfield 18, 3) := dk_180 0 18 (dk_at dksX10_item_3 0 rfl rfl)
theorem dX10_item_54 : decode cX10_item 54 = .ok (.getfield 86, 3) := dk_180 0 86 (dk_at dksX10_item_3 3 rfl rfl)
theorem dX10_item_57 : decode cX10_item 57 = .ok (.aload_n 0, 1) := dk_42 (dk_at dksX10_item_3 6 rfl rfl)
theorem dX10_item_58 : decode cX10_item 58 = .ok (.getfield 18, 3) := dk_180 0 18 (dk_at dksX10_item_3 7 rfl rfl)
theorem dX10_item_61 : decode cX10_item 61 = .ok (.getfield 80, 3) := dk_180 0 80 (dk_at dksX10_item_3 10 rfl rfl)
theorem dX10_item_64 : decode cX10_item 64 = .ok (.aload_n 0, 1) := dk_42 (dk_at dksX10_item_3 13 rfl rfl)
theorem dX10_item_65 : decode cX10_item 65 = .ok (.iconst 0, 1) := dk_3 (dk_at dksX10_item_3 14 rfl rfl)
theorem dX10_item_66 : decode cX10_item 66 = .ok (.bipush 10, 2) := dk_16 10 (dk_at dksX10_item_3 15 rfl rfl)
theorem dX10_item_68 : decode cX10_item 68 = .ok (.invokevirtual 83, 3) := dk_182 0 83 (dk_at dksX10_item_3 17 rfl rfl)
theorem dX10_item_71 : decode cX10_item 71 = .ok (.iastore, 1) := dk_79 (dk_at dksX10_item_3 20 rfl rfl)
theorem dX10_item_72 : decode cX10_item 72 = .ok (.aload_n 0, 1) := dk_42 (dk_at dksX10_item_3 21 rfl rfl)
theorem dX10_item_73 : decode cX10_item 73 = .ok (.getfield 18, 3) := dk_180 0 18 (dk_at dksX10_item_4 0 rfl rfl)
theorem dX10_item_76 : decode cX10_item 76 = .ok (.dup, 1) := dk_89 (dk_at dksX10_item_4 3 rfl rfl)
theorem dX10_item_77 : decode cX10_item 77 = .ok (.getfield 80, 3) := dk_180 0 80 (dk_at dksX10_item_4 4 rfl rfl)
theorem dX10_item_80 : decode cX10_item 80 = .ok (.iconst 1, 1) := dk_4 (dk_at dksX10_item_4 7 rfl rfl)
theorem dX10_item_81 : decode cX10_item 81 = .ok (.iadd, 1) := dk_96 (dk_at dksX10_item_4 8 rfl rfl)
theorem dX10_item_82 : decode cX10_item 82 = .ok (.putfield 80, 3) := dk_181 0 80 (dk_at dksX10_item_4 9 rfl rfl)
theorem dX10_item_85 : decode cX10_item 85 = .ok (.goto 152, 3) := dk_167 0 152 (dk_at dksX10_item_4 12 rfl rfl)
theorem dX10_item_88 : decode cX10_item 88 = .ok (.aload_n 0, 1) := dk_42 (dk_at dksX10_item_4 15 rfl rfl)
theorem dX10_item_89 : decode cX10_item 89 = .ok (.getfield 18, 3) := dk_180 0 18 (dk_at dksX10_item_4 16 rfl rfl)
theorem dX10_item_92 : decode cX10_item 92 = .ok (.getfield 89, 3) := dk_180 0 89 (dk_at dksX10_item_4 19 rfl rfl)
theorem dX10_item_95 : decode cX10_item 95 = .ok (.aload_n 0, 1) := dk_42 (dk_at dksX10_item_4 22 rfl rfl)
theorem dX10_item_96 : decode cX10_item 96 = .ok (.getfield 18, 3) := dk_180 0 18 (dk_at dksX10_item_5 0 rfl rfl)
theorem dX10_item_99 : decode cX10_item 99 = .ok (.getfield 92, 3) := dk_180 0 92 (dk_at dksX10_item_5 3 rfl rfl)
theorem dX10_item_102 : decode cX10_item 102 = .ok (.aload_n 0, 1) := dk_42 (dk_at dksX10_item_5 6 rfl rfl)
theorem dX10_item_103 : decode cX10_item 103 = .ok (.iconst 0, 1) := dk_3 (dk_at dksX10_item_5 7 rfl rfl)
theorem dX10_item_104 : decode cX10_item 104 = .ok (.sipush 1023, 3) := dk_17 3 255 (dk_at dksX10_item_5 8 rfl rfl)
theorem dX10_item_107 : decode cX10_item 107 = .ok (.invokevirtual 83, 3) := dk_182 0 83 (dk_at dksX10_item_5 11 rfl rfl)
theorem dX10_item_110 : decode cX10_item 110 = .ok (.iastore, 1) := dk_79 (dk_at dksX10_item_5 14 rfl rfl)
theorem dX10_item_111 : decode cX10_item 111 = .ok (.aload_n 0, 1) := dk_42 (dk_at dksX10_item_5 15 rfl rfl)
theorem dX10_item_112 : decode cX10_item 112 = .ok (.iconst 0, 1) := dk_3 (dk_at dksX10_item_5 16 rfl rfl)
theorem dX10_item_113 : decode cX10_item 113 = .ok (.bipush 10, 2) := dk_16 10 (dk_at dksX10_item_5 17 rfl rfl)
theorem dX10_item_115 : decode cX10_item 115 = .ok (.invokevirtual 83, 3) := dk_182 0 83 (dk_at dksX10_item_5 19 rfl rfl)
theorem dX10_item_118 : decode cX10_item 118 = .ok (.istore_n 2, 1) := dk_61 (dk_at dksX10_item_5 22 rfl rfl)
theorem dX10_item_119 : decode cX10_item 119 = .ok (.aload_n 0, 1) := dk_42 (dk_at dksX10_item_5 23 rfl rfl)
theorem dX10_item_120 : decode cX10_item 120 = .ok (.getfield 18, 3) := dk_180 0 18 (dk_at dksX10_item_6 0 rfl rfl)
theorem dX10_item_123 : decode cX10_item 123 = .ok (.getfield 95, 3) := dk_180 0 95 (dk_at dksX10_item_6 3 rfl rfl)
theorem dX10_item_126 : decode cX10_item 126 = .ok (.aload_n 0, 1) := dk_42 (dk_at dksX10_item_6 6 rfl rfl)
theorem dX10_item_127 : decode cX10_item 127 = .ok (.getfield 18, 3) := dk_180 0 18 (dk_at dksX10_item_6 7 rfl rfl)
theorem dX10_item_130 : decode cX10_item 130 = .ok (.getfield 92, 3) := dk_180 0 92 (dk_at dksX10_item_6 10 rfl rfl)
theorem dX10_item_133 : decode cX10_item 133 = .ok (.iload_n 2, 1) := dk_28 (dk_at dksX10_item_6 13 rfl rfl)
theorem dX10_item_134 : decode cX10_item 134 = .ok (.iastore, 1) := dk_79 (dk_at dksX10_item_6 14 rfl rfl)
theorem dX10_item_135 : decode cX10_item 135 = .ok (.aload_n 0, 1) := dk_42 (dk_at dksX10_item_6 15 rfl rfl)
theorem dX10_item_136 : decode cX10_item 136 = .ok (.getfield 18, 3) := dk_180 0 18 (dk_at dksX10_item_6 16 rfl rfl)
theorem dX10_item_139 : decode cX10_item 139 = .ok (.getfield 98, 3) := dk_180 0 98 (dk_at dksX10_item_6 19 rfl rfl)
theorem dX10_item_142 : decode cX10_item 142 = .ok (.aload_n 0, 1) := dk_42 (dk_at dksX10_item_6 22 rfl rfl)
theorem dX10_item_143 : decode cX10_item 143 = .ok (.getfield 18, 3) := dk_180 0 18 (dk_at dksX10_item_7 0 rfl rfl)
theorem dX10_item_146 : decode cX10_item 146 = .ok (.getfield 92, 3) := dk_180 0 92 (dk_at dksX10_item_7 3 rfl rfl)
theorem dX10_item_149 : decode cX10_item 149 = .ok (.aload_n 0, 1) := dk_42 (dk_at dksX10_item_7 6 rfl rfl)
theorem dX10_item_150 : decode cX10_item 150 = .ok (.aload_n 0, 1) := dk_42 (dk_at dksX10_item_7 7 rfl rfl)
theorem dX10_item_151 : decode cX10_item 151 = .ok (.getfield 43, 3) := dk_180 0 43 (dk_at dksX10_item_7 8 rfl rfl)
theorem dX10_item_154 : decode cX10_item 154 = .ok (.iconst 5, 1) := dk_8 (dk_at dksX10_item_7 11 rfl rfl)
theorem dX10_item_155 : decode cX10_item 155 = .ok (.if_icmp .ne 42, 3) := dk_160 0 42 (dk_at dksX10_item_7 12 rfl rfl)
theorem dX10_item_158 : decode cX10_item 158 = .ok (.iload_n 2, 1) := dk_28 (dk_at dksX10_item_7 15 rfl rfl)
theorem dX10_item_159 : decode cX10_item 159 = .ok (.bipush 10, 2) := dk_16 10 (dk_at dksX10_item_7 16 rfl rfl)
theorem dX10_item_161 : decode cX10_item 161 = .ok (.if_icmp .ne 15, 3) := dk_160 0 15 (dk_at dksX10_item_7 18 rfl rfl)
theorem dX10_item_164 : decode cX10_item 164 = .ok (.aload_n 0, 1) := dk_42 (dk_at dksX10_item_7 21 rfl rfl)
theorem dX10_item_165 : decode cX10_item 165 = .ok (.getfield 40, 3) := dk_180 0 40 (dk_at dksX10_item_8 0 rfl rfl)
theorem dX10_item_168 : decode cX10_item 168 = .ok (.bipush 10, 2) := dk_16 10 (dk_at dksX10_item_8 3 rfl rfl)
theorem dX10_item_170 : decode cX10_item 170 = .ok (.if_icmp .ne 27, 3) := dk_160 0 27 (dk_at dksX10_item_8 5 rfl rfl)
theorem dX10_item_173 : decode cX10_item 173 = .ok (.goto 20, 3) := dk_167 0 20 (dk_at dksX10_item_8 8 rfl rfl)
theorem dX10_item_176 : decode cX10_item 176 = .ok (.aload_n 0, 1) := dk_42 (dk_at dksX10_item_8 11 rfl rfl)
theorem dX10_item_177 : decode cX10_item 177 = .ok (.getfield 40, 3) := dk_180 0 40 (dk_at dksX10_item_8 12 rfl rfl)
theorem dX10_item_180 : decode cX10_item 180 = .ok (.bipush 10, 2) := dk_16 10 (dk_at dksX10_item_8 15 rfl rfl)
theorem dX10_item_182 : decode cX10_item 182 = .ok (.if_icmp .ge 15, 3) := dk_162 0 15 (dk_at dksX10_item_8 17 rfl rfl)
theorem dX10_item_185 : decode cX10_item 185 = .ok (.aload_n 0, 1) := dk_42 (dk_at dksX10_item_8 20 rfl rfl)
theorem dX10_item_186 : decode cX10_item 186 = .ok (.getfield 40, 3) := dk_180 0 40 (dk_at dksX10_item_8 21 rfl rfl)
theorem dX10_item_189 : decode cX10_item 189 = .ok (.iload_n 2, 1) := dk_28 (dk_at dksX10_item_9 0 rfl rfl)
theorem dX10_item_190 : decode cX10_item 190 = .ok (.if_icmp .eq 7, 3) := dk_159 0 7 (dk_at dksX10_item_9 1 rfl rfl)
theorem dX10_item_193 : decode cX10_item 193 = .ok (.iconst 1, 1) := dk_4 (dk_at dksX10_item_9 4 rfl rfl)
theorem dX10_item_194 : decode cX10_item 194 = .ok (.goto 4, 3) := dk_167 0 4 (dk_at dksX10_item_9 5 rfl rfl)
theorem dX10_item_197 : decode cX10_item 197 = .ok (.iconst 0, 1) := dk_3 (dk_at dksX10_item_9 8 rfl rfl)
theorem dX10_item_198 : decode cX10_item 198 = .ok (.invokevirtual 72, 3) := dk_182 0 72 (dk_at dksX10_item_9 9 rfl rfl)
theorem dX10_item_201 : decode cX10_item 201 = .ok (.iastore, 1) := dk_79 (dk_at dksX10_item_9 12 rfl rfl)
theorem dX10_item_202 : decode cX10_item 202 = .ok (.aload_n 0, 1) := dk_42 (dk_at dksX10_item_9 13 rfl rfl)
theorem dX10_item_203 : decode cX10_item 203 = .ok (.getfield 18, 3) := dk_180 0 18 (dk_at dksX10_item_9 14 rfl rfl)
theorem dX10_item_206 : decode cX10_item 206 = .ok (.dup, 1) := dk_89 (dk_at dksX10_item_9 17 rfl rfl)
theorem dX10_item_207 : decode cX10_item 207 = .ok (.getfield 92, 3) := dk_180 0 92 (dk_at dksX10_item_9 18 rfl rfl)
theorem dX10_item_210 : decode cX10_item 210 = .ok (.iconst 1, 1) := dk_4 (dk_at dksX10_item_9 21 rfl rfl)
theorem dX10_item_211 : decode cX10_item 211 = .ok (.iadd, 1) := dk_96 (dk_at dksX10_item_9 22 rfl rfl)
theorem dX10_item_212 : decode cX10_item 212 = .ok (.putfield 92, 3) := dk_181 0 92 (dk_at dksX10_item_10 0 rfl rfl)
theorem dX10_item_215 : decode cX10_item 215 = .ok (.goto 22, 3) := dk_167 0 22 (dk_at dksX10_item_10 3 rfl rfl)
theorem dX10_item_218 : decode cX10_item 218 = .ok (.aload_n 0, 1) := dk_42 (dk_at dksX10_item_10 6 rfl rfl)
theorem dX10_item_219 : decode cX10_item 219 = .ok (.getfield 18, 3) := dk_180 0 18 (dk_at dksX10_item_10 7 rfl rfl)
theorem dX10_item_222 : decode cX10_item 222 = .ok (.getfield 101, 3) := dk_180 0 101 (dk_at dksX10_item_10 10 rfl rfl)
theorem dX10_item_225 : decode cX10_item 225 = .ok (.iload_n 1, 1) := dk_27 (dk_at dksX10_item_10 13 rfl rfl)
theorem dX10_item_226 : decode cX10_item 226 = .ok (.aload_n 0, 1) := dk_42 (dk_at dksX10_item_10 14 rfl rfl)
theorem dX10_item_227 : decode cX10_item 227 = .ok (.iconst 1, 1) := dk_4 (dk_at dksX10_item_10 15 rfl rfl)
theorem dX10_item_228 : decode cX10_item 228 = .ok (.getstatic 104, 3) := dk_178 0 104 (dk_at dksX10_item_10 16 rfl rfl)
theorem dX10_item_231 : decode cX10_item 231 = .ok (.iload_n 1, 1) := dk_27 (dk_at dksX10_item_10 19 rfl rfl)
theorem dX10_item_232 : decode cX10_item 232 = .ok (.iaload, 1) := dk_46 (dk_at dksX10_item_10 20 rfl rfl)
theorem dX10_item_233 : decode cX10_item 233 = .ok (.invokevirtual 83, 3) := dk_182 0 83 (dk_at dksX10_item_10 21 rfl rfl)
theorem dX10_item_236 : decode cX10_item 236 = .ok (.iastore, 1) := dk_79 (dk_at dksX10_item_11 0 rfl rfl)
theorem dX10_item_237 : decode cX10_item 237 = .ok (.return_, 1) := dk_177 (dk_at dksX10_item_11 1 rfl rfl)
abbrev cX10_number : ByteArray := prog_10_method_5_code
def yX10_number : MethodName := ⟨RX10, "number", "(II)I"⟩
def dkwX10_number_1 : List UInt8 := [167, 0, 4, 3, 182, 0, 72, 172]
abbrev dktX10_number_1 : List UInt8 := dkwX10_number_1 ++ []
def dkwX10_number_0 : List UInt8 := [42, 42, 180, 0, 43, 8, 160, 0, 19, 42, 180, 0, 40, 27, 28, 184, 0, 46, 153, 0, 7, 4]
abbrev dktX10_number_0 : List UInt8 := dkwX10_number_0 ++ dktX10_number_1
theorem dksX10_number_0 : cX10_number.data.toList.drop 0 = dktX10_number_0 := by decide +kernel
theorem dksX10_number_1 : cX10_number.data.toList.drop 22 = dktX10_number_1 := dk_seg dksX10_number_0 22 rfl rfl
theorem dX10_number_0 : decode cX10_number 0 = .ok (.aload_n 0, 1) := dk_42 (dk_at dksX10_number_0 0 rfl rfl)
theorem dX10_number_1 : decode cX10_number 1 = .ok (.aload_n 0, 1) := dk_42 (dk_at dksX10_number_0 1 rfl rfl)
theorem dX10_number_2 : decode cX10_number 2 = .ok (.getfield 43, 3) := dk_180 0 43 (dk_at dksX10_number_0 2 rfl rfl)
theorem dX10_number_5 : decode cX10_number 5 = .ok (.iconst 5, 1) := dk_8 (dk_at dksX10_number_0 5 rfl rfl)
theorem dX10_number_6 : decode cX10_number 6 = .ok (.if_icmp .ne 19, 3) := dk_160 0 19 (dk_at dksX10_number_0 6 rfl rfl)
theorem dX10_number_9 : decode cX10_number 9 = .ok (.aload_n 0, 1) := dk_42 (dk_at dksX10_number_0 9 rfl rfl)
theorem dX10_number_10 : decode cX10_number 10 = .ok (.getfield 40, 3) := dk_180 0 40 (dk_at dksX10_number_0 10 rfl rfl)
theorem dX10_number_13 : decode cX10_number 13 = .ok (.iload_n 1, 1) := dk_27 (dk_at dksX10_number_0 13 rfl rfl)
theorem dX10_number_14 : decode cX10_number 14 = .ok (.iload_n 2, 1) := dk_28 (dk_at dksX10_number_0 14 rfl rfl)
theorem dX10_number_15 : decode cX10_number 15 = .ok (.invokestatic 46, 3) := dk_184 0 46 (dk_at dksX10_number_0 15 rfl rfl)
theorem dX10_number_18 : decode cX10_number 18 = .ok (.ifCond .eq 7, 3) := dk_153 0 7 (dk_at dksX10_number_0 18 rfl rfl)
theorem dX10_number_21 : decode cX10_number 21 = .ok (.iconst 1, 1) := dk_4 (dk_at dksX10_number_0 21 rfl rfl)
theorem dX10_number_22 : decode cX10_number 22 = .ok (.goto 4, 3) := dk_167 0 4 (dk_at dksX10_number_1 0 rfl rfl)
theorem dX10_number_25 : decode cX10_number 25 = .ok (.iconst 0, 1) := dk_3 (dk_at dksX10_number_1 3 rfl rfl)
theorem dX10_number_26 : decode cX10_number 26 = .ok (.invokevirtual 72, 3) := dk_182 0 72 (dk_at dksX10_number_1 4 rfl rfl)
theorem dX10_number_29 : decode cX10_number 29 = .ok (.ireturn, 1) := dk_172 (dk_at dksX10_number_1 7 rfl rfl)
theorem q71 : (Jvm.Cond.initialized "SmokedLetters$Reader") ∈ lw_all := lw_g (lw_at lw_m1 12 rfl) rfl
theorem q100 : (Jvm.Cond.fieldLinkNest "SmokedLetters$Reader" (101 : Nat) "SmokedLetters$Book" "law" "[I" "SmokedLetters") ∈ lw_tbl := lw_at lw_m1 41 rfl
theorem q103 : (Jvm.Cond.fieldLinkNest "SmokedLetters$Reader" (76 : Nat) "SmokedLetters$Book" "comes" "[I" "SmokedLetters") ∈ lw_tbl := lw_at lw_m1 44 rfl
theorem q106 : (Jvm.Cond.fieldLinkNest "SmokedLetters$Reader" (86 : Nat) "SmokedLetters$Book" "chance" "[I" "SmokedLetters") ∈ lw_tbl := lw_at lw_m1 47 rfl
theorem q110 : (Jvm.Cond.fieldLinkNest "SmokedLetters$Reader" (89 : Nat) "SmokedLetters$Book" "burns" "[I" "SmokedLetters") ∈ lw_tbl := lw_at lw_m1 51 rfl
theorem q114 : (Jvm.Cond.fieldLinkNest "SmokedLetters$Reader" (95 : Nat) "SmokedLetters$Book" "mercyOf" "[I" "SmokedLetters") ∈ lw_tbl := lw_at lw_m1 55 rfl
theorem q118 : (Jvm.Cond.fieldLinkNest "SmokedLetters$Reader" (98 : Nat) "SmokedLetters$Book" "mercyTo" "[I" "SmokedLetters") ∈ lw_tbl := lw_at lw_m1 59 rfl
theorem q120 : (Jvm.Cond.fieldLinkNest "SmokedLetters$Reader" (80 : Nat) "SmokedLetters$Book" "travellers" "I" "SmokedLetters") ∈ lw_tbl := lw_at lw_m1 61 rfl
theorem q123 : (Jvm.Cond.fieldLinkNest "SmokedLetters$Reader" (92 : Nat) "SmokedLetters$Book" "clerks" "I" "SmokedLetters") ∈ lw_tbl := lw_at lw_m1 64 rfl
theorem q126 : (Jvm.Cond.fieldLinkNest "SmokedLetters$Reader" (117 : Nat) "SmokedLetters$Book" "items" "I" "SmokedLetters") ∈ lw_tbl := lw_at lw_m1 67 rfl
theorem q277 : (Jvm.Cond.fieldLinkNest "SmokedLetters$Reader" (29 : Nat) "SmokedLetters" "text" "[B" "SmokedLetters") ∈ lw_tbl := lw_at lw_m1 218 rfl
theorem q279 : (Jvm.Cond.fieldLinkNest "SmokedLetters$Reader" (26 : Nat) "SmokedLetters" "typed" "I" "SmokedLetters") ∈ lw_tbl := lw_at lw_m1 220 rfl
theorem q356 : (Jvm.Cond.instantiable "SmokedLetters$Reader" (7 : Nat)) ∈ lw_all := lw_g (lw_at lw_m2 57 rfl) rfl
theorem q358 : (Jvm.Cond.instanceMethod ({ cls := "SmokedLetters$Reader", name := "<init>", desc := "(LSmokedLetters;)V" } : Jvm.MethodName)) ∈ lw_all := lw_g (lw_at lw_m2 59 rfl) rfl
theorem q359 : (Jvm.Cond.code ({ cls := "SmokedLetters$Reader", name := "<init>", desc := "(LSmokedLetters;)V" } : Jvm.MethodName) prog_10_method_1_code (2 : Nat) (Option.none : Option Jvm.ClassFile.FieldType)) ∈ lw_all := lw_g (lw_at lw_m2 60 rfl) rfl
theorem q360 : (Jvm.Cond.methodLink "SmokedLetters$Reader" (9 : Nat) ({ cls := "java/lang/Object", name := "<init>", desc := "()V" } : Jvm.MethodName)) ∈ lw_all := lw_g (lw_at lw_m2 61 rfl) rfl
theorem q361 : (Jvm.Cond.classLink "SmokedLetters$Reader" (15 : Nat) "SmokedLetters$Book") ∈ lw_all := lw_g (lw_at lw_m2 62 rfl) rfl
theorem q362 : (Jvm.Cond.methodLinkNest "SmokedLetters$Reader" (17 : Nat) ({ cls := "SmokedLetters$Book", name := "<init>", desc := "()V" } : Jvm.MethodName) "SmokedLetters") ∈ lw_tbl := lw_at lw_m2 63 rfl
theorem q363 : (Jvm.Cond.fieldLink "SmokedLetters$Reader" (22 : Nat) "SmokedLetters$Reader" "at" "I") ∈ lw_all := lw_g (lw_at lw_m2 64 rfl) rfl
theorem q364 : (Jvm.Cond.fieldLink "SmokedLetters$Reader" (37 : Nat) "SmokedLetters$Reader" "start" "I") ∈ lw_all := lw_g (lw_at lw_m2 65 rfl) rfl
theorem q365 : (Jvm.Cond.fieldLink "SmokedLetters$Reader" (43 : Nat) "SmokedLetters$Reader" "sort" "I") ∈ lw_all := lw_g (lw_at lw_m2 66 rfl) rfl
theorem q366 : (Jvm.Cond.fieldLink "SmokedLetters$Reader" (40 : Nat) "SmokedLetters$Reader" "value" "I") ∈ lw_all := lw_g (lw_at lw_m2 67 rfl) rfl
theorem q367 : (Jvm.Cond.fieldLink "SmokedLetters$Reader" (107 : Nat) "SmokedLetters$Reader" "told" "I") ∈ lw_all := lw_g (lw_at lw_m2 68 rfl) rfl
theorem q368 : (Jvm.Cond.fieldLink "SmokedLetters$Reader" (18 : Nat) "SmokedLetters$Reader" "made" "LSmokedLetters$Book;") ∈ lw_all := lw_g (lw_at lw_m2 69 rfl) rfl
theorem q369 : (Jvm.Cond.fieldLink "SmokedLetters$Reader" (3 : Nat) "SmokedLetters$Reader" "this$0" "LSmokedLetters;") ∈ lw_all := lw_g (lw_at lw_m2 70 rfl) rfl
theorem q370 : (Jvm.Cond.lays "SmokedLetters$Reader" "SmokedLetters$Reader" "at" "I") ∈ lw_all := lw_g (lw_at lw_m2 71 rfl) rfl
theorem q371 : (Jvm.Cond.soleField "SmokedLetters$Reader" "at") ∈ lw_all := lw_g (lw_at lw_m2 72 rfl) rfl
theorem q372 : (Jvm.Cond.lays "SmokedLetters$Reader" "SmokedLetters$Reader" "start" "I") ∈ lw_all := lw_g (lw_at lw_m2 73 rfl) rfl
theorem q373 : (Jvm.Cond.soleField "SmokedLetters$Reader" "start") ∈ lw_all := lw_g (lw_at lw_m2 74 rfl) rfl
theorem q374 : (Jvm.Cond.lays "SmokedLetters$Reader" "SmokedLetters$Reader" "sort" "I") ∈ lw_all := lw_g (lw_at lw_m2 75 rfl) rfl
theorem q375 : (Jvm.Cond.soleField "SmokedLetters$Reader" "sort") ∈ lw_all := lw_g (lw_at lw_m2 76 rfl) rfl
theorem q376 : (Jvm.Cond.lays "SmokedLetters$Reader" "SmokedLetters$Reader" "value" "I") ∈ lw_all := lw_g (lw_at lw_m2 77 rfl) rfl
theorem q377 : (Jvm.Cond.soleField "SmokedLetters$Reader" "value") ∈ lw_all := lw_g (lw_at lw_m2 78 rfl) rfl
theorem q378 : (Jvm.Cond.lays "SmokedLetters$Reader" "SmokedLetters$Reader" "told" "I") ∈ lw_all := lw_g (lw_at lw_m2 79 rfl) rfl
theorem q379 : (Jvm.Cond.soleField "SmokedLetters$Reader" "told") ∈ lw_all := lw_g (lw_at lw_m2 80 rfl) rfl
theorem q380 : (Jvm.Cond.laysFinal "SmokedLetters$Reader" "SmokedLetters$Reader" "made" "LSmokedLetters$Book;") ∈ lw_all := lw_g (lw_at lw_m2 81 rfl) rfl
theorem q381 : (Jvm.Cond.soleField "SmokedLetters$Reader" "made") ∈ lw_all := lw_g (lw_at lw_m2 82 rfl) rfl
theorem q382 : (Jvm.Cond.laysFinal "SmokedLetters$Reader" "SmokedLetters$Reader" "this$0" "LSmokedLetters;") ∈ lw_all := lw_g (lw_at lw_m2 83 rfl) rfl
theorem q383 : (Jvm.Cond.soleField "SmokedLetters$Reader" "this$0") ∈ lw_all := lw_g (lw_at lw_m2 84 rfl) rfl
theorem q384 : (Jvm.Cond.superclass "SmokedLetters$Reader" "java/lang/Object") ∈ lw_all := lw_g (lw_at lw_m2 85 rfl) rfl
theorem q386 : (Jvm.Cond.instanceMethod ({ cls := "SmokedLetters$Reader", name := "read", desc := "()LSmokedLetters$Book;" } : Jvm.MethodName)) ∈ lw_all := lw_g (lw_at lw_m2 87 rfl) rfl
theorem q387 : (Jvm.Cond.selects "SmokedLetters$Reader" ({ cls := "SmokedLetters$Reader", name := "read", desc := "()LSmokedLetters$Book;" } : Jvm.MethodName) ({ cls := "SmokedLetters$Reader", name := "read", desc := "()LSmokedLetters$Book;" } : Jvm.MethodName)) ∈ lw_all := lw_g (lw_at lw_m2 88 rfl) rfl
theorem q388 : (Jvm.Cond.code ({ cls := "SmokedLetters$Reader", name := "read", desc := "()LSmokedLetters$Book;" } : Jvm.MethodName) prog_10_method_8_code (2 : Nat) (Option.some (Jvm.ClassFile.FieldType.object "SmokedLetters$Book"))) ∈ lw_all := lw_g (lw_at lw_m2 89 rfl) rfl
theorem q389 : (Jvm.Cond.methodLink "SmokedLetters$Reader" (69 : Nat) ({ cls := "SmokedLetters$Reader", name := "next", desc := "()V" } : Jvm.MethodName)) ∈ lw_all := lw_g (lw_at lw_m2 90 rfl) rfl
theorem q390 : (Jvm.Cond.privateMethod ({ cls := "SmokedLetters$Reader", name := "next", desc := "()V" } : Jvm.MethodName)) ∈ lw_tbl := lw_at lw_m2 91 rfl
theorem q391 : (Jvm.Cond.instanceMethod ({ cls := "SmokedLetters$Reader", name := "next", desc := "()V" } : Jvm.MethodName)) ∈ lw_all := lw_g (lw_at lw_m2 92 rfl) rfl
theorem q392 : (Jvm.Cond.code ({ cls := "SmokedLetters$Reader", name := "next", desc := "()V" } : Jvm.MethodName) prog_10_method_3_code (3 : Nat) (Option.none : Option Jvm.ClassFile.FieldType)) ∈ lw_all := lw_g (lw_at lw_m2 93 rfl) rfl
theorem q393 : (Jvm.Cond.methodLink "SmokedLetters$Reader" (33 : Nat) ({ cls := "SmokedLetters$Reader", name := "here", desc := "()I" } : Jvm.MethodName)) ∈ lw_all := lw_g (lw_at lw_m2 94 rfl) rfl
theorem q394 : (Jvm.Cond.privateMethod ({ cls := "SmokedLetters$Reader", name := "here", desc := "()I" } : Jvm.MethodName)) ∈ lw_tbl := lw_at lw_m2 95 rfl
theorem q395 : (Jvm.Cond.instanceMethod ({ cls := "SmokedLetters$Reader", name := "here", desc := "()I" } : Jvm.MethodName)) ∈ lw_all := lw_g (lw_at lw_m2 96 rfl) rfl
theorem q396 : (Jvm.Cond.code ({ cls := "SmokedLetters$Reader", name := "here", desc := "()I" } : Jvm.MethodName) prog_10_method_2_code (1 : Nat) (Option.some Jvm.ClassFile.FieldType.int)) ∈ lw_all := lw_g (lw_at lw_m2 97 rfl) rfl
theorem q397 : (Jvm.Cond.methodLinkNest "SmokedLetters$Reader" (46 : Nat) ({ cls := "SmokedLetters", name := "in", desc := "(III)Z" } : Jvm.MethodName) "SmokedLetters") ∈ lw_tbl := lw_at lw_m2 98 rfl
theorem q398 : (Jvm.Cond.methodLink "SmokedLetters$Reader" (50 : Nat) ({ cls := "java/lang/Math", name := "min", desc := "(II)I" } : Jvm.MethodName)) ∈ lw_all := lw_g (lw_at lw_m2 99 rfl) rfl
theorem q401 : (Jvm.Cond.stringRef "SmokedLetters$Reader" (56 : Nat) "qrbtk") ∈ lw_tbl := lw_at lw_m2 102 rfl
theorem q402 : (Jvm.Cond.methodLink "SmokedLetters$Reader" (58 : Nat) ({ cls := "java/lang/String", name := "indexOf", desc := "(I)I" } : Jvm.MethodName)) ∈ lw_all := lw_g (lw_at lw_m2 103 rfl) rfl
theorem q486 : (Jvm.Cond.methodLink "SmokedLetters$Reader" (110 : Nat) ({ cls := "SmokedLetters$Reader", name := "may", desc := "(I)Z" } : Jvm.MethodName)) ∈ lw_all := lw_g (lw_at lw_m2 187 rfl) rfl
theorem q487 : (Jvm.Cond.privateMethod ({ cls := "SmokedLetters$Reader", name := "may", desc := "(I)Z" } : Jvm.MethodName)) ∈ lw_tbl := lw_at lw_m2 188 rfl
theorem q488 : (Jvm.Cond.instanceMethod ({ cls := "SmokedLetters$Reader", name := "may", desc := "(I)Z" } : Jvm.MethodName)) ∈ lw_all := lw_g (lw_at lw_m2 189 rfl) rfl
theorem q489 : (Jvm.Cond.code ({ cls := "SmokedLetters$Reader", name := "may", desc := "(I)Z" } : Jvm.MethodName) prog_10_method_7_code (2 : Nat) (Option.some Jvm.ClassFile.FieldType.boolean)) ∈ lw_all := lw_g (lw_at lw_m2 190 rfl) rfl
theorem q490 : (Jvm.Cond.methodLink "SmokedLetters$Reader" (72 : Nat) ({ cls := "SmokedLetters$Reader", name := "due", desc := "(Z)I" } : Jvm.MethodName)) ∈ lw_all := lw_g (lw_at lw_m2 191 rfl) rfl
theorem q491 : (Jvm.Cond.privateMethod ({ cls := "SmokedLetters$Reader", name := "due", desc := "(Z)I" } : Jvm.MethodName)) ∈ lw_tbl := lw_at lw_m2 192 rfl
theorem q492 : (Jvm.Cond.instanceMethod ({ cls := "SmokedLetters$Reader", name := "due", desc := "(Z)I" } : Jvm.MethodName)) ∈ lw_all := lw_g (lw_at lw_m2 193 rfl) rfl
theorem q493 : (Jvm.Cond.code ({ cls := "SmokedLetters$Reader", name := "due", desc := "(Z)I" } : Jvm.MethodName) prog_10_method_4_code (3 : Nat) (Option.some Jvm.ClassFile.FieldType.int)) ∈ lw_all := lw_g (lw_at lw_m2 194 rfl) rfl
theorem q494 : (Jvm.Cond.classLink "SmokedLetters$Reader" (64 : Nat) "SmokedLetters$Wrong") ∈ lw_all := lw_g (lw_at lw_m2 195 rfl) rfl
theorem q533 : (Jvm.Cond.methodLink "SmokedLetters$Reader" (66 : Nat) ({ cls := "SmokedLetters$Wrong", name := "<init>", desc := "(I)V" } : Jvm.MethodName)) ∈ lw_all := lw_g (lw_at lw_m2 234 rfl) rfl
theorem q562 : (Jvm.Cond.methodLink "SmokedLetters$Reader" (114 : Nat) ({ cls := "SmokedLetters$Reader", name := "item", desc := "(I)V" } : Jvm.MethodName)) ∈ lw_all := lw_g (lw_at lw_m3 23 rfl) rfl
theorem q563 : (Jvm.Cond.privateMethod ({ cls := "SmokedLetters$Reader", name := "item", desc := "(I)V" } : Jvm.MethodName)) ∈ lw_tbl := lw_at lw_m3 24 rfl
theorem q564 : (Jvm.Cond.instanceMethod ({ cls := "SmokedLetters$Reader", name := "item", desc := "(I)V" } : Jvm.MethodName)) ∈ lw_all := lw_g (lw_at lw_m3 25 rfl) rfl
theorem q565 : (Jvm.Cond.code ({ cls := "SmokedLetters$Reader", name := "item", desc := "(I)V" } : Jvm.MethodName) prog_10_method_6_code (3 : Nat) (Option.none : Option Jvm.ClassFile.FieldType)) ∈ lw_all := lw_g (lw_at lw_m3 26 rfl) rfl
theorem q566 : (Jvm.Cond.methodLink "SmokedLetters$Reader" (83 : Nat) ({ cls := "SmokedLetters$Reader", name := "number", desc := "(II)I" } : Jvm.MethodName)) ∈ lw_all := lw_g (lw_at lw_m3 27 rfl) rfl
theorem q567 : (Jvm.Cond.privateMethod ({ cls := "SmokedLetters$Reader", name := "number", desc := "(II)I" } : Jvm.MethodName)) ∈ lw_tbl := lw_at lw_m3 28 rfl
theorem q568 : (Jvm.Cond.instanceMethod ({ cls := "SmokedLetters$Reader", name := "number", desc := "(II)I" } : Jvm.MethodName)) ∈ lw_all := lw_g (lw_at lw_m3 29 rfl) rfl
theorem q569 : (Jvm.Cond.code ({ cls := "SmokedLetters$Reader", name := "number", desc := "(II)I" } : Jvm.MethodName) prog_10_method_5_code (3 : Nat) (Option.some Jvm.ClassFile.FieldType.int)) ∈ lw_all := lw_g (lw_at lw_m3 30 rfl) rfl
theorem q570 : (Jvm.Cond.fieldLinkNest "SmokedLetters$Reader" (104 : Nat) "SmokedLetters" "MOST" "[I" "SmokedLetters") ∈ lw_tbl := lw_at lw_m3 31 rfl
theorem in_X10 : ∀ w ∈ wsX100, w ∈ lw_all := lw_in wsX100 [370, 372, 374, 376, 378, 380, 382] (by decide +kernel) (by decide +kernel)

/-! SmokedLetters$Wrong -/
set_option maxRecDepth 100000
def RX11 : String := "SmokedLetters$Wrong"
def TX11 : u_T := fun k => match k with
  | 0 => ("java/lang/Throwable", "cause", "Ljava/lang/Throwable;", false)
  | 1 => ("java/lang/Throwable", "stackTrace", "[Ljava/lang/StackTraceElement;", false)
  | 2 => ("java/lang/Throwable", "suppressedExceptions", "Ljava/util/List;", false)
  | 3 => ("java/lang/Throwable", "detailMessage", "Ljava/lang/String;", false)
  | 4 => ("java/lang/Throwable", "backtrace", "Ljava/lang/Object;", false)
  | 5 => ("java/lang/Throwable", "depth", "I", false)
  | _ => ("SmokedLetters$Wrong", "at", "I", true)
def tyX11 : Nat → FieldType := fun k => match k with
  | 0 => .object "java/lang/Throwable"
  | 1 => .array (.object "java/lang/StackTraceElement")
  | 2 => .object "java/util/List"
  | 3 => .object "java/lang/String"
  | 4 => .object "java/lang/Object"
  | 5 => .int
  | _ => .int
abbrev wsX110 : List Cond := u_ws RX11 TX11 7
theorem nmX11 : ∀ a, a < 7 → ∀ b, b < 7 → a ≠ b → (TX11 a).2.1 ≠ (TX11 b).2.1 := by decide +kernel
theorem tyX11_ok : ∀ k, k < 7 → parseFieldDescriptor (TX11 k).2.2.1 = some (tyX11 k) := by decide +kernel
abbrev cX11_init : ByteArray := prog_11_method_1_code
def yX11_init : MethodName := ⟨RX11, "<init>", "(I)V"⟩
def dkwX11_init_0 : List UInt8 := [42, 1, 1, 3, 3, 183, 0, 1, 42, 27, 181, 0, 7, 177]
abbrev dktX11_init_0 : List UInt8 := dkwX11_init_0 ++ []
theorem dksX11_init_0 : cX11_init.data.toList.drop 0 = dktX11_init_0 := by decide +kernel
theorem dX11_init_0 : decode cX11_init 0 = .ok (.aload_n 0, 1) := dk_42 (dk_at dksX11_init_0 0 rfl rfl)
theorem dX11_init_1 : decode cX11_init 1 = .ok (.aconst_null, 1) := dk_1 (dk_at dksX11_init_0 1 rfl rfl)
theorem dX11_init_2 : decode cX11_init 2 = .ok (.aconst_null, 1) := dk_1 (dk_at dksX11_init_0 2 rfl rfl)
theorem dX11_init_3 : decode cX11_init 3 = .ok (.iconst 0, 1) := dk_3 (dk_at dksX11_init_0 3 rfl rfl)
theorem dX11_init_4 : decode cX11_init 4 = .ok (.iconst 0, 1) := dk_3 (dk_at dksX11_init_0 4 rfl rfl)
theorem dX11_init_5 : decode cX11_init 5 = .ok (.invokespecial 1, 3) := dk_183 0 1 (dk_at dksX11_init_0 5 rfl rfl)
theorem dX11_init_8 : decode cX11_init 8 = .ok (.aload_n 0, 1) := dk_42 (dk_at dksX11_init_0 8 rfl rfl)
theorem dX11_init_9 : decode cX11_init 9 = .ok (.iload_n 1, 1) := dk_27 (dk_at dksX11_init_0 9 rfl rfl)
theorem dX11_init_10 : decode cX11_init 10 = .ok (.putfield 7, 3) := dk_181 0 7 (dk_at dksX11_init_0 10 rfl rfl)
theorem dX11_init_13 : decode cX11_init 13 = .ok (.return_, 1) := dk_177 (dk_at dksX11_init_0 13 rfl rfl)
theorem q81 : (Jvm.Cond.initialized "SmokedLetters$Wrong") ∈ lw_all := lw_g (lw_at lw_m1 22 rfl) rfl
theorem q495 : (Jvm.Cond.instantiable "SmokedLetters$Wrong" (7 : Nat)) ∈ lw_all := lw_g (lw_at lw_m2 196 rfl) rfl
theorem q496 : (Jvm.Cond.castable "SmokedLetters$Wrong" "SmokedLetters$Wrong") ∈ lw_tbl := lw_at lw_m2 197 rfl
theorem q503 : (Jvm.Cond.selects "SmokedLetters$Wrong" ({ cls := "java/lang/Throwable", name := "fillInStackTrace", desc := "(I)Ljava/lang/Throwable;" } : Jvm.MethodName) ({ cls := "java/lang/Throwable", name := "fillInStackTrace", desc := "(I)Ljava/lang/Throwable;" } : Jvm.MethodName)) ∈ lw_all := lw_g (lw_at lw_m2 204 rfl) rfl
theorem q504 : (Jvm.Cond.selects "SmokedLetters$Wrong" ({ cls := "java/lang/Throwable", name := "fillInStackTrace", desc := "()Ljava/lang/Throwable;" } : Jvm.MethodName) ({ cls := "java/lang/Throwable", name := "fillInStackTrace", desc := "()Ljava/lang/Throwable;" } : Jvm.MethodName)) ∈ lw_all := lw_g (lw_at lw_m2 205 rfl) rfl
theorem q505 : (Jvm.Cond.lays "SmokedLetters$Wrong" "java/lang/Throwable" "cause" "Ljava/lang/Throwable;") ∈ lw_all := lw_g (lw_at lw_m2 206 rfl) rfl
theorem q507 : (Jvm.Cond.lays "SmokedLetters$Wrong" "java/lang/Throwable" "stackTrace" "[Ljava/lang/StackTraceElement;") ∈ lw_all := lw_g (lw_at lw_m2 208 rfl) rfl
theorem q509 : (Jvm.Cond.lays "SmokedLetters$Wrong" "java/lang/Throwable" "suppressedExceptions" "Ljava/util/List;") ∈ lw_all := lw_g (lw_at lw_m2 210 rfl) rfl
theorem q511 : (Jvm.Cond.lays "SmokedLetters$Wrong" "java/lang/Throwable" "detailMessage" "Ljava/lang/String;") ∈ lw_all := lw_g (lw_at lw_m2 212 rfl) rfl
theorem q513 : (Jvm.Cond.lays "SmokedLetters$Wrong" "java/lang/Throwable" "backtrace" "Ljava/lang/Object;") ∈ lw_all := lw_g (lw_at lw_m2 214 rfl) rfl
theorem q534 : (Jvm.Cond.instanceMethod ({ cls := "SmokedLetters$Wrong", name := "<init>", desc := "(I)V" } : Jvm.MethodName)) ∈ lw_all := lw_g (lw_at lw_m2 235 rfl) rfl
theorem q535 : (Jvm.Cond.code ({ cls := "SmokedLetters$Wrong", name := "<init>", desc := "(I)V" } : Jvm.MethodName) prog_11_method_1_code (2 : Nat) (Option.none : Option Jvm.ClassFile.FieldType)) ∈ lw_all := lw_g (lw_at lw_m2 236 rfl) rfl
theorem q536 : (Jvm.Cond.methodLink "SmokedLetters$Wrong" (1 : Nat) ({ cls := "java/lang/RuntimeException", name := "<init>", desc := "(Ljava/lang/String;Ljava/lang/Throwable;ZZ)V" } : Jvm.MethodName)) ∈ lw_all := lw_g (lw_at lw_m2 237 rfl) rfl
theorem q545 : (Jvm.Cond.fieldLink "SmokedLetters$Wrong" (7 : Nat) "SmokedLetters$Wrong" "at" "I") ∈ lw_all := lw_g (lw_at lw_m3 6 rfl) rfl
theorem q552 : (Jvm.Cond.laysFinal "SmokedLetters$Wrong" "SmokedLetters$Wrong" "at" "I") ∈ lw_all := lw_g (lw_at lw_m3 13 rfl) rfl
theorem q553 : (Jvm.Cond.soleField "SmokedLetters$Wrong" "at") ∈ lw_all := lw_g (lw_at lw_m3 14 rfl) rfl
theorem q558 : (Jvm.Cond.lays "SmokedLetters$Wrong" "java/lang/Throwable" "depth" "I") ∈ lw_all := lw_g (lw_at lw_m3 19 rfl) rfl
theorem q561 : (Jvm.Cond.superclass "SmokedLetters$Wrong" "java/lang/RuntimeException") ∈ lw_all := lw_g (lw_at lw_m3 22 rfl) rfl
theorem in_X11 : ∀ w ∈ wsX110, w ∈ lw_all := lw_in wsX110 [505, 507, 509, 511, 513, 558, 552] (by decide +kernel) (by decide +kernel)

/-! SmokedLetters$Island -/
set_option maxRecDepth 100000
def RX2 : String := "SmokedLetters$Island"
def TX2 : u_T := fun k => match k with
  | 0 => ("SmokedLetters$Island", "day", "I", false)
  | 1 => ("SmokedLetters$Island", "vinegar", "I", false)
  | 2 => ("SmokedLetters$Island", "gone", "I", false)
  | 3 => ("SmokedLetters$Island", "row", "[I", true)
  | 4 => ("SmokedLetters$Island", "days", "[I", true)
  | 5 => ("SmokedLetters$Island", "word", "[I", true)
  | _ => ("SmokedLetters$Island", "words", "I", false)
def tyX2 : Nat → FieldType := fun k => match k with
  | 0 => .int
  | 1 => .int
  | 2 => .int
  | 3 => .array .int
  | 4 => .array .int
  | 5 => .array .int
  | _ => .int
abbrev wsX20 : List Cond := u_ws RX2 TX2 7
theorem nmX2 : ∀ a, a < 7 → ∀ b, b < 7 → a ≠ b → (TX2 a).2.1 ≠ (TX2 b).2.1 := by decide +kernel
theorem tyX2_ok : ∀ k, k < 7 → parseFieldDescriptor (TX2 k).2.2.1 = some (tyX2 k) := by decide +kernel
abbrev cX2_init : ByteArray := prog_7_method_1_code
def yX2_init : MethodName := ⟨RX2, "<init>", "()V"⟩
def dkwX2_init_1 : List UInt8 := [181, 0, 18, 42, 182, 0, 21, 177]
abbrev dktX2_init_1 : List UInt8 := dkwX2_init_1 ++ []
def dkwX2_init_0 : List UInt8 := [42, 183, 0, 3, 42, 16, 6, 188, 10, 181, 0, 9, 42, 16, 6, 188, 10, 181, 0, 15, 42, 8, 188, 10]
abbrev dktX2_init_0 : List UInt8 := dkwX2_init_0 ++ dktX2_init_1
theorem dksX2_init_0 : cX2_init.data.toList.drop 0 = dktX2_init_0 := by decide +kernel
theorem dksX2_init_1 : cX2_init.data.toList.drop 24 = dktX2_init_1 := dk_seg dksX2_init_0 24 rfl rfl
theorem dX2_init_0 : decode cX2_init 0 = .ok (.aload_n 0, 1) := dk_42 (dk_at dksX2_init_0 0 rfl rfl)
theorem dX2_init_1 : decode cX2_init 1 = .ok (.invokespecial 3, 3) := dk_183 0 3 (dk_at dksX2_init_0 1 rfl rfl)
theorem dX2_init_4 : decode cX2_init 4 = .ok (.aload_n 0, 1) := dk_42 (dk_at dksX2_init_0 4 rfl rfl)
theorem dX2_init_5 : decode cX2_init 5 = .ok (.bipush 6, 2) := dk_16 6 (dk_at dksX2_init_0 5 rfl rfl)
theorem dX2_init_7 : decode cX2_init 7 = .ok (.newarray .int, 2) := dk_188_10 (dk_at dksX2_init_0 7 rfl rfl)
theorem dX2_init_9 : decode cX2_init 9 = .ok (.putfield 9, 3) := dk_181 0 9 (dk_at dksX2_init_0 9 rfl rfl)
theorem dX2_init_12 : decode cX2_init 12 = .ok (.aload_n 0, 1) := dk_42 (dk_at dksX2_init_0 12 rfl rfl)
theorem dX2_init_13 : decode cX2_init 13 = .ok (.bipush 6, 2) := dk_16 6 (dk_at dksX2_init_0 13 rfl rfl)
theorem dX2_init_15 : decode cX2_init 15 = .ok (.newarray .int, 2) := dk_188_10 (dk_at dksX2_init_0 15 rfl rfl)
theorem dX2_init_17 : decode cX2_init 17 = .ok (.putfield 15, 3) := dk_181 0 15 (dk_at dksX2_init_0 17 rfl rfl)
theorem dX2_init_20 : decode cX2_init 20 = .ok (.aload_n 0, 1) := dk_42 (dk_at dksX2_init_0 20 rfl rfl)
theorem dX2_init_21 : decode cX2_init 21 = .ok (.iconst 5, 1) := dk_8 (dk_at dksX2_init_0 21 rfl rfl)
theorem dX2_init_22 : decode cX2_init 22 = .ok (.newarray .int, 2) := dk_188_10 (dk_at dksX2_init_0 22 rfl rfl)
theorem dX2_init_24 : decode cX2_init 24 = .ok (.putfield 18, 3) := dk_181 0 18 (dk_at dksX2_init_1 0 rfl rfl)
theorem dX2_init_27 : decode cX2_init 27 = .ok (.aload_n 0, 1) := dk_42 (dk_at dksX2_init_1 3 rfl rfl)
theorem dX2_init_28 : decode cX2_init 28 = .ok (.invokevirtual 21, 3) := dk_182 0 21 (dk_at dksX2_init_1 4 rfl rfl)
theorem dX2_init_31 : decode cX2_init 31 = .ok (.return_, 1) := dk_177 (dk_at dksX2_init_1 7 rfl rfl)
abbrev cX2_begin : ByteArray := prog_7_method_2_code
def yX2_begin : MethodName := ⟨RX2, "begin", "()V"⟩
def dkwX2_begin_1 : List UInt8 := [42, 180, 0, 15, 3, 184, 0, 34, 42, 3, 181, 0, 40, 177]
abbrev dktX2_begin_1 : List UInt8 := dkwX2_begin_1 ++ []
def dkwX2_begin_0 : List UInt8 := [42, 3, 181, 0, 24, 42, 3, 181, 0, 28, 42, 3, 181, 0, 31, 42, 180, 0, 9, 16, 247, 184, 0, 34]
abbrev dktX2_begin_0 : List UInt8 := dkwX2_begin_0 ++ dktX2_begin_1
theorem dksX2_begin_0 : cX2_begin.data.toList.drop 0 = dktX2_begin_0 := by decide +kernel
theorem dksX2_begin_1 : cX2_begin.data.toList.drop 24 = dktX2_begin_1 := dk_seg dksX2_begin_0 24 rfl rfl
theorem dX2_begin_0 : decode cX2_begin 0 = .ok (.aload_n 0, 1) := dk_42 (dk_at dksX2_begin_0 0 rfl rfl)
theorem dX2_begin_1 : decode cX2_begin 1 = .ok (.iconst 0, 1) := dk_3 (dk_at dksX2_begin_0 1 rfl rfl)
theorem dX2_begin_2 : decode cX2_begin 2 = .ok (.putfield 24, 3) := dk_181 0 24 (dk_at dksX2_begin_0 2 rfl rfl)
theorem dX2_begin_5 : decode cX2_begin 5 = .ok (.aload_n 0, 1) := dk_42 (dk_at dksX2_begin_0 5 rfl rfl)
theorem dX2_begin_6 : decode cX2_begin 6 = .ok (.iconst 0, 1) := dk_3 (dk_at dksX2_begin_0 6 rfl rfl)
theorem dX2_begin_7 : decode cX2_begin 7 = .ok (.putfield 28, 3) := dk_181 0 28 (dk_at dksX2_begin_0 7 rfl rfl)
theorem dX2_begin_10 : decode cX2_begin 10 = .ok (.aload_n 0, 1) := dk_42 (dk_at dksX2_begin_0 10 rfl rfl)
theorem dX2_begin_11 : decode cX2_begin 11 = .ok (.iconst 0, 1) := dk_3 (dk_at dksX2_begin_0 11 rfl rfl)
theorem dX2_begin_12 : decode cX2_begin 12 = .ok (.putfield 31, 3) := dk_181 0 31 (dk_at dksX2_begin_0 12 rfl rfl)
theorem dX2_begin_15 : decode cX2_begin 15 = .ok (.aload_n 0, 1) := dk_42 (dk_at dksX2_begin_0 15 rfl rfl)
theorem dX2_begin_16 : decode cX2_begin 16 = .ok (.getfield 9, 3) := dk_180 0 9 (dk_at dksX2_begin_0 16 rfl rfl)
theorem dX2_begin_19 : decode cX2_begin 19 = .ok (.bipush (-9), 2) := dk_16 247 (dk_at dksX2_begin_0 19 rfl rfl)
theorem dX2_begin_21 : decode cX2_begin 21 = .ok (.invokestatic 34, 3) := dk_184 0 34 (dk_at dksX2_begin_0 21 rfl rfl)
theorem dX2_begin_24 : decode cX2_begin 24 = .ok (.aload_n 0, 1) := dk_42 (dk_at dksX2_begin_1 0 rfl rfl)
theorem dX2_begin_25 : decode cX2_begin 25 = .ok (.getfield 15, 3) := dk_180 0 15 (dk_at dksX2_begin_1 1 rfl rfl)
theorem dX2_begin_28 : decode cX2_begin 28 = .ok (.iconst 0, 1) := dk_3 (dk_at dksX2_begin_1 4 rfl rfl)
theorem dX2_begin_29 : decode cX2_begin 29 = .ok (.invokestatic 34, 3) := dk_184 0 34 (dk_at dksX2_begin_1 5 rfl rfl)
theorem dX2_begin_32 : decode cX2_begin 32 = .ok (.aload_n 0, 1) := dk_42 (dk_at dksX2_begin_1 8 rfl rfl)
theorem dX2_begin_33 : decode cX2_begin 33 = .ok (.iconst 0, 1) := dk_3 (dk_at dksX2_begin_1 9 rfl rfl)
theorem dX2_begin_34 : decode cX2_begin 34 = .ok (.putfield 40, 3) := dk_181 0 40 (dk_at dksX2_begin_1 10 rfl rfl)
theorem dX2_begin_37 : decode cX2_begin 37 = .ok (.return_, 1) := dk_177 (dk_at dksX2_begin_1 13 rfl rfl)
abbrev cX2_leavers : ByteArray := prog_7_method_8_code
def yX2_leavers : MethodName := ⟨RX2, "leavers", "(LSmokedLetters$Book;)I"⟩
def dkwX2_leavers_1 : List UInt8 := [120, 167, 0, 4, 3, 128, 61, 132, 3, 1, 167, 255, 226, 28, 172]
abbrev dktX2_leavers_1 : List UInt8 := dkwX2_leavers_1 ++ []
def dkwX2_leavers_0 : List UInt8 := [3, 61, 3, 62, 29, 43, 180, 0, 58, 162, 0, 28, 28, 42, 43, 29, 182, 0, 61, 153, 0, 9, 4, 29]
abbrev dktX2_leavers_0 : List UInt8 := dkwX2_leavers_0 ++ dktX2_leavers_1
theorem dksX2_leavers_0 : cX2_leavers.data.toList.drop 0 = dktX2_leavers_0 := by decide +kernel
theorem dksX2_leavers_1 : cX2_leavers.data.toList.drop 24 = dktX2_leavers_1 := dk_seg dksX2_leavers_0 24 rfl rfl
theorem dX2_leavers_0 : decode cX2_leavers 0 = .ok (.iconst 0, 1) := dk_3 (dk_at dksX2_leavers_0 0 rfl rfl)
theorem dX2_leavers_1 : decode cX2_leavers 1 = .ok (.istore_n 2, 1) := dk_61 (dk_at dksX2_leavers_0 1 rfl rfl)
theorem dX2_leavers_2 : decode cX2_leavers 2 = .ok (.iconst 0, 1) := dk_3 (dk_at dksX2_leavers_0 2 rfl rfl)
theorem dX2_leavers_3 : decode cX2_leavers 3 = .ok (.istore_n 3, 1) := dk_62 (dk_at dksX2_leavers_0 3 rfl rfl)
theorem dX2_leavers_4 : decode cX2_leavers 4 = .ok (.iload_n 3, 1) := dk_29 (dk_at dksX2_leavers_0 4 rfl rfl)
theorem dX2_leavers_5 : decode cX2_leavers 5 = .ok (.aload_n 1, 1) := dk_43 (dk_at dksX2_leavers_0 5 rfl rfl)
theorem dX2_leavers_6 : decode cX2_leavers 6 = .ok (.getfield 58, 3) := dk_180 0 58 (dk_at dksX2_leavers_0 6 rfl rfl)
theorem dX2_leavers_9 : decode cX2_leavers 9 = .ok (.if_icmp .ge 28, 3) := dk_162 0 28 (dk_at dksX2_leavers_0 9 rfl rfl)
theorem dX2_leavers_12 : decode cX2_leavers 12 = .ok (.iload_n 2, 1) := dk_28 (dk_at dksX2_leavers_0 12 rfl rfl)
theorem dX2_leavers_13 : decode cX2_leavers 13 = .ok (.aload_n 0, 1) := dk_42 (dk_at dksX2_leavers_0 13 rfl rfl)
theorem dX2_leavers_14 : decode cX2_leavers 14 = .ok (.aload_n 1, 1) := dk_43 (dk_at dksX2_leavers_0 14 rfl rfl)
theorem dX2_leavers_15 : decode cX2_leavers 15 = .ok (.iload_n 3, 1) := dk_29 (dk_at dksX2_leavers_0 15 rfl rfl)
theorem dX2_leavers_16 : decode cX2_leavers 16 = .ok (.invokevirtual 61, 3) := dk_182 0 61 (dk_at dksX2_leavers_0 16 rfl rfl)
theorem dX2_leavers_19 : decode cX2_leavers 19 = .ok (.ifCond .eq 9, 3) := dk_153 0 9 (dk_at dksX2_leavers_0 19 rfl rfl)
theorem dX2_leavers_22 : decode cX2_leavers 22 = .ok (.iconst 1, 1) := dk_4 (dk_at dksX2_leavers_0 22 rfl rfl)
theorem dX2_leavers_23 : decode cX2_leavers 23 = .ok (.iload_n 3, 1) := dk_29 (dk_at dksX2_leavers_0 23 rfl rfl)
theorem dX2_leavers_24 : decode cX2_leavers 24 = .ok (.ishl, 1) := dk_120 (dk_at dksX2_leavers_1 0 rfl rfl)
theorem dX2_leavers_25 : decode cX2_leavers 25 = .ok (.goto 4, 3) := dk_167 0 4 (dk_at dksX2_leavers_1 1 rfl rfl)
theorem dX2_leavers_28 : decode cX2_leavers 28 = .ok (.iconst 0, 1) := dk_3 (dk_at dksX2_leavers_1 4 rfl rfl)
theorem dX2_leavers_29 : decode cX2_leavers 29 = .ok (.ior, 1) := dk_128 (dk_at dksX2_leavers_1 5 rfl rfl)
theorem dX2_leavers_30 : decode cX2_leavers 30 = .ok (.istore_n 2, 1) := dk_61 (dk_at dksX2_leavers_1 6 rfl rfl)
theorem dX2_leavers_31 : decode cX2_leavers 31 = .ok (.iinc 3 1, 3) := dk_132 3 1 (dk_at dksX2_leavers_1 7 rfl rfl)
theorem dX2_leavers_34 : decode cX2_leavers 34 = .ok (.goto (-30), 3) := dk_167 255 226 (dk_at dksX2_leavers_1 10 rfl rfl)
theorem dX2_leavers_37 : decode cX2_leavers 37 = .ok (.iload_n 2, 1) := dk_28 (dk_at dksX2_leavers_1 13 rfl rfl)
theorem dX2_leavers_38 : decode cX2_leavers 38 = .ok (.ireturn, 1) := dk_172 (dk_at dksX2_leavers_1 14 rfl rfl)
abbrev cX2_mayLeave : ByteArray := prog_7_method_7_code
def yX2_mayLeave : MethodName := ⟨RX2, "mayLeave", "(LSmokedLetters$Book;I)Z"⟩
def dkwX2_mayLeave_1 : List UInt8 := [161, 0, 7, 4, 167, 0, 4, 3, 172]
abbrev dktX2_mayLeave_1 : List UInt8 := dkwX2_mayLeave_1 ++ []
def dkwX2_mayLeave_0 : List UInt8 := [42, 180, 0, 9, 28, 46, 16, 247, 159, 0, 22, 42, 180, 0, 15, 28, 46, 43, 180, 0, 53, 3, 46]
abbrev dktX2_mayLeave_0 : List UInt8 := dkwX2_mayLeave_0 ++ dktX2_mayLeave_1
theorem dksX2_mayLeave_0 : cX2_mayLeave.data.toList.drop 0 = dktX2_mayLeave_0 := by decide +kernel
theorem dksX2_mayLeave_1 : cX2_mayLeave.data.toList.drop 23 = dktX2_mayLeave_1 := dk_seg dksX2_mayLeave_0 23 rfl rfl
theorem dX2_mayLeave_0 : decode cX2_mayLeave 0 = .ok (.aload_n 0, 1) := dk_42 (dk_at dksX2_mayLeave_0 0 rfl rfl)
theorem dX2_mayLeave_1 : decode cX2_mayLeave 1 = .ok (.getfield 9, 3) := dk_180 0 9 (dk_at dksX2_mayLeave_0 1 rfl rfl)
theorem dX2_mayLeave_4 : decode cX2_mayLeave 4 = .ok (.iload_n 2, 1) := dk_28 (dk_at dksX2_mayLeave_0 4 rfl rfl)
theorem dX2_mayLeave_5 : decode cX2_mayLeave 5 = .ok (.iaload, 1) := dk_46 (dk_at dksX2_mayLeave_0 5 rfl rfl)
theorem dX2_mayLeave_6 : decode cX2_mayLeave 6 = .ok (.bipush (-9), 2) := dk_16 247 (dk_at dksX2_mayLeave_0 6 rfl rfl)
theorem dX2_mayLeave_8 : decode cX2_mayLeave 8 = .ok (.if_icmp .eq 22, 3) := dk_159 0 22 (dk_at dksX2_mayLeave_0 8 rfl rfl)
theorem dX2_mayLeave_11 : decode cX2_mayLeave 11 = .ok (.aload_n 0, 1) := dk_42 (dk_at dksX2_mayLeave_0 11 rfl rfl)
theorem dX2_mayLeave_12 : decode cX2_mayLeave 12 = .ok (.getfield 15, 3) := dk_180 0 15 (dk_at dksX2_mayLeave_0 12 rfl rfl)
theorem dX2_mayLeave_15 : decode cX2_mayLeave 15 = .ok (.iload_n 2, 1) := dk_28 (dk_at dksX2_mayLeave_0 15 rfl rfl)
theorem dX2_mayLeave_16 : decode cX2_mayLeave 16 = .ok (.iaload, 1) := dk_46 (dk_at dksX2_mayLeave_0 16 rfl rfl)
theorem dX2_mayLeave_17 : decode cX2_mayLeave 17 = .ok (.aload_n 1, 1) := dk_43 (dk_at dksX2_mayLeave_0 17 rfl rfl)
theorem dX2_mayLeave_18 : decode cX2_mayLeave 18 = .ok (.getfield 53, 3) := dk_180 0 53 (dk_at dksX2_mayLeave_0 18 rfl rfl)
theorem dX2_mayLeave_21 : decode cX2_mayLeave 21 = .ok (.iconst 0, 1) := dk_3 (dk_at dksX2_mayLeave_0 21 rfl rfl)
theorem dX2_mayLeave_22 : decode cX2_mayLeave 22 = .ok (.iaload, 1) := dk_46 (dk_at dksX2_mayLeave_0 22 rfl rfl)
theorem dX2_mayLeave_23 : decode cX2_mayLeave 23 = .ok (.if_icmp .lt 7, 3) := dk_161 0 7 (dk_at dksX2_mayLeave_1 0 rfl rfl)
theorem dX2_mayLeave_26 : decode cX2_mayLeave 26 = .ok (.iconst 1, 1) := dk_4 (dk_at dksX2_mayLeave_1 3 rfl rfl)
theorem dX2_mayLeave_27 : decode cX2_mayLeave 27 = .ok (.goto 4, 3) := dk_167 0 4 (dk_at dksX2_mayLeave_1 4 rfl rfl)
theorem dX2_mayLeave_30 : decode cX2_mayLeave 30 = .ok (.iconst 0, 1) := dk_3 (dk_at dksX2_mayLeave_1 7 rfl rfl)
theorem dX2_mayLeave_31 : decode cX2_mayLeave 31 = .ok (.ireturn, 1) := dk_172 (dk_at dksX2_mayLeave_1 8 rfl rfl)
abbrev cX2_copyOf : ByteArray := prog_7_method_3_code
def yX2_copyOf : MethodName := ⟨RX2, "copyOf", "(LSmokedLetters$Island;)V"⟩
def dkwX2_copyOf_3 : List UInt8 := [180, 0, 40, 181, 0, 40, 177]
abbrev dktX2_copyOf_3 : List UInt8 := dkwX2_copyOf_3 ++ []
def dkwX2_copyOf_2 : List UInt8 := [3, 16, 6, 184, 0, 43, 43, 180, 0, 18, 3, 42, 180, 0, 18, 3, 8, 184, 0, 43, 42, 43]
abbrev dktX2_copyOf_2 : List UInt8 := dkwX2_copyOf_2 ++ dktX2_copyOf_3
def dkwX2_copyOf_1 : List UInt8 := [43, 180, 0, 9, 3, 42, 180, 0, 9, 3, 16, 6, 184, 0, 43, 43, 180, 0, 15, 3, 42, 180, 0, 15]
abbrev dktX2_copyOf_1 : List UInt8 := dkwX2_copyOf_1 ++ dktX2_copyOf_2
def dkwX2_copyOf_0 : List UInt8 := [42, 43, 180, 0, 24, 181, 0, 24, 42, 43, 180, 0, 28, 181, 0, 28, 42, 43, 180, 0, 31, 181, 0, 31]
abbrev dktX2_copyOf_0 : List UInt8 := dkwX2_copyOf_0 ++ dktX2_copyOf_1
theorem dksX2_copyOf_0 : cX2_copyOf.data.toList.drop 0 = dktX2_copyOf_0 := by decide +kernel
theorem dksX2_copyOf_1 : cX2_copyOf.data.toList.drop 24 = dktX2_copyOf_1 := dk_seg dksX2_copyOf_0 24 rfl rfl
theorem dksX2_copyOf_2 : cX2_copyOf.data.toList.drop 48 = dktX2_copyOf_2 := dk_seg dksX2_copyOf_1 24 rfl rfl
theorem dksX2_copyOf_3 : cX2_copyOf.data.toList.drop 70 = dktX2_copyOf_3 := dk_seg dksX2_copyOf_2 22 rfl rfl
theorem dX2_copyOf_0 : decode cX2_copyOf 0 = .ok (.aload_n 0, 1) := dk_42 (dk_at dksX2_copyOf_0 0 rfl rfl)
theorem dX2_copyOf_1 : decode cX2_copyOf 1 = .ok (.aload_n 1, 1) := dk_43 (dk_at dksX2_copyOf_0 1 rfl rfl)
theorem dX2_copyOf_2 : decode cX2_copyOf 2 = .ok (.getfield 24, 3) := dk_180 0 24 (dk_at dksX2_copyOf_0 2 rfl rfl)
theorem dX2_copyOf_5 : decode cX2_copyOf 5 = .ok (.putfield 24, 3) := dk_181 0 24 (dk_at dksX2_copyOf_0 5 rfl rfl)
theorem dX2_copyOf_8 : decode cX2_copyOf 8 = .ok (.aload_n 0, 1) := dk_42 (dk_at dksX2_copyOf_0 8 rfl rfl)
theorem dX2_copyOf_9 : decode cX2_copyOf 9 = .ok (.aload_n 1, 1) := dk_43 (dk_at dksX2_copyOf_0 9 rfl rfl)
theorem dX2_copyOf_10 : decode cX2_copyOf 10 = .ok (.getfield 28, 3) := dk_180 0 28 (dk_at dksX2_copyOf_0 10 rfl rfl)
theorem dX2_copyOf_13 : decode cX2_copyOf 13 = .ok (.putfield 28, 3) := dk_181 0 28 (dk_at dksX2_copyOf_0 13 rfl rfl)
theorem dX2_copyOf_16 : decode cX2_copyOf 16 = .ok (.aload_n 0, 1) := dk_42 (dk_at dksX2_copyOf_0 16 rfl rfl)
theorem dX2_copyOf_17 : decode cX2_copyOf 17 = .ok (.aload_n 1, 1) := dk_43 (dk_at dksX2_copyOf_0 17 rfl rfl)
theorem dX2_copyOf_18 : decode cX2_copyOf 18 = .ok (.getfield 31, 3) := dk_180 0 31 (dk_at dksX2_copyOf_0 18 rfl rfl)
theorem dX2_copyOf_21 : decode cX2_copyOf 21 = .ok (.putfield 31, 3) := dk_181 0 31 (dk_at dksX2_copyOf_0 21 rfl rfl)
theorem dX2_copyOf_24 : decode cX2_copyOf 24 = .ok (.aload_n 1, 1) := dk_43 (dk_at dksX2_copyOf_1 0 rfl rfl)
theorem dX2_copyOf_25 : decode cX2_copyOf 25 = .ok (.getfield 9, 3) := dk_180 0 9 (dk_at dksX2_copyOf_1 1 rfl rfl)
theorem dX2_copyOf_28 : decode cX2_copyOf 28 = .ok (.iconst 0, 1) := dk_3 (dk_at dksX2_copyOf_1 4 rfl rfl)
theorem dX2_copyOf_29 : decode cX2_copyOf 29 = .ok (.aload_n 0, 1) := dk_42 (dk_at dksX2_copyOf_1 5 rfl rfl)
theorem dX2_copyOf_30 : decode cX2_copyOf 30 = .ok (.getfield 9, 3) := dk_180 0 9 (dk_at dksX2_copyOf_1 6 rfl rfl)
theorem dX2_copyOf_33 : decode cX2_copyOf 33 = .ok (.iconst 0, 1) := dk_3 (dk_at dksX2_copyOf_1 9 rfl rfl)
theorem dX2_copyOf_34 : decode cX2_copyOf 34 = .ok (.bipush 6, 2) := dk_16 6 (dk_at dksX2_copyOf_1 10 rfl rfl)
theorem dX2_copyOf_36 : decode cX2_copyOf 36 = .ok (.invokestatic 43, 3) := dk_184 0 43 (dk_at dksX2_copyOf_1 12 rfl rfl)
theorem dX2_copyOf_39 : decode cX2_copyOf 39 = .ok (.aload_n 1, 1) := dk_43 (dk_at dksX2_copyOf_1 15 rfl rfl)
theorem dX2_copyOf_40 : decode cX2_copyOf 40 = .ok (.getfield 15, 3) := dk_180 0 15 (dk_at dksX2_copyOf_1 16 rfl rfl)
theorem dX2_copyOf_43 : decode cX2_copyOf 43 = .ok (.iconst 0, 1) := dk_3 (dk_at dksX2_copyOf_1 19 rfl rfl)
theorem dX2_copyOf_44 : decode cX2_copyOf 44 = .ok (.aload_n 0, 1) := dk_42 (dk_at dksX2_copyOf_1 20 rfl rfl)
theorem dX2_copyOf_45 : decode cX2_copyOf 45 = .ok (.getfield 15, 3) := dk_180 0 15 (dk_at dksX2_copyOf_1 21 rfl rfl)
theorem dX2_copyOf_48 : decode cX2_copyOf 48 = .ok (.iconst 0, 1) := dk_3 (dk_at dksX2_copyOf_2 0 rfl rfl)
theorem dX2_copyOf_49 : decode cX2_copyOf 49 = .ok (.bipush 6, 2) := dk_16 6 (dk_at dksX2_copyOf_2 1 rfl rfl)
theorem dX2_copyOf_51 : decode cX2_copyOf 51 = .ok (.invokestatic 43, 3) := dk_184 0 43 (dk_at dksX2_copyOf_2 3 rfl rfl)
theorem dX2_copyOf_54 : decode cX2_copyOf 54 = .ok (.aload_n 1, 1) := dk_43 (dk_at dksX2_copyOf_2 6 rfl rfl)
theorem dX2_copyOf_55 : decode cX2_copyOf 55 = .ok (.getfield 18, 3) := dk_180 0 18 (dk_at dksX2_copyOf_2 7 rfl rfl)
theorem dX2_copyOf_58 : decode cX2_copyOf 58 = .ok (.iconst 0, 1) := dk_3 (dk_at dksX2_copyOf_2 10 rfl rfl)
theorem dX2_copyOf_59 : decode cX2_copyOf 59 = .ok (.aload_n 0, 1) := dk_42 (dk_at dksX2_copyOf_2 11 rfl rfl)
theorem dX2_copyOf_60 : decode cX2_copyOf 60 = .ok (.getfield 18, 3) := dk_180 0 18 (dk_at dksX2_copyOf_2 12 rfl rfl)
theorem dX2_copyOf_63 : decode cX2_copyOf 63 = .ok (.iconst 0, 1) := dk_3 (dk_at dksX2_copyOf_2 15 rfl rfl)
theorem dX2_copyOf_64 : decode cX2_copyOf 64 = .ok (.iconst 5, 1) := dk_8 (dk_at dksX2_copyOf_2 16 rfl rfl)
theorem dX2_copyOf_65 : decode cX2_copyOf 65 = .ok (.invokestatic 43, 3) := dk_184 0 43 (dk_at dksX2_copyOf_2 17 rfl rfl)
theorem dX2_copyOf_68 : decode cX2_copyOf 68 = .ok (.aload_n 0, 1) := dk_42 (dk_at dksX2_copyOf_2 20 rfl rfl)
theorem dX2_copyOf_69 : decode cX2_copyOf 69 = .ok (.aload_n 1, 1) := dk_43 (dk_at dksX2_copyOf_2 21 rfl rfl)
theorem dX2_copyOf_70 : decode cX2_copyOf 70 = .ok (.getfield 40, 3) := dk_180 0 40 (dk_at dksX2_copyOf_3 0 rfl rfl)
theorem dX2_copyOf_73 : decode cX2_copyOf 73 = .ok (.putfield 40, 3) := dk_181 0 40 (dk_at dksX2_copyOf_3 3 rfl rfl)
theorem dX2_copyOf_76 : decode cX2_copyOf 76 = .ok (.return_, 1) := dk_177 (dk_at dksX2_copyOf_3 6 rfl rfl)
abbrev cX2_put : ByteArray := prog_7_method_5_code
def yX2_put : MethodName := ⟨RX2, "put", "(II)I"⟩
def dkwX2_put_2 : List UInt8 := [28, 182, 0, 49, 172]
abbrev dktX2_put_2 : List UInt8 := dkwX2_put_2 ++ []
def dkwX2_put_1 : List UInt8 := [29, 46, 28, 160, 0, 7, 3, 167, 0, 9, 42, 180, 0, 15, 29, 46, 79, 132, 3, 1, 167, 255, 221, 42]
abbrev dktX2_put_1 : List UInt8 := dkwX2_put_1 ++ dktX2_put_2
def dkwX2_put_0 : List UInt8 := [42, 180, 0, 9, 27, 28, 79, 3, 62, 29, 16, 6, 162, 0, 35, 42, 180, 0, 15, 29, 42, 180, 0, 9]
abbrev dktX2_put_0 : List UInt8 := dkwX2_put_0 ++ dktX2_put_1
theorem dksX2_put_0 : cX2_put.data.toList.drop 0 = dktX2_put_0 := by decide +kernel
theorem dksX2_put_1 : cX2_put.data.toList.drop 24 = dktX2_put_1 := dk_seg dksX2_put_0 24 rfl rfl
theorem dksX2_put_2 : cX2_put.data.toList.drop 48 = dktX2_put_2 := dk_seg dksX2_put_1 24 rfl rfl
theorem dX2_put_0 : decode cX2_put 0 = .ok (.aload_n 0, 1) := dk_42 (dk_at dksX2_put_0 0 rfl rfl)
theorem dX2_put_1 : decode cX2_put 1 = .ok (.getfield 9, 3) := dk_180 0 9 (dk_at dksX2_put_0 1 rfl rfl)
theorem dX2_put_4 : decode cX2_put 4 = .ok (.iload_n 1, 1) := dk_27 (dk_at dksX2_put_0 4 rfl rfl)
theorem dX2_put_5 : decode cX2_put 5 = .ok (.iload_n 2, 1) := dk_28 (dk_at dksX2_put_0 5 rfl rfl)
theorem dX2_put_6 : decode cX2_put 6 = .ok (.iastore, 1) := dk_79 (dk_at dksX2_put_0 6 rfl rfl)
theorem dX2_put_7 : decode cX2_put 7 = .ok (.iconst 0, 1) := dk_3 (dk_at dksX2_put_0 7 rfl rfl)
theorem dX2_put_8 : decode cX2_put 8 = .ok (.istore_n 3, 1) := dk_62 (dk_at dksX2_put_0 8 rfl rfl)
theorem dX2_put_9 : decode cX2_put 9 = .ok (.iload_n 3, 1) := dk_29 (dk_at dksX2_put_0 9 rfl rfl)
theorem dX2_put_10 : decode cX2_put 10 = .ok (.bipush 6, 2) := dk_16 6 (dk_at dksX2_put_0 10 rfl rfl)
theorem dX2_put_12 : decode cX2_put 12 = .ok (.if_icmp .ge 35, 3) := dk_162 0 35 (dk_at dksX2_put_0 12 rfl rfl)
theorem dX2_put_15 : decode cX2_put 15 = .ok (.aload_n 0, 1) := dk_42 (dk_at dksX2_put_0 15 rfl rfl)
theorem dX2_put_16 : decode cX2_put 16 = .ok (.getfield 15, 3) := dk_180 0 15 (dk_at dksX2_put_0 16 rfl rfl)
theorem dX2_put_19 : decode cX2_put 19 = .ok (.iload_n 3, 1) := dk_29 (dk_at dksX2_put_0 19 rfl rfl)
theorem dX2_put_20 : decode cX2_put 20 = .ok (.aload_n 0, 1) := dk_42 (dk_at dksX2_put_0 20 rfl rfl)
theorem dX2_put_21 : decode cX2_put 21 = .ok (.getfield 9, 3) := dk_180 0 9 (dk_at dksX2_put_0 21 rfl rfl)
theorem dX2_put_24 : decode cX2_put 24 = .ok (.iload_n 3, 1) := dk_29 (dk_at dksX2_put_1 0 rfl rfl)
theorem dX2_put_25 : decode cX2_put 25 = .ok (.iaload, 1) := dk_46 (dk_at dksX2_put_1 1 rfl rfl)
theorem dX2_put_26 : decode cX2_put 26 = .ok (.iload_n 2, 1) := dk_28 (dk_at dksX2_put_1 2 rfl rfl)
theorem dX2_put_27 : decode cX2_put 27 = .ok (.if_icmp .ne 7, 3) := dk_160 0 7 (dk_at dksX2_put_1 3 rfl rfl)
theorem dX2_put_30 : decode cX2_put 30 = .ok (.iconst 0, 1) := dk_3 (dk_at dksX2_put_1 6 rfl rfl)
theorem dX2_put_31 : decode cX2_put 31 = .ok (.goto 9, 3) := dk_167 0 9 (dk_at dksX2_put_1 7 rfl rfl)
theorem dX2_put_34 : decode cX2_put 34 = .ok (.aload_n 0, 1) := dk_42 (dk_at dksX2_put_1 10 rfl rfl)
theorem dX2_put_35 : decode cX2_put 35 = .ok (.getfield 15, 3) := dk_180 0 15 (dk_at dksX2_put_1 11 rfl rfl)
theorem dX2_put_38 : decode cX2_put 38 = .ok (.iload_n 3, 1) := dk_29 (dk_at dksX2_put_1 14 rfl rfl)
theorem dX2_put_39 : decode cX2_put 39 = .ok (.iaload, 1) := dk_46 (dk_at dksX2_put_1 15 rfl rfl)
theorem dX2_put_40 : decode cX2_put 40 = .ok (.iastore, 1) := dk_79 (dk_at dksX2_put_1 16 rfl rfl)
theorem dX2_put_41 : decode cX2_put 41 = .ok (.iinc 3 1, 3) := dk_132 3 1 (dk_at dksX2_put_1 17 rfl rfl)
theorem dX2_put_44 : decode cX2_put 44 = .ok (.goto (-35), 3) := dk_167 255 221 (dk_at dksX2_put_1 20 rfl rfl)
theorem dX2_put_47 : decode cX2_put 47 = .ok (.aload_n 0, 1) := dk_42 (dk_at dksX2_put_1 23 rfl rfl)
theorem dX2_put_48 : decode cX2_put 48 = .ok (.iload_n 2, 1) := dk_28 (dk_at dksX2_put_2 0 rfl rfl)
theorem dX2_put_49 : decode cX2_put 49 = .ok (.invokevirtual 49, 3) := dk_182 0 49 (dk_at dksX2_put_2 1 rfl rfl)
theorem dX2_put_52 : decode cX2_put 52 = .ok (.ireturn, 1) := dk_172 (dk_at dksX2_put_2 4 rfl rfl)
abbrev cX2_manyIn : ByteArray := prog_7_method_4_code
def yX2_manyIn : MethodName := ⟨RX2, "manyIn", "(I)I"⟩
def dkwX2_manyIn_1 : List UInt8 := [167, 0, 4, 3, 96, 61, 132, 3, 1, 167, 255, 229, 28, 172]
abbrev dktX2_manyIn_1 : List UInt8 := dkwX2_manyIn_1 ++ []
def dkwX2_manyIn_0 : List UInt8 := [3, 61, 3, 62, 29, 16, 6, 162, 0, 27, 28, 42, 180, 0, 9, 29, 46, 27, 160, 0, 7, 4]
abbrev dktX2_manyIn_0 : List UInt8 := dkwX2_manyIn_0 ++ dktX2_manyIn_1
theorem dksX2_manyIn_0 : cX2_manyIn.data.toList.drop 0 = dktX2_manyIn_0 := by decide +kernel
theorem dksX2_manyIn_1 : cX2_manyIn.data.toList.drop 22 = dktX2_manyIn_1 := dk_seg dksX2_manyIn_0 22 rfl rfl
theorem dX2_manyIn_0 : decode cX2_manyIn 0 = .ok (.iconst 0, 1) := dk_3 (dk_at dksX2_manyIn_0 0 rfl rfl)
theorem dX2_manyIn_1 : decode cX2_manyIn 1 = .ok (.istore_n 2, 1) := dk_61 (dk_at dksX2_manyIn_0 1 rfl rfl)
theorem dX2_manyIn_2 : decode cX2_manyIn 2 = .ok (.iconst 0, 1) := dk_3 (dk_at dksX2_manyIn_0 2 rfl rfl)
theorem dX2_manyIn_3 : decode cX2_manyIn 3 = .ok (.istore_n 3, 1) := dk_62 (dk_at dksX2_manyIn_0 3 rfl rfl)
theorem dX2_manyIn_4 : decode cX2_manyIn 4 = .ok (.iload_n 3, 1) := dk_29 (dk_at dksX2_manyIn_0 4 rfl rfl)
theorem dX2_manyIn_5 : decode cX2_manyIn 5 = .ok (.bipush 6, 2) := dk_16 6 (dk_at dksX2_manyIn_0 5 rfl rfl)
theorem dX2_manyIn_7 : decode cX2_manyIn 7 = .ok (.if_icmp .ge 27, 3) := dk_162 0 27 (dk_at dksX2_manyIn_0 7 rfl rfl)
theorem dX2_manyIn_10 : decode cX2_manyIn 10 = .ok (.iload_n 2, 1) := dk_28 (dk_at dksX2_manyIn_0 10 rfl rfl)
theorem dX2_manyIn_11 : decode cX2_manyIn 11 = .ok (.aload_n 0, 1) := dk_42 (dk_at dksX2_manyIn_0 11 rfl rfl)
theorem dX2_manyIn_12 : decode cX2_manyIn 12 = .ok (.getfield 9, 3) := dk_180 0 9 (dk_at dksX2_manyIn_0 12 rfl rfl)
theorem dX2_manyIn_15 : decode cX2_manyIn 15 = .ok (.iload_n 3, 1) := dk_29 (dk_at dksX2_manyIn_0 15 rfl rfl)
theorem dX2_manyIn_16 : decode cX2_manyIn 16 = .ok (.iaload, 1) := dk_46 (dk_at dksX2_manyIn_0 16 rfl rfl)
theorem dX2_manyIn_17 : decode cX2_manyIn 17 = .ok (.iload_n 1, 1) := dk_27 (dk_at dksX2_manyIn_0 17 rfl rfl)
theorem dX2_manyIn_18 : decode cX2_manyIn 18 = .ok (.if_icmp .ne 7, 3) := dk_160 0 7 (dk_at dksX2_manyIn_0 18 rfl rfl)
theorem dX2_manyIn_21 : decode cX2_manyIn 21 = .ok (.iconst 1, 1) := dk_4 (dk_at dksX2_manyIn_0 21 rfl rfl)
theorem dX2_manyIn_22 : decode cX2_manyIn 22 = .ok (.goto 4, 3) := dk_167 0 4 (dk_at dksX2_manyIn_1 0 rfl rfl)
theorem dX2_manyIn_25 : decode cX2_manyIn 25 = .ok (.iconst 0, 1) := dk_3 (dk_at dksX2_manyIn_1 3 rfl rfl)
theorem dX2_manyIn_26 : decode cX2_manyIn 26 = .ok (.iadd, 1) := dk_96 (dk_at dksX2_manyIn_1 4 rfl rfl)
theorem dX2_manyIn_27 : decode cX2_manyIn 27 = .ok (.istore_n 2, 1) := dk_61 (dk_at dksX2_manyIn_1 5 rfl rfl)
theorem dX2_manyIn_28 : decode cX2_manyIn 28 = .ok (.iinc 3 1, 3) := dk_132 3 1 (dk_at dksX2_manyIn_1 6 rfl rfl)
theorem dX2_manyIn_31 : decode cX2_manyIn 31 = .ok (.goto (-27), 3) := dk_167 255 229 (dk_at dksX2_manyIn_1 9 rfl rfl)
theorem dX2_manyIn_34 : decode cX2_manyIn 34 = .ok (.iload_n 2, 1) := dk_28 (dk_at dksX2_manyIn_1 12 rfl rfl)
theorem dX2_manyIn_35 : decode cX2_manyIn 35 = .ok (.ireturn, 1) := dk_172 (dk_at dksX2_manyIn_1 13 rfl rfl)
abbrev cX2_pass : ByteArray := prog_7_method_6_code
def yX2_pass : MethodName := ⟨RX2, "pass", "(LSmokedLetters$Book;)V"⟩
def dkwX2_pass_3 : List UInt8 := [3, 167, 0, 4, 4, 96, 79, 132, 2, 1, 167, 255, 222, 42, 89, 180, 0, 24, 4, 96, 181, 0, 24, 177]
abbrev dktX2_pass_3 : List UInt8 := dkwX2_pass_3 ++ []
def dkwX2_pass_2 : List UInt8 := [28, 16, 6, 162, 0, 34, 42, 180, 0, 15, 28, 92, 46, 42, 180, 0, 9, 28, 46, 16, 247, 160, 0, 7]
abbrev dktX2_pass_2 : List UInt8 := dkwX2_pass_2 ++ dktX2_pass_3
def dkwX2_pass_1 : List UInt8 := [154, 0, 7, 3, 167, 0, 8, 4, 29, 5, 108, 96, 96, 181, 0, 28, 132, 2, 1, 167, 255, 215, 3, 61]
abbrev dktX2_pass_1 : List UInt8 := dkwX2_pass_1 ++ dktX2_pass_2
def dkwX2_pass_0 : List UInt8 := [3, 61, 28, 43, 180, 0, 53, 4, 46, 162, 0, 37, 42, 28, 182, 0, 49, 62, 42, 89, 180, 0, 28, 29]
abbrev dktX2_pass_0 : List UInt8 := dkwX2_pass_0 ++ dktX2_pass_1
theorem dksX2_pass_0 : cX2_pass.data.toList.drop 0 = dktX2_pass_0 := by decide +kernel
theorem dksX2_pass_1 : cX2_pass.data.toList.drop 24 = dktX2_pass_1 := dk_seg dksX2_pass_0 24 rfl rfl
theorem dksX2_pass_2 : cX2_pass.data.toList.drop 48 = dktX2_pass_2 := dk_seg dksX2_pass_1 24 rfl rfl
theorem dksX2_pass_3 : cX2_pass.data.toList.drop 72 = dktX2_pass_3 := dk_seg dksX2_pass_2 24 rfl rfl
theorem dX2_pass_0 : decode cX2_pass 0 = .ok (.iconst 0, 1) := dk_3 (dk_at dksX2_pass_0 0 rfl rfl)
theorem dX2_pass_1 : decode cX2_pass 1 = .ok (.istore_n 2, 1) := dk_61 (dk_at dksX2_pass_0 1 rfl rfl)
theorem dX2_pass_2 : decode cX2_pass 2 = .ok (.iload_n 2, 1) := dk_28 (dk_at dksX2_pass_0 2 rfl rfl)
theorem dX2_pass_3 : decode cX2_pass 3 = .ok (.aload_n 1, 1) := dk_43 (dk_at dksX2_pass_0 3 rfl rfl)
theorem dX2_pass_4 : decode cX2_pass 4 = .ok (.getfield 53, 3) := dk_180 0 53 (dk_at dksX2_pass_0 4 rfl rfl)
theorem dX2_pass_7 : decode cX2_pass 7 = .ok (.iconst 1, 1) := dk_4 (dk_at dksX2_pass_0 7 rfl rfl)
theorem dX2_pass_8 : decode cX2_pass 8 = .ok (.iaload, 1) := dk_46 (dk_at dksX2_pass_0 8 rfl rfl)
theorem dX2_pass_9 : decode cX2_pass 9 = .ok (.if_icmp .ge 37, 3) := dk_162 0 37 (dk_at dksX2_pass_0 9 rfl rfl)
theorem dX2_pass_12 : decode cX2_pass 12 = .ok (.aload_n 0, 1) := dk_42 (dk_at dksX2_pass_0 12 rfl rfl)
theorem dX2_pass_13 : decode cX2_pass 13 = .ok (.iload_n 2, 1) := dk_28 (dk_at dksX2_pass_0 13 rfl rfl)
theorem dX2_pass_14 : decode cX2_pass 14 = .ok (.invokevirtual 49, 3) := dk_182 0 49 (dk_at dksX2_pass_0 14 rfl rfl)
theorem dX2_pass_17 : decode cX2_pass 17 = .ok (.istore_n 3, 1) := dk_62 (dk_at dksX2_pass_0 17 rfl rfl)
theorem dX2_pass_18 : decode cX2_pass 18 = .ok (.aload_n 0, 1) := dk_42 (dk_at dksX2_pass_0 18 rfl rfl)
theorem dX2_pass_19 : decode cX2_pass 19 = .ok (.dup, 1) := dk_89 (dk_at dksX2_pass_0 19 rfl rfl)
theorem dX2_pass_20 : decode cX2_pass 20 = .ok (.getfield 28, 3) := dk_180 0 28 (dk_at dksX2_pass_0 20 rfl rfl)
theorem dX2_pass_23 : decode cX2_pass 23 = .ok (.iload_n 3, 1) := dk_29 (dk_at dksX2_pass_0 23 rfl rfl)
theorem dX2_pass_24 : decode cX2_pass 24 = .ok (.ifCond .ne 7, 3) := dk_154 0 7 (dk_at dksX2_pass_1 0 rfl rfl)
theorem dX2_pass_27 : decode cX2_pass 27 = .ok (.iconst 0, 1) := dk_3 (dk_at dksX2_pass_1 3 rfl rfl)
theorem dX2_pass_28 : decode cX2_pass 28 = .ok (.goto 8, 3) := dk_167 0 8 (dk_at dksX2_pass_1 4 rfl rfl)
theorem dX2_pass_31 : decode cX2_pass 31 = .ok (.iconst 1, 1) := dk_4 (dk_at dksX2_pass_1 7 rfl rfl)
theorem dX2_pass_32 : decode cX2_pass 32 = .ok (.iload_n 3, 1) := dk_29 (dk_at dksX2_pass_1 8 rfl rfl)
theorem dX2_pass_33 : decode cX2_pass 33 = .ok (.iconst 2, 1) := dk_5 (dk_at dksX2_pass_1 9 rfl rfl)
theorem dX2_pass_34 : decode cX2_pass 34 = .ok (.idiv, 1) := dk_108 (dk_at dksX2_pass_1 10 rfl rfl)
theorem dX2_pass_35 : decode cX2_pass 35 = .ok (.iadd, 1) := dk_96 (dk_at dksX2_pass_1 11 rfl rfl)
theorem dX2_pass_36 : decode cX2_pass 36 = .ok (.iadd, 1) := dk_96 (dk_at dksX2_pass_1 12 rfl rfl)
theorem dX2_pass_37 : decode cX2_pass 37 = .ok (.putfield 28, 3) := dk_181 0 28 (dk_at dksX2_pass_1 13 rfl rfl)
theorem dX2_pass_40 : decode cX2_pass 40 = .ok (.iinc 2 1, 3) := dk_132 2 1 (dk_at dksX2_pass_1 16 rfl rfl)
theorem dX2_pass_43 : decode cX2_pass 43 = .ok (.goto (-41), 3) := dk_167 255 215 (dk_at dksX2_pass_1 19 rfl rfl)
theorem dX2_pass_46 : decode cX2_pass 46 = .ok (.iconst 0, 1) := dk_3 (dk_at dksX2_pass_1 22 rfl rfl)
theorem dX2_pass_47 : decode cX2_pass 47 = .ok (.istore_n 2, 1) := dk_61 (dk_at dksX2_pass_1 23 rfl rfl)
theorem dX2_pass_48 : decode cX2_pass 48 = .ok (.iload_n 2, 1) := dk_28 (dk_at dksX2_pass_2 0 rfl rfl)
theorem dX2_pass_49 : decode cX2_pass 49 = .ok (.bipush 6, 2) := dk_16 6 (dk_at dksX2_pass_2 1 rfl rfl)
theorem dX2_pass_51 : decode cX2_pass 51 = .ok (.if_icmp .ge 34, 3) := dk_162 0 34 (dk_at dksX2_pass_2 3 rfl rfl)
theorem dX2_pass_54 : decode cX2_pass 54 = .ok (.aload_n 0, 1) := dk_42 (dk_at dksX2_pass_2 6 rfl rfl)
theorem dX2_pass_55 : decode cX2_pass 55 = .ok (.getfield 15, 3) := dk_180 0 15 (dk_at dksX2_pass_2 7 rfl rfl)
theorem dX2_pass_58 : decode cX2_pass 58 = .ok (.iload_n 2, 1) := dk_28 (dk_at dksX2_pass_2 10 rfl rfl)
theorem dX2_pass_59 : decode cX2_pass 59 = .ok (.dup2, 1) := dk_92 (dk_at dksX2_pass_2 11 rfl rfl)
theorem dX2_pass_60 : decode cX2_pass 60 = .ok (.iaload, 1) := dk_46 (dk_at dksX2_pass_2 12 rfl rfl)
theorem dX2_pass_61 : decode cX2_pass 61 = .ok (.aload_n 0, 1) := dk_42 (dk_at dksX2_pass_2 13 rfl rfl)
theorem dX2_pass_62 : decode cX2_pass 62 = .ok (.getfield 9, 3) := dk_180 0 9 (dk_at dksX2_pass_2 14 rfl rfl)
theorem dX2_pass_65 : decode cX2_pass 65 = .ok (.iload_n 2, 1) := dk_28 (dk_at dksX2_pass_2 17 rfl rfl)
theorem dX2_pass_66 : decode cX2_pass 66 = .ok (.iaload, 1) := dk_46 (dk_at dksX2_pass_2 18 rfl rfl)
theorem dX2_pass_67 : decode cX2_pass 67 = .ok (.bipush (-9), 2) := dk_16 247 (dk_at dksX2_pass_2 19 rfl rfl)
theorem dX2_pass_69 : decode cX2_pass 69 = .ok (.if_icmp .ne 7, 3) := dk_160 0 7 (dk_at dksX2_pass_2 21 rfl rfl)
theorem dX2_pass_72 : decode cX2_pass 72 = .ok (.iconst 0, 1) := dk_3 (dk_at dksX2_pass_3 0 rfl rfl)
theorem dX2_pass_73 : decode cX2_pass 73 = .ok (.goto 4, 3) := dk_167 0 4 (dk_at dksX2_pass_3 1 rfl rfl)
theorem dX2_pass_76 : decode cX2_pass 76 = .ok (.iconst 1, 1) := dk_4 (dk_at dksX2_pass_3 4 rfl rfl)
theorem dX2_pass_77 : decode cX2_pass 77 = .ok (.iadd, 1) := dk_96 (dk_at dksX2_pass_3 5 rfl rfl)
theorem dX2_pass_78 : decode cX2_pass 78 = .ok (.iastore, 1) := dk_79 (dk_at dksX2_pass_3 6 rfl rfl)
theorem dX2_pass_79 : decode cX2_pass 79 = .ok (.iinc 2 1, 3) := dk_132 2 1 (dk_at dksX2_pass_3 7 rfl rfl)
theorem dX2_pass_82 : decode cX2_pass 82 = .ok (.goto (-34), 3) := dk_167 255 222 (dk_at dksX2_pass_3 10 rfl rfl)
theorem dX2_pass_85 : decode cX2_pass 85 = .ok (.aload_n 0, 1) := dk_42 (dk_at dksX2_pass_3 13 rfl rfl)
theorem dX2_pass_86 : decode cX2_pass 86 = .ok (.dup, 1) := dk_89 (dk_at dksX2_pass_3 14 rfl rfl)
theorem dX2_pass_87 : decode cX2_pass 87 = .ok (.getfield 24, 3) := dk_180 0 24 (dk_at dksX2_pass_3 15 rfl rfl)
theorem dX2_pass_90 : decode cX2_pass 90 = .ok (.iconst 1, 1) := dk_4 (dk_at dksX2_pass_3 18 rfl rfl)
theorem dX2_pass_91 : decode cX2_pass 91 = .ok (.iadd, 1) := dk_96 (dk_at dksX2_pass_3 19 rfl rfl)
theorem dX2_pass_92 : decode cX2_pass 92 = .ok (.putfield 24, 3) := dk_181 0 24 (dk_at dksX2_pass_3 20 rfl rfl)
theorem dX2_pass_95 : decode cX2_pass 95 = .ok (.return_, 1) := dk_177 (dk_at dksX2_pass_3 23 rfl rfl)
abbrev cX2_sail : ByteArray := prog_7_method_9_code
def yX2_sail : MethodName := ⟨RX2, "sail", "(I)V"⟩
def dkwX2_sail_0 : List UInt8 := [42, 180, 0, 9, 27, 16, 247, 79, 42, 89, 180, 0, 31, 4, 27, 120, 128, 181, 0, 31, 177]
abbrev dktX2_sail_0 : List UInt8 := dkwX2_sail_0 ++ []
theorem dksX2_sail_0 : cX2_sail.data.toList.drop 0 = dktX2_sail_0 := by decide +kernel
theorem dX2_sail_0 : decode cX2_sail 0 = .ok (.aload_n 0, 1) := dk_42 (dk_at dksX2_sail_0 0 rfl rfl)
theorem dX2_sail_1 : decode cX2_sail 1 = .ok (.getfield 9, 3) := dk_180 0 9 (dk_at dksX2_sail_0 1 rfl rfl)
theorem dX2_sail_4 : decode cX2_sail 4 = .ok (.iload_n 1, 1) := dk_27 (dk_at dksX2_sail_0 4 rfl rfl)
theorem dX2_sail_5 : decode cX2_sail 5 = .ok (.bipush (-9), 2) := dk_16 247 (dk_at dksX2_sail_0 5 rfl rfl)
theorem dX2_sail_7 : decode cX2_sail 7 = .ok (.iastore, 1) := dk_79 (dk_at dksX2_sail_0 7 rfl rfl)
theorem dX2_sail_8 : decode cX2_sail 8 = .ok (.aload_n 0, 1) := dk_42 (dk_at dksX2_sail_0 8 rfl rfl)
theorem dX2_sail_9 : decode cX2_sail 9 = .ok (.dup, 1) := dk_89 (dk_at dksX2_sail_0 9 rfl rfl)
theorem dX2_sail_10 : decode cX2_sail 10 = .ok (.getfield 31, 3) := dk_180 0 31 (dk_at dksX2_sail_0 10 rfl rfl)
theorem dX2_sail_13 : decode cX2_sail 13 = .ok (.iconst 1, 1) := dk_4 (dk_at dksX2_sail_0 13 rfl rfl)
theorem dX2_sail_14 : decode cX2_sail 14 = .ok (.iload_n 1, 1) := dk_27 (dk_at dksX2_sail_0 14 rfl rfl)
theorem dX2_sail_15 : decode cX2_sail 15 = .ok (.ishl, 1) := dk_120 (dk_at dksX2_sail_0 15 rfl rfl)
theorem dX2_sail_16 : decode cX2_sail 16 = .ok (.ior, 1) := dk_128 (dk_at dksX2_sail_0 16 rfl rfl)
theorem dX2_sail_17 : decode cX2_sail 17 = .ok (.putfield 31, 3) := dk_181 0 31 (dk_at dksX2_sail_0 17 rfl rfl)
theorem dX2_sail_20 : decode cX2_sail 20 = .ok (.return_, 1) := dk_177 (dk_at dksX2_sail_0 20 rfl rfl)
theorem q62 : (Jvm.Cond.initialized "SmokedLetters$Island") ∈ lw_all := lw_g (lw_at lw_m1 3 rfl) rfl
theorem q99 : (Jvm.Cond.fieldLinkNest "SmokedLetters$Island" (53 : Nat) "SmokedLetters$Book" "law" "[I" "SmokedLetters") ∈ lw_tbl := lw_at lw_m1 40 rfl
theorem q122 : (Jvm.Cond.fieldLinkNest "SmokedLetters$Island" (58 : Nat) "SmokedLetters$Book" "travellers" "I" "SmokedLetters") ∈ lw_tbl := lw_at lw_m1 63 rfl
theorem q148 : (Jvm.Cond.instantiable "SmokedLetters$Island" (7 : Nat)) ∈ lw_all := lw_g (lw_at lw_m1 89 rfl) rfl
theorem q150 : (Jvm.Cond.instanceMethod ({ cls := "SmokedLetters$Island", name := "<init>", desc := "()V" } : Jvm.MethodName)) ∈ lw_all := lw_g (lw_at lw_m1 91 rfl) rfl
theorem q151 : (Jvm.Cond.code ({ cls := "SmokedLetters$Island", name := "<init>", desc := "()V" } : Jvm.MethodName) prog_7_method_1_code (1 : Nat) (Option.none : Option Jvm.ClassFile.FieldType)) ∈ lw_all := lw_g (lw_at lw_m1 92 rfl) rfl
theorem q152 : (Jvm.Cond.methodLink "SmokedLetters$Island" (3 : Nat) ({ cls := "java/lang/Object", name := "<init>", desc := "()V" } : Jvm.MethodName)) ∈ lw_all := lw_g (lw_at lw_m1 93 rfl) rfl
theorem q153 : (Jvm.Cond.methodLink "SmokedLetters$Island" (21 : Nat) ({ cls := "SmokedLetters$Island", name := "begin", desc := "()V" } : Jvm.MethodName)) ∈ lw_all := lw_g (lw_at lw_m1 94 rfl) rfl
theorem q154 : (Jvm.Cond.instanceMethod ({ cls := "SmokedLetters$Island", name := "begin", desc := "()V" } : Jvm.MethodName)) ∈ lw_all := lw_g (lw_at lw_m1 95 rfl) rfl
theorem q155 : (Jvm.Cond.selects "SmokedLetters$Island" ({ cls := "SmokedLetters$Island", name := "begin", desc := "()V" } : Jvm.MethodName) ({ cls := "SmokedLetters$Island", name := "begin", desc := "()V" } : Jvm.MethodName)) ∈ lw_all := lw_g (lw_at lw_m1 96 rfl) rfl
theorem q156 : (Jvm.Cond.code ({ cls := "SmokedLetters$Island", name := "begin", desc := "()V" } : Jvm.MethodName) prog_7_method_2_code (1 : Nat) (Option.none : Option Jvm.ClassFile.FieldType)) ∈ lw_all := lw_g (lw_at lw_m1 97 rfl) rfl
theorem q157 : (Jvm.Cond.methodLink "SmokedLetters$Island" (34 : Nat) ({ cls := "java/util/Arrays", name := "fill", desc := "([II)V" } : Jvm.MethodName)) ∈ lw_all := lw_g (lw_at lw_m1 98 rfl) rfl
theorem q160 : (Jvm.Cond.fieldLink "SmokedLetters$Island" (24 : Nat) "SmokedLetters$Island" "day" "I") ∈ lw_all := lw_g (lw_at lw_m1 101 rfl) rfl
theorem q162 : (Jvm.Cond.fieldLink "SmokedLetters$Island" (28 : Nat) "SmokedLetters$Island" "vinegar" "I") ∈ lw_all := lw_g (lw_at lw_m1 103 rfl) rfl
theorem q164 : (Jvm.Cond.fieldLink "SmokedLetters$Island" (31 : Nat) "SmokedLetters$Island" "gone" "I") ∈ lw_all := lw_g (lw_at lw_m1 105 rfl) rfl
theorem q167 : (Jvm.Cond.fieldLink "SmokedLetters$Island" (9 : Nat) "SmokedLetters$Island" "row" "[I") ∈ lw_all := lw_g (lw_at lw_m1 108 rfl) rfl
theorem q169 : (Jvm.Cond.fieldLink "SmokedLetters$Island" (15 : Nat) "SmokedLetters$Island" "days" "[I") ∈ lw_all := lw_g (lw_at lw_m1 110 rfl) rfl
theorem q171 : (Jvm.Cond.fieldLink "SmokedLetters$Island" (18 : Nat) "SmokedLetters$Island" "word" "[I") ∈ lw_all := lw_g (lw_at lw_m1 112 rfl) rfl
theorem q173 : (Jvm.Cond.fieldLink "SmokedLetters$Island" (40 : Nat) "SmokedLetters$Island" "words" "I") ∈ lw_all := lw_g (lw_at lw_m1 114 rfl) rfl
theorem q175 : (Jvm.Cond.lays "SmokedLetters$Island" "SmokedLetters$Island" "day" "I") ∈ lw_all := lw_g (lw_at lw_m1 116 rfl) rfl
theorem q176 : (Jvm.Cond.soleField "SmokedLetters$Island" "day") ∈ lw_all := lw_g (lw_at lw_m1 117 rfl) rfl
theorem q177 : (Jvm.Cond.lays "SmokedLetters$Island" "SmokedLetters$Island" "vinegar" "I") ∈ lw_all := lw_g (lw_at lw_m1 118 rfl) rfl
theorem q178 : (Jvm.Cond.soleField "SmokedLetters$Island" "vinegar") ∈ lw_all := lw_g (lw_at lw_m1 119 rfl) rfl
theorem q179 : (Jvm.Cond.lays "SmokedLetters$Island" "SmokedLetters$Island" "gone" "I") ∈ lw_all := lw_g (lw_at lw_m1 120 rfl) rfl
theorem q180 : (Jvm.Cond.soleField "SmokedLetters$Island" "gone") ∈ lw_all := lw_g (lw_at lw_m1 121 rfl) rfl
theorem q181 : (Jvm.Cond.laysFinal "SmokedLetters$Island" "SmokedLetters$Island" "row" "[I") ∈ lw_all := lw_g (lw_at lw_m1 122 rfl) rfl
theorem q182 : (Jvm.Cond.soleField "SmokedLetters$Island" "row") ∈ lw_all := lw_g (lw_at lw_m1 123 rfl) rfl
theorem q183 : (Jvm.Cond.laysFinal "SmokedLetters$Island" "SmokedLetters$Island" "days" "[I") ∈ lw_all := lw_g (lw_at lw_m1 124 rfl) rfl
theorem q184 : (Jvm.Cond.soleField "SmokedLetters$Island" "days") ∈ lw_all := lw_g (lw_at lw_m1 125 rfl) rfl
theorem q185 : (Jvm.Cond.laysFinal "SmokedLetters$Island" "SmokedLetters$Island" "word" "[I") ∈ lw_all := lw_g (lw_at lw_m1 126 rfl) rfl
theorem q186 : (Jvm.Cond.soleField "SmokedLetters$Island" "word") ∈ lw_all := lw_g (lw_at lw_m1 127 rfl) rfl
theorem q187 : (Jvm.Cond.lays "SmokedLetters$Island" "SmokedLetters$Island" "words" "I") ∈ lw_all := lw_g (lw_at lw_m1 128 rfl) rfl
theorem q188 : (Jvm.Cond.soleField "SmokedLetters$Island" "words") ∈ lw_all := lw_g (lw_at lw_m1 129 rfl) rfl
theorem q189 : (Jvm.Cond.superclass "SmokedLetters$Island" "java/lang/Object") ∈ lw_all := lw_g (lw_at lw_m1 130 rfl) rfl
theorem q597 : (Jvm.Cond.instanceMethod ({ cls := "SmokedLetters$Island", name := "leavers", desc := "(LSmokedLetters$Book;)I" } : Jvm.MethodName)) ∈ lw_all := lw_g (lw_at lw_m3 58 rfl) rfl
theorem q598 : (Jvm.Cond.selects "SmokedLetters$Island" ({ cls := "SmokedLetters$Island", name := "leavers", desc := "(LSmokedLetters$Book;)I" } : Jvm.MethodName) ({ cls := "SmokedLetters$Island", name := "leavers", desc := "(LSmokedLetters$Book;)I" } : Jvm.MethodName)) ∈ lw_all := lw_g (lw_at lw_m3 59 rfl) rfl
theorem q599 : (Jvm.Cond.code ({ cls := "SmokedLetters$Island", name := "leavers", desc := "(LSmokedLetters$Book;)I" } : Jvm.MethodName) prog_7_method_8_code (4 : Nat) (Option.some Jvm.ClassFile.FieldType.int)) ∈ lw_all := lw_g (lw_at lw_m3 60 rfl) rfl
theorem q600 : (Jvm.Cond.methodLink "SmokedLetters$Island" (61 : Nat) ({ cls := "SmokedLetters$Island", name := "mayLeave", desc := "(LSmokedLetters$Book;I)Z" } : Jvm.MethodName)) ∈ lw_all := lw_g (lw_at lw_m3 61 rfl) rfl
theorem q601 : (Jvm.Cond.instanceMethod ({ cls := "SmokedLetters$Island", name := "mayLeave", desc := "(LSmokedLetters$Book;I)Z" } : Jvm.MethodName)) ∈ lw_all := lw_g (lw_at lw_m3 62 rfl) rfl
theorem q602 : (Jvm.Cond.selects "SmokedLetters$Island" ({ cls := "SmokedLetters$Island", name := "mayLeave", desc := "(LSmokedLetters$Book;I)Z" } : Jvm.MethodName) ({ cls := "SmokedLetters$Island", name := "mayLeave", desc := "(LSmokedLetters$Book;I)Z" } : Jvm.MethodName)) ∈ lw_all := lw_g (lw_at lw_m3 63 rfl) rfl
theorem q603 : (Jvm.Cond.code ({ cls := "SmokedLetters$Island", name := "mayLeave", desc := "(LSmokedLetters$Book;I)Z" } : Jvm.MethodName) prog_7_method_7_code (3 : Nat) (Option.some Jvm.ClassFile.FieldType.boolean)) ∈ lw_all := lw_g (lw_at lw_m3 64 rfl) rfl
theorem q624 : (Jvm.Cond.instanceMethod ({ cls := "SmokedLetters$Island", name := "copyOf", desc := "(LSmokedLetters$Island;)V" } : Jvm.MethodName)) ∈ lw_all := lw_g (lw_at lw_m3 85 rfl) rfl
theorem q625 : (Jvm.Cond.selects "SmokedLetters$Island" ({ cls := "SmokedLetters$Island", name := "copyOf", desc := "(LSmokedLetters$Island;)V" } : Jvm.MethodName) ({ cls := "SmokedLetters$Island", name := "copyOf", desc := "(LSmokedLetters$Island;)V" } : Jvm.MethodName)) ∈ lw_all := lw_g (lw_at lw_m3 86 rfl) rfl
theorem q626 : (Jvm.Cond.code ({ cls := "SmokedLetters$Island", name := "copyOf", desc := "(LSmokedLetters$Island;)V" } : Jvm.MethodName) prog_7_method_3_code (2 : Nat) (Option.none : Option Jvm.ClassFile.FieldType)) ∈ lw_all := lw_g (lw_at lw_m3 87 rfl) rfl
theorem q627 : (Jvm.Cond.methodLink "SmokedLetters$Island" (43 : Nat) ({ cls := "java/lang/System", name := "arraycopy", desc := "(Ljava/lang/Object;ILjava/lang/Object;II)V" } : Jvm.MethodName)) ∈ lw_all := lw_g (lw_at lw_m3 88 rfl) rfl
theorem q629 : (Jvm.Cond.instanceMethod ({ cls := "SmokedLetters$Island", name := "put", desc := "(II)I" } : Jvm.MethodName)) ∈ lw_all := lw_g (lw_at lw_m3 90 rfl) rfl
theorem q630 : (Jvm.Cond.selects "SmokedLetters$Island" ({ cls := "SmokedLetters$Island", name := "put", desc := "(II)I" } : Jvm.MethodName) ({ cls := "SmokedLetters$Island", name := "put", desc := "(II)I" } : Jvm.MethodName)) ∈ lw_all := lw_g (lw_at lw_m3 91 rfl) rfl
theorem q631 : (Jvm.Cond.code ({ cls := "SmokedLetters$Island", name := "put", desc := "(II)I" } : Jvm.MethodName) prog_7_method_5_code (4 : Nat) (Option.some Jvm.ClassFile.FieldType.int)) ∈ lw_all := lw_g (lw_at lw_m3 92 rfl) rfl
theorem q632 : (Jvm.Cond.methodLink "SmokedLetters$Island" (49 : Nat) ({ cls := "SmokedLetters$Island", name := "manyIn", desc := "(I)I" } : Jvm.MethodName)) ∈ lw_all := lw_g (lw_at lw_m3 93 rfl) rfl
theorem q633 : (Jvm.Cond.instanceMethod ({ cls := "SmokedLetters$Island", name := "manyIn", desc := "(I)I" } : Jvm.MethodName)) ∈ lw_all := lw_g (lw_at lw_m3 94 rfl) rfl
theorem q634 : (Jvm.Cond.selects "SmokedLetters$Island" ({ cls := "SmokedLetters$Island", name := "manyIn", desc := "(I)I" } : Jvm.MethodName) ({ cls := "SmokedLetters$Island", name := "manyIn", desc := "(I)I" } : Jvm.MethodName)) ∈ lw_all := lw_g (lw_at lw_m3 95 rfl) rfl
theorem q635 : (Jvm.Cond.code ({ cls := "SmokedLetters$Island", name := "manyIn", desc := "(I)I" } : Jvm.MethodName) prog_7_method_4_code (4 : Nat) (Option.some Jvm.ClassFile.FieldType.int)) ∈ lw_all := lw_g (lw_at lw_m3 96 rfl) rfl
theorem q641 : (Jvm.Cond.instanceMethod ({ cls := "SmokedLetters$Island", name := "pass", desc := "(LSmokedLetters$Book;)V" } : Jvm.MethodName)) ∈ lw_all := lw_g (lw_at lw_m3 102 rfl) rfl
theorem q642 : (Jvm.Cond.selects "SmokedLetters$Island" ({ cls := "SmokedLetters$Island", name := "pass", desc := "(LSmokedLetters$Book;)V" } : Jvm.MethodName) ({ cls := "SmokedLetters$Island", name := "pass", desc := "(LSmokedLetters$Book;)V" } : Jvm.MethodName)) ∈ lw_all := lw_g (lw_at lw_m3 103 rfl) rfl
theorem q643 : (Jvm.Cond.code ({ cls := "SmokedLetters$Island", name := "pass", desc := "(LSmokedLetters$Book;)V" } : Jvm.MethodName) prog_7_method_6_code (4 : Nat) (Option.none : Option Jvm.ClassFile.FieldType)) ∈ lw_all := lw_g (lw_at lw_m3 104 rfl) rfl
theorem q650 : (Jvm.Cond.instanceMethod ({ cls := "SmokedLetters$Island", name := "sail", desc := "(I)V" } : Jvm.MethodName)) ∈ lw_all := lw_g (lw_at lw_m3 111 rfl) rfl
theorem q651 : (Jvm.Cond.selects "SmokedLetters$Island" ({ cls := "SmokedLetters$Island", name := "sail", desc := "(I)V" } : Jvm.MethodName) ({ cls := "SmokedLetters$Island", name := "sail", desc := "(I)V" } : Jvm.MethodName)) ∈ lw_all := lw_g (lw_at lw_m3 112 rfl) rfl
theorem q652 : (Jvm.Cond.code ({ cls := "SmokedLetters$Island", name := "sail", desc := "(I)V" } : Jvm.MethodName) prog_7_method_9_code (2 : Nat) (Option.none : Option Jvm.ClassFile.FieldType)) ∈ lw_all := lw_g (lw_at lw_m3 113 rfl) rfl
theorem in_X2 : ∀ w ∈ wsX20, w ∈ lw_all := lw_in wsX20 [175, 177, 179, 181, 183, 185, 187] (by decide +kernel) (by decide +kernel)

/-! SmokedLetters$Clerk -/
set_option maxRecDepth 100000
def RX3 : String := "SmokedLetters$Clerk"
def TX3 : u_T := fun k => match k with
  | _ => ("SmokedLetters$Clerk", "this$0", "LSmokedLetters;", true)
def tyX3 : Nat → FieldType := fun k => match k with
  | _ => .object "SmokedLetters"
abbrev wsX30 : List Cond := u_ws RX3 TX3 1
theorem nmX3 : ∀ a, a < 1 → ∀ b, b < 1 → a ≠ b → (TX3 a).2.1 ≠ (TX3 b).2.1 := by decide +kernel
theorem tyX3_ok : ∀ k, k < 1 → parseFieldDescriptor (TX3 k).2.2.1 = some (tyX3 k) := by decide +kernel
abbrev cX3_init : ByteArray := prog_4_method_1_code
def yX3_init : MethodName := ⟨RX3, "<init>", "(LSmokedLetters;)V"⟩
def dkwX3_init_0 : List UInt8 := [42, 43, 181, 0, 1, 42, 183, 0, 7, 177]
abbrev dktX3_init_0 : List UInt8 := dkwX3_init_0 ++ []
theorem dksX3_init_0 : cX3_init.data.toList.drop 0 = dktX3_init_0 := by decide +kernel
theorem dX3_init_0 : decode cX3_init 0 = .ok (.aload_n 0, 1) := dk_42 (dk_at dksX3_init_0 0 rfl rfl)
theorem dX3_init_1 : decode cX3_init 1 = .ok (.aload_n 1, 1) := dk_43 (dk_at dksX3_init_0 1 rfl rfl)
theorem dX3_init_2 : decode cX3_init 2 = .ok (.putfield 1, 3) := dk_181 0 1 (dk_at dksX3_init_0 2 rfl rfl)
theorem dX3_init_5 : decode cX3_init 5 = .ok (.aload_n 0, 1) := dk_42 (dk_at dksX3_init_0 5 rfl rfl)
theorem dX3_init_6 : decode cX3_init 6 = .ok (.invokespecial 7, 3) := dk_183 0 7 (dk_at dksX3_init_0 6 rfl rfl)
theorem dX3_init_9 : decode cX3_init 9 = .ok (.return_, 1) := dk_177 (dk_at dksX3_init_0 9 rfl rfl)
abbrev cX3_rate : ByteArray := prog_4_method_2_code
def yX3_rate : MethodName := ⟨RX3, "rate", "(I)I"⟩
def dkwX3_rate_1 : List UInt8 := [46, 184, 0, 29, 172]
abbrev dktX3_rate_1 : List UInt8 := dkwX3_rate_1 ++ []
def dkwX3_rate_0 : List UInt8 := [42, 180, 0, 1, 89, 180, 0, 13, 10, 97, 181, 0, 13, 42, 180, 0, 1, 180, 0, 19, 180, 0, 23, 27]
abbrev dktX3_rate_0 : List UInt8 := dkwX3_rate_0 ++ dktX3_rate_1
theorem dksX3_rate_0 : cX3_rate.data.toList.drop 0 = dktX3_rate_0 := by decide +kernel
theorem dksX3_rate_1 : cX3_rate.data.toList.drop 24 = dktX3_rate_1 := dk_seg dksX3_rate_0 24 rfl rfl
theorem dX3_rate_0 : decode cX3_rate 0 = .ok (.aload_n 0, 1) := dk_42 (dk_at dksX3_rate_0 0 rfl rfl)
theorem dX3_rate_1 : decode cX3_rate 1 = .ok (.getfield 1, 3) := dk_180 0 1 (dk_at dksX3_rate_0 1 rfl rfl)
theorem dX3_rate_4 : decode cX3_rate 4 = .ok (.dup, 1) := dk_89 (dk_at dksX3_rate_0 4 rfl rfl)
theorem dX3_rate_5 : decode cX3_rate 5 = .ok (.getfield 13, 3) := dk_180 0 13 (dk_at dksX3_rate_0 5 rfl rfl)
theorem dX3_rate_8 : decode cX3_rate 8 = .ok (.lconst 1, 1) := dk_10 (dk_at dksX3_rate_0 8 rfl rfl)
theorem dX3_rate_9 : decode cX3_rate 9 = .ok (.ladd, 1) := dk_97 (dk_at dksX3_rate_0 9 rfl rfl)
theorem dX3_rate_10 : decode cX3_rate 10 = .ok (.putfield 13, 3) := dk_181 0 13 (dk_at dksX3_rate_0 10 rfl rfl)
theorem dX3_rate_13 : decode cX3_rate 13 = .ok (.aload_n 0, 1) := dk_42 (dk_at dksX3_rate_0 13 rfl rfl)
theorem dX3_rate_14 : decode cX3_rate 14 = .ok (.getfield 1, 3) := dk_180 0 1 (dk_at dksX3_rate_0 14 rfl rfl)
theorem dX3_rate_17 : decode cX3_rate 17 = .ok (.getfield 19, 3) := dk_180 0 19 (dk_at dksX3_rate_0 17 rfl rfl)
theorem dX3_rate_20 : decode cX3_rate 20 = .ok (.getfield 23, 3) := dk_180 0 23 (dk_at dksX3_rate_0 20 rfl rfl)
theorem dX3_rate_23 : decode cX3_rate 23 = .ok (.iload_n 1, 1) := dk_27 (dk_at dksX3_rate_0 23 rfl rfl)
theorem dX3_rate_24 : decode cX3_rate 24 = .ok (.iaload, 1) := dk_46 (dk_at dksX3_rate_1 0 rfl rfl)
theorem dX3_rate_25 : decode cX3_rate 25 = .ok (.invokestatic 29, 3) := dk_184 0 29 (dk_at dksX3_rate_1 1 rfl rfl)
theorem dX3_rate_28 : decode cX3_rate 28 = .ok (.ireturn, 1) := dk_172 (dk_at dksX3_rate_1 4 rfl rfl)
theorem q64 : (Jvm.Cond.initialized "SmokedLetters$Clerk") ∈ lw_all := lw_g (lw_at lw_m1 5 rfl) rfl
theorem q109 : (Jvm.Cond.fieldLinkNest "SmokedLetters$Clerk" (23 : Nat) "SmokedLetters$Book" "burns" "[I" "SmokedLetters") ∈ lw_tbl := lw_at lw_m1 50 rfl
theorem q198 : (Jvm.Cond.instantiable "SmokedLetters$Clerk" (1 : Nat)) ∈ lw_all := lw_g (lw_at lw_m1 139 rfl) rfl
theorem q200 : (Jvm.Cond.instanceMethod ({ cls := "SmokedLetters$Clerk", name := "<init>", desc := "(LSmokedLetters;)V" } : Jvm.MethodName)) ∈ lw_all := lw_g (lw_at lw_m1 141 rfl) rfl
theorem q201 : (Jvm.Cond.code ({ cls := "SmokedLetters$Clerk", name := "<init>", desc := "(LSmokedLetters;)V" } : Jvm.MethodName) prog_4_method_1_code (2 : Nat) (Option.none : Option Jvm.ClassFile.FieldType)) ∈ lw_all := lw_g (lw_at lw_m1 142 rfl) rfl
theorem q202 : (Jvm.Cond.methodLink "SmokedLetters$Clerk" (7 : Nat) ({ cls := "java/lang/Object", name := "<init>", desc := "()V" } : Jvm.MethodName)) ∈ lw_all := lw_g (lw_at lw_m1 143 rfl) rfl
theorem q203 : (Jvm.Cond.fieldLink "SmokedLetters$Clerk" (1 : Nat) "SmokedLetters$Clerk" "this$0" "LSmokedLetters;") ∈ lw_all := lw_g (lw_at lw_m1 144 rfl) rfl
theorem q204 : (Jvm.Cond.laysFinal "SmokedLetters$Clerk" "SmokedLetters$Clerk" "this$0" "LSmokedLetters;") ∈ lw_all := lw_g (lw_at lw_m1 145 rfl) rfl
theorem q205 : (Jvm.Cond.soleField "SmokedLetters$Clerk" "this$0") ∈ lw_all := lw_g (lw_at lw_m1 146 rfl) rfl
theorem q206 : (Jvm.Cond.superclass "SmokedLetters$Clerk" "java/lang/Object") ∈ lw_all := lw_g (lw_at lw_m1 147 rfl) rfl
theorem q266 : (Jvm.Cond.fieldLinkNest "SmokedLetters$Clerk" (19 : Nat) "SmokedLetters" "book" "LSmokedLetters$Book;" "SmokedLetters") ∈ lw_tbl := lw_at lw_m1 207 rfl
theorem q290 : (Jvm.Cond.fieldLinkNest "SmokedLetters$Clerk" (13 : Nat) "SmokedLetters" "trace" "J" "SmokedLetters") ∈ lw_tbl := lw_at lw_m1 231 rfl
theorem q802 : (Jvm.Cond.instanceMethod ({ cls := "SmokedLetters$Clerk", name := "rate", desc := "(I)I" } : Jvm.MethodName)) ∈ lw_all := lw_g (lw_at lw_m4 23 rfl) rfl
theorem q803 : (Jvm.Cond.selects "SmokedLetters$Clerk" ({ cls := "SmokedLetters$Clerk", name := "rate", desc := "(I)I" } : Jvm.MethodName) ({ cls := "SmokedLetters$Clerk", name := "rate", desc := "(I)I" } : Jvm.MethodName)) ∈ lw_all := lw_g (lw_at lw_m4 24 rfl) rfl
theorem q804 : (Jvm.Cond.sameMethod "SmokedLetters$Clerk" "SmokedLetters$Clerk" "rate" "(I)I") ∈ lw_all := lw_g (lw_at lw_m4 25 rfl) rfl
theorem q831 : (Jvm.Cond.code ({ cls := "SmokedLetters$Clerk", name := "rate", desc := "(I)I" } : Jvm.MethodName) prog_4_method_2_code (2 : Nat) (Option.some Jvm.ClassFile.FieldType.int)) ∈ lw_all := lw_g (lw_at lw_m4 52 rfl) rfl
theorem q832 : (Jvm.Cond.methodLink "SmokedLetters$Clerk" (29 : Nat) ({ cls := "java/lang/Integer", name := "bitCount", desc := "(I)I" } : Jvm.MethodName)) ∈ lw_all := lw_g (lw_at lw_m4 53 rfl) rfl
theorem in_X3 : ∀ w ∈ wsX30, w ∈ lw_all := lw_in wsX30 [204] (by decide +kernel) (by decide +kernel)

/-! SmokedLetters$Nun -/
set_option maxRecDepth 100000
def RX4 : String := "SmokedLetters$Nun"
def TX4 : u_T := fun k => match k with
  | 0 => ("SmokedLetters$Clerk", "this$0", "LSmokedLetters;", true)
  | _ => ("SmokedLetters$Nun", "this$0", "LSmokedLetters;", true)
def tyX4 : Nat → FieldType := fun k => match k with
  | 0 => .object "SmokedLetters"
  | _ => .object "SmokedLetters"
abbrev wsX40 : List Cond := u_ws RX4 TX4 2
-- two fields of one name: no nmX4
theorem tyX4_ok : ∀ k, k < 2 → parseFieldDescriptor (TX4 k).2.2.1 = some (tyX4 k) := by decide +kernel
abbrev cX4_init : ByteArray := prog_9_method_1_code
def yX4_init : MethodName := ⟨RX4, "<init>", "(LSmokedLetters;)V"⟩
def dkwX4_init_0 : List UInt8 := [42, 43, 181, 0, 1, 42, 43, 183, 0, 7, 177]
abbrev dktX4_init_0 : List UInt8 := dkwX4_init_0 ++ []
theorem dksX4_init_0 : cX4_init.data.toList.drop 0 = dktX4_init_0 := by decide +kernel
theorem dX4_init_0 : decode cX4_init 0 = .ok (.aload_n 0, 1) := dk_42 (dk_at dksX4_init_0 0 rfl rfl)
theorem dX4_init_1 : decode cX4_init 1 = .ok (.aload_n 1, 1) := dk_43 (dk_at dksX4_init_0 1 rfl rfl)
theorem dX4_init_2 : decode cX4_init 2 = .ok (.putfield 1, 3) := dk_181 0 1 (dk_at dksX4_init_0 2 rfl rfl)
theorem dX4_init_5 : decode cX4_init 5 = .ok (.aload_n 0, 1) := dk_42 (dk_at dksX4_init_0 5 rfl rfl)
theorem dX4_init_6 : decode cX4_init 6 = .ok (.aload_n 1, 1) := dk_43 (dk_at dksX4_init_0 6 rfl rfl)
theorem dX4_init_7 : decode cX4_init 7 = .ok (.invokespecial 7, 3) := dk_183 0 7 (dk_at dksX4_init_0 7 rfl rfl)
theorem dX4_init_10 : decode cX4_init 10 = .ok (.return_, 1) := dk_177 (dk_at dksX4_init_0 10 rfl rfl)
abbrev cX4_rate : ByteArray := prog_9_method_2_code
def yX4_rate : MethodName := ⟨RX4, "rate", "(I)I"⟩
def dkwX4_rate_1 : List UInt8 := [180, 0, 25, 180, 0, 29, 27, 46, 96, 172]
abbrev dktX4_rate_1 : List UInt8 := dkwX4_rate_1 ++ []
def dkwX4_rate_0 : List UInt8 := [42, 180, 0, 1, 89, 180, 0, 13, 20, 0, 19, 97, 181, 0, 13, 42, 27, 183, 0, 21, 42, 180, 0, 1]
abbrev dktX4_rate_0 : List UInt8 := dkwX4_rate_0 ++ dktX4_rate_1
theorem dksX4_rate_0 : cX4_rate.data.toList.drop 0 = dktX4_rate_0 := by decide +kernel
theorem dksX4_rate_1 : cX4_rate.data.toList.drop 24 = dktX4_rate_1 := dk_seg dksX4_rate_0 24 rfl rfl
theorem dX4_rate_0 : decode cX4_rate 0 = .ok (.aload_n 0, 1) := dk_42 (dk_at dksX4_rate_0 0 rfl rfl)
theorem dX4_rate_1 : decode cX4_rate 1 = .ok (.getfield 1, 3) := dk_180 0 1 (dk_at dksX4_rate_0 1 rfl rfl)
theorem dX4_rate_4 : decode cX4_rate 4 = .ok (.dup, 1) := dk_89 (dk_at dksX4_rate_0 4 rfl rfl)
theorem dX4_rate_5 : decode cX4_rate 5 = .ok (.getfield 13, 3) := dk_180 0 13 (dk_at dksX4_rate_0 5 rfl rfl)
theorem dX4_rate_8 : decode cX4_rate 8 = .ok (.ldc2_w 19, 3) := dk_20 0 19 (dk_at dksX4_rate_0 8 rfl rfl)
theorem dX4_rate_11 : decode cX4_rate 11 = .ok (.ladd, 1) := dk_97 (dk_at dksX4_rate_0 11 rfl rfl)
theorem dX4_rate_12 : decode cX4_rate 12 = .ok (.putfield 13, 3) := dk_181 0 13 (dk_at dksX4_rate_0 12 rfl rfl)
theorem dX4_rate_15 : decode cX4_rate 15 = .ok (.aload_n 0, 1) := dk_42 (dk_at dksX4_rate_0 15 rfl rfl)
theorem dX4_rate_16 : decode cX4_rate 16 = .ok (.iload_n 1, 1) := dk_27 (dk_at dksX4_rate_0 16 rfl rfl)
theorem dX4_rate_17 : decode cX4_rate 17 = .ok (.invokespecial 21, 3) := dk_183 0 21 (dk_at dksX4_rate_0 17 rfl rfl)
theorem dX4_rate_20 : decode cX4_rate 20 = .ok (.aload_n 0, 1) := dk_42 (dk_at dksX4_rate_0 20 rfl rfl)
theorem dX4_rate_21 : decode cX4_rate 21 = .ok (.getfield 1, 3) := dk_180 0 1 (dk_at dksX4_rate_0 21 rfl rfl)
theorem dX4_rate_24 : decode cX4_rate 24 = .ok (.getfield 25, 3) := dk_180 0 25 (dk_at dksX4_rate_1 0 rfl rfl)
theorem dX4_rate_27 : decode cX4_rate 27 = .ok (.getfield 29, 3) := dk_180 0 29 (dk_at dksX4_rate_1 3 rfl rfl)
theorem dX4_rate_30 : decode cX4_rate 30 = .ok (.iload_n 1, 1) := dk_27 (dk_at dksX4_rate_1 6 rfl rfl)
theorem dX4_rate_31 : decode cX4_rate 31 = .ok (.iaload, 1) := dk_46 (dk_at dksX4_rate_1 7 rfl rfl)
theorem dX4_rate_32 : decode cX4_rate 32 = .ok (.iadd, 1) := dk_96 (dk_at dksX4_rate_1 8 rfl rfl)
theorem dX4_rate_33 : decode cX4_rate 33 = .ok (.ireturn, 1) := dk_172 (dk_at dksX4_rate_1 9 rfl rfl)
theorem q65 : (Jvm.Cond.initialized "SmokedLetters$Nun") ∈ lw_all := lw_g (lw_at lw_m1 6 rfl) rfl
theorem q113 : (Jvm.Cond.fieldLinkNest "SmokedLetters$Nun" (29 : Nat) "SmokedLetters$Book" "mercyOf" "[I" "SmokedLetters") ∈ lw_tbl := lw_at lw_m1 54 rfl
theorem q210 : (Jvm.Cond.instantiable "SmokedLetters$Nun" (2 : Nat)) ∈ lw_all := lw_g (lw_at lw_m1 151 rfl) rfl
theorem q212 : (Jvm.Cond.instanceMethod ({ cls := "SmokedLetters$Nun", name := "<init>", desc := "(LSmokedLetters;)V" } : Jvm.MethodName)) ∈ lw_all := lw_g (lw_at lw_m1 153 rfl) rfl
theorem q213 : (Jvm.Cond.code ({ cls := "SmokedLetters$Nun", name := "<init>", desc := "(LSmokedLetters;)V" } : Jvm.MethodName) prog_9_method_1_code (2 : Nat) (Option.none : Option Jvm.ClassFile.FieldType)) ∈ lw_all := lw_g (lw_at lw_m1 154 rfl) rfl
theorem q214 : (Jvm.Cond.methodLinkNest "SmokedLetters$Nun" (7 : Nat) ({ cls := "SmokedLetters$Clerk", name := "<init>", desc := "(LSmokedLetters;)V" } : Jvm.MethodName) "SmokedLetters") ∈ lw_tbl := lw_at lw_m1 155 rfl
theorem q215 : (Jvm.Cond.fieldLink "SmokedLetters$Nun" (1 : Nat) "SmokedLetters$Nun" "this$0" "LSmokedLetters;") ∈ lw_all := lw_g (lw_at lw_m1 156 rfl) rfl
theorem q216 : (Jvm.Cond.laysFinal "SmokedLetters$Nun" "SmokedLetters$Nun" "this$0" "LSmokedLetters;") ∈ lw_all := lw_g (lw_at lw_m1 157 rfl) rfl
theorem q217 : (Jvm.Cond.soleField "SmokedLetters$Nun" "this$0") ∈ lw_all := lw_g (lw_at lw_m1 158 rfl) rfl
theorem q218 : (Jvm.Cond.laysFinal "SmokedLetters$Nun" "SmokedLetters$Clerk" "this$0" "LSmokedLetters;") ∈ lw_all := lw_g (lw_at lw_m1 159 rfl) rfl
theorem q219 : (Jvm.Cond.superclass "SmokedLetters$Nun" "SmokedLetters$Clerk") ∈ lw_all := lw_g (lw_at lw_m1 160 rfl) rfl
theorem q267 : (Jvm.Cond.fieldLinkNest "SmokedLetters$Nun" (25 : Nat) "SmokedLetters" "book" "LSmokedLetters$Book;" "SmokedLetters") ∈ lw_tbl := lw_at lw_m1 208 rfl
theorem q292 : (Jvm.Cond.fieldLinkNest "SmokedLetters$Nun" (13 : Nat) "SmokedLetters" "trace" "J" "SmokedLetters") ∈ lw_tbl := lw_at lw_m1 233 rfl
theorem q810 : (Jvm.Cond.instanceMethod ({ cls := "SmokedLetters$Nun", name := "rate", desc := "(I)I" } : Jvm.MethodName)) ∈ lw_all := lw_g (lw_at lw_m4 31 rfl) rfl
theorem q811 : (Jvm.Cond.code ({ cls := "SmokedLetters$Nun", name := "rate", desc := "(I)I" } : Jvm.MethodName) prog_9_method_2_code (2 : Nat) (Option.some Jvm.ClassFile.FieldType.int)) ∈ lw_all := lw_g (lw_at lw_m4 32 rfl) rfl
theorem q812 : (Jvm.Cond.constantLong "SmokedLetters$Nun" (19 : Nat) (10 : Int64)) ∈ lw_all := lw_g (lw_at lw_m4 33 rfl) rfl
theorem q813 : (Jvm.Cond.methodLink "SmokedLetters$Nun" (21 : Nat) ({ cls := "SmokedLetters$Clerk", name := "rate", desc := "(I)I" } : Jvm.MethodName)) ∈ lw_all := lw_g (lw_at lw_m4 34 rfl) rfl
theorem q830 : (Jvm.Cond.selects "SmokedLetters$Nun" ({ cls := "SmokedLetters$Clerk", name := "rate", desc := "(I)I" } : Jvm.MethodName) ({ cls := "SmokedLetters$Nun", name := "rate", desc := "(I)I" } : Jvm.MethodName)) ∈ lw_all := lw_g (lw_at lw_m4 51 rfl) rfl
theorem q1274 : (Jvm.Cond.sameMethod "SmokedLetters$Nun" "SmokedLetters$Nun" "rate" "(I)I") ∈ lw_all := lw_g (lw_at lw_m6 15 rfl) rfl
theorem q1276 : (Jvm.Cond.castable "SmokedLetters$Nun" "SmokedLetters$Clerk") ∈ lw_tbl := lw_at lw_m6 17 rfl
theorem in_X4 : ∀ w ∈ wsX40, w ∈ lw_all := lw_in wsX40 [218, 216] (by decide +kernel) (by decide +kernel)

/-! SmokedLetters$Nephew -/
set_option maxRecDepth 100000
def RX5 : String := "SmokedLetters$Nephew"
def TX5 : u_T := fun k => match k with
  | 0 => ("SmokedLetters$Clerk", "this$0", "LSmokedLetters;", true)
  | _ => ("SmokedLetters$Nephew", "this$0", "LSmokedLetters;", true)
def tyX5 : Nat → FieldType := fun k => match k with
  | 0 => .object "SmokedLetters"
  | _ => .object "SmokedLetters"
abbrev wsX50 : List Cond := u_ws RX5 TX5 2
-- two fields of one name: no nmX5
theorem tyX5_ok : ∀ k, k < 2 → parseFieldDescriptor (TX5 k).2.2.1 = some (tyX5 k) := by decide +kernel
abbrev cX5_init : ByteArray := prog_8_method_1_code
def yX5_init : MethodName := ⟨RX5, "<init>", "(LSmokedLetters;)V"⟩
def dkwX5_init_0 : List UInt8 := [42, 43, 181, 0, 1, 42, 43, 183, 0, 7, 177]
abbrev dktX5_init_0 : List UInt8 := dkwX5_init_0 ++ []
theorem dksX5_init_0 : cX5_init.data.toList.drop 0 = dktX5_init_0 := by decide +kernel
theorem dX5_init_0 : decode cX5_init 0 = .ok (.aload_n 0, 1) := dk_42 (dk_at dksX5_init_0 0 rfl rfl)
theorem dX5_init_1 : decode cX5_init 1 = .ok (.aload_n 1, 1) := dk_43 (dk_at dksX5_init_0 1 rfl rfl)
theorem dX5_init_2 : decode cX5_init 2 = .ok (.putfield 1, 3) := dk_181 0 1 (dk_at dksX5_init_0 2 rfl rfl)
theorem dX5_init_5 : decode cX5_init 5 = .ok (.aload_n 0, 1) := dk_42 (dk_at dksX5_init_0 5 rfl rfl)
theorem dX5_init_6 : decode cX5_init 6 = .ok (.aload_n 1, 1) := dk_43 (dk_at dksX5_init_0 6 rfl rfl)
theorem dX5_init_7 : decode cX5_init 7 = .ok (.invokespecial 7, 3) := dk_183 0 7 (dk_at dksX5_init_0 7 rfl rfl)
theorem dX5_init_10 : decode cX5_init 10 = .ok (.return_, 1) := dk_177 (dk_at dksX5_init_0 10 rfl rfl)
abbrev cX5_rate : ByteArray := prog_8_method_2_code
def yX5_rate : MethodName := ⟨RX5, "rate", "(I)I"⟩
def dkwX5_rate_1 : List UInt8 := [180, 0, 25, 180, 0, 29, 27, 46, 100, 172]
abbrev dktX5_rate_1 : List UInt8 := dkwX5_rate_1 ++ []
def dkwX5_rate_0 : List UInt8 := [42, 180, 0, 1, 89, 180, 0, 13, 20, 0, 19, 97, 181, 0, 13, 42, 27, 183, 0, 21, 42, 180, 0, 1]
abbrev dktX5_rate_0 : List UInt8 := dkwX5_rate_0 ++ dktX5_rate_1
theorem dksX5_rate_0 : cX5_rate.data.toList.drop 0 = dktX5_rate_0 := by decide +kernel
theorem dksX5_rate_1 : cX5_rate.data.toList.drop 24 = dktX5_rate_1 := dk_seg dksX5_rate_0 24 rfl rfl
theorem dX5_rate_0 : decode cX5_rate 0 = .ok (.aload_n 0, 1) := dk_42 (dk_at dksX5_rate_0 0 rfl rfl)
theorem dX5_rate_1 : decode cX5_rate 1 = .ok (.getfield 1, 3) := dk_180 0 1 (dk_at dksX5_rate_0 1 rfl rfl)
theorem dX5_rate_4 : decode cX5_rate 4 = .ok (.dup, 1) := dk_89 (dk_at dksX5_rate_0 4 rfl rfl)
theorem dX5_rate_5 : decode cX5_rate 5 = .ok (.getfield 13, 3) := dk_180 0 13 (dk_at dksX5_rate_0 5 rfl rfl)
theorem dX5_rate_8 : decode cX5_rate 8 = .ok (.ldc2_w 19, 3) := dk_20 0 19 (dk_at dksX5_rate_0 8 rfl rfl)
theorem dX5_rate_11 : decode cX5_rate 11 = .ok (.ladd, 1) := dk_97 (dk_at dksX5_rate_0 11 rfl rfl)
theorem dX5_rate_12 : decode cX5_rate 12 = .ok (.putfield 13, 3) := dk_181 0 13 (dk_at dksX5_rate_0 12 rfl rfl)
theorem dX5_rate_15 : decode cX5_rate 15 = .ok (.aload_n 0, 1) := dk_42 (dk_at dksX5_rate_0 15 rfl rfl)
theorem dX5_rate_16 : decode cX5_rate 16 = .ok (.iload_n 1, 1) := dk_27 (dk_at dksX5_rate_0 16 rfl rfl)
theorem dX5_rate_17 : decode cX5_rate 17 = .ok (.invokespecial 21, 3) := dk_183 0 21 (dk_at dksX5_rate_0 17 rfl rfl)
theorem dX5_rate_20 : decode cX5_rate 20 = .ok (.aload_n 0, 1) := dk_42 (dk_at dksX5_rate_0 20 rfl rfl)
theorem dX5_rate_21 : decode cX5_rate 21 = .ok (.getfield 1, 3) := dk_180 0 1 (dk_at dksX5_rate_0 21 rfl rfl)
theorem dX5_rate_24 : decode cX5_rate 24 = .ok (.getfield 25, 3) := dk_180 0 25 (dk_at dksX5_rate_1 0 rfl rfl)
theorem dX5_rate_27 : decode cX5_rate 27 = .ok (.getfield 29, 3) := dk_180 0 29 (dk_at dksX5_rate_1 3 rfl rfl)
theorem dX5_rate_30 : decode cX5_rate 30 = .ok (.iload_n 1, 1) := dk_27 (dk_at dksX5_rate_1 6 rfl rfl)
theorem dX5_rate_31 : decode cX5_rate 31 = .ok (.iaload, 1) := dk_46 (dk_at dksX5_rate_1 7 rfl rfl)
theorem dX5_rate_32 : decode cX5_rate 32 = .ok (.isub, 1) := dk_100 (dk_at dksX5_rate_1 8 rfl rfl)
theorem dX5_rate_33 : decode cX5_rate 33 = .ok (.ireturn, 1) := dk_172 (dk_at dksX5_rate_1 9 rfl rfl)
theorem q66 : (Jvm.Cond.initialized "SmokedLetters$Nephew") ∈ lw_all := lw_g (lw_at lw_m1 7 rfl) rfl
theorem q117 : (Jvm.Cond.fieldLinkNest "SmokedLetters$Nephew" (29 : Nat) "SmokedLetters$Book" "mercyTo" "[I" "SmokedLetters") ∈ lw_tbl := lw_at lw_m1 58 rfl
theorem q221 : (Jvm.Cond.instantiable "SmokedLetters$Nephew" (2 : Nat)) ∈ lw_all := lw_g (lw_at lw_m1 162 rfl) rfl
theorem q223 : (Jvm.Cond.instanceMethod ({ cls := "SmokedLetters$Nephew", name := "<init>", desc := "(LSmokedLetters;)V" } : Jvm.MethodName)) ∈ lw_all := lw_g (lw_at lw_m1 164 rfl) rfl
theorem q224 : (Jvm.Cond.code ({ cls := "SmokedLetters$Nephew", name := "<init>", desc := "(LSmokedLetters;)V" } : Jvm.MethodName) prog_8_method_1_code (2 : Nat) (Option.none : Option Jvm.ClassFile.FieldType)) ∈ lw_all := lw_g (lw_at lw_m1 165 rfl) rfl
theorem q225 : (Jvm.Cond.methodLinkNest "SmokedLetters$Nephew" (7 : Nat) ({ cls := "SmokedLetters$Clerk", name := "<init>", desc := "(LSmokedLetters;)V" } : Jvm.MethodName) "SmokedLetters") ∈ lw_tbl := lw_at lw_m1 166 rfl
theorem q226 : (Jvm.Cond.fieldLink "SmokedLetters$Nephew" (1 : Nat) "SmokedLetters$Nephew" "this$0" "LSmokedLetters;") ∈ lw_all := lw_g (lw_at lw_m1 167 rfl) rfl
theorem q227 : (Jvm.Cond.laysFinal "SmokedLetters$Nephew" "SmokedLetters$Nephew" "this$0" "LSmokedLetters;") ∈ lw_all := lw_g (lw_at lw_m1 168 rfl) rfl
theorem q228 : (Jvm.Cond.soleField "SmokedLetters$Nephew" "this$0") ∈ lw_all := lw_g (lw_at lw_m1 169 rfl) rfl
theorem q229 : (Jvm.Cond.laysFinal "SmokedLetters$Nephew" "SmokedLetters$Clerk" "this$0" "LSmokedLetters;") ∈ lw_all := lw_g (lw_at lw_m1 170 rfl) rfl
theorem q230 : (Jvm.Cond.superclass "SmokedLetters$Nephew" "SmokedLetters$Clerk") ∈ lw_all := lw_g (lw_at lw_m1 171 rfl) rfl
theorem q268 : (Jvm.Cond.fieldLinkNest "SmokedLetters$Nephew" (25 : Nat) "SmokedLetters" "book" "LSmokedLetters$Book;" "SmokedLetters") ∈ lw_tbl := lw_at lw_m1 209 rfl
theorem q294 : (Jvm.Cond.fieldLinkNest "SmokedLetters$Nephew" (13 : Nat) "SmokedLetters" "trace" "J" "SmokedLetters") ∈ lw_tbl := lw_at lw_m1 235 rfl
theorem q819 : (Jvm.Cond.instanceMethod ({ cls := "SmokedLetters$Nephew", name := "rate", desc := "(I)I" } : Jvm.MethodName)) ∈ lw_all := lw_g (lw_at lw_m4 40 rfl) rfl
theorem q820 : (Jvm.Cond.code ({ cls := "SmokedLetters$Nephew", name := "rate", desc := "(I)I" } : Jvm.MethodName) prog_8_method_2_code (2 : Nat) (Option.some Jvm.ClassFile.FieldType.int)) ∈ lw_all := lw_g (lw_at lw_m4 41 rfl) rfl
theorem q821 : (Jvm.Cond.constantLong "SmokedLetters$Nephew" (19 : Nat) (100 : Int64)) ∈ lw_all := lw_g (lw_at lw_m4 42 rfl) rfl
theorem q822 : (Jvm.Cond.methodLink "SmokedLetters$Nephew" (21 : Nat) ({ cls := "SmokedLetters$Clerk", name := "rate", desc := "(I)I" } : Jvm.MethodName)) ∈ lw_all := lw_g (lw_at lw_m4 43 rfl) rfl
theorem q829 : (Jvm.Cond.selects "SmokedLetters$Nephew" ({ cls := "SmokedLetters$Clerk", name := "rate", desc := "(I)I" } : Jvm.MethodName) ({ cls := "SmokedLetters$Nephew", name := "rate", desc := "(I)I" } : Jvm.MethodName)) ∈ lw_all := lw_g (lw_at lw_m4 50 rfl) rfl
theorem q1275 : (Jvm.Cond.sameMethod "SmokedLetters$Nephew" "SmokedLetters$Nephew" "rate" "(I)I") ∈ lw_all := lw_g (lw_at lw_m6 16 rfl) rfl
theorem q1277 : (Jvm.Cond.castable "SmokedLetters$Nephew" "SmokedLetters$Clerk") ∈ lw_tbl := lw_at lw_m6 18 rfl
theorem in_X5 : ∀ w ∈ wsX50, w ∈ lw_all := lw_in wsX50 [229, 227] (by decide +kernel) (by decide +kernel)

/-! SmokedLetters$Abbess -/
set_option maxRecDepth 100000
def RX6 : String := "SmokedLetters$Abbess"
def TX6 : u_T := fun k => match k with
  | 0 => ("SmokedLetters$Clerk", "this$0", "LSmokedLetters;", true)
  | 1 => ("SmokedLetters$Nun", "this$0", "LSmokedLetters;", true)
  | _ => ("SmokedLetters$Abbess", "this$0", "LSmokedLetters;", true)
def tyX6 : Nat → FieldType := fun k => match k with
  | 0 => .object "SmokedLetters"
  | 1 => .object "SmokedLetters"
  | _ => .object "SmokedLetters"
abbrev wsX60 : List Cond := u_ws RX6 TX6 3
-- two fields of one name: no nmX6
theorem tyX6_ok : ∀ k, k < 3 → parseFieldDescriptor (TX6 k).2.2.1 = some (tyX6 k) := by decide +kernel
abbrev cX6_init : ByteArray := prog_2_method_1_code
def yX6_init : MethodName := ⟨RX6, "<init>", "(LSmokedLetters;)V"⟩
def dkwX6_init_0 : List UInt8 := [42, 43, 181, 0, 1, 42, 43, 183, 0, 7, 177]
abbrev dktX6_init_0 : List UInt8 := dkwX6_init_0 ++ []
theorem dksX6_init_0 : cX6_init.data.toList.drop 0 = dktX6_init_0 := by decide +kernel
theorem dX6_init_0 : decode cX6_init 0 = .ok (.aload_n 0, 1) := dk_42 (dk_at dksX6_init_0 0 rfl rfl)
theorem dX6_init_1 : decode cX6_init 1 = .ok (.aload_n 1, 1) := dk_43 (dk_at dksX6_init_0 1 rfl rfl)
theorem dX6_init_2 : decode cX6_init 2 = .ok (.putfield 1, 3) := dk_181 0 1 (dk_at dksX6_init_0 2 rfl rfl)
theorem dX6_init_5 : decode cX6_init 5 = .ok (.aload_n 0, 1) := dk_42 (dk_at dksX6_init_0 5 rfl rfl)
theorem dX6_init_6 : decode cX6_init 6 = .ok (.aload_n 1, 1) := dk_43 (dk_at dksX6_init_0 6 rfl rfl)
theorem dX6_init_7 : decode cX6_init 7 = .ok (.invokespecial 7, 3) := dk_183 0 7 (dk_at dksX6_init_0 7 rfl rfl)
theorem dX6_init_10 : decode cX6_init 10 = .ok (.return_, 1) := dk_177 (dk_at dksX6_init_0 10 rfl rfl)
abbrev cX6_rate : ByteArray := prog_2_method_2_code
def yX6_rate : MethodName := ⟨RX6, "rate", "(I)I"⟩
def dkwX6_rate_0 : List UInt8 := [42, 180, 0, 1, 89, 180, 0, 13, 20, 0, 19, 97, 181, 0, 13, 5, 42, 27, 183, 0, 21, 104, 172]
abbrev dktX6_rate_0 : List UInt8 := dkwX6_rate_0 ++ []
theorem dksX6_rate_0 : cX6_rate.data.toList.drop 0 = dktX6_rate_0 := by decide +kernel
theorem dX6_rate_0 : decode cX6_rate 0 = .ok (.aload_n 0, 1) := dk_42 (dk_at dksX6_rate_0 0 rfl rfl)
theorem dX6_rate_1 : decode cX6_rate 1 = .ok (.getfield 1, 3) := dk_180 0 1 (dk_at dksX6_rate_0 1 rfl rfl)
theorem dX6_rate_4 : decode cX6_rate 4 = .ok (.dup, 1) := dk_89 (dk_at dksX6_rate_0 4 rfl rfl)
theorem dX6_rate_5 : decode cX6_rate 5 = .ok (.getfield 13, 3) := dk_180 0 13 (dk_at dksX6_rate_0 5 rfl rfl)
theorem dX6_rate_8 : decode cX6_rate 8 = .ok (.ldc2_w 19, 3) := dk_20 0 19 (dk_at dksX6_rate_0 8 rfl rfl)
theorem dX6_rate_11 : decode cX6_rate 11 = .ok (.ladd, 1) := dk_97 (dk_at dksX6_rate_0 11 rfl rfl)
theorem dX6_rate_12 : decode cX6_rate 12 = .ok (.putfield 13, 3) := dk_181 0 13 (dk_at dksX6_rate_0 12 rfl rfl)
theorem dX6_rate_15 : decode cX6_rate 15 = .ok (.iconst 2, 1) := dk_5 (dk_at dksX6_rate_0 15 rfl rfl)
theorem dX6_rate_16 : decode cX6_rate 16 = .ok (.aload_n 0, 1) := dk_42 (dk_at dksX6_rate_0 16 rfl rfl)
theorem dX6_rate_17 : decode cX6_rate 17 = .ok (.iload_n 1, 1) := dk_27 (dk_at dksX6_rate_0 17 rfl rfl)
theorem dX6_rate_18 : decode cX6_rate 18 = .ok (.invokespecial 21, 3) := dk_183 0 21 (dk_at dksX6_rate_0 18 rfl rfl)
theorem dX6_rate_21 : decode cX6_rate 21 = .ok (.imul, 1) := dk_104 (dk_at dksX6_rate_0 21 rfl rfl)
theorem dX6_rate_22 : decode cX6_rate 22 = .ok (.ireturn, 1) := dk_172 (dk_at dksX6_rate_0 22 rfl rfl)
theorem q67 : (Jvm.Cond.initialized "SmokedLetters$Abbess") ∈ lw_all := lw_g (lw_at lw_m1 8 rfl) rfl
theorem q232 : (Jvm.Cond.instantiable "SmokedLetters$Abbess" (3 : Nat)) ∈ lw_all := lw_g (lw_at lw_m1 173 rfl) rfl
theorem q234 : (Jvm.Cond.instanceMethod ({ cls := "SmokedLetters$Abbess", name := "<init>", desc := "(LSmokedLetters;)V" } : Jvm.MethodName)) ∈ lw_all := lw_g (lw_at lw_m1 175 rfl) rfl
theorem q235 : (Jvm.Cond.code ({ cls := "SmokedLetters$Abbess", name := "<init>", desc := "(LSmokedLetters;)V" } : Jvm.MethodName) prog_2_method_1_code (2 : Nat) (Option.none : Option Jvm.ClassFile.FieldType)) ∈ lw_all := lw_g (lw_at lw_m1 176 rfl) rfl
theorem q236 : (Jvm.Cond.methodLinkNest "SmokedLetters$Abbess" (7 : Nat) ({ cls := "SmokedLetters$Nun", name := "<init>", desc := "(LSmokedLetters;)V" } : Jvm.MethodName) "SmokedLetters") ∈ lw_tbl := lw_at lw_m1 177 rfl
theorem q237 : (Jvm.Cond.fieldLink "SmokedLetters$Abbess" (1 : Nat) "SmokedLetters$Abbess" "this$0" "LSmokedLetters;") ∈ lw_all := lw_g (lw_at lw_m1 178 rfl) rfl
theorem q238 : (Jvm.Cond.laysFinal "SmokedLetters$Abbess" "SmokedLetters$Abbess" "this$0" "LSmokedLetters;") ∈ lw_all := lw_g (lw_at lw_m1 179 rfl) rfl
theorem q239 : (Jvm.Cond.soleField "SmokedLetters$Abbess" "this$0") ∈ lw_all := lw_g (lw_at lw_m1 180 rfl) rfl
theorem q240 : (Jvm.Cond.laysFinal "SmokedLetters$Abbess" "SmokedLetters$Nun" "this$0" "LSmokedLetters;") ∈ lw_all := lw_g (lw_at lw_m1 181 rfl) rfl
theorem q241 : (Jvm.Cond.laysFinal "SmokedLetters$Abbess" "SmokedLetters$Clerk" "this$0" "LSmokedLetters;") ∈ lw_all := lw_g (lw_at lw_m1 182 rfl) rfl
theorem q242 : (Jvm.Cond.superclass "SmokedLetters$Abbess" "SmokedLetters$Nun") ∈ lw_all := lw_g (lw_at lw_m1 183 rfl) rfl
theorem q291 : (Jvm.Cond.fieldLinkNest "SmokedLetters$Abbess" (13 : Nat) "SmokedLetters" "trace" "J" "SmokedLetters") ∈ lw_tbl := lw_at lw_m1 232 rfl
theorem q805 : (Jvm.Cond.selects "SmokedLetters$Abbess" ({ cls := "SmokedLetters$Clerk", name := "rate", desc := "(I)I" } : Jvm.MethodName) ({ cls := "SmokedLetters$Abbess", name := "rate", desc := "(I)I" } : Jvm.MethodName)) ∈ lw_all := lw_g (lw_at lw_m4 26 rfl) rfl
theorem q806 : (Jvm.Cond.instanceMethod ({ cls := "SmokedLetters$Abbess", name := "rate", desc := "(I)I" } : Jvm.MethodName)) ∈ lw_all := lw_g (lw_at lw_m4 27 rfl) rfl
theorem q807 : (Jvm.Cond.code ({ cls := "SmokedLetters$Abbess", name := "rate", desc := "(I)I" } : Jvm.MethodName) prog_2_method_2_code (2 : Nat) (Option.some Jvm.ClassFile.FieldType.int)) ∈ lw_all := lw_g (lw_at lw_m4 28 rfl) rfl
theorem q808 : (Jvm.Cond.constantLong "SmokedLetters$Abbess" (19 : Nat) (1000 : Int64)) ∈ lw_all := lw_g (lw_at lw_m4 29 rfl) rfl
theorem q809 : (Jvm.Cond.methodLink "SmokedLetters$Abbess" (21 : Nat) ({ cls := "SmokedLetters$Nun", name := "rate", desc := "(I)I" } : Jvm.MethodName)) ∈ lw_all := lw_g (lw_at lw_m4 30 rfl) rfl
theorem q1278 : (Jvm.Cond.castable "SmokedLetters$Abbess" "SmokedLetters$Clerk") ∈ lw_tbl := lw_at lw_m6 19 rfl
theorem in_X6 : ∀ w ∈ wsX60, w ∈ lw_all := lw_in wsX60 [241, 240, 238] (by decide +kernel) (by decide +kernel)

/-! SmokedLetters$Forger -/
set_option maxRecDepth 100000
def RX7 : String := "SmokedLetters$Forger"
def TX7 : u_T := fun k => match k with
  | 0 => ("SmokedLetters$Clerk", "this$0", "LSmokedLetters;", true)
  | 1 => ("SmokedLetters$Nephew", "this$0", "LSmokedLetters;", true)
  | _ => ("SmokedLetters$Forger", "this$0", "LSmokedLetters;", true)
def tyX7 : Nat → FieldType := fun k => match k with
  | 0 => .object "SmokedLetters"
  | 1 => .object "SmokedLetters"
  | _ => .object "SmokedLetters"
abbrev wsX70 : List Cond := u_ws RX7 TX7 3
-- two fields of one name: no nmX7
theorem tyX7_ok : ∀ k, k < 3 → parseFieldDescriptor (TX7 k).2.2.1 = some (tyX7 k) := by decide +kernel
abbrev cX7_init : ByteArray := prog_5_method_1_code
def yX7_init : MethodName := ⟨RX7, "<init>", "(LSmokedLetters;)V"⟩
def dkwX7_init_0 : List UInt8 := [42, 43, 181, 0, 1, 42, 43, 183, 0, 7, 177]
abbrev dktX7_init_0 : List UInt8 := dkwX7_init_0 ++ []
theorem dksX7_init_0 : cX7_init.data.toList.drop 0 = dktX7_init_0 := by decide +kernel
theorem dX7_init_0 : decode cX7_init 0 = .ok (.aload_n 0, 1) := dk_42 (dk_at dksX7_init_0 0 rfl rfl)
theorem dX7_init_1 : decode cX7_init 1 = .ok (.aload_n 1, 1) := dk_43 (dk_at dksX7_init_0 1 rfl rfl)
theorem dX7_init_2 : decode cX7_init 2 = .ok (.putfield 1, 3) := dk_181 0 1 (dk_at dksX7_init_0 2 rfl rfl)
theorem dX7_init_5 : decode cX7_init 5 = .ok (.aload_n 0, 1) := dk_42 (dk_at dksX7_init_0 5 rfl rfl)
theorem dX7_init_6 : decode cX7_init 6 = .ok (.aload_n 1, 1) := dk_43 (dk_at dksX7_init_0 6 rfl rfl)
theorem dX7_init_7 : decode cX7_init 7 = .ok (.invokespecial 7, 3) := dk_183 0 7 (dk_at dksX7_init_0 7 rfl rfl)
theorem dX7_init_10 : decode cX7_init 10 = .ok (.return_, 1) := dk_177 (dk_at dksX7_init_0 10 rfl rfl)
abbrev cX7_rate : ByteArray := prog_5_method_2_code
def yX7_rate : MethodName := ⟨RX7, "rate", "(I)I"⟩
def dkwX7_rate_0 : List UInt8 := [42, 180, 0, 1, 89, 180, 0, 13, 20, 0, 19, 97, 181, 0, 13, 42, 27, 183, 0, 21, 27, 96, 172]
abbrev dktX7_rate_0 : List UInt8 := dkwX7_rate_0 ++ []
theorem dksX7_rate_0 : cX7_rate.data.toList.drop 0 = dktX7_rate_0 := by decide +kernel
theorem dX7_rate_0 : decode cX7_rate 0 = .ok (.aload_n 0, 1) := dk_42 (dk_at dksX7_rate_0 0 rfl rfl)
theorem dX7_rate_1 : decode cX7_rate 1 = .ok (.getfield 1, 3) := dk_180 0 1 (dk_at dksX7_rate_0 1 rfl rfl)
theorem dX7_rate_4 : decode cX7_rate 4 = .ok (.dup, 1) := dk_89 (dk_at dksX7_rate_0 4 rfl rfl)
theorem dX7_rate_5 : decode cX7_rate 5 = .ok (.getfield 13, 3) := dk_180 0 13 (dk_at dksX7_rate_0 5 rfl rfl)
theorem dX7_rate_8 : decode cX7_rate 8 = .ok (.ldc2_w 19, 3) := dk_20 0 19 (dk_at dksX7_rate_0 8 rfl rfl)
theorem dX7_rate_11 : decode cX7_rate 11 = .ok (.ladd, 1) := dk_97 (dk_at dksX7_rate_0 11 rfl rfl)
theorem dX7_rate_12 : decode cX7_rate 12 = .ok (.putfield 13, 3) := dk_181 0 13 (dk_at dksX7_rate_0 12 rfl rfl)
theorem dX7_rate_15 : decode cX7_rate 15 = .ok (.aload_n 0, 1) := dk_42 (dk_at dksX7_rate_0 15 rfl rfl)
theorem dX7_rate_16 : decode cX7_rate 16 = .ok (.iload_n 1, 1) := dk_27 (dk_at dksX7_rate_0 16 rfl rfl)
theorem dX7_rate_17 : decode cX7_rate 17 = .ok (.invokespecial 21, 3) := dk_183 0 21 (dk_at dksX7_rate_0 17 rfl rfl)
theorem dX7_rate_20 : decode cX7_rate 20 = .ok (.iload_n 1, 1) := dk_27 (dk_at dksX7_rate_0 20 rfl rfl)
theorem dX7_rate_21 : decode cX7_rate 21 = .ok (.iadd, 1) := dk_96 (dk_at dksX7_rate_0 21 rfl rfl)
theorem dX7_rate_22 : decode cX7_rate 22 = .ok (.ireturn, 1) := dk_172 (dk_at dksX7_rate_0 22 rfl rfl)
theorem q68 : (Jvm.Cond.initialized "SmokedLetters$Forger") ∈ lw_all := lw_g (lw_at lw_m1 9 rfl) rfl
theorem q244 : (Jvm.Cond.instantiable "SmokedLetters$Forger" (3 : Nat)) ∈ lw_all := lw_g (lw_at lw_m1 185 rfl) rfl
theorem q246 : (Jvm.Cond.instanceMethod ({ cls := "SmokedLetters$Forger", name := "<init>", desc := "(LSmokedLetters;)V" } : Jvm.MethodName)) ∈ lw_all := lw_g (lw_at lw_m1 187 rfl) rfl
theorem q247 : (Jvm.Cond.code ({ cls := "SmokedLetters$Forger", name := "<init>", desc := "(LSmokedLetters;)V" } : Jvm.MethodName) prog_5_method_1_code (2 : Nat) (Option.none : Option Jvm.ClassFile.FieldType)) ∈ lw_all := lw_g (lw_at lw_m1 188 rfl) rfl
theorem q248 : (Jvm.Cond.methodLinkNest "SmokedLetters$Forger" (7 : Nat) ({ cls := "SmokedLetters$Nephew", name := "<init>", desc := "(LSmokedLetters;)V" } : Jvm.MethodName) "SmokedLetters") ∈ lw_tbl := lw_at lw_m1 189 rfl
theorem q249 : (Jvm.Cond.fieldLink "SmokedLetters$Forger" (1 : Nat) "SmokedLetters$Forger" "this$0" "LSmokedLetters;") ∈ lw_all := lw_g (lw_at lw_m1 190 rfl) rfl
theorem q250 : (Jvm.Cond.laysFinal "SmokedLetters$Forger" "SmokedLetters$Forger" "this$0" "LSmokedLetters;") ∈ lw_all := lw_g (lw_at lw_m1 191 rfl) rfl
theorem q251 : (Jvm.Cond.soleField "SmokedLetters$Forger" "this$0") ∈ lw_all := lw_g (lw_at lw_m1 192 rfl) rfl
theorem q252 : (Jvm.Cond.laysFinal "SmokedLetters$Forger" "SmokedLetters$Nephew" "this$0" "LSmokedLetters;") ∈ lw_all := lw_g (lw_at lw_m1 193 rfl) rfl
theorem q253 : (Jvm.Cond.laysFinal "SmokedLetters$Forger" "SmokedLetters$Clerk" "this$0" "LSmokedLetters;") ∈ lw_all := lw_g (lw_at lw_m1 194 rfl) rfl
theorem q254 : (Jvm.Cond.superclass "SmokedLetters$Forger" "SmokedLetters$Nephew") ∈ lw_all := lw_g (lw_at lw_m1 195 rfl) rfl
theorem q293 : (Jvm.Cond.fieldLinkNest "SmokedLetters$Forger" (13 : Nat) "SmokedLetters" "trace" "J" "SmokedLetters") ∈ lw_tbl := lw_at lw_m1 234 rfl
theorem q814 : (Jvm.Cond.selects "SmokedLetters$Forger" ({ cls := "SmokedLetters$Clerk", name := "rate", desc := "(I)I" } : Jvm.MethodName) ({ cls := "SmokedLetters$Forger", name := "rate", desc := "(I)I" } : Jvm.MethodName)) ∈ lw_all := lw_g (lw_at lw_m4 35 rfl) rfl
theorem q815 : (Jvm.Cond.instanceMethod ({ cls := "SmokedLetters$Forger", name := "rate", desc := "(I)I" } : Jvm.MethodName)) ∈ lw_all := lw_g (lw_at lw_m4 36 rfl) rfl
theorem q816 : (Jvm.Cond.code ({ cls := "SmokedLetters$Forger", name := "rate", desc := "(I)I" } : Jvm.MethodName) prog_5_method_2_code (2 : Nat) (Option.some Jvm.ClassFile.FieldType.int)) ∈ lw_all := lw_g (lw_at lw_m4 37 rfl) rfl
theorem q817 : (Jvm.Cond.constantLong "SmokedLetters$Forger" (19 : Nat) (10000 : Int64)) ∈ lw_all := lw_g (lw_at lw_m4 38 rfl) rfl
theorem q818 : (Jvm.Cond.methodLink "SmokedLetters$Forger" (21 : Nat) ({ cls := "SmokedLetters$Nephew", name := "rate", desc := "(I)I" } : Jvm.MethodName)) ∈ lw_all := lw_g (lw_at lw_m4 39 rfl) rfl
theorem q1279 : (Jvm.Cond.castable "SmokedLetters$Forger" "SmokedLetters$Clerk") ∈ lw_tbl := lw_at lw_m6 20 rfl
theorem in_X7 : ∀ w ∈ wsX70, w ∈ lw_all := lw_in wsX70 [253, 252, 250] (by decide +kernel) (by decide +kernel)

/-! SmokedLetters$Gull -/
set_option maxRecDepth 100000
def RX8 : String := "SmokedLetters$Gull"
def TX8 : u_T := fun k => match k with
  | 0 => ("SmokedLetters$Clerk", "this$0", "LSmokedLetters;", true)
  | _ => ("SmokedLetters$Gull", "this$0", "LSmokedLetters;", true)
def tyX8 : Nat → FieldType := fun k => match k with
  | 0 => .object "SmokedLetters"
  | _ => .object "SmokedLetters"
abbrev wsX80 : List Cond := u_ws RX8 TX8 2
-- two fields of one name: no nmX8
theorem tyX8_ok : ∀ k, k < 2 → parseFieldDescriptor (TX8 k).2.2.1 = some (tyX8 k) := by decide +kernel
abbrev cX8_init : ByteArray := prog_6_method_1_code
def yX8_init : MethodName := ⟨RX8, "<init>", "(LSmokedLetters;)V"⟩
def dkwX8_init_0 : List UInt8 := [42, 43, 181, 0, 1, 42, 43, 183, 0, 7, 177]
abbrev dktX8_init_0 : List UInt8 := dkwX8_init_0 ++ []
theorem dksX8_init_0 : cX8_init.data.toList.drop 0 = dktX8_init_0 := by decide +kernel
theorem dX8_init_0 : decode cX8_init 0 = .ok (.aload_n 0, 1) := dk_42 (dk_at dksX8_init_0 0 rfl rfl)
theorem dX8_init_1 : decode cX8_init 1 = .ok (.aload_n 1, 1) := dk_43 (dk_at dksX8_init_0 1 rfl rfl)
theorem dX8_init_2 : decode cX8_init 2 = .ok (.putfield 1, 3) := dk_181 0 1 (dk_at dksX8_init_0 2 rfl rfl)
theorem dX8_init_5 : decode cX8_init 5 = .ok (.aload_n 0, 1) := dk_42 (dk_at dksX8_init_0 5 rfl rfl)
theorem dX8_init_6 : decode cX8_init 6 = .ok (.aload_n 1, 1) := dk_43 (dk_at dksX8_init_0 6 rfl rfl)
theorem dX8_init_7 : decode cX8_init 7 = .ok (.invokespecial 7, 3) := dk_183 0 7 (dk_at dksX8_init_0 7 rfl rfl)
theorem dX8_init_10 : decode cX8_init 10 = .ok (.return_, 1) := dk_177 (dk_at dksX8_init_0 10 rfl rfl)
abbrev cX8_rate : ByteArray := prog_6_method_2_code
def yX8_rate : MethodName := ⟨RX8, "rate", "(I)I"⟩
def dkwX8_rate_1 : List UInt8 := [180, 0, 25, 180, 0, 29, 184, 0, 35, 96, 172]
abbrev dktX8_rate_1 : List UInt8 := dkwX8_rate_1 ++ []
def dkwX8_rate_0 : List UInt8 := [42, 180, 0, 1, 89, 180, 0, 13, 20, 0, 19, 97, 181, 0, 13, 42, 27, 183, 0, 21, 42, 180, 0, 1]
abbrev dktX8_rate_0 : List UInt8 := dkwX8_rate_0 ++ dktX8_rate_1
theorem dksX8_rate_0 : cX8_rate.data.toList.drop 0 = dktX8_rate_0 := by decide +kernel
theorem dksX8_rate_1 : cX8_rate.data.toList.drop 24 = dktX8_rate_1 := dk_seg dksX8_rate_0 24 rfl rfl
theorem dX8_rate_0 : decode cX8_rate 0 = .ok (.aload_n 0, 1) := dk_42 (dk_at dksX8_rate_0 0 rfl rfl)
theorem dX8_rate_1 : decode cX8_rate 1 = .ok (.getfield 1, 3) := dk_180 0 1 (dk_at dksX8_rate_0 1 rfl rfl)
theorem dX8_rate_4 : decode cX8_rate 4 = .ok (.dup, 1) := dk_89 (dk_at dksX8_rate_0 4 rfl rfl)
theorem dX8_rate_5 : decode cX8_rate 5 = .ok (.getfield 13, 3) := dk_180 0 13 (dk_at dksX8_rate_0 5 rfl rfl)
theorem dX8_rate_8 : decode cX8_rate 8 = .ok (.ldc2_w 19, 3) := dk_20 0 19 (dk_at dksX8_rate_0 8 rfl rfl)
theorem dX8_rate_11 : decode cX8_rate 11 = .ok (.ladd, 1) := dk_97 (dk_at dksX8_rate_0 11 rfl rfl)
theorem dX8_rate_12 : decode cX8_rate 12 = .ok (.putfield 13, 3) := dk_181 0 13 (dk_at dksX8_rate_0 12 rfl rfl)
theorem dX8_rate_15 : decode cX8_rate 15 = .ok (.aload_n 0, 1) := dk_42 (dk_at dksX8_rate_0 15 rfl rfl)
theorem dX8_rate_16 : decode cX8_rate 16 = .ok (.iload_n 1, 1) := dk_27 (dk_at dksX8_rate_0 16 rfl rfl)
theorem dX8_rate_17 : decode cX8_rate 17 = .ok (.invokespecial 21, 3) := dk_183 0 21 (dk_at dksX8_rate_0 17 rfl rfl)
theorem dX8_rate_20 : decode cX8_rate 20 = .ok (.aload_n 0, 1) := dk_42 (dk_at dksX8_rate_0 20 rfl rfl)
theorem dX8_rate_21 : decode cX8_rate 21 = .ok (.getfield 1, 3) := dk_180 0 1 (dk_at dksX8_rate_0 21 rfl rfl)
theorem dX8_rate_24 : decode cX8_rate 24 = .ok (.getfield 25, 3) := dk_180 0 25 (dk_at dksX8_rate_1 0 rfl rfl)
theorem dX8_rate_27 : decode cX8_rate 27 = .ok (.getfield 29, 3) := dk_180 0 29 (dk_at dksX8_rate_1 3 rfl rfl)
theorem dX8_rate_30 : decode cX8_rate 30 = .ok (.invokestatic 35, 3) := dk_184 0 35 (dk_at dksX8_rate_1 6 rfl rfl)
theorem dX8_rate_33 : decode cX8_rate 33 = .ok (.iadd, 1) := dk_96 (dk_at dksX8_rate_1 9 rfl rfl)
theorem dX8_rate_34 : decode cX8_rate 34 = .ok (.ireturn, 1) := dk_172 (dk_at dksX8_rate_1 10 rfl rfl)
theorem q69 : (Jvm.Cond.initialized "SmokedLetters$Gull") ∈ lw_all := lw_g (lw_at lw_m1 10 rfl) rfl
theorem q165 : (Jvm.Cond.fieldLinkNest "SmokedLetters$Gull" (29 : Nat) "SmokedLetters$Island" "gone" "I" "SmokedLetters") ∈ lw_tbl := lw_at lw_m1 106 rfl
theorem q256 : (Jvm.Cond.instantiable "SmokedLetters$Gull" (2 : Nat)) ∈ lw_all := lw_g (lw_at lw_m1 197 rfl) rfl
theorem q258 : (Jvm.Cond.instanceMethod ({ cls := "SmokedLetters$Gull", name := "<init>", desc := "(LSmokedLetters;)V" } : Jvm.MethodName)) ∈ lw_all := lw_g (lw_at lw_m1 199 rfl) rfl
theorem q259 : (Jvm.Cond.code ({ cls := "SmokedLetters$Gull", name := "<init>", desc := "(LSmokedLetters;)V" } : Jvm.MethodName) prog_6_method_1_code (2 : Nat) (Option.none : Option Jvm.ClassFile.FieldType)) ∈ lw_all := lw_g (lw_at lw_m1 200 rfl) rfl
theorem q260 : (Jvm.Cond.methodLinkNest "SmokedLetters$Gull" (7 : Nat) ({ cls := "SmokedLetters$Clerk", name := "<init>", desc := "(LSmokedLetters;)V" } : Jvm.MethodName) "SmokedLetters") ∈ lw_tbl := lw_at lw_m1 201 rfl
theorem q261 : (Jvm.Cond.fieldLink "SmokedLetters$Gull" (1 : Nat) "SmokedLetters$Gull" "this$0" "LSmokedLetters;") ∈ lw_all := lw_g (lw_at lw_m1 202 rfl) rfl
theorem q262 : (Jvm.Cond.laysFinal "SmokedLetters$Gull" "SmokedLetters$Gull" "this$0" "LSmokedLetters;") ∈ lw_all := lw_g (lw_at lw_m1 203 rfl) rfl
theorem q263 : (Jvm.Cond.soleField "SmokedLetters$Gull" "this$0") ∈ lw_all := lw_g (lw_at lw_m1 204 rfl) rfl
theorem q264 : (Jvm.Cond.laysFinal "SmokedLetters$Gull" "SmokedLetters$Clerk" "this$0" "LSmokedLetters;") ∈ lw_all := lw_g (lw_at lw_m1 205 rfl) rfl
theorem q265 : (Jvm.Cond.superclass "SmokedLetters$Gull" "SmokedLetters$Clerk") ∈ lw_all := lw_g (lw_at lw_m1 206 rfl) rfl
theorem q270 : (Jvm.Cond.fieldLinkNest "SmokedLetters$Gull" (25 : Nat) "SmokedLetters" "now" "LSmokedLetters$Island;" "SmokedLetters") ∈ lw_tbl := lw_at lw_m1 211 rfl
theorem q295 : (Jvm.Cond.fieldLinkNest "SmokedLetters$Gull" (13 : Nat) "SmokedLetters" "trace" "J" "SmokedLetters") ∈ lw_tbl := lw_at lw_m1 236 rfl
theorem q823 : (Jvm.Cond.selects "SmokedLetters$Gull" ({ cls := "SmokedLetters$Clerk", name := "rate", desc := "(I)I" } : Jvm.MethodName) ({ cls := "SmokedLetters$Gull", name := "rate", desc := "(I)I" } : Jvm.MethodName)) ∈ lw_all := lw_g (lw_at lw_m4 44 rfl) rfl
theorem q824 : (Jvm.Cond.instanceMethod ({ cls := "SmokedLetters$Gull", name := "rate", desc := "(I)I" } : Jvm.MethodName)) ∈ lw_all := lw_g (lw_at lw_m4 45 rfl) rfl
theorem q825 : (Jvm.Cond.code ({ cls := "SmokedLetters$Gull", name := "rate", desc := "(I)I" } : Jvm.MethodName) prog_6_method_2_code (2 : Nat) (Option.some Jvm.ClassFile.FieldType.int)) ∈ lw_all := lw_g (lw_at lw_m4 46 rfl) rfl
theorem q826 : (Jvm.Cond.constantLong "SmokedLetters$Gull" (19 : Nat) (100000 : Int64)) ∈ lw_all := lw_g (lw_at lw_m4 47 rfl) rfl
theorem q827 : (Jvm.Cond.methodLink "SmokedLetters$Gull" (21 : Nat) ({ cls := "SmokedLetters$Clerk", name := "rate", desc := "(I)I" } : Jvm.MethodName)) ∈ lw_all := lw_g (lw_at lw_m4 48 rfl) rfl
theorem q828 : (Jvm.Cond.methodLink "SmokedLetters$Gull" (35 : Nat) ({ cls := "java/lang/Integer", name := "bitCount", desc := "(I)I" } : Jvm.MethodName)) ∈ lw_all := lw_g (lw_at lw_m4 49 rfl) rfl
theorem q1280 : (Jvm.Cond.castable "SmokedLetters$Gull" "SmokedLetters$Clerk") ∈ lw_tbl := lw_at lw_m6 21 rfl
theorem in_X8 : ∀ w ∈ wsX80, w ∈ lw_all := lw_in wsX80 [264, 262] (by decide +kernel) (by decide +kernel)

theorem q82 : (Jvm.Cond.initialized "java/lang/System") ∈ lw_all := lw_g (lw_at lw_m1 23 rfl) rfl
set_option maxRecDepth 100000
theorem q621 : (Jvm.Cond.static ({ cls := "java/lang/System", name := "arraycopy", desc := "(Ljava/lang/Object;ILjava/lang/Object;II)V" } : Jvm.MethodName)) ∈ lw_all := lw_g (lw_at lw_m3 82 rfl) rfl
theorem q622 : (Jvm.Cond.native ({ cls := "java/lang/System", name := "arraycopy", desc := "(Ljava/lang/Object;ILjava/lang/Object;II)V" } : Jvm.MethodName)) ∈ lw_all := lw_g (lw_at lw_m3 83 rfl) rfl

theorem q146 : (Jvm.Cond.arrayClass Jvm.ClassFile.FieldType.int) ∈ lw_all := lw_g (lw_at lw_m1 87 rfl) rfl
set_option maxRecDepth 100000
theorem q193 : (Jvm.Cond.arrayOver (Jvm.ClassFile.FieldType.object "SmokedLetters$Island")) ∈ lw_tbl := lw_at lw_m1 134 rfl
theorem q195 : (Jvm.Cond.arrayOver (Jvm.ClassFile.FieldType.array Jvm.ClassFile.FieldType.int)) ∈ lw_tbl := lw_at lw_m1 136 rfl
theorem q197 : (Jvm.Cond.arrayOver (Jvm.ClassFile.FieldType.object "SmokedLetters$Clerk")) ∈ lw_tbl := lw_at lw_m1 138 rfl
theorem q207 : (Jvm.Cond.arrayClass Jvm.ClassFile.FieldType.boolean) ∈ lw_all := lw_g (lw_at lw_m1 148 rfl) rfl
theorem q208 : (Jvm.Cond.arrayClass Jvm.ClassFile.FieldType.byte) ∈ lw_all := lw_g (lw_at lw_m1 149 rfl) rfl
theorem q974 : (Jvm.Cond.arrayClass Jvm.ClassFile.FieldType.long) ∈ lw_all := lw_g (lw_at lw_m4 195 rfl) rfl

theorem q59 : (Jvm.Cond.initialized "SmokedLettersLaw") ∈ lw_all := lw_g (lw_at lw_m1 0 rfl) rfl
set_option maxRecDepth 100000
theorem q84 : (Jvm.Cond.classLink "SmokedLettersLaw" (7 : Nat) "SmokedLetters") ∈ lw_all := lw_g (lw_at lw_m1 25 rfl) rfl
theorem q86 : (Jvm.Cond.methodLink "SmokedLettersLaw" (9 : Nat) ({ cls := "SmokedLetters", name := "<init>", desc := "()V" } : Jvm.MethodName)) ∈ lw_all := lw_g (lw_at lw_m1 27 rfl) rfl
theorem q339 : (Jvm.Cond.methodLink "SmokedLettersLaw" (13 : Nat) ({ cls := "SmokedLetters", name := "type", desc := "(I)I" } : Jvm.MethodName)) ∈ lw_all := lw_g (lw_at lw_m2 40 rfl) rfl
theorem q346 : (Jvm.Cond.methodLink "SmokedLettersLaw" (18 : Nat) ({ cls := "SmokedLetters", name := "clear", desc := "()I" } : Jvm.MethodName)) ∈ lw_all := lw_g (lw_at lw_m2 47 rfl) rfl
theorem q350 : (Jvm.Cond.methodLink "SmokedLettersLaw" (23 : Nat) ({ cls := "SmokedLetters", name := "island", desc := "()I" } : Jvm.MethodName)) ∈ lw_all := lw_g (lw_at lw_m2 51 rfl) rfl
theorem q576 : (Jvm.Cond.methodLink "SmokedLettersLaw" (27 : Nat) ({ cls := "SmokedLetters", name := "traveller", desc := "(II)I" } : Jvm.MethodName)) ∈ lw_all := lw_g (lw_at lw_m3 37 rfl) rfl
theorem q584 : (Jvm.Cond.methodLink "SmokedLettersLaw" (32 : Nat) ({ cls := "SmokedLetters", name := "clerk", desc := "(II)I" } : Jvm.MethodName)) ∈ lw_all := lw_g (lw_at lw_m3 45 rfl) rfl
theorem q592 : (Jvm.Cond.methodLink "SmokedLettersLaw" (36 : Nat) ({ cls := "SmokedLetters", name := "now", desc := "(I)I" } : Jvm.MethodName)) ∈ lw_all := lw_g (lw_at lw_m3 53 rfl) rfl
theorem q608 : (Jvm.Cond.methodLink "SmokedLettersLaw" (40 : Nat) ({ cls := "SmokedLetters", name := "puts", desc := "(II)I" } : Jvm.MethodName)) ∈ lw_all := lw_g (lw_at lw_m3 69 rfl) rfl
theorem q636 : (Jvm.Cond.methodLink "SmokedLettersLaw" (44 : Nat) ({ cls := "SmokedLetters", name := "day", desc := "()I" } : Jvm.MethodName)) ∈ lw_all := lw_g (lw_at lw_m3 97 rfl) rfl
theorem q644 : (Jvm.Cond.methodLink "SmokedLettersLaw" (48 : Nat) ({ cls := "SmokedLetters", name := "sails", desc := "(I)I" } : Jvm.MethodName)) ∈ lw_all := lw_g (lw_at lw_m3 105 rfl) rfl
theorem q659 : (Jvm.Cond.methodLink "SmokedLettersLaw" (52 : Nat) ({ cls := "SmokedLetters", name := "undo", desc := "()I" } : Jvm.MethodName)) ∈ lw_all := lw_g (lw_at lw_m3 120 rfl) rfl
theorem q663 : (Jvm.Cond.methodLink "SmokedLettersLaw" (56 : Nat) ({ cls := "SmokedLetters", name := "most", desc := "(II)I" } : Jvm.MethodName)) ∈ lw_all := lw_g (lw_at lw_m3 124 rfl) rfl
theorem q687 : (Jvm.Cond.methodLink "SmokedLettersLaw" (60 : Nat) ({ cls := "SmokedLetters", name := "soonest", desc := "(I)I" } : Jvm.MethodName)) ∈ lw_all := lw_g (lw_at lw_m3 148 rfl) rfl
theorem q692 : (Jvm.Cond.methodLink "SmokedLettersLaw" (64 : Nat) ({ cls := "SmokedLetters", name := "plan", desc := "(II)I" } : Jvm.MethodName)) ∈ lw_all := lw_g (lw_at lw_m3 153 rfl) rfl
theorem q700 : (Jvm.Cond.methodLink "SmokedLettersLaw" (68 : Nat) ({ cls := "SmokedLetters", name := "waits", desc := "(I)I" } : Jvm.MethodName)) ∈ lw_all := lw_g (lw_at lw_m3 161 rfl) rfl
theorem q704 : (Jvm.Cond.methodLink "SmokedLettersLaw" (72 : Nat) ({ cls := "SmokedLetters", name := "boat", desc := "(II)I" } : Jvm.MethodName)) ∈ lw_all := lw_g (lw_at lw_m3 165 rfl) rfl
theorem q708 : (Jvm.Cond.methodLink "SmokedLettersLaw" (76 : Nat) ({ cls := "SmokedLetters", name := "clean", desc := "(II)J" } : Jvm.MethodName)) ∈ lw_all := lw_g (lw_at lw_m3 169 rfl) rfl
theorem q720 : (Jvm.Cond.methodLink "SmokedLettersLaw" (81 : Nat) ({ cls := "SmokedLetters", name := "well", desc := "(III)J" } : Jvm.MethodName)) ∈ lw_all := lw_g (lw_at lw_m3 181 rfl) rfl
theorem q729 : (Jvm.Cond.methodLink "SmokedLettersLaw" (86 : Nat) ({ cls := "SmokedLetters", name := "writes", desc := "(I)I" } : Jvm.MethodName)) ∈ lw_all := lw_g (lw_at lw_m3 190 rfl) rfl
theorem q733 : (Jvm.Cond.methodLink "SmokedLettersLaw" (90 : Nat) ({ cls := "SmokedLetters", name := "tears", desc := "()I" } : Jvm.MethodName)) ∈ lw_all := lw_g (lw_at lw_m3 194 rfl) rfl
theorem q737 : (Jvm.Cond.methodLink "SmokedLettersLaw" (94 : Nat) ({ cls := "SmokedLetters", name := "smokes", desc := "(I)I" } : Jvm.MethodName)) ∈ lw_all := lw_g (lw_at lw_m3 198 rfl) rfl
theorem q745 : (Jvm.Cond.methodLink "SmokedLettersLaw" (98 : Nat) ({ cls := "SmokedLetters", name := "word", desc := "(I)I" } : Jvm.MethodName)) ∈ lw_all := lw_g (lw_at lw_m3 206 rfl) rfl
theorem q749 : (Jvm.Cond.methodLink "SmokedLettersLaw" (102 : Nat) ({ cls := "SmokedLetters", name := "brown", desc := "(I)I" } : Jvm.MethodName)) ∈ lw_all := lw_g (lw_at lw_m3 210 rfl) rfl
theorem q753 : (Jvm.Cond.methodLink "SmokedLettersLaw" (106 : Nat) ({ cls := "SmokedLetters", name := "burn", desc := "()I" } : Jvm.MethodName)) ∈ lw_all := lw_g (lw_at lw_m3 214 rfl) rfl
theorem q757 : (Jvm.Cond.methodLink "SmokedLettersLaw" (110 : Nat) ({ cls := "SmokedLetters", name := "stood", desc := "(I)I" } : Jvm.MethodName)) ∈ lw_all := lw_g (lw_at lw_m3 218 rfl) rfl
theorem q769 : (Jvm.Cond.methodLink "SmokedLettersLaw" (114 : Nat) ({ cls := "SmokedLetters", name := "letters", desc := "(I)I" } : Jvm.MethodName)) ∈ lw_all := lw_g (lw_at lw_m3 230 rfl) rfl
theorem q777 : (Jvm.Cond.methodLink "SmokedLettersLaw" (118 : Nat) ({ cls := "SmokedLetters", name := "whose", desc := "(I)I" } : Jvm.MethodName)) ∈ lw_all := lw_g (lw_at lw_m3 238 rfl) rfl
theorem q789 : (Jvm.Cond.methodLink "SmokedLettersLaw" (122 : Nat) ({ cls := "SmokedLetters", name := "chain", desc := "(II)I" } : Jvm.MethodName)) ∈ lw_all := lw_g (lw_at lw_m4 10 rfl) rfl
theorem q797 : (Jvm.Cond.methodLink "SmokedLettersLaw" (126 : Nat) ({ cls := "SmokedLetters", name := "rate", desc := "(II)I" } : Jvm.MethodName)) ∈ lw_all := lw_g (lw_at lw_m4 18 rfl) rfl
theorem q834 : (Jvm.Cond.methodLink "SmokedLettersLaw" (130 : Nat) ({ cls := "SmokedLetters", name := "keep", desc := "(I)I" } : Jvm.MethodName)) ∈ lw_all := lw_g (lw_at lw_m4 55 rfl) rfl
theorem q838 : (Jvm.Cond.methodLink "SmokedLettersLaw" (134 : Nat) ({ cls := "SmokedLetters", name := "back", desc := "(I)I" } : Jvm.MethodName)) ∈ lw_all := lw_g (lw_at lw_m4 59 rfl) rfl
theorem q842 : (Jvm.Cond.methodLink "SmokedLettersLaw" (138 : Nat) ({ cls := "SmokedLetters", name := "count", desc := "(I)I" } : Jvm.MethodName)) ∈ lw_all := lw_g (lw_at lw_m4 63 rfl) rfl
theorem q846 : (Jvm.Cond.methodLink "SmokedLettersLaw" (142 : Nat) ({ cls := "SmokedLetters", name := "trace", desc := "()J" } : Jvm.MethodName)) ∈ lw_all := lw_g (lw_at lw_m4 67 rfl) rfl
theorem q850 : (Jvm.Cond.classLink "SmokedLettersLaw" (10 : Nat) "SmokedLettersModel") ∈ lw_all := lw_g (lw_at lw_m4 71 rfl) rfl
theorem q852 : (Jvm.Cond.methodLink "SmokedLettersLaw" (12 : Nat) ({ cls := "SmokedLettersModel", name := "<init>", desc := "()V" } : Jvm.MethodName)) ∈ lw_all := lw_g (lw_at lw_m4 73 rfl) rfl
theorem q975 : (Jvm.Cond.methodLink "SmokedLettersLaw" (17 : Nat) ({ cls := "SmokedLettersModel", name := "type", desc := "(I)I" } : Jvm.MethodName)) ∈ lw_all := lw_g (lw_at lw_m4 196 rfl) rfl
theorem q982 : (Jvm.Cond.methodLink "SmokedLettersLaw" (22 : Nat) ({ cls := "SmokedLettersModel", name := "clear", desc := "()I" } : Jvm.MethodName)) ∈ lw_all := lw_g (lw_at lw_m4 203 rfl) rfl
theorem q986 : (Jvm.Cond.methodLink "SmokedLettersLaw" (26 : Nat) ({ cls := "SmokedLettersModel", name := "island", desc := "()I" } : Jvm.MethodName)) ∈ lw_all := lw_g (lw_at lw_m4 207 rfl) rfl
theorem q1025 : (Jvm.Cond.methodLink "SmokedLettersLaw" (31 : Nat) ({ cls := "SmokedLettersModel", name := "traveller", desc := "(II)I" } : Jvm.MethodName)) ∈ lw_all := lw_g (lw_at lw_m5 6 rfl) rfl
theorem q1033 : (Jvm.Cond.methodLink "SmokedLettersLaw" (35 : Nat) ({ cls := "SmokedLettersModel", name := "clerk", desc := "(II)I" } : Jvm.MethodName)) ∈ lw_all := lw_g (lw_at lw_m5 14 rfl) rfl
theorem q1041 : (Jvm.Cond.methodLink "SmokedLettersLaw" (39 : Nat) ({ cls := "SmokedLettersModel", name := "now", desc := "(I)I" } : Jvm.MethodName)) ∈ lw_all := lw_g (lw_at lw_m5 22 rfl) rfl
theorem q1061 : (Jvm.Cond.methodLink "SmokedLettersLaw" (43 : Nat) ({ cls := "SmokedLettersModel", name := "puts", desc := "(II)I" } : Jvm.MethodName)) ∈ lw_all := lw_g (lw_at lw_m5 42 rfl) rfl
theorem q1073 : (Jvm.Cond.methodLink "SmokedLettersLaw" (47 : Nat) ({ cls := "SmokedLettersModel", name := "day", desc := "()I" } : Jvm.MethodName)) ∈ lw_all := lw_g (lw_at lw_m5 54 rfl) rfl
theorem q1081 : (Jvm.Cond.methodLink "SmokedLettersLaw" (51 : Nat) ({ cls := "SmokedLettersModel", name := "sails", desc := "(I)I" } : Jvm.MethodName)) ∈ lw_all := lw_g (lw_at lw_m5 62 rfl) rfl
theorem q1088 : (Jvm.Cond.methodLink "SmokedLettersLaw" (55 : Nat) ({ cls := "SmokedLettersModel", name := "undo", desc := "()I" } : Jvm.MethodName)) ∈ lw_all := lw_g (lw_at lw_m5 69 rfl) rfl
theorem q1092 : (Jvm.Cond.methodLink "SmokedLettersLaw" (59 : Nat) ({ cls := "SmokedLettersModel", name := "most", desc := "(II)I" } : Jvm.MethodName)) ∈ lw_all := lw_g (lw_at lw_m5 73 rfl) rfl
theorem q1116 : (Jvm.Cond.methodLink "SmokedLettersLaw" (63 : Nat) ({ cls := "SmokedLettersModel", name := "soonest", desc := "(I)I" } : Jvm.MethodName)) ∈ lw_all := lw_g (lw_at lw_m5 97 rfl) rfl
theorem q1125 : (Jvm.Cond.methodLink "SmokedLettersLaw" (67 : Nat) ({ cls := "SmokedLettersModel", name := "plan", desc := "(II)I" } : Jvm.MethodName)) ∈ lw_all := lw_g (lw_at lw_m5 106 rfl) rfl
theorem q1129 : (Jvm.Cond.methodLink "SmokedLettersLaw" (71 : Nat) ({ cls := "SmokedLettersModel", name := "waits", desc := "(I)I" } : Jvm.MethodName)) ∈ lw_all := lw_g (lw_at lw_m5 110 rfl) rfl
theorem q1133 : (Jvm.Cond.methodLink "SmokedLettersLaw" (75 : Nat) ({ cls := "SmokedLettersModel", name := "boat", desc := "(II)I" } : Jvm.MethodName)) ∈ lw_all := lw_g (lw_at lw_m5 114 rfl) rfl
theorem q1137 : (Jvm.Cond.methodLink "SmokedLettersLaw" (80 : Nat) ({ cls := "SmokedLettersModel", name := "clean", desc := "(II)J" } : Jvm.MethodName)) ∈ lw_all := lw_g (lw_at lw_m5 118 rfl) rfl
theorem q1146 : (Jvm.Cond.methodLink "SmokedLettersLaw" (85 : Nat) ({ cls := "SmokedLettersModel", name := "well", desc := "(III)J" } : Jvm.MethodName)) ∈ lw_all := lw_g (lw_at lw_m5 127 rfl) rfl
theorem q1155 : (Jvm.Cond.methodLink "SmokedLettersLaw" (89 : Nat) ({ cls := "SmokedLettersModel", name := "writes", desc := "(I)I" } : Jvm.MethodName)) ∈ lw_all := lw_g (lw_at lw_m5 136 rfl) rfl
theorem q1159 : (Jvm.Cond.methodLink "SmokedLettersLaw" (93 : Nat) ({ cls := "SmokedLettersModel", name := "tears", desc := "()I" } : Jvm.MethodName)) ∈ lw_all := lw_g (lw_at lw_m5 140 rfl) rfl
theorem q1163 : (Jvm.Cond.methodLink "SmokedLettersLaw" (97 : Nat) ({ cls := "SmokedLettersModel", name := "smokes", desc := "(I)I" } : Jvm.MethodName)) ∈ lw_all := lw_g (lw_at lw_m5 144 rfl) rfl
theorem q1171 : (Jvm.Cond.methodLink "SmokedLettersLaw" (101 : Nat) ({ cls := "SmokedLettersModel", name := "word", desc := "(I)I" } : Jvm.MethodName)) ∈ lw_all := lw_g (lw_at lw_m5 152 rfl) rfl
theorem q1175 : (Jvm.Cond.methodLink "SmokedLettersLaw" (105 : Nat) ({ cls := "SmokedLettersModel", name := "brown", desc := "(I)I" } : Jvm.MethodName)) ∈ lw_all := lw_g (lw_at lw_m5 156 rfl) rfl
theorem q1179 : (Jvm.Cond.methodLink "SmokedLettersLaw" (109 : Nat) ({ cls := "SmokedLettersModel", name := "burn", desc := "()I" } : Jvm.MethodName)) ∈ lw_all := lw_g (lw_at lw_m5 160 rfl) rfl
theorem q1183 : (Jvm.Cond.methodLink "SmokedLettersLaw" (113 : Nat) ({ cls := "SmokedLettersModel", name := "stood", desc := "(I)I" } : Jvm.MethodName)) ∈ lw_all := lw_g (lw_at lw_m5 164 rfl) rfl
theorem q1195 : (Jvm.Cond.methodLink "SmokedLettersLaw" (117 : Nat) ({ cls := "SmokedLettersModel", name := "letters", desc := "(I)I" } : Jvm.MethodName)) ∈ lw_all := lw_g (lw_at lw_m5 176 rfl) rfl
theorem q1207 : (Jvm.Cond.methodLink "SmokedLettersLaw" (121 : Nat) ({ cls := "SmokedLettersModel", name := "whose", desc := "(I)I" } : Jvm.MethodName)) ∈ lw_all := lw_g (lw_at lw_m5 188 rfl) rfl
theorem q1228 : (Jvm.Cond.methodLink "SmokedLettersLaw" (125 : Nat) ({ cls := "SmokedLettersModel", name := "chain", desc := "(II)I" } : Jvm.MethodName)) ∈ lw_all := lw_g (lw_at lw_m5 209 rfl) rfl
theorem q1236 : (Jvm.Cond.methodLink "SmokedLettersLaw" (129 : Nat) ({ cls := "SmokedLettersModel", name := "rate", desc := "(II)I" } : Jvm.MethodName)) ∈ lw_all := lw_g (lw_at lw_m5 217 rfl) rfl
theorem q1257 : (Jvm.Cond.methodLink "SmokedLettersLaw" (133 : Nat) ({ cls := "SmokedLettersModel", name := "keep", desc := "(I)I" } : Jvm.MethodName)) ∈ lw_all := lw_g (lw_at lw_m5 238 rfl) rfl
theorem q1261 : (Jvm.Cond.methodLink "SmokedLettersLaw" (137 : Nat) ({ cls := "SmokedLettersModel", name := "back", desc := "(I)I" } : Jvm.MethodName)) ∈ lw_all := lw_g (lw_at lw_m6 2 rfl) rfl
theorem q1265 : (Jvm.Cond.methodLink "SmokedLettersLaw" (141 : Nat) ({ cls := "SmokedLettersModel", name := "count", desc := "(I)I" } : Jvm.MethodName)) ∈ lw_all := lw_g (lw_at lw_m6 6 rfl) rfl
theorem q1269 : (Jvm.Cond.methodLink "SmokedLettersLaw" (146 : Nat) ({ cls := "SmokedLettersModel", name := "trace", desc := "()J" } : Jvm.MethodName)) ∈ lw_all := lw_g (lw_at lw_m6 10 rfl) rfl
