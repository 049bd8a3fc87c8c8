set_option maxRecDepth 100000
def RJ17 : String := "java/lang/Math"
abbrev cJ17_max : ByteArray := prog_27_method_65_code
def yJ17_max : MethodName := ⟨RJ17, "max", "(II)I"⟩
def dkwJ17_max_0 : List UInt8 := [26, 27, 161, 0, 7, 26, 167, 0, 4, 27, 172]
abbrev dktJ17_max_0 : List UInt8 := dkwJ17_max_0 ++ []
theorem dksJ17_max_0 : cJ17_max.data.toList.drop 0 = dktJ17_max_0 := by decide +kernel
theorem dJ17_max_0 : decode cJ17_max 0 = .ok (.iload_n 0, 1) := dk_26 (dk_at dksJ17_max_0 0 rfl rfl)
theorem dJ17_max_1 : decode cJ17_max 1 = .ok (.iload_n 1, 1) := dk_27 (dk_at dksJ17_max_0 1 rfl rfl)
theorem dJ17_max_2 : decode cJ17_max 2 = .ok (.if_icmp .lt 7, 3) := dk_161 0 7 (dk_at dksJ17_max_0 2 rfl rfl)
theorem dJ17_max_5 : decode cJ17_max 5 = .ok (.iload_n 0, 1) := dk_26 (dk_at dksJ17_max_0 5 rfl rfl)
theorem dJ17_max_6 : decode cJ17_max 6 = .ok (.goto 4, 3) := dk_167 0 4 (dk_at dksJ17_max_0 6 rfl rfl)
theorem dJ17_max_9 : decode cJ17_max 9 = .ok (.iload_n 1, 1) := dk_27 (dk_at dksJ17_max_0 9 rfl rfl)
theorem dJ17_max_10 : decode cJ17_max 10 = .ok (.ireturn, 1) := dk_172 (dk_at dksJ17_max_0 10 rfl rfl)
abbrev cJ17_min : ByteArray := prog_27_method_69_code
def yJ17_min : MethodName := ⟨RJ17, "min", "(II)I"⟩
def dkwJ17_min_0 : List UInt8 := [26, 27, 163, 0, 7, 26, 167, 0, 4, 27, 172]
abbrev dktJ17_min_0 : List UInt8 := dkwJ17_min_0 ++ []
theorem dksJ17_min_0 : cJ17_min.data.toList.drop 0 = dktJ17_min_0 := by decide +kernel
theorem dJ17_min_0 : decode cJ17_min 0 = .ok (.iload_n 0, 1) := dk_26 (dk_at dksJ17_min_0 0 rfl rfl)
theorem dJ17_min_1 : decode cJ17_min 1 = .ok (.iload_n 1, 1) := dk_27 (dk_at dksJ17_min_0 1 rfl rfl)
theorem dJ17_min_2 : decode cJ17_min 2 = .ok (.if_icmp .gt 7, 3) := dk_163 0 7 (dk_at dksJ17_min_0 2 rfl rfl)
theorem dJ17_min_5 : decode cJ17_min 5 = .ok (.iload_n 0, 1) := dk_26 (dk_at dksJ17_min_0 5 rfl rfl)
theorem dJ17_min_6 : decode cJ17_min 6 = .ok (.goto 4, 3) := dk_167 0 4 (dk_at dksJ17_min_0 6 rfl rfl)
theorem dJ17_min_9 : decode cJ17_min 9 = .ok (.iload_n 1, 1) := dk_27 (dk_at dksJ17_min_0 9 rfl rfl)
theorem dJ17_min_10 : decode cJ17_min 10 = .ok (.ireturn, 1) := dk_172 (dk_at dksJ17_min_0 10 rfl rfl)
abbrev cJ17_abs : ByteArray := prog_27_method_59_code
def yJ17_abs : MethodName := ⟨RJ17, "abs", "(I)I"⟩
def dkwJ17_abs_0 : List UInt8 := [26, 156, 0, 8, 26, 116, 167, 0, 4, 26, 172]
abbrev dktJ17_abs_0 : List UInt8 := dkwJ17_abs_0 ++ []
theorem dksJ17_abs_0 : cJ17_abs.data.toList.drop 0 = dktJ17_abs_0 := by decide +kernel
theorem dJ17_abs_0 : decode cJ17_abs 0 = .ok (.iload_n 0, 1) := dk_26 (dk_at dksJ17_abs_0 0 rfl rfl)
theorem dJ17_abs_1 : decode cJ17_abs 1 = .ok (.ifCond .ge 8, 3) := dk_156 0 8 (dk_at dksJ17_abs_0 1 rfl rfl)
theorem dJ17_abs_4 : decode cJ17_abs 4 = .ok (.iload_n 0, 1) := dk_26 (dk_at dksJ17_abs_0 4 rfl rfl)
theorem dJ17_abs_5 : decode cJ17_abs 5 = .ok (.ineg, 1) := dk_116 (dk_at dksJ17_abs_0 5 rfl rfl)
theorem dJ17_abs_6 : decode cJ17_abs 6 = .ok (.goto 4, 3) := dk_167 0 4 (dk_at dksJ17_abs_0 6 rfl rfl)
theorem dJ17_abs_9 : decode cJ17_abs 9 = .ok (.iload_n 0, 1) := dk_26 (dk_at dksJ17_abs_0 9 rfl rfl)
theorem dJ17_abs_10 : decode cJ17_abs 10 = .ok (.ireturn, 1) := dk_172 (dk_at dksJ17_abs_0 10 rfl rfl)
abbrev cJ17_max_2 : ByteArray := prog_27_method_66_code
def yJ17_max_2 : MethodName := ⟨RJ17, "max", "(JJ)J"⟩
def dkwJ17_max_2_0 : List UInt8 := [30, 32, 148, 155, 0, 7, 30, 167, 0, 4, 32, 173]
abbrev dktJ17_max_2_0 : List UInt8 := dkwJ17_max_2_0 ++ []
theorem dksJ17_max_2_0 : cJ17_max_2.data.toList.drop 0 = dktJ17_max_2_0 := by decide +kernel
theorem dJ17_max_2_0 : decode cJ17_max_2 0 = .ok (.lload_n 0, 1) := dk_30 (dk_at dksJ17_max_2_0 0 rfl rfl)
theorem dJ17_max_2_1 : decode cJ17_max_2 1 = .ok (.lload_n 2, 1) := dk_32 (dk_at dksJ17_max_2_0 1 rfl rfl)
theorem dJ17_max_2_2 : decode cJ17_max_2 2 = .ok (.lcmp, 1) := dk_148 (dk_at dksJ17_max_2_0 2 rfl rfl)
theorem dJ17_max_2_3 : decode cJ17_max_2 3 = .ok (.ifCond .lt 7, 3) := dk_155 0 7 (dk_at dksJ17_max_2_0 3 rfl rfl)
theorem dJ17_max_2_6 : decode cJ17_max_2 6 = .ok (.lload_n 0, 1) := dk_30 (dk_at dksJ17_max_2_0 6 rfl rfl)
theorem dJ17_max_2_7 : decode cJ17_max_2 7 = .ok (.goto 4, 3) := dk_167 0 4 (dk_at dksJ17_max_2_0 7 rfl rfl)
theorem dJ17_max_2_10 : decode cJ17_max_2 10 = .ok (.lload_n 2, 1) := dk_32 (dk_at dksJ17_max_2_0 10 rfl rfl)
theorem dJ17_max_2_11 : decode cJ17_max_2 11 = .ok (.lreturn, 1) := dk_173 (dk_at dksJ17_max_2_0 11 rfl rfl)
abbrev cJ17_floorDiv : ByteArray := prog_27_method_47_code
def yJ17_floorDiv : MethodName := ⟨RJ17, "floorDiv", "(II)I"⟩
def dkwJ17_floorDiv_0 : List UInt8 := [26, 27, 108, 61, 26, 27, 130, 156, 0, 14, 28, 27, 104, 26, 159, 0, 7, 28, 4, 100, 172, 28, 172]
abbrev dktJ17_floorDiv_0 : List UInt8 := dkwJ17_floorDiv_0 ++ []
theorem dksJ17_floorDiv_0 : cJ17_floorDiv.data.toList.drop 0 = dktJ17_floorDiv_0 := by decide +kernel
theorem dJ17_floorDiv_0 : decode cJ17_floorDiv 0 = .ok (.iload_n 0, 1) := dk_26 (dk_at dksJ17_floorDiv_0 0 rfl rfl)
theorem dJ17_floorDiv_1 : decode cJ17_floorDiv 1 = .ok (.iload_n 1, 1) := dk_27 (dk_at dksJ17_floorDiv_0 1 rfl rfl)
theorem dJ17_floorDiv_2 : decode cJ17_floorDiv 2 = .ok (.idiv, 1) := dk_108 (dk_at dksJ17_floorDiv_0 2 rfl rfl)
theorem dJ17_floorDiv_3 : decode cJ17_floorDiv 3 = .ok (.istore_n 2, 1) := dk_61 (dk_at dksJ17_floorDiv_0 3 rfl rfl)
theorem dJ17_floorDiv_4 : decode cJ17_floorDiv 4 = .ok (.iload_n 0, 1) := dk_26 (dk_at dksJ17_floorDiv_0 4 rfl rfl)
theorem dJ17_floorDiv_5 : decode cJ17_floorDiv 5 = .ok (.iload_n 1, 1) := dk_27 (dk_at dksJ17_floorDiv_0 5 rfl rfl)
theorem dJ17_floorDiv_6 : decode cJ17_floorDiv 6 = .ok (.ixor, 1) := dk_130 (dk_at dksJ17_floorDiv_0 6 rfl rfl)
theorem dJ17_floorDiv_7 : decode cJ17_floorDiv 7 = .ok (.ifCond .ge 14, 3) := dk_156 0 14 (dk_at dksJ17_floorDiv_0 7 rfl rfl)
theorem dJ17_floorDiv_10 : decode cJ17_floorDiv 10 = .ok (.iload_n 2, 1) := dk_28 (dk_at dksJ17_floorDiv_0 10 rfl rfl)
theorem dJ17_floorDiv_11 : decode cJ17_floorDiv 11 = .ok (.iload_n 1, 1) := dk_27 (dk_at dksJ17_floorDiv_0 11 rfl rfl)
theorem dJ17_floorDiv_12 : decode cJ17_floorDiv 12 = .ok (.imul, 1) := dk_104 (dk_at dksJ17_floorDiv_0 12 rfl rfl)
theorem dJ17_floorDiv_13 : decode cJ17_floorDiv 13 = .ok (.iload_n 0, 1) := dk_26 (dk_at dksJ17_floorDiv_0 13 rfl rfl)
theorem dJ17_floorDiv_14 : decode cJ17_floorDiv 14 = .ok (.if_icmp .eq 7, 3) := dk_159 0 7 (dk_at dksJ17_floorDiv_0 14 rfl rfl)
theorem dJ17_floorDiv_17 : decode cJ17_floorDiv 17 = .ok (.iload_n 2, 1) := dk_28 (dk_at dksJ17_floorDiv_0 17 rfl rfl)
theorem dJ17_floorDiv_18 : decode cJ17_floorDiv 18 = .ok (.iconst 1, 1) := dk_4 (dk_at dksJ17_floorDiv_0 18 rfl rfl)
theorem dJ17_floorDiv_19 : decode cJ17_floorDiv 19 = .ok (.isub, 1) := dk_100 (dk_at dksJ17_floorDiv_0 19 rfl rfl)
theorem dJ17_floorDiv_20 : decode cJ17_floorDiv 20 = .ok (.ireturn, 1) := dk_172 (dk_at dksJ17_floorDiv_0 20 rfl rfl)
theorem dJ17_floorDiv_21 : decode cJ17_floorDiv 21 = .ok (.iload_n 2, 1) := dk_28 (dk_at dksJ17_floorDiv_0 21 rfl rfl)
theorem dJ17_floorDiv_22 : decode cJ17_floorDiv 22 = .ok (.ireturn, 1) := dk_172 (dk_at dksJ17_floorDiv_0 22 rfl rfl)

def RJ21 : String := "java/lang/Integer"
abbrev cJ21_bitCount : ByteArray := prog_24_method_49_code
def yJ21_bitCount : MethodName := ⟨RJ21, "bitCount", "(I)I"⟩
def dkwJ21_bitCount_2 : List UInt8 := [26, 16, 63, 126, 172]
abbrev dktJ21_bitCount_2 : List UInt8 := dkwJ21_bitCount_2 ++ []
def dkwJ21_bitCount_1 : List UInt8 := [26, 26, 7, 124, 96, 19, 1, 11, 126, 59, 26, 26, 16, 8, 124, 96, 59, 26, 26, 16, 16, 124, 96, 59]
abbrev dktJ21_bitCount_1 : List UInt8 := dkwJ21_bitCount_1 ++ dktJ21_bitCount_2
def dkwJ21_bitCount_0 : List UInt8 := [26, 26, 4, 124, 19, 1, 9, 126, 100, 59, 26, 19, 1, 10, 126, 26, 5, 124, 19, 1, 10, 126, 96, 59]
abbrev dktJ21_bitCount_0 : List UInt8 := dkwJ21_bitCount_0 ++ dktJ21_bitCount_1
theorem dksJ21_bitCount_0 : cJ21_bitCount.data.toList.drop 0 = dktJ21_bitCount_0 := by decide +kernel
theorem dksJ21_bitCount_1 : cJ21_bitCount.data.toList.drop 24 = dktJ21_bitCount_1 := dk_seg dksJ21_bitCount_0 24 rfl rfl
theorem dksJ21_bitCount_2 : cJ21_bitCount.data.toList.drop 48 = dktJ21_bitCount_2 := dk_seg dksJ21_bitCount_1 24 rfl rfl
theorem dJ21_bitCount_0 : decode cJ21_bitCount 0 = .ok (.iload_n 0, 1) := dk_26 (dk_at dksJ21_bitCount_0 0 rfl rfl)
theorem dJ21_bitCount_1 : decode cJ21_bitCount 1 = .ok (.iload_n 0, 1) := dk_26 (dk_at dksJ21_bitCount_0 1 rfl rfl)
theorem dJ21_bitCount_2 : decode cJ21_bitCount 2 = .ok (.iconst 1, 1) := dk_4 (dk_at dksJ21_bitCount_0 2 rfl rfl)
theorem dJ21_bitCount_3 : decode cJ21_bitCount 3 = .ok (.iushr, 1) := dk_124 (dk_at dksJ21_bitCount_0 3 rfl rfl)
theorem dJ21_bitCount_4 : decode cJ21_bitCount 4 = .ok (.ldc_w 265, 3) := dk_19 1 9 (dk_at dksJ21_bitCount_0 4 rfl rfl)
theorem dJ21_bitCount_7 : decode cJ21_bitCount 7 = .ok (.iand, 1) := dk_126 (dk_at dksJ21_bitCount_0 7 rfl rfl)
theorem dJ21_bitCount_8 : decode cJ21_bitCount 8 = .ok (.isub, 1) := dk_100 (dk_at dksJ21_bitCount_0 8 rfl rfl)
theorem dJ21_bitCount_9 : decode cJ21_bitCount 9 = .ok (.istore_n 0, 1) := dk_59 (dk_at dksJ21_bitCount_0 9 rfl rfl)
theorem dJ21_bitCount_10 : decode cJ21_bitCount 10 = .ok (.iload_n 0, 1) := dk_26 (dk_at dksJ21_bitCount_0 10 rfl rfl)
theorem dJ21_bitCount_11 : decode cJ21_bitCount 11 = .ok (.ldc_w 266, 3) := dk_19 1 10 (dk_at dksJ21_bitCount_0 11 rfl rfl)
theorem dJ21_bitCount_14 : decode cJ21_bitCount 14 = .ok (.iand, 1) := dk_126 (dk_at dksJ21_bitCount_0 14 rfl rfl)
theorem dJ21_bitCount_15 : decode cJ21_bitCount 15 = .ok (.iload_n 0, 1) := dk_26 (dk_at dksJ21_bitCount_0 15 rfl rfl)
theorem dJ21_bitCount_16 : decode cJ21_bitCount 16 = .ok (.iconst 2, 1) := dk_5 (dk_at dksJ21_bitCount_0 16 rfl rfl)
theorem dJ21_bitCount_17 : decode cJ21_bitCount 17 = .ok (.iushr, 1) := dk_124 (dk_at dksJ21_bitCount_0 17 rfl rfl)
theorem dJ21_bitCount_18 : decode cJ21_bitCount 18 = .ok (.ldc_w 266, 3) := dk_19 1 10 (dk_at dksJ21_bitCount_0 18 rfl rfl)
theorem dJ21_bitCount_21 : decode cJ21_bitCount 21 = .ok (.iand, 1) := dk_126 (dk_at dksJ21_bitCount_0 21 rfl rfl)
theorem dJ21_bitCount_22 : decode cJ21_bitCount 22 = .ok (.iadd, 1) := dk_96 (dk_at dksJ21_bitCount_0 22 rfl rfl)
theorem dJ21_bitCount_23 : decode cJ21_bitCount 23 = .ok (.istore_n 0, 1) := dk_59 (dk_at dksJ21_bitCount_0 23 rfl rfl)
theorem dJ21_bitCount_24 : decode cJ21_bitCount 24 = .ok (.iload_n 0, 1) := dk_26 (dk_at dksJ21_bitCount_1 0 rfl rfl)
theorem dJ21_bitCount_25 : decode cJ21_bitCount 25 = .ok (.iload_n 0, 1) := dk_26 (dk_at dksJ21_bitCount_1 1 rfl rfl)
theorem dJ21_bitCount_26 : decode cJ21_bitCount 26 = .ok (.iconst 4, 1) := dk_7 (dk_at dksJ21_bitCount_1 2 rfl rfl)
theorem dJ21_bitCount_27 : decode cJ21_bitCount 27 = .ok (.iushr, 1) := dk_124 (dk_at dksJ21_bitCount_1 3 rfl rfl)
theorem dJ21_bitCount_28 : decode cJ21_bitCount 28 = .ok (.iadd, 1) := dk_96 (dk_at dksJ21_bitCount_1 4 rfl rfl)
theorem dJ21_bitCount_29 : decode cJ21_bitCount 29 = .ok (.ldc_w 267, 3) := dk_19 1 11 (dk_at dksJ21_bitCount_1 5 rfl rfl)
theorem dJ21_bitCount_32 : decode cJ21_bitCount 32 = .ok (.iand, 1) := dk_126 (dk_at dksJ21_bitCount_1 8 rfl rfl)
theorem dJ21_bitCount_33 : decode cJ21_bitCount 33 = .ok (.istore_n 0, 1) := dk_59 (dk_at dksJ21_bitCount_1 9 rfl rfl)
theorem dJ21_bitCount_34 : decode cJ21_bitCount 34 = .ok (.iload_n 0, 1) := dk_26 (dk_at dksJ21_bitCount_1 10 rfl rfl)
theorem dJ21_bitCount_35 : decode cJ21_bitCount 35 = .ok (.iload_n 0, 1) := dk_26 (dk_at dksJ21_bitCount_1 11 rfl rfl)
theorem dJ21_bitCount_36 : decode cJ21_bitCount 36 = .ok (.bipush 8, 2) := dk_16 8 (dk_at dksJ21_bitCount_1 12 rfl rfl)
theorem dJ21_bitCount_38 : decode cJ21_bitCount 38 = .ok (.iushr, 1) := dk_124 (dk_at dksJ21_bitCount_1 14 rfl rfl)
theorem dJ21_bitCount_39 : decode cJ21_bitCount 39 = .ok (.iadd, 1) := dk_96 (dk_at dksJ21_bitCount_1 15 rfl rfl)
theorem dJ21_bitCount_40 : decode cJ21_bitCount 40 = .ok (.istore_n 0, 1) := dk_59 (dk_at dksJ21_bitCount_1 16 rfl rfl)
theorem dJ21_bitCount_41 : decode cJ21_bitCount 41 = .ok (.iload_n 0, 1) := dk_26 (dk_at dksJ21_bitCount_1 17 rfl rfl)
theorem dJ21_bitCount_42 : decode cJ21_bitCount 42 = .ok (.iload_n 0, 1) := dk_26 (dk_at dksJ21_bitCount_1 18 rfl rfl)
theorem dJ21_bitCount_43 : decode cJ21_bitCount 43 = .ok (.bipush 16, 2) := dk_16 16 (dk_at dksJ21_bitCount_1 19 rfl rfl)
theorem dJ21_bitCount_45 : decode cJ21_bitCount 45 = .ok (.iushr, 1) := dk_124 (dk_at dksJ21_bitCount_1 21 rfl rfl)
theorem dJ21_bitCount_46 : decode cJ21_bitCount 46 = .ok (.iadd, 1) := dk_96 (dk_at dksJ21_bitCount_1 22 rfl rfl)
theorem dJ21_bitCount_47 : decode cJ21_bitCount 47 = .ok (.istore_n 0, 1) := dk_59 (dk_at dksJ21_bitCount_1 23 rfl rfl)
theorem dJ21_bitCount_48 : decode cJ21_bitCount 48 = .ok (.iload_n 0, 1) := dk_26 (dk_at dksJ21_bitCount_2 0 rfl rfl)
theorem dJ21_bitCount_49 : decode cJ21_bitCount 49 = .ok (.bipush 63, 2) := dk_16 63 (dk_at dksJ21_bitCount_2 1 rfl rfl)
theorem dJ21_bitCount_51 : decode cJ21_bitCount 51 = .ok (.iand, 1) := dk_126 (dk_at dksJ21_bitCount_2 3 rfl rfl)
theorem dJ21_bitCount_52 : decode cJ21_bitCount 52 = .ok (.ireturn, 1) := dk_172 (dk_at dksJ21_bitCount_2 4 rfl rfl)

