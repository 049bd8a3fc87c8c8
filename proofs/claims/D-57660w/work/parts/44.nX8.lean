set_option maxRecDepth 100000
def RX8 : String := "WalshAnalyzer$Walsh"
abbrev cX8_value : ByteArray := prog_9_method_2_code
def yX8_value : MethodName := ⟨RX8, "value", "(II)I"⟩
def dkwX8_value_0 : List UInt8 := [26, 27, 126, 184, 0, 7, 5, 112, 154, 0, 7, 4, 167, 0, 4, 2, 172]
abbrev dktX8_value_0 : List UInt8 := dkwX8_value_0 ++ []
theorem dksX8_value_0 : cX8_value.data.toList.drop 0 = dktX8_value_0 := by decide +kernel
theorem dX8_value_0 : decode cX8_value 0 = .ok (.iload_n 0, 1) := dk_26 (dk_at dksX8_value_0 0 rfl rfl)
theorem dX8_value_1 : decode cX8_value 1 = .ok (.iload_n 1, 1) := dk_27 (dk_at dksX8_value_0 1 rfl rfl)
theorem dX8_value_2 : decode cX8_value 2 = .ok (.iand, 1) := dk_126 (dk_at dksX8_value_0 2 rfl rfl)
theorem dX8_value_3 : decode cX8_value 3 = .ok (.invokestatic 7, 3) := dk_184 0 7 (dk_at dksX8_value_0 3 rfl rfl)
theorem dX8_value_6 : decode cX8_value 6 = .ok (.iconst 2, 1) := dk_5 (dk_at dksX8_value_0 6 rfl rfl)
theorem dX8_value_7 : decode cX8_value 7 = .ok (.irem, 1) := dk_112 (dk_at dksX8_value_0 7 rfl rfl)
theorem dX8_value_8 : decode cX8_value 8 = .ok (.ifCond .ne 7, 3) := dk_154 0 7 (dk_at dksX8_value_0 8 rfl rfl)
theorem dX8_value_11 : decode cX8_value 11 = .ok (.iconst 1, 1) := dk_4 (dk_at dksX8_value_0 11 rfl rfl)
theorem dX8_value_12 : decode cX8_value 12 = .ok (.goto 4, 3) := dk_167 0 4 (dk_at dksX8_value_0 12 rfl rfl)
theorem dX8_value_15 : decode cX8_value 15 = .ok (.iconst (-1), 1) := dk_2 (dk_at dksX8_value_0 15 rfl rfl)
theorem dX8_value_16 : decode cX8_value 16 = .ok (.ireturn, 1) := dk_172 (dk_at dksX8_value_0 16 rfl rfl)
abbrev cX8_sequency : ByteArray := prog_9_method_5_code
def yX8_sequency : MethodName := ⟨RX8, "sequency", "(II)I"⟩
def dkwX8_sequency_1 : List UInt8 := [172]
abbrev dktX8_sequency_1 : List UInt8 := dkwX8_sequency_1 ++ []
def dkwX8_sequency_0 : List UInt8 := [26, 27, 184, 0, 13, 61, 3, 62, 28, 158, 0, 14, 29, 28, 130, 62, 28, 5, 108, 61, 167, 255, 244, 29]
abbrev dktX8_sequency_0 : List UInt8 := dkwX8_sequency_0 ++ dktX8_sequency_1
theorem dksX8_sequency_0 : cX8_sequency.data.toList.drop 0 = dktX8_sequency_0 := by decide +kernel
theorem dksX8_sequency_1 : cX8_sequency.data.toList.drop 24 = dktX8_sequency_1 := dk_seg dksX8_sequency_0 24 rfl rfl
theorem dX8_sequency_0 : decode cX8_sequency 0 = .ok (.iload_n 0, 1) := dk_26 (dk_at dksX8_sequency_0 0 rfl rfl)
theorem dX8_sequency_1 : decode cX8_sequency 1 = .ok (.iload_n 1, 1) := dk_27 (dk_at dksX8_sequency_0 1 rfl rfl)
theorem dX8_sequency_2 : decode cX8_sequency 2 = .ok (.invokestatic 13, 3) := dk_184 0 13 (dk_at dksX8_sequency_0 2 rfl rfl)
theorem dX8_sequency_5 : decode cX8_sequency 5 = .ok (.istore_n 2, 1) := dk_61 (dk_at dksX8_sequency_0 5 rfl rfl)
theorem dX8_sequency_6 : decode cX8_sequency 6 = .ok (.iconst 0, 1) := dk_3 (dk_at dksX8_sequency_0 6 rfl rfl)
theorem dX8_sequency_7 : decode cX8_sequency 7 = .ok (.istore_n 3, 1) := dk_62 (dk_at dksX8_sequency_0 7 rfl rfl)
theorem dX8_sequency_8 : decode cX8_sequency 8 = .ok (.iload_n 2, 1) := dk_28 (dk_at dksX8_sequency_0 8 rfl rfl)
theorem dX8_sequency_9 : decode cX8_sequency 9 = .ok (.ifCond .le 14, 3) := dk_158 0 14 (dk_at dksX8_sequency_0 9 rfl rfl)
theorem dX8_sequency_12 : decode cX8_sequency 12 = .ok (.iload_n 3, 1) := dk_29 (dk_at dksX8_sequency_0 12 rfl rfl)
theorem dX8_sequency_13 : decode cX8_sequency 13 = .ok (.iload_n 2, 1) := dk_28 (dk_at dksX8_sequency_0 13 rfl rfl)
theorem dX8_sequency_14 : decode cX8_sequency 14 = .ok (.ixor, 1) := dk_130 (dk_at dksX8_sequency_0 14 rfl rfl)
theorem dX8_sequency_15 : decode cX8_sequency 15 = .ok (.istore_n 3, 1) := dk_62 (dk_at dksX8_sequency_0 15 rfl rfl)
theorem dX8_sequency_16 : decode cX8_sequency 16 = .ok (.iload_n 2, 1) := dk_28 (dk_at dksX8_sequency_0 16 rfl rfl)
theorem dX8_sequency_17 : decode cX8_sequency 17 = .ok (.iconst 2, 1) := dk_5 (dk_at dksX8_sequency_0 17 rfl rfl)
theorem dX8_sequency_18 : decode cX8_sequency 18 = .ok (.idiv, 1) := dk_108 (dk_at dksX8_sequency_0 18 rfl rfl)
theorem dX8_sequency_19 : decode cX8_sequency 19 = .ok (.istore_n 2, 1) := dk_61 (dk_at dksX8_sequency_0 19 rfl rfl)
theorem dX8_sequency_20 : decode cX8_sequency 20 = .ok (.goto (-12), 3) := dk_167 255 244 (dk_at dksX8_sequency_0 20 rfl rfl)
theorem dX8_sequency_23 : decode cX8_sequency 23 = .ok (.iload_n 3, 1) := dk_29 (dk_at dksX8_sequency_0 23 rfl rfl)
theorem dX8_sequency_24 : decode cX8_sequency 24 = .ok (.ireturn, 1) := dk_172 (dk_at dksX8_sequency_1 0 rfl rfl)
abbrev cX8_reversed : ByteArray := prog_9_method_4_code
def yX8_reversed : MethodName := ⟨RX8, "reversed", "(II)I"⟩
def dkwX8_reversed_1 : List UInt8 := [62, 21, 4, 5, 104, 54, 4, 167, 255, 232, 28, 172]
abbrev dktX8_reversed_1 : List UInt8 := dkwX8_reversed_1 ++ []
def dkwX8_reversed_0 : List UInt8 := [3, 61, 27, 62, 4, 54, 4, 21, 4, 26, 162, 0, 24, 5, 28, 104, 29, 5, 112, 96, 61, 29, 5, 108]
abbrev dktX8_reversed_0 : List UInt8 := dkwX8_reversed_0 ++ dktX8_reversed_1
theorem dksX8_reversed_0 : cX8_reversed.data.toList.drop 0 = dktX8_reversed_0 := by decide +kernel
theorem dksX8_reversed_1 : cX8_reversed.data.toList.drop 24 = dktX8_reversed_1 := dk_seg dksX8_reversed_0 24 rfl rfl
theorem dX8_reversed_0 : decode cX8_reversed 0 = .ok (.iconst 0, 1) := dk_3 (dk_at dksX8_reversed_0 0 rfl rfl)
theorem dX8_reversed_1 : decode cX8_reversed 1 = .ok (.istore_n 2, 1) := dk_61 (dk_at dksX8_reversed_0 1 rfl rfl)
theorem dX8_reversed_2 : decode cX8_reversed 2 = .ok (.iload_n 1, 1) := dk_27 (dk_at dksX8_reversed_0 2 rfl rfl)
theorem dX8_reversed_3 : decode cX8_reversed 3 = .ok (.istore_n 3, 1) := dk_62 (dk_at dksX8_reversed_0 3 rfl rfl)
theorem dX8_reversed_4 : decode cX8_reversed 4 = .ok (.iconst 1, 1) := dk_4 (dk_at dksX8_reversed_0 4 rfl rfl)
theorem dX8_reversed_5 : decode cX8_reversed 5 = .ok (.istore 4, 2) := dk_54 4 (dk_at dksX8_reversed_0 5 rfl rfl)
theorem dX8_reversed_7 : decode cX8_reversed 7 = .ok (.iload 4, 2) := dk_21 4 (dk_at dksX8_reversed_0 7 rfl rfl)
theorem dX8_reversed_9 : decode cX8_reversed 9 = .ok (.iload_n 0, 1) := dk_26 (dk_at dksX8_reversed_0 9 rfl rfl)
theorem dX8_reversed_10 : decode cX8_reversed 10 = .ok (.if_icmp .ge 24, 3) := dk_162 0 24 (dk_at dksX8_reversed_0 10 rfl rfl)
theorem dX8_reversed_13 : decode cX8_reversed 13 = .ok (.iconst 2, 1) := dk_5 (dk_at dksX8_reversed_0 13 rfl rfl)
theorem dX8_reversed_14 : decode cX8_reversed 14 = .ok (.iload_n 2, 1) := dk_28 (dk_at dksX8_reversed_0 14 rfl rfl)
theorem dX8_reversed_15 : decode cX8_reversed 15 = .ok (.imul, 1) := dk_104 (dk_at dksX8_reversed_0 15 rfl rfl)
theorem dX8_reversed_16 : decode cX8_reversed 16 = .ok (.iload_n 3, 1) := dk_29 (dk_at dksX8_reversed_0 16 rfl rfl)
theorem dX8_reversed_17 : decode cX8_reversed 17 = .ok (.iconst 2, 1) := dk_5 (dk_at dksX8_reversed_0 17 rfl rfl)
theorem dX8_reversed_18 : decode cX8_reversed 18 = .ok (.irem, 1) := dk_112 (dk_at dksX8_reversed_0 18 rfl rfl)
theorem dX8_reversed_19 : decode cX8_reversed 19 = .ok (.iadd, 1) := dk_96 (dk_at dksX8_reversed_0 19 rfl rfl)
theorem dX8_reversed_20 : decode cX8_reversed 20 = .ok (.istore_n 2, 1) := dk_61 (dk_at dksX8_reversed_0 20 rfl rfl)
theorem dX8_reversed_21 : decode cX8_reversed 21 = .ok (.iload_n 3, 1) := dk_29 (dk_at dksX8_reversed_0 21 rfl rfl)
theorem dX8_reversed_22 : decode cX8_reversed 22 = .ok (.iconst 2, 1) := dk_5 (dk_at dksX8_reversed_0 22 rfl rfl)
theorem dX8_reversed_23 : decode cX8_reversed 23 = .ok (.idiv, 1) := dk_108 (dk_at dksX8_reversed_0 23 rfl rfl)
theorem dX8_reversed_24 : decode cX8_reversed 24 = .ok (.istore_n 3, 1) := dk_62 (dk_at dksX8_reversed_1 0 rfl rfl)
theorem dX8_reversed_25 : decode cX8_reversed 25 = .ok (.iload 4, 2) := dk_21 4 (dk_at dksX8_reversed_1 1 rfl rfl)
theorem dX8_reversed_27 : decode cX8_reversed 27 = .ok (.iconst 2, 1) := dk_5 (dk_at dksX8_reversed_1 3 rfl rfl)
theorem dX8_reversed_28 : decode cX8_reversed 28 = .ok (.imul, 1) := dk_104 (dk_at dksX8_reversed_1 4 rfl rfl)
theorem dX8_reversed_29 : decode cX8_reversed 29 = .ok (.istore 4, 2) := dk_54 4 (dk_at dksX8_reversed_1 5 rfl rfl)
theorem dX8_reversed_31 : decode cX8_reversed 31 = .ok (.goto (-24), 3) := dk_167 255 232 (dk_at dksX8_reversed_1 7 rfl rfl)
theorem dX8_reversed_34 : decode cX8_reversed 34 = .ok (.iload_n 2, 1) := dk_28 (dk_at dksX8_reversed_1 10 rfl rfl)
theorem dX8_reversed_35 : decode cX8_reversed 35 = .ok (.ireturn, 1) := dk_172 (dk_at dksX8_reversed_1 11 rfl rfl)
abbrev cX8_indexOf : ByteArray := prog_9_method_6_code
def yX8_indexOf : MethodName := ⟨RX8, "indexOf", "(II)I"⟩
def dkwX8_indexOf_0 : List UInt8 := [26, 27, 27, 5, 108, 130, 184, 0, 13, 172]
abbrev dktX8_indexOf_0 : List UInt8 := dkwX8_indexOf_0 ++ []
theorem dksX8_indexOf_0 : cX8_indexOf.data.toList.drop 0 = dktX8_indexOf_0 := by decide +kernel
theorem dX8_indexOf_0 : decode cX8_indexOf 0 = .ok (.iload_n 0, 1) := dk_26 (dk_at dksX8_indexOf_0 0 rfl rfl)
theorem dX8_indexOf_1 : decode cX8_indexOf 1 = .ok (.iload_n 1, 1) := dk_27 (dk_at dksX8_indexOf_0 1 rfl rfl)
theorem dX8_indexOf_2 : decode cX8_indexOf 2 = .ok (.iload_n 1, 1) := dk_27 (dk_at dksX8_indexOf_0 2 rfl rfl)
theorem dX8_indexOf_3 : decode cX8_indexOf 3 = .ok (.iconst 2, 1) := dk_5 (dk_at dksX8_indexOf_0 3 rfl rfl)
theorem dX8_indexOf_4 : decode cX8_indexOf 4 = .ok (.idiv, 1) := dk_108 (dk_at dksX8_indexOf_0 4 rfl rfl)
theorem dX8_indexOf_5 : decode cX8_indexOf 5 = .ok (.ixor, 1) := dk_130 (dk_at dksX8_indexOf_0 5 rfl rfl)
theorem dX8_indexOf_6 : decode cX8_indexOf 6 = .ok (.invokestatic 13, 3) := dk_184 0 13 (dk_at dksX8_indexOf_0 6 rfl rfl)
theorem dX8_indexOf_9 : decode cX8_indexOf 9 = .ok (.ireturn, 1) := dk_172 (dk_at dksX8_indexOf_0 9 rfl rfl)
abbrev cX8_transform : ByteArray := prog_9_method_3_code
def yX8_transform : MethodName := ⟨RX8, "transform", "([I)V"⟩
def dkwX8_transform_2 : List UInt8 := [46, 100, 79, 42, 28, 29, 79, 132, 2, 1, 167, 255, 210, 27, 5, 104, 60, 167, 255, 195, 177]
abbrev dktX8_transform_2 : List UInt8 := dkwX8_transform_2 ++ []
def dkwX8_transform_1 : List UInt8 := [167, 0, 31, 42, 28, 46, 42, 28, 27, 96, 46, 96, 62, 42, 28, 27, 96, 42, 28, 46, 42, 28, 27, 96]
abbrev dktX8_transform_1 : List UInt8 := dkwX8_transform_1 ++ dktX8_transform_2
def dkwX8_transform_0 : List UInt8 := [4, 60, 27, 42, 190, 162, 0, 61, 3, 61, 28, 42, 190, 162, 0, 46, 28, 27, 126, 153, 0, 6]
abbrev dktX8_transform_0 : List UInt8 := dkwX8_transform_0 ++ dktX8_transform_1
theorem dksX8_transform_0 : cX8_transform.data.toList.drop 0 = dktX8_transform_0 := by decide +kernel
theorem dksX8_transform_1 : cX8_transform.data.toList.drop 22 = dktX8_transform_1 := dk_seg dksX8_transform_0 22 rfl rfl
theorem dksX8_transform_2 : cX8_transform.data.toList.drop 46 = dktX8_transform_2 := dk_seg dksX8_transform_1 24 rfl rfl
theorem dX8_transform_0 : decode cX8_transform 0 = .ok (.iconst 1, 1) := dk_4 (dk_at dksX8_transform_0 0 rfl rfl)
theorem dX8_transform_1 : decode cX8_transform 1 = .ok (.istore_n 1, 1) := dk_60 (dk_at dksX8_transform_0 1 rfl rfl)
theorem dX8_transform_2 : decode cX8_transform 2 = .ok (.iload_n 1, 1) := dk_27 (dk_at dksX8_transform_0 2 rfl rfl)
theorem dX8_transform_3 : decode cX8_transform 3 = .ok (.aload_n 0, 1) := dk_42 (dk_at dksX8_transform_0 3 rfl rfl)
theorem dX8_transform_4 : decode cX8_transform 4 = .ok (.arraylength, 1) := dk_190 (dk_at dksX8_transform_0 4 rfl rfl)
theorem dX8_transform_5 : decode cX8_transform 5 = .ok (.if_icmp .ge 61, 3) := dk_162 0 61 (dk_at dksX8_transform_0 5 rfl rfl)
theorem dX8_transform_8 : decode cX8_transform 8 = .ok (.iconst 0, 1) := dk_3 (dk_at dksX8_transform_0 8 rfl rfl)
theorem dX8_transform_9 : decode cX8_transform 9 = .ok (.istore_n 2, 1) := dk_61 (dk_at dksX8_transform_0 9 rfl rfl)
theorem dX8_transform_10 : decode cX8_transform 10 = .ok (.iload_n 2, 1) := dk_28 (dk_at dksX8_transform_0 10 rfl rfl)
theorem dX8_transform_11 : decode cX8_transform 11 = .ok (.aload_n 0, 1) := dk_42 (dk_at dksX8_transform_0 11 rfl rfl)
theorem dX8_transform_12 : decode cX8_transform 12 = .ok (.arraylength, 1) := dk_190 (dk_at dksX8_transform_0 12 rfl rfl)
theorem dX8_transform_13 : decode cX8_transform 13 = .ok (.if_icmp .ge 46, 3) := dk_162 0 46 (dk_at dksX8_transform_0 13 rfl rfl)
theorem dX8_transform_16 : decode cX8_transform 16 = .ok (.iload_n 2, 1) := dk_28 (dk_at dksX8_transform_0 16 rfl rfl)
theorem dX8_transform_17 : decode cX8_transform 17 = .ok (.iload_n 1, 1) := dk_27 (dk_at dksX8_transform_0 17 rfl rfl)
theorem dX8_transform_18 : decode cX8_transform 18 = .ok (.iand, 1) := dk_126 (dk_at dksX8_transform_0 18 rfl rfl)
theorem dX8_transform_19 : decode cX8_transform 19 = .ok (.ifCond .eq 6, 3) := dk_153 0 6 (dk_at dksX8_transform_0 19 rfl rfl)
theorem dX8_transform_22 : decode cX8_transform 22 = .ok (.goto 31, 3) := dk_167 0 31 (dk_at dksX8_transform_1 0 rfl rfl)
theorem dX8_transform_25 : decode cX8_transform 25 = .ok (.aload_n 0, 1) := dk_42 (dk_at dksX8_transform_1 3 rfl rfl)
theorem dX8_transform_26 : decode cX8_transform 26 = .ok (.iload_n 2, 1) := dk_28 (dk_at dksX8_transform_1 4 rfl rfl)
theorem dX8_transform_27 : decode cX8_transform 27 = .ok (.iaload, 1) := dk_46 (dk_at dksX8_transform_1 5 rfl rfl)
theorem dX8_transform_28 : decode cX8_transform 28 = .ok (.aload_n 0, 1) := dk_42 (dk_at dksX8_transform_1 6 rfl rfl)
theorem dX8_transform_29 : decode cX8_transform 29 = .ok (.iload_n 2, 1) := dk_28 (dk_at dksX8_transform_1 7 rfl rfl)
theorem dX8_transform_30 : decode cX8_transform 30 = .ok (.iload_n 1, 1) := dk_27 (dk_at dksX8_transform_1 8 rfl rfl)
theorem dX8_transform_31 : decode cX8_transform 31 = .ok (.iadd, 1) := dk_96 (dk_at dksX8_transform_1 9 rfl rfl)
theorem dX8_transform_32 : decode cX8_transform 32 = .ok (.iaload, 1) := dk_46 (dk_at dksX8_transform_1 10 rfl rfl)
theorem dX8_transform_33 : decode cX8_transform 33 = .ok (.iadd, 1) := dk_96 (dk_at dksX8_transform_1 11 rfl rfl)
theorem dX8_transform_34 : decode cX8_transform 34 = .ok (.istore_n 3, 1) := dk_62 (dk_at dksX8_transform_1 12 rfl rfl)
theorem dX8_transform_35 : decode cX8_transform 35 = .ok (.aload_n 0, 1) := dk_42 (dk_at dksX8_transform_1 13 rfl rfl)
theorem dX8_transform_36 : decode cX8_transform 36 = .ok (.iload_n 2, 1) := dk_28 (dk_at dksX8_transform_1 14 rfl rfl)
theorem dX8_transform_37 : decode cX8_transform 37 = .ok (.iload_n 1, 1) := dk_27 (dk_at dksX8_transform_1 15 rfl rfl)
theorem dX8_transform_38 : decode cX8_transform 38 = .ok (.iadd, 1) := dk_96 (dk_at dksX8_transform_1 16 rfl rfl)
theorem dX8_transform_39 : decode cX8_transform 39 = .ok (.aload_n 0, 1) := dk_42 (dk_at dksX8_transform_1 17 rfl rfl)
theorem dX8_transform_40 : decode cX8_transform 40 = .ok (.iload_n 2, 1) := dk_28 (dk_at dksX8_transform_1 18 rfl rfl)
theorem dX8_transform_41 : decode cX8_transform 41 = .ok (.iaload, 1) := dk_46 (dk_at dksX8_transform_1 19 rfl rfl)
theorem dX8_transform_42 : decode cX8_transform 42 = .ok (.aload_n 0, 1) := dk_42 (dk_at dksX8_transform_1 20 rfl rfl)
theorem dX8_transform_43 : decode cX8_transform 43 = .ok (.iload_n 2, 1) := dk_28 (dk_at dksX8_transform_1 21 rfl rfl)
theorem dX8_transform_44 : decode cX8_transform 44 = .ok (.iload_n 1, 1) := dk_27 (dk_at dksX8_transform_1 22 rfl rfl)
theorem dX8_transform_45 : decode cX8_transform 45 = .ok (.iadd, 1) := dk_96 (dk_at dksX8_transform_1 23 rfl rfl)
theorem dX8_transform_46 : decode cX8_transform 46 = .ok (.iaload, 1) := dk_46 (dk_at dksX8_transform_2 0 rfl rfl)
theorem dX8_transform_47 : decode cX8_transform 47 = .ok (.isub, 1) := dk_100 (dk_at dksX8_transform_2 1 rfl rfl)
theorem dX8_transform_48 : decode cX8_transform 48 = .ok (.iastore, 1) := dk_79 (dk_at dksX8_transform_2 2 rfl rfl)
theorem dX8_transform_49 : decode cX8_transform 49 = .ok (.aload_n 0, 1) := dk_42 (dk_at dksX8_transform_2 3 rfl rfl)
theorem dX8_transform_50 : decode cX8_transform 50 = .ok (.iload_n 2, 1) := dk_28 (dk_at dksX8_transform_2 4 rfl rfl)
theorem dX8_transform_51 : decode cX8_transform 51 = .ok (.iload_n 3, 1) := dk_29 (dk_at dksX8_transform_2 5 rfl rfl)
theorem dX8_transform_52 : decode cX8_transform 52 = .ok (.iastore, 1) := dk_79 (dk_at dksX8_transform_2 6 rfl rfl)
theorem dX8_transform_53 : decode cX8_transform 53 = .ok (.iinc 2 1, 3) := dk_132 2 1 (dk_at dksX8_transform_2 7 rfl rfl)
theorem dX8_transform_56 : decode cX8_transform 56 = .ok (.goto (-46), 3) := dk_167 255 210 (dk_at dksX8_transform_2 10 rfl rfl)
theorem dX8_transform_59 : decode cX8_transform 59 = .ok (.iload_n 1, 1) := dk_27 (dk_at dksX8_transform_2 13 rfl rfl)
theorem dX8_transform_60 : decode cX8_transform 60 = .ok (.iconst 2, 1) := dk_5 (dk_at dksX8_transform_2 14 rfl rfl)
theorem dX8_transform_61 : decode cX8_transform 61 = .ok (.imul, 1) := dk_104 (dk_at dksX8_transform_2 15 rfl rfl)
theorem dX8_transform_62 : decode cX8_transform 62 = .ok (.istore_n 1, 1) := dk_60 (dk_at dksX8_transform_2 16 rfl rfl)
theorem dX8_transform_63 : decode cX8_transform 63 = .ok (.goto (-61), 3) := dk_167 255 195 (dk_at dksX8_transform_2 17 rfl rfl)
theorem dX8_transform_66 : decode cX8_transform 66 = .ok (.return_, 1) := dk_177 (dk_at dksX8_transform_2 20 rfl rfl)

