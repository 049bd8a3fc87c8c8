set_option maxRecDepth 100000
abbrev cX3_init : ByteArray := prog_11_method_1_code
def yX3_init : MethodName := ⟨RX3, "<init>", "()V"⟩
def dkwX3_init_4 : List UInt8 := [181, 0, 40, 177]
abbrev dktX3_init_4 : List UInt8 := dkwX3_init_4 ++ []
def dkwX3_init_3 : List UInt8 := [188, 10, 181, 0, 31, 42, 16, 64, 188, 10, 181, 0, 34, 42, 16, 64, 188, 10, 181, 0, 37, 42, 2]
abbrev dktX3_init_3 : List UInt8 := dkwX3_init_3 ++ dktX3_init_4
def dkwX3_init_2 : List UInt8 := [181, 0, 22, 42, 17, 3, 232, 188, 10, 181, 0, 25, 42, 16, 64, 188, 10, 181, 0, 28, 42, 16, 64]
abbrev dktX3_init_2 : List UInt8 := dkwX3_init_2 ++ dktX3_init_3
def dkwX3_init_1 : List UInt8 := [17, 13, 136, 188, 10, 181, 0, 16, 42, 17, 1, 177, 188, 10, 181, 0, 19, 42, 17, 3, 132, 188, 10]
abbrev dktX3_init_1 : List UInt8 := dkwX3_init_1 ++ dktX3_init_2
def dkwX3_init_0 : List UInt8 := [42, 183, 0, 1, 42, 17, 1, 177, 188, 10, 181, 0, 7, 42, 17, 1, 177, 188, 10, 181, 0, 13, 42]
abbrev dktX3_init_0 : List UInt8 := dkwX3_init_0 ++ dktX3_init_1
theorem dksX3_init_0 : cX3_init.data.toList.drop 0 = dktX3_init_0 := by decide +kernel
theorem dksX3_init_1 : cX3_init.data.toList.drop 23 = dktX3_init_1 := dk_seg dksX3_init_0 23 rfl rfl
theorem dksX3_init_2 : cX3_init.data.toList.drop 46 = dktX3_init_2 := dk_seg dksX3_init_1 23 rfl rfl
theorem dksX3_init_3 : cX3_init.data.toList.drop 69 = dktX3_init_3 := dk_seg dksX3_init_2 23 rfl rfl
theorem dksX3_init_4 : cX3_init.data.toList.drop 92 = dktX3_init_4 := dk_seg dksX3_init_3 23 rfl rfl
theorem dX3_init_0 : decode cX3_init 0 = .ok (.aload_n 0, 1) := dk_42 (dk_at dksX3_init_0 0 rfl rfl)
theorem dX3_init_1 : decode cX3_init 1 = .ok (.invokespecial 1, 3) := dk_183 0 1 (dk_at dksX3_init_0 1 rfl rfl)
theorem dX3_init_4 : decode cX3_init 4 = .ok (.aload_n 0, 1) := dk_42 (dk_at dksX3_init_0 4 rfl rfl)
theorem dX3_init_5 : decode cX3_init 5 = .ok (.sipush 433, 3) := dk_17 1 177 (dk_at dksX3_init_0 5 rfl rfl)
theorem dX3_init_8 : decode cX3_init 8 = .ok (.newarray .int, 2) := dk_188_10 (dk_at dksX3_init_0 8 rfl rfl)
theorem dX3_init_10 : decode cX3_init 10 = .ok (.putfield 7, 3) := dk_181 0 7 (dk_at dksX3_init_0 10 rfl rfl)
theorem dX3_init_13 : decode cX3_init 13 = .ok (.aload_n 0, 1) := dk_42 (dk_at dksX3_init_0 13 rfl rfl)
theorem dX3_init_14 : decode cX3_init 14 = .ok (.sipush 433, 3) := dk_17 1 177 (dk_at dksX3_init_0 14 rfl rfl)
theorem dX3_init_17 : decode cX3_init 17 = .ok (.newarray .int, 2) := dk_188_10 (dk_at dksX3_init_0 17 rfl rfl)
theorem dX3_init_19 : decode cX3_init 19 = .ok (.putfield 13, 3) := dk_181 0 13 (dk_at dksX3_init_0 19 rfl rfl)
theorem dX3_init_22 : decode cX3_init 22 = .ok (.aload_n 0, 1) := dk_42 (dk_at dksX3_init_0 22 rfl rfl)
theorem dX3_init_23 : decode cX3_init 23 = .ok (.sipush 3464, 3) := dk_17 13 136 (dk_at dksX3_init_1 0 rfl rfl)
theorem dX3_init_26 : decode cX3_init 26 = .ok (.newarray .int, 2) := dk_188_10 (dk_at dksX3_init_1 3 rfl rfl)
theorem dX3_init_28 : decode cX3_init 28 = .ok (.putfield 16, 3) := dk_181 0 16 (dk_at dksX3_init_1 5 rfl rfl)
theorem dX3_init_31 : decode cX3_init 31 = .ok (.aload_n 0, 1) := dk_42 (dk_at dksX3_init_1 8 rfl rfl)
theorem dX3_init_32 : decode cX3_init 32 = .ok (.sipush 433, 3) := dk_17 1 177 (dk_at dksX3_init_1 9 rfl rfl)
theorem dX3_init_35 : decode cX3_init 35 = .ok (.newarray .int, 2) := dk_188_10 (dk_at dksX3_init_1 12 rfl rfl)
theorem dX3_init_37 : decode cX3_init 37 = .ok (.putfield 19, 3) := dk_181 0 19 (dk_at dksX3_init_1 14 rfl rfl)
theorem dX3_init_40 : decode cX3_init 40 = .ok (.aload_n 0, 1) := dk_42 (dk_at dksX3_init_1 17 rfl rfl)
theorem dX3_init_41 : decode cX3_init 41 = .ok (.sipush 900, 3) := dk_17 3 132 (dk_at dksX3_init_1 18 rfl rfl)
theorem dX3_init_44 : decode cX3_init 44 = .ok (.newarray .int, 2) := dk_188_10 (dk_at dksX3_init_1 21 rfl rfl)
theorem dX3_init_46 : decode cX3_init 46 = .ok (.putfield 22, 3) := dk_181 0 22 (dk_at dksX3_init_2 0 rfl rfl)
theorem dX3_init_49 : decode cX3_init 49 = .ok (.aload_n 0, 1) := dk_42 (dk_at dksX3_init_2 3 rfl rfl)
theorem dX3_init_50 : decode cX3_init 50 = .ok (.sipush 1000, 3) := dk_17 3 232 (dk_at dksX3_init_2 4 rfl rfl)
theorem dX3_init_53 : decode cX3_init 53 = .ok (.newarray .int, 2) := dk_188_10 (dk_at dksX3_init_2 7 rfl rfl)
theorem dX3_init_55 : decode cX3_init 55 = .ok (.putfield 25, 3) := dk_181 0 25 (dk_at dksX3_init_2 9 rfl rfl)
theorem dX3_init_58 : decode cX3_init 58 = .ok (.aload_n 0, 1) := dk_42 (dk_at dksX3_init_2 12 rfl rfl)
theorem dX3_init_59 : decode cX3_init 59 = .ok (.bipush 64, 2) := dk_16 64 (dk_at dksX3_init_2 13 rfl rfl)
theorem dX3_init_61 : decode cX3_init 61 = .ok (.newarray .int, 2) := dk_188_10 (dk_at dksX3_init_2 15 rfl rfl)
theorem dX3_init_63 : decode cX3_init 63 = .ok (.putfield 28, 3) := dk_181 0 28 (dk_at dksX3_init_2 17 rfl rfl)
theorem dX3_init_66 : decode cX3_init 66 = .ok (.aload_n 0, 1) := dk_42 (dk_at dksX3_init_2 20 rfl rfl)
theorem dX3_init_67 : decode cX3_init 67 = .ok (.bipush 64, 2) := dk_16 64 (dk_at dksX3_init_2 21 rfl rfl)
theorem dX3_init_69 : decode cX3_init 69 = .ok (.newarray .int, 2) := dk_188_10 (dk_at dksX3_init_3 0 rfl rfl)
theorem dX3_init_71 : decode cX3_init 71 = .ok (.putfield 31, 3) := dk_181 0 31 (dk_at dksX3_init_3 2 rfl rfl)
theorem dX3_init_74 : decode cX3_init 74 = .ok (.aload_n 0, 1) := dk_42 (dk_at dksX3_init_3 5 rfl rfl)
theorem dX3_init_75 : decode cX3_init 75 = .ok (.bipush 64, 2) := dk_16 64 (dk_at dksX3_init_3 6 rfl rfl)
theorem dX3_init_77 : decode cX3_init 77 = .ok (.newarray .int, 2) := dk_188_10 (dk_at dksX3_init_3 8 rfl rfl)
theorem dX3_init_79 : decode cX3_init 79 = .ok (.putfield 34, 3) := dk_181 0 34 (dk_at dksX3_init_3 10 rfl rfl)
theorem dX3_init_82 : decode cX3_init 82 = .ok (.aload_n 0, 1) := dk_42 (dk_at dksX3_init_3 13 rfl rfl)
theorem dX3_init_83 : decode cX3_init 83 = .ok (.bipush 64, 2) := dk_16 64 (dk_at dksX3_init_3 14 rfl rfl)
theorem dX3_init_85 : decode cX3_init 85 = .ok (.newarray .int, 2) := dk_188_10 (dk_at dksX3_init_3 16 rfl rfl)
theorem dX3_init_87 : decode cX3_init 87 = .ok (.putfield 37, 3) := dk_181 0 37 (dk_at dksX3_init_3 18 rfl rfl)
theorem dX3_init_90 : decode cX3_init 90 = .ok (.aload_n 0, 1) := dk_42 (dk_at dksX3_init_3 21 rfl rfl)
theorem dX3_init_91 : decode cX3_init 91 = .ok (.iconst (-1), 1) := dk_2 (dk_at dksX3_init_3 22 rfl rfl)
theorem dX3_init_92 : decode cX3_init 92 = .ok (.putfield 40, 3) := dk_181 0 40 (dk_at dksX3_init_4 0 rfl rfl)
theorem dX3_init_95 : decode cX3_init 95 = .ok (.return_, 1) := dk_177 (dk_at dksX3_init_4 3 rfl rfl)
abbrev cX3_thrown : ByteArray := prog_11_method_2_code
def yX3_thrown : MethodName := ⟨RX3, "thrown", "()I"⟩
theorem dX3_thrown_0 : decode cX3_thrown 0 = .ok (.aload_n 0, 1) := by decide +kernel
theorem dX3_thrown_1 : decode cX3_thrown 1 = .ok (.getfield 44, 3) := by decide +kernel
theorem dX3_thrown_4 : decode cX3_thrown 4 = .ok (.ireturn, 1) := by decide +kernel
abbrev cX3_append : ByteArray := prog_11_method_29_code
def yX3_append : MethodName := ⟨RX3, "append", "(IIIII)I"⟩
def dkwX3_append_2 : List UInt8 := [182, 0, 116, 42, 21, 5, 182, 0, 116, 42, 180, 0, 109, 172]
abbrev dktX3_append_2 : List UInt8 := dkwX3_append_2 ++ []
def dkwX3_append_1 : List UInt8 := [154, 0, 5, 2, 172, 42, 27, 182, 0, 116, 42, 28, 182, 0, 116, 42, 29, 182, 0, 116, 42, 21, 4]
abbrev dktX3_append_1 : List UInt8 := dkwX3_append_1 ++ dktX3_append_2
def dkwX3_append_0 : List UInt8 := [42, 42, 180, 0, 109, 16, 20, 96, 17, 3, 132, 163, 0, 7, 4, 167, 0, 4, 3, 182, 0, 112]
abbrev dktX3_append_0 : List UInt8 := dkwX3_append_0 ++ dktX3_append_1
theorem dksX3_append_0 : cX3_append.data.toList.drop 0 = dktX3_append_0 := by decide +kernel
theorem dksX3_append_1 : cX3_append.data.toList.drop 22 = dktX3_append_1 := dk_seg dksX3_append_0 22 rfl rfl
theorem dksX3_append_2 : cX3_append.data.toList.drop 45 = dktX3_append_2 := dk_seg dksX3_append_1 23 rfl rfl
theorem dX3_append_0 : decode cX3_append 0 = .ok (.aload_n 0, 1) := dk_42 (dk_at dksX3_append_0 0 rfl rfl)
theorem dX3_append_1 : decode cX3_append 1 = .ok (.aload_n 0, 1) := dk_42 (dk_at dksX3_append_0 1 rfl rfl)
theorem dX3_append_2 : decode cX3_append 2 = .ok (.getfield 109, 3) := dk_180 0 109 (dk_at dksX3_append_0 2 rfl rfl)
theorem dX3_append_5 : decode cX3_append 5 = .ok (.bipush 20, 2) := dk_16 20 (dk_at dksX3_append_0 5 rfl rfl)
theorem dX3_append_7 : decode cX3_append 7 = .ok (.iadd, 1) := dk_96 (dk_at dksX3_append_0 7 rfl rfl)
theorem dX3_append_8 : decode cX3_append 8 = .ok (.sipush 900, 3) := dk_17 3 132 (dk_at dksX3_append_0 8 rfl rfl)
theorem dX3_append_11 : decode cX3_append 11 = .ok (.if_icmp .gt 7, 3) := dk_163 0 7 (dk_at dksX3_append_0 11 rfl rfl)
theorem dX3_append_14 : decode cX3_append 14 = .ok (.iconst 1, 1) := dk_4 (dk_at dksX3_append_0 14 rfl rfl)
theorem dX3_append_15 : decode cX3_append 15 = .ok (.goto 4, 3) := dk_167 0 4 (dk_at dksX3_append_0 15 rfl rfl)
theorem dX3_append_18 : decode cX3_append 18 = .ok (.iconst 0, 1) := dk_3 (dk_at dksX3_append_0 18 rfl rfl)
theorem dX3_append_19 : decode cX3_append 19 = .ok (.invokevirtual 112, 3) := dk_182 0 112 (dk_at dksX3_append_0 19 rfl rfl)
theorem dX3_append_22 : decode cX3_append 22 = .ok (.ifCond .ne 5, 3) := dk_154 0 5 (dk_at dksX3_append_1 0 rfl rfl)
theorem dX3_append_25 : decode cX3_append 25 = .ok (.iconst (-1), 1) := dk_2 (dk_at dksX3_append_1 3 rfl rfl)
theorem dX3_append_26 : decode cX3_append 26 = .ok (.ireturn, 1) := dk_172 (dk_at dksX3_append_1 4 rfl rfl)
theorem dX3_append_27 : decode cX3_append 27 = .ok (.aload_n 0, 1) := dk_42 (dk_at dksX3_append_1 5 rfl rfl)
theorem dX3_append_28 : decode cX3_append 28 = .ok (.iload_n 1, 1) := dk_27 (dk_at dksX3_append_1 6 rfl rfl)
theorem dX3_append_29 : decode cX3_append 29 = .ok (.invokevirtual 116, 3) := dk_182 0 116 (dk_at dksX3_append_1 7 rfl rfl)
theorem dX3_append_32 : decode cX3_append 32 = .ok (.aload_n 0, 1) := dk_42 (dk_at dksX3_append_1 10 rfl rfl)
theorem dX3_append_33 : decode cX3_append 33 = .ok (.iload_n 2, 1) := dk_28 (dk_at dksX3_append_1 11 rfl rfl)
theorem dX3_append_34 : decode cX3_append 34 = .ok (.invokevirtual 116, 3) := dk_182 0 116 (dk_at dksX3_append_1 12 rfl rfl)
theorem dX3_append_37 : decode cX3_append 37 = .ok (.aload_n 0, 1) := dk_42 (dk_at dksX3_append_1 15 rfl rfl)
theorem dX3_append_38 : decode cX3_append 38 = .ok (.iload_n 3, 1) := dk_29 (dk_at dksX3_append_1 16 rfl rfl)
theorem dX3_append_39 : decode cX3_append 39 = .ok (.invokevirtual 116, 3) := dk_182 0 116 (dk_at dksX3_append_1 17 rfl rfl)
theorem dX3_append_42 : decode cX3_append 42 = .ok (.aload_n 0, 1) := dk_42 (dk_at dksX3_append_1 20 rfl rfl)
theorem dX3_append_43 : decode cX3_append 43 = .ok (.iload 4, 2) := dk_21 4 (dk_at dksX3_append_1 21 rfl rfl)
theorem dX3_append_45 : decode cX3_append 45 = .ok (.invokevirtual 116, 3) := dk_182 0 116 (dk_at dksX3_append_2 0 rfl rfl)
theorem dX3_append_48 : decode cX3_append 48 = .ok (.aload_n 0, 1) := dk_42 (dk_at dksX3_append_2 3 rfl rfl)
theorem dX3_append_49 : decode cX3_append 49 = .ok (.iload 5, 2) := dk_21 5 (dk_at dksX3_append_2 4 rfl rfl)
theorem dX3_append_51 : decode cX3_append 51 = .ok (.invokevirtual 116, 3) := dk_182 0 116 (dk_at dksX3_append_2 6 rfl rfl)
theorem dX3_append_54 : decode cX3_append 54 = .ok (.aload_n 0, 1) := dk_42 (dk_at dksX3_append_2 9 rfl rfl)
theorem dX3_append_55 : decode cX3_append 55 = .ok (.getfield 109, 3) := dk_180 0 109 (dk_at dksX3_append_2 10 rfl rfl)
theorem dX3_append_58 : decode cX3_append 58 = .ok (.ireturn, 1) := dk_172 (dk_at dksX3_append_2 13 rfl rfl)
abbrev cX3_good : ByteArray := prog_11_method_4_code
def yX3_good : MethodName := ⟨RX3, "good", "(Z)Z"⟩
def dkwX3_good_0 : List UInt8 := [42, 27, 153, 0, 7, 3, 167, 0, 4, 4, 181, 0, 44, 27, 172]
abbrev dktX3_good_0 : List UInt8 := dkwX3_good_0 ++ []
theorem dksX3_good_0 : cX3_good.data.toList.drop 0 = dktX3_good_0 := by decide +kernel
theorem dX3_good_0 : decode cX3_good 0 = .ok (.aload_n 0, 1) := dk_42 (dk_at dksX3_good_0 0 rfl rfl)
theorem dX3_good_1 : decode cX3_good 1 = .ok (.iload_n 1, 1) := dk_27 (dk_at dksX3_good_0 1 rfl rfl)
theorem dX3_good_2 : decode cX3_good 2 = .ok (.ifCond .eq 7, 3) := dk_153 0 7 (dk_at dksX3_good_0 2 rfl rfl)
theorem dX3_good_5 : decode cX3_good 5 = .ok (.iconst 0, 1) := dk_3 (dk_at dksX3_good_0 5 rfl rfl)
theorem dX3_good_6 : decode cX3_good 6 = .ok (.goto 4, 3) := dk_167 0 4 (dk_at dksX3_good_0 6 rfl rfl)
theorem dX3_good_9 : decode cX3_good 9 = .ok (.iconst 1, 1) := dk_4 (dk_at dksX3_good_0 9 rfl rfl)
theorem dX3_good_10 : decode cX3_good 10 = .ok (.putfield 44, 3) := dk_181 0 44 (dk_at dksX3_good_0 10 rfl rfl)
theorem dX3_good_13 : decode cX3_good 13 = .ok (.iload_n 1, 1) := dk_27 (dk_at dksX3_good_0 13 rfl rfl)
theorem dX3_good_14 : decode cX3_good 14 = .ok (.ireturn, 1) := dk_172 (dk_at dksX3_good_0 14 rfl rfl)
abbrev cX3_take : ByteArray := prog_11_method_28_code
def yX3_take : MethodName := ⟨RX3, "take", "(I)V"⟩
def dkwX3_take_1 : List UInt8 := [89, 180, 0, 109, 4, 96, 181, 0, 109, 132, 2, 248, 167, 255, 223, 177]
abbrev dktX3_take_1 : List UInt8 := dkwX3_take_1 ++ []
def dkwX3_take_0 : List UInt8 := [16, 24, 61, 28, 155, 0, 35, 42, 180, 0, 22, 42, 180, 0, 109, 27, 28, 124, 17, 0, 255, 126, 79, 42]
abbrev dktX3_take_0 : List UInt8 := dkwX3_take_0 ++ dktX3_take_1
theorem dksX3_take_0 : cX3_take.data.toList.drop 0 = dktX3_take_0 := by decide +kernel
theorem dksX3_take_1 : cX3_take.data.toList.drop 24 = dktX3_take_1 := dk_seg dksX3_take_0 24 rfl rfl
theorem dX3_take_0 : decode cX3_take 0 = .ok (.bipush 24, 2) := dk_16 24 (dk_at dksX3_take_0 0 rfl rfl)
theorem dX3_take_2 : decode cX3_take 2 = .ok (.istore_n 2, 1) := dk_61 (dk_at dksX3_take_0 2 rfl rfl)
theorem dX3_take_3 : decode cX3_take 3 = .ok (.iload_n 2, 1) := dk_28 (dk_at dksX3_take_0 3 rfl rfl)
theorem dX3_take_4 : decode cX3_take 4 = .ok (.ifCond .lt 35, 3) := dk_155 0 35 (dk_at dksX3_take_0 4 rfl rfl)
theorem dX3_take_7 : decode cX3_take 7 = .ok (.aload_n 0, 1) := dk_42 (dk_at dksX3_take_0 7 rfl rfl)
theorem dX3_take_8 : decode cX3_take 8 = .ok (.getfield 22, 3) := dk_180 0 22 (dk_at dksX3_take_0 8 rfl rfl)
theorem dX3_take_11 : decode cX3_take 11 = .ok (.aload_n 0, 1) := dk_42 (dk_at dksX3_take_0 11 rfl rfl)
theorem dX3_take_12 : decode cX3_take 12 = .ok (.getfield 109, 3) := dk_180 0 109 (dk_at dksX3_take_0 12 rfl rfl)
theorem dX3_take_15 : decode cX3_take 15 = .ok (.iload_n 1, 1) := dk_27 (dk_at dksX3_take_0 15 rfl rfl)
theorem dX3_take_16 : decode cX3_take 16 = .ok (.iload_n 2, 1) := dk_28 (dk_at dksX3_take_0 16 rfl rfl)
theorem dX3_take_17 : decode cX3_take 17 = .ok (.iushr, 1) := dk_124 (dk_at dksX3_take_0 17 rfl rfl)
theorem dX3_take_18 : decode cX3_take 18 = .ok (.sipush 255, 3) := dk_17 0 255 (dk_at dksX3_take_0 18 rfl rfl)
theorem dX3_take_21 : decode cX3_take 21 = .ok (.iand, 1) := dk_126 (dk_at dksX3_take_0 21 rfl rfl)
theorem dX3_take_22 : decode cX3_take 22 = .ok (.iastore, 1) := dk_79 (dk_at dksX3_take_0 22 rfl rfl)
theorem dX3_take_23 : decode cX3_take 23 = .ok (.aload_n 0, 1) := dk_42 (dk_at dksX3_take_0 23 rfl rfl)
theorem dX3_take_24 : decode cX3_take 24 = .ok (.dup, 1) := dk_89 (dk_at dksX3_take_1 0 rfl rfl)
theorem dX3_take_25 : decode cX3_take 25 = .ok (.getfield 109, 3) := dk_180 0 109 (dk_at dksX3_take_1 1 rfl rfl)
theorem dX3_take_28 : decode cX3_take 28 = .ok (.iconst 1, 1) := dk_4 (dk_at dksX3_take_1 4 rfl rfl)
theorem dX3_take_29 : decode cX3_take 29 = .ok (.iadd, 1) := dk_96 (dk_at dksX3_take_1 5 rfl rfl)
theorem dX3_take_30 : decode cX3_take 30 = .ok (.putfield 109, 3) := dk_181 0 109 (dk_at dksX3_take_1 6 rfl rfl)
theorem dX3_take_33 : decode cX3_take 33 = .ok (.iinc 2 (-8), 3) := dk_132 2 248 (dk_at dksX3_take_1 9 rfl rfl)
theorem dX3_take_36 : decode cX3_take 36 = .ok (.goto (-33), 3) := dk_167 255 223 (dk_at dksX3_take_1 12 rfl rfl)
theorem dX3_take_39 : decode cX3_take 39 = .ok (.return_, 1) := dk_177 (dk_at dksX3_take_1 15 rfl rfl)
abbrev cX3_truncate : ByteArray := prog_11_method_30_code
def yX3_truncate : MethodName := ⟨RX3, "truncate", "(I)I"⟩
def dkwX3_truncate_1 : List UInt8 := [180, 0, 109, 172]
abbrev dktX3_truncate_1 : List UInt8 := dkwX3_truncate_1 ++ []
def dkwX3_truncate_0 : List UInt8 := [42, 27, 3, 42, 180, 0, 109, 184, 0, 50, 182, 0, 112, 154, 0, 5, 2, 172, 42, 27, 181, 0, 109, 42]
abbrev dktX3_truncate_0 : List UInt8 := dkwX3_truncate_0 ++ dktX3_truncate_1
theorem dksX3_truncate_0 : cX3_truncate.data.toList.drop 0 = dktX3_truncate_0 := by decide +kernel
theorem dksX3_truncate_1 : cX3_truncate.data.toList.drop 24 = dktX3_truncate_1 := dk_seg dksX3_truncate_0 24 rfl rfl
theorem dX3_truncate_0 : decode cX3_truncate 0 = .ok (.aload_n 0, 1) := dk_42 (dk_at dksX3_truncate_0 0 rfl rfl)
theorem dX3_truncate_1 : decode cX3_truncate 1 = .ok (.iload_n 1, 1) := dk_27 (dk_at dksX3_truncate_0 1 rfl rfl)
theorem dX3_truncate_2 : decode cX3_truncate 2 = .ok (.iconst 0, 1) := dk_3 (dk_at dksX3_truncate_0 2 rfl rfl)
theorem dX3_truncate_3 : decode cX3_truncate 3 = .ok (.aload_n 0, 1) := dk_42 (dk_at dksX3_truncate_0 3 rfl rfl)
theorem dX3_truncate_4 : decode cX3_truncate 4 = .ok (.getfield 109, 3) := dk_180 0 109 (dk_at dksX3_truncate_0 4 rfl rfl)
theorem dX3_truncate_7 : decode cX3_truncate 7 = .ok (.invokestatic 50, 3) := dk_184 0 50 (dk_at dksX3_truncate_0 7 rfl rfl)
theorem dX3_truncate_10 : decode cX3_truncate 10 = .ok (.invokevirtual 112, 3) := dk_182 0 112 (dk_at dksX3_truncate_0 10 rfl rfl)
theorem dX3_truncate_13 : decode cX3_truncate 13 = .ok (.ifCond .ne 5, 3) := dk_154 0 5 (dk_at dksX3_truncate_0 13 rfl rfl)
theorem dX3_truncate_16 : decode cX3_truncate 16 = .ok (.iconst (-1), 1) := dk_2 (dk_at dksX3_truncate_0 16 rfl rfl)
theorem dX3_truncate_17 : decode cX3_truncate 17 = .ok (.ireturn, 1) := dk_172 (dk_at dksX3_truncate_0 17 rfl rfl)
theorem dX3_truncate_18 : decode cX3_truncate 18 = .ok (.aload_n 0, 1) := dk_42 (dk_at dksX3_truncate_0 18 rfl rfl)
theorem dX3_truncate_19 : decode cX3_truncate 19 = .ok (.iload_n 1, 1) := dk_27 (dk_at dksX3_truncate_0 19 rfl rfl)
theorem dX3_truncate_20 : decode cX3_truncate 20 = .ok (.putfield 109, 3) := dk_181 0 109 (dk_at dksX3_truncate_0 20 rfl rfl)
theorem dX3_truncate_23 : decode cX3_truncate 23 = .ok (.aload_n 0, 1) := dk_42 (dk_at dksX3_truncate_0 23 rfl rfl)
theorem dX3_truncate_24 : decode cX3_truncate 24 = .ok (.getfield 109, 3) := dk_180 0 109 (dk_at dksX3_truncate_1 0 rfl rfl)
theorem dX3_truncate_27 : decode cX3_truncate 27 = .ok (.ireturn, 1) := dk_172 (dk_at dksX3_truncate_1 3 rfl rfl)
abbrev cX3_isIn : ByteArray := prog_11_method_3_code
def yX3_isIn : MethodName := ⟨RX3, "isIn", "(III)Z"⟩
def dkwX3_isIn_0 : List UInt8 := [26, 27, 161, 0, 12, 26, 28, 163, 0, 7, 4, 167, 0, 4, 3, 172]
abbrev dktX3_isIn_0 : List UInt8 := dkwX3_isIn_0 ++ []
theorem dksX3_isIn_0 : cX3_isIn.data.toList.drop 0 = dktX3_isIn_0 := by decide +kernel
theorem dX3_isIn_0 : decode cX3_isIn 0 = .ok (.iload_n 0, 1) := dk_26 (dk_at dksX3_isIn_0 0 rfl rfl)
theorem dX3_isIn_1 : decode cX3_isIn 1 = .ok (.iload_n 1, 1) := dk_27 (dk_at dksX3_isIn_0 1 rfl rfl)
theorem dX3_isIn_2 : decode cX3_isIn 2 = .ok (.if_icmp .lt 12, 3) := dk_161 0 12 (dk_at dksX3_isIn_0 2 rfl rfl)
theorem dX3_isIn_5 : decode cX3_isIn 5 = .ok (.iload_n 0, 1) := dk_26 (dk_at dksX3_isIn_0 5 rfl rfl)
theorem dX3_isIn_6 : decode cX3_isIn 6 = .ok (.iload_n 2, 1) := dk_28 (dk_at dksX3_isIn_0 6 rfl rfl)
theorem dX3_isIn_7 : decode cX3_isIn 7 = .ok (.if_icmp .gt 7, 3) := dk_163 0 7 (dk_at dksX3_isIn_0 7 rfl rfl)
theorem dX3_isIn_10 : decode cX3_isIn 10 = .ok (.iconst 1, 1) := dk_4 (dk_at dksX3_isIn_0 10 rfl rfl)
theorem dX3_isIn_11 : decode cX3_isIn 11 = .ok (.goto 4, 3) := dk_167 0 4 (dk_at dksX3_isIn_0 11 rfl rfl)
theorem dX3_isIn_14 : decode cX3_isIn 14 = .ok (.iconst 0, 1) := dk_3 (dk_at dksX3_isIn_0 14 rfl rfl)
theorem dX3_isIn_15 : decode cX3_isIn 15 = .ok (.ireturn, 1) := dk_172 (dk_at dksX3_isIn_0 15 rfl rfl)
abbrev cX3_parse : ByteArray := prog_11_method_41_code
def yX3_parse : MethodName := ⟨RX3, "parse", "()I"⟩
def dkwX3_parse_2 : List UInt8 := [3, 181, 0, 47, 42, 3, 181, 0, 175, 42, 180, 0, 7, 3, 46, 172]
abbrev dktX3_parse_2 : List UInt8 := dkwX3_parse_2 ++ []
def dkwX3_parse_1 : List UInt8 := [182, 0, 169, 60, 42, 3, 181, 0, 109, 42, 27, 182, 0, 112, 154, 0, 9, 42, 182, 0, 172, 2, 172, 42]
abbrev dktX3_parse_1 : List UInt8 := dkwX3_parse_1 ++ dktX3_parse_2
def dkwX3_parse_0 : List UInt8 := [42, 3, 181, 0, 134, 42, 2, 181, 0, 40, 42, 182, 0, 166, 42, 3, 17, 1, 177, 182, 0, 137, 42]
abbrev dktX3_parse_0 : List UInt8 := dkwX3_parse_0 ++ dktX3_parse_1
theorem dksX3_parse_0 : cX3_parse.data.toList.drop 0 = dktX3_parse_0 := by decide +kernel
theorem dksX3_parse_1 : cX3_parse.data.toList.drop 23 = dktX3_parse_1 := dk_seg dksX3_parse_0 23 rfl rfl
theorem dksX3_parse_2 : cX3_parse.data.toList.drop 47 = dktX3_parse_2 := dk_seg dksX3_parse_1 24 rfl rfl
theorem dX3_parse_0 : decode cX3_parse 0 = .ok (.aload_n 0, 1) := dk_42 (dk_at dksX3_parse_0 0 rfl rfl)
theorem dX3_parse_1 : decode cX3_parse 1 = .ok (.iconst 0, 1) := dk_3 (dk_at dksX3_parse_0 1 rfl rfl)
theorem dX3_parse_2 : decode cX3_parse 2 = .ok (.putfield 134, 3) := dk_181 0 134 (dk_at dksX3_parse_0 2 rfl rfl)
theorem dX3_parse_5 : decode cX3_parse 5 = .ok (.aload_n 0, 1) := dk_42 (dk_at dksX3_parse_0 5 rfl rfl)
theorem dX3_parse_6 : decode cX3_parse 6 = .ok (.iconst (-1), 1) := dk_2 (dk_at dksX3_parse_0 6 rfl rfl)
theorem dX3_parse_7 : decode cX3_parse 7 = .ok (.putfield 40, 3) := dk_181 0 40 (dk_at dksX3_parse_0 7 rfl rfl)
theorem dX3_parse_10 : decode cX3_parse 10 = .ok (.aload_n 0, 1) := dk_42 (dk_at dksX3_parse_0 10 rfl rfl)
theorem dX3_parse_11 : decode cX3_parse 11 = .ok (.invokevirtual 166, 3) := dk_182 0 166 (dk_at dksX3_parse_0 11 rfl rfl)
theorem dX3_parse_14 : decode cX3_parse 14 = .ok (.aload_n 0, 1) := dk_42 (dk_at dksX3_parse_0 14 rfl rfl)
theorem dX3_parse_15 : decode cX3_parse 15 = .ok (.iconst 0, 1) := dk_3 (dk_at dksX3_parse_0 15 rfl rfl)
theorem dX3_parse_16 : decode cX3_parse 16 = .ok (.sipush 433, 3) := dk_17 1 177 (dk_at dksX3_parse_0 16 rfl rfl)
theorem dX3_parse_19 : decode cX3_parse 19 = .ok (.invokevirtual 137, 3) := dk_182 0 137 (dk_at dksX3_parse_0 19 rfl rfl)
theorem dX3_parse_22 : decode cX3_parse 22 = .ok (.aload_n 0, 1) := dk_42 (dk_at dksX3_parse_0 22 rfl rfl)
theorem dX3_parse_23 : decode cX3_parse 23 = .ok (.invokevirtual 169, 3) := dk_182 0 169 (dk_at dksX3_parse_1 0 rfl rfl)
theorem dX3_parse_26 : decode cX3_parse 26 = .ok (.istore_n 1, 1) := dk_60 (dk_at dksX3_parse_1 3 rfl rfl)
theorem dX3_parse_27 : decode cX3_parse 27 = .ok (.aload_n 0, 1) := dk_42 (dk_at dksX3_parse_1 4 rfl rfl)
theorem dX3_parse_28 : decode cX3_parse 28 = .ok (.iconst 0, 1) := dk_3 (dk_at dksX3_parse_1 5 rfl rfl)
theorem dX3_parse_29 : decode cX3_parse 29 = .ok (.putfield 109, 3) := dk_181 0 109 (dk_at dksX3_parse_1 6 rfl rfl)
theorem dX3_parse_32 : decode cX3_parse 32 = .ok (.aload_n 0, 1) := dk_42 (dk_at dksX3_parse_1 9 rfl rfl)
theorem dX3_parse_33 : decode cX3_parse 33 = .ok (.iload_n 1, 1) := dk_27 (dk_at dksX3_parse_1 10 rfl rfl)
theorem dX3_parse_34 : decode cX3_parse 34 = .ok (.invokevirtual 112, 3) := dk_182 0 112 (dk_at dksX3_parse_1 11 rfl rfl)
theorem dX3_parse_37 : decode cX3_parse 37 = .ok (.ifCond .ne 9, 3) := dk_154 0 9 (dk_at dksX3_parse_1 14 rfl rfl)
theorem dX3_parse_40 : decode cX3_parse 40 = .ok (.aload_n 0, 1) := dk_42 (dk_at dksX3_parse_1 17 rfl rfl)
theorem dX3_parse_41 : decode cX3_parse 41 = .ok (.invokevirtual 172, 3) := dk_182 0 172 (dk_at dksX3_parse_1 18 rfl rfl)
theorem dX3_parse_44 : decode cX3_parse 44 = .ok (.iconst (-1), 1) := dk_2 (dk_at dksX3_parse_1 21 rfl rfl)
theorem dX3_parse_45 : decode cX3_parse 45 = .ok (.ireturn, 1) := dk_172 (dk_at dksX3_parse_1 22 rfl rfl)
theorem dX3_parse_46 : decode cX3_parse 46 = .ok (.aload_n 0, 1) := dk_42 (dk_at dksX3_parse_1 23 rfl rfl)
theorem dX3_parse_47 : decode cX3_parse 47 = .ok (.iconst 0, 1) := dk_3 (dk_at dksX3_parse_2 0 rfl rfl)
theorem dX3_parse_48 : decode cX3_parse 48 = .ok (.putfield 47, 3) := dk_181 0 47 (dk_at dksX3_parse_2 1 rfl rfl)
theorem dX3_parse_51 : decode cX3_parse 51 = .ok (.aload_n 0, 1) := dk_42 (dk_at dksX3_parse_2 4 rfl rfl)
theorem dX3_parse_52 : decode cX3_parse 52 = .ok (.iconst 0, 1) := dk_3 (dk_at dksX3_parse_2 5 rfl rfl)
theorem dX3_parse_53 : decode cX3_parse 53 = .ok (.putfield 175, 3) := dk_181 0 175 (dk_at dksX3_parse_2 6 rfl rfl)
theorem dX3_parse_56 : decode cX3_parse 56 = .ok (.aload_n 0, 1) := dk_42 (dk_at dksX3_parse_2 9 rfl rfl)
theorem dX3_parse_57 : decode cX3_parse 57 = .ok (.getfield 7, 3) := dk_180 0 7 (dk_at dksX3_parse_2 10 rfl rfl)
theorem dX3_parse_60 : decode cX3_parse 60 = .ok (.iconst 0, 1) := dk_3 (dk_at dksX3_parse_2 13 rfl rfl)
theorem dX3_parse_61 : decode cX3_parse 61 = .ok (.iaload, 1) := dk_46 (dk_at dksX3_parse_2 14 rfl rfl)
theorem dX3_parse_62 : decode cX3_parse 62 = .ok (.ireturn, 1) := dk_172 (dk_at dksX3_parse_2 15 rfl rfl)
abbrev cX3_putAside : ByteArray := prog_11_method_6_code
def yX3_putAside : MethodName := ⟨RX3, "putAside", "()V"⟩
def dkwX3_putAside_1 : List UInt8 := [167, 255, 234, 177]
abbrev dktX3_putAside_1 : List UInt8 := dkwX3_putAside_1 ++ []
def dkwX3_putAside_0 : List UInt8 := [3, 60, 27, 17, 1, 177, 162, 0, 21, 42, 180, 0, 13, 27, 42, 180, 0, 7, 27, 46, 79, 132, 1, 1]
abbrev dktX3_putAside_0 : List UInt8 := dkwX3_putAside_0 ++ dktX3_putAside_1
theorem dksX3_putAside_0 : cX3_putAside.data.toList.drop 0 = dktX3_putAside_0 := by decide +kernel
theorem dksX3_putAside_1 : cX3_putAside.data.toList.drop 24 = dktX3_putAside_1 := dk_seg dksX3_putAside_0 24 rfl rfl
theorem dX3_putAside_0 : decode cX3_putAside 0 = .ok (.iconst 0, 1) := dk_3 (dk_at dksX3_putAside_0 0 rfl rfl)
theorem dX3_putAside_1 : decode cX3_putAside 1 = .ok (.istore_n 1, 1) := dk_60 (dk_at dksX3_putAside_0 1 rfl rfl)
theorem dX3_putAside_2 : decode cX3_putAside 2 = .ok (.iload_n 1, 1) := dk_27 (dk_at dksX3_putAside_0 2 rfl rfl)
theorem dX3_putAside_3 : decode cX3_putAside 3 = .ok (.sipush 433, 3) := dk_17 1 177 (dk_at dksX3_putAside_0 3 rfl rfl)
theorem dX3_putAside_6 : decode cX3_putAside 6 = .ok (.if_icmp .ge 21, 3) := dk_162 0 21 (dk_at dksX3_putAside_0 6 rfl rfl)
theorem dX3_putAside_9 : decode cX3_putAside 9 = .ok (.aload_n 0, 1) := dk_42 (dk_at dksX3_putAside_0 9 rfl rfl)
theorem dX3_putAside_10 : decode cX3_putAside 10 = .ok (.getfield 13, 3) := dk_180 0 13 (dk_at dksX3_putAside_0 10 rfl rfl)
theorem dX3_putAside_13 : decode cX3_putAside 13 = .ok (.iload_n 1, 1) := dk_27 (dk_at dksX3_putAside_0 13 rfl rfl)
theorem dX3_putAside_14 : decode cX3_putAside 14 = .ok (.aload_n 0, 1) := dk_42 (dk_at dksX3_putAside_0 14 rfl rfl)
theorem dX3_putAside_15 : decode cX3_putAside 15 = .ok (.getfield 7, 3) := dk_180 0 7 (dk_at dksX3_putAside_0 15 rfl rfl)
theorem dX3_putAside_18 : decode cX3_putAside 18 = .ok (.iload_n 1, 1) := dk_27 (dk_at dksX3_putAside_0 18 rfl rfl)
theorem dX3_putAside_19 : decode cX3_putAside 19 = .ok (.iaload, 1) := dk_46 (dk_at dksX3_putAside_0 19 rfl rfl)
theorem dX3_putAside_20 : decode cX3_putAside 20 = .ok (.iastore, 1) := dk_79 (dk_at dksX3_putAside_0 20 rfl rfl)
theorem dX3_putAside_21 : decode cX3_putAside 21 = .ok (.iinc 1 1, 3) := dk_132 1 1 (dk_at dksX3_putAside_0 21 rfl rfl)
theorem dX3_putAside_24 : decode cX3_putAside 24 = .ok (.goto (-22), 3) := dk_167 255 234 (dk_at dksX3_putAside_1 0 rfl rfl)
theorem dX3_putAside_27 : decode cX3_putAside 27 = .ok (.return_, 1) := dk_177 (dk_at dksX3_putAside_1 3 rfl rfl)
abbrev cX3_wipe : ByteArray := prog_11_method_37_code
def yX3_wipe : MethodName := ⟨RX3, "wipe", "(II)V"⟩
def dkwX3_wipe_0 : List UInt8 := [27, 62, 29, 27, 28, 96, 162, 0, 16, 42, 180, 0, 7, 29, 3, 79, 132, 3, 1, 167, 255, 239, 177]
abbrev dktX3_wipe_0 : List UInt8 := dkwX3_wipe_0 ++ []
theorem dksX3_wipe_0 : cX3_wipe.data.toList.drop 0 = dktX3_wipe_0 := by decide +kernel
theorem dX3_wipe_0 : decode cX3_wipe 0 = .ok (.iload_n 1, 1) := dk_27 (dk_at dksX3_wipe_0 0 rfl rfl)
theorem dX3_wipe_1 : decode cX3_wipe 1 = .ok (.istore_n 3, 1) := dk_62 (dk_at dksX3_wipe_0 1 rfl rfl)
theorem dX3_wipe_2 : decode cX3_wipe 2 = .ok (.iload_n 3, 1) := dk_29 (dk_at dksX3_wipe_0 2 rfl rfl)
theorem dX3_wipe_3 : decode cX3_wipe 3 = .ok (.iload_n 1, 1) := dk_27 (dk_at dksX3_wipe_0 3 rfl rfl)
theorem dX3_wipe_4 : decode cX3_wipe 4 = .ok (.iload_n 2, 1) := dk_28 (dk_at dksX3_wipe_0 4 rfl rfl)
theorem dX3_wipe_5 : decode cX3_wipe 5 = .ok (.iadd, 1) := dk_96 (dk_at dksX3_wipe_0 5 rfl rfl)
theorem dX3_wipe_6 : decode cX3_wipe 6 = .ok (.if_icmp .ge 16, 3) := dk_162 0 16 (dk_at dksX3_wipe_0 6 rfl rfl)
theorem dX3_wipe_9 : decode cX3_wipe 9 = .ok (.aload_n 0, 1) := dk_42 (dk_at dksX3_wipe_0 9 rfl rfl)
theorem dX3_wipe_10 : decode cX3_wipe 10 = .ok (.getfield 7, 3) := dk_180 0 7 (dk_at dksX3_wipe_0 10 rfl rfl)
theorem dX3_wipe_13 : decode cX3_wipe 13 = .ok (.iload_n 3, 1) := dk_29 (dk_at dksX3_wipe_0 13 rfl rfl)
theorem dX3_wipe_14 : decode cX3_wipe 14 = .ok (.iconst 0, 1) := dk_3 (dk_at dksX3_wipe_0 14 rfl rfl)
theorem dX3_wipe_15 : decode cX3_wipe 15 = .ok (.iastore, 1) := dk_79 (dk_at dksX3_wipe_0 15 rfl rfl)
theorem dX3_wipe_16 : decode cX3_wipe 16 = .ok (.iinc 3 1, 3) := dk_132 3 1 (dk_at dksX3_wipe_0 16 rfl rfl)
theorem dX3_wipe_19 : decode cX3_wipe 19 = .ok (.goto (-17), 3) := dk_167 255 239 (dk_at dksX3_wipe_0 19 rfl rfl)
theorem dX3_wipe_22 : decode cX3_wipe 22 = .ok (.return_, 1) := dk_177 (dk_at dksX3_wipe_0 22 rfl rfl)
abbrev cX3_isText : ByteArray := prog_11_method_40_code
def yX3_isText : MethodName := ⟨RX3, "isText", "()Z"⟩
def dkwX3_isText_1 : List UInt8 := [3, 172, 4, 172]
abbrev dktX3_isText_1 : List UInt8 := dkwX3_isText_1 ++ []
def dkwX3_isText_0 : List UInt8 := [42, 3, 181, 0, 119, 42, 182, 0, 141, 87, 42, 180, 0, 128, 153, 0, 12, 42, 182, 0, 163, 154, 255, 245]
abbrev dktX3_isText_0 : List UInt8 := dkwX3_isText_0 ++ dktX3_isText_1
theorem dksX3_isText_0 : cX3_isText.data.toList.drop 0 = dktX3_isText_0 := by decide +kernel
theorem dksX3_isText_1 : cX3_isText.data.toList.drop 24 = dktX3_isText_1 := dk_seg dksX3_isText_0 24 rfl rfl
theorem dX3_isText_0 : decode cX3_isText 0 = .ok (.aload_n 0, 1) := dk_42 (dk_at dksX3_isText_0 0 rfl rfl)
theorem dX3_isText_1 : decode cX3_isText 1 = .ok (.iconst 0, 1) := dk_3 (dk_at dksX3_isText_0 1 rfl rfl)
theorem dX3_isText_2 : decode cX3_isText 2 = .ok (.putfield 119, 3) := dk_181 0 119 (dk_at dksX3_isText_0 2 rfl rfl)
theorem dX3_isText_5 : decode cX3_isText 5 = .ok (.aload_n 0, 1) := dk_42 (dk_at dksX3_isText_0 5 rfl rfl)
theorem dX3_isText_6 : decode cX3_isText 6 = .ok (.invokevirtual 141, 3) := dk_182 0 141 (dk_at dksX3_isText_0 6 rfl rfl)
theorem dX3_isText_9 : decode cX3_isText 9 = .ok (.pop, 1) := dk_87 (dk_at dksX3_isText_0 9 rfl rfl)
theorem dX3_isText_10 : decode cX3_isText 10 = .ok (.aload_n 0, 1) := dk_42 (dk_at dksX3_isText_0 10 rfl rfl)
theorem dX3_isText_11 : decode cX3_isText 11 = .ok (.getfield 128, 3) := dk_180 0 128 (dk_at dksX3_isText_0 11 rfl rfl)
theorem dX3_isText_14 : decode cX3_isText 14 = .ok (.ifCond .eq 12, 3) := dk_153 0 12 (dk_at dksX3_isText_0 14 rfl rfl)
theorem dX3_isText_17 : decode cX3_isText 17 = .ok (.aload_n 0, 1) := dk_42 (dk_at dksX3_isText_0 17 rfl rfl)
theorem dX3_isText_18 : decode cX3_isText 18 = .ok (.invokevirtual 163, 3) := dk_182 0 163 (dk_at dksX3_isText_0 18 rfl rfl)
theorem dX3_isText_21 : decode cX3_isText 21 = .ok (.ifCond .ne (-11), 3) := dk_154 255 245 (dk_at dksX3_isText_0 21 rfl rfl)
theorem dX3_isText_24 : decode cX3_isText 24 = .ok (.iconst 0, 1) := dk_3 (dk_at dksX3_isText_1 0 rfl rfl)
theorem dX3_isText_25 : decode cX3_isText 25 = .ok (.ireturn, 1) := dk_172 (dk_at dksX3_isText_1 1 rfl rfl)
theorem dX3_isText_26 : decode cX3_isText 26 = .ok (.iconst 1, 1) := dk_4 (dk_at dksX3_isText_1 2 rfl rfl)
theorem dX3_isText_27 : decode cX3_isText 27 = .ok (.ireturn, 1) := dk_172 (dk_at dksX3_isText_1 3 rfl rfl)
abbrev cX3_advance : ByteArray := prog_11_method_32_code
def yX3_advance : MethodName := ⟨RX3, "advance", "()Z"⟩
def dkwX3_advance_12 : List UInt8 := [167, 0, 4, 4, 181, 0, 128, 4, 172]
abbrev dktX3_advance_12 : List UInt8 := dkwX3_advance_12 ++ []
def dkwX3_advance_11 : List UInt8 := [4, 96, 181, 0, 119, 42, 27, 16, 59, 160, 0, 7, 7, 167, 0, 14, 27, 16, 45, 160, 0, 7, 8]
abbrev dktX3_advance_11 : List UInt8 := dkwX3_advance_11 ++ dktX3_advance_12
def dkwX3_advance_10 : List UInt8 := [180, 0, 125, 100, 7, 164, 0, 7, 4, 167, 0, 4, 6, 181, 0, 128, 167, 0, 38, 42, 89, 180, 0, 119]
abbrev dktX3_advance_10 : List UInt8 := dkwX3_advance_10 ++ dktX3_advance_11
def dkwX3_advance_9 : List UInt8 := [181, 0, 131, 42, 89, 180, 0, 119, 4, 96, 181, 0, 119, 167, 255, 185, 42, 42, 180, 0, 119, 42]
abbrev dktX3_advance_9 : List UInt8 := dkwX3_advance_9 ++ dktX3_advance_10
def dkwX3_advance_8 : List UInt8 := [42, 180, 0, 131, 104, 42, 42, 180, 0, 119, 182, 0, 122, 96, 16, 48, 100, 167, 0, 7, 42, 180, 0, 131]
abbrev dktX3_advance_8 : List UInt8 := dkwX3_advance_8 ++ dktX3_advance_9
def dkwX3_advance_7 : List UInt8 := [16, 57, 184, 0, 50, 153, 0, 59, 42, 42, 180, 0, 119, 42, 180, 0, 125, 100, 7, 162, 0, 25, 16, 10]
abbrev dktX3_advance_7 : List UInt8 := dkwX3_advance_7 ++ dktX3_advance_8
def dkwX3_advance_6 : List UInt8 := [16, 57, 184, 0, 50, 153, 0, 107, 42, 3, 181, 0, 131, 42, 42, 180, 0, 119, 182, 0, 122, 16, 48]
abbrev dktX3_advance_6 : List UInt8 := dkwX3_advance_6 ++ dktX3_advance_7
def dkwX3_advance_5 : List UInt8 := [42, 180, 0, 125, 100, 16, 6, 164, 0, 7, 4, 167, 0, 4, 5, 181, 0, 128, 167, 0, 153, 27, 16, 48]
abbrev dktX3_advance_5 : List UInt8 := dkwX3_advance_5 ++ dktX3_advance_6
def dkwX3_advance_4 : List UInt8 := [184, 0, 50, 153, 0, 16, 42, 89, 180, 0, 119, 4, 96, 181, 0, 119, 167, 255, 228, 42, 42, 180, 0, 119]
abbrev dktX3_advance_4 : List UInt8 := dkwX3_advance_4 ++ dktX3_advance_5
def dkwX3_advance_3 : List UInt8 := [16, 97, 16, 122, 184, 0, 50, 153, 0, 60, 42, 42, 180, 0, 119, 182, 0, 122, 16, 97, 16, 122]
abbrev dktX3_advance_3 : List UInt8 := dkwX3_advance_3 ++ dktX3_advance_4
def dkwX3_advance_2 : List UInt8 := [42, 42, 180, 0, 119, 182, 0, 122, 60, 27, 2, 160, 0, 11, 42, 3, 181, 0, 128, 167, 0, 221, 27]
abbrev dktX3_advance_2 : List UInt8 := dkwX3_advance_2 ++ dktX3_advance_3
def dkwX3_advance_1 : List UInt8 := [160, 0, 16, 42, 89, 180, 0, 119, 4, 96, 181, 0, 119, 167, 255, 220, 42, 42, 180, 0, 119, 181, 0, 125]
abbrev dktX3_advance_1 : List UInt8 := dkwX3_advance_1 ++ dktX3_advance_2
def dkwX3_advance_0 : List UInt8 := [42, 42, 180, 0, 119, 182, 0, 122, 16, 32, 159, 0, 16, 42, 42, 180, 0, 119, 182, 0, 122, 16, 10]
abbrev dktX3_advance_0 : List UInt8 := dkwX3_advance_0 ++ dktX3_advance_1
theorem dksX3_advance_0 : cX3_advance.data.toList.drop 0 = dktX3_advance_0 := by decide +kernel
theorem dksX3_advance_1 : cX3_advance.data.toList.drop 23 = dktX3_advance_1 := dk_seg dksX3_advance_0 23 rfl rfl
theorem dksX3_advance_2 : cX3_advance.data.toList.drop 47 = dktX3_advance_2 := dk_seg dksX3_advance_1 24 rfl rfl
theorem dksX3_advance_3 : cX3_advance.data.toList.drop 70 = dktX3_advance_3 := dk_seg dksX3_advance_2 23 rfl rfl
theorem dksX3_advance_4 : cX3_advance.data.toList.drop 92 = dktX3_advance_4 := dk_seg dksX3_advance_3 22 rfl rfl
theorem dksX3_advance_5 : cX3_advance.data.toList.drop 116 = dktX3_advance_5 := dk_seg dksX3_advance_4 24 rfl rfl
theorem dksX3_advance_6 : cX3_advance.data.toList.drop 140 = dktX3_advance_6 := dk_seg dksX3_advance_5 24 rfl rfl
theorem dksX3_advance_7 : cX3_advance.data.toList.drop 163 = dktX3_advance_7 := dk_seg dksX3_advance_6 23 rfl rfl
theorem dksX3_advance_8 : cX3_advance.data.toList.drop 187 = dktX3_advance_8 := dk_seg dksX3_advance_7 24 rfl rfl
theorem dksX3_advance_9 : cX3_advance.data.toList.drop 211 = dktX3_advance_9 := dk_seg dksX3_advance_8 24 rfl rfl
theorem dksX3_advance_10 : cX3_advance.data.toList.drop 233 = dktX3_advance_10 := dk_seg dksX3_advance_9 22 rfl rfl
theorem dksX3_advance_11 : cX3_advance.data.toList.drop 257 = dktX3_advance_11 := dk_seg dksX3_advance_10 24 rfl rfl
theorem dksX3_advance_12 : cX3_advance.data.toList.drop 280 = dktX3_advance_12 := dk_seg dksX3_advance_11 23 rfl rfl
theorem dX3_advance_0 : decode cX3_advance 0 = .ok (.aload_n 0, 1) := dk_42 (dk_at dksX3_advance_0 0 rfl rfl)
theorem dX3_advance_1 : decode cX3_advance 1 = .ok (.aload_n 0, 1) := dk_42 (dk_at dksX3_advance_0 1 rfl rfl)
theorem dX3_advance_2 : decode cX3_advance 2 = .ok (.getfield 119, 3) := dk_180 0 119 (dk_at dksX3_advance_0 2 rfl rfl)
theorem dX3_advance_5 : decode cX3_advance 5 = .ok (.invokevirtual 122, 3) := dk_182 0 122 (dk_at dksX3_advance_0 5 rfl rfl)
theorem dX3_advance_8 : decode cX3_advance 8 = .ok (.bipush 32, 2) := dk_16 32 (dk_at dksX3_advance_0 8 rfl rfl)
theorem dX3_advance_10 : decode cX3_advance 10 = .ok (.if_icmp .eq 16, 3) := dk_159 0 16 (dk_at dksX3_advance_0 10 rfl rfl)
theorem dX3_advance_13 : decode cX3_advance 13 = .ok (.aload_n 0, 1) := dk_42 (dk_at dksX3_advance_0 13 rfl rfl)
theorem dX3_advance_14 : decode cX3_advance 14 = .ok (.aload_n 0, 1) := dk_42 (dk_at dksX3_advance_0 14 rfl rfl)
theorem dX3_advance_15 : decode cX3_advance 15 = .ok (.getfield 119, 3) := dk_180 0 119 (dk_at dksX3_advance_0 15 rfl rfl)
theorem dX3_advance_18 : decode cX3_advance 18 = .ok (.invokevirtual 122, 3) := dk_182 0 122 (dk_at dksX3_advance_0 18 rfl rfl)
theorem dX3_advance_21 : decode cX3_advance 21 = .ok (.bipush 10, 2) := dk_16 10 (dk_at dksX3_advance_0 21 rfl rfl)
theorem dX3_advance_23 : decode cX3_advance 23 = .ok (.if_icmp .ne 16, 3) := dk_160 0 16 (dk_at dksX3_advance_1 0 rfl rfl)
theorem dX3_advance_26 : decode cX3_advance 26 = .ok (.aload_n 0, 1) := dk_42 (dk_at dksX3_advance_1 3 rfl rfl)
theorem dX3_advance_27 : decode cX3_advance 27 = .ok (.dup, 1) := dk_89 (dk_at dksX3_advance_1 4 rfl rfl)
theorem dX3_advance_28 : decode cX3_advance 28 = .ok (.getfield 119, 3) := dk_180 0 119 (dk_at dksX3_advance_1 5 rfl rfl)
theorem dX3_advance_31 : decode cX3_advance 31 = .ok (.iconst 1, 1) := dk_4 (dk_at dksX3_advance_1 8 rfl rfl)
theorem dX3_advance_32 : decode cX3_advance 32 = .ok (.iadd, 1) := dk_96 (dk_at dksX3_advance_1 9 rfl rfl)
theorem dX3_advance_33 : decode cX3_advance 33 = .ok (.putfield 119, 3) := dk_181 0 119 (dk_at dksX3_advance_1 10 rfl rfl)
theorem dX3_advance_36 : decode cX3_advance 36 = .ok (.goto (-36), 3) := dk_167 255 220 (dk_at dksX3_advance_1 13 rfl rfl)
theorem dX3_advance_39 : decode cX3_advance 39 = .ok (.aload_n 0, 1) := dk_42 (dk_at dksX3_advance_1 16 rfl rfl)
theorem dX3_advance_40 : decode cX3_advance 40 = .ok (.aload_n 0, 1) := dk_42 (dk_at dksX3_advance_1 17 rfl rfl)
theorem dX3_advance_41 : decode cX3_advance 41 = .ok (.getfield 119, 3) := dk_180 0 119 (dk_at dksX3_advance_1 18 rfl rfl)
theorem dX3_advance_44 : decode cX3_advance 44 = .ok (.putfield 125, 3) := dk_181 0 125 (dk_at dksX3_advance_1 21 rfl rfl)
theorem dX3_advance_47 : decode cX3_advance 47 = .ok (.aload_n 0, 1) := dk_42 (dk_at dksX3_advance_2 0 rfl rfl)
theorem dX3_advance_48 : decode cX3_advance 48 = .ok (.aload_n 0, 1) := dk_42 (dk_at dksX3_advance_2 1 rfl rfl)
theorem dX3_advance_49 : decode cX3_advance 49 = .ok (.getfield 119, 3) := dk_180 0 119 (dk_at dksX3_advance_2 2 rfl rfl)
theorem dX3_advance_52 : decode cX3_advance 52 = .ok (.invokevirtual 122, 3) := dk_182 0 122 (dk_at dksX3_advance_2 5 rfl rfl)
theorem dX3_advance_55 : decode cX3_advance 55 = .ok (.istore_n 1, 1) := dk_60 (dk_at dksX3_advance_2 8 rfl rfl)
theorem dX3_advance_56 : decode cX3_advance 56 = .ok (.iload_n 1, 1) := dk_27 (dk_at dksX3_advance_2 9 rfl rfl)
theorem dX3_advance_57 : decode cX3_advance 57 = .ok (.iconst (-1), 1) := dk_2 (dk_at dksX3_advance_2 10 rfl rfl)
theorem dX3_advance_58 : decode cX3_advance 58 = .ok (.if_icmp .ne 11, 3) := dk_160 0 11 (dk_at dksX3_advance_2 11 rfl rfl)
theorem dX3_advance_61 : decode cX3_advance 61 = .ok (.aload_n 0, 1) := dk_42 (dk_at dksX3_advance_2 14 rfl rfl)
theorem dX3_advance_62 : decode cX3_advance 62 = .ok (.iconst 0, 1) := dk_3 (dk_at dksX3_advance_2 15 rfl rfl)
theorem dX3_advance_63 : decode cX3_advance 63 = .ok (.putfield 128, 3) := dk_181 0 128 (dk_at dksX3_advance_2 16 rfl rfl)
theorem dX3_advance_66 : decode cX3_advance 66 = .ok (.goto 221, 3) := dk_167 0 221 (dk_at dksX3_advance_2 19 rfl rfl)
theorem dX3_advance_69 : decode cX3_advance 69 = .ok (.iload_n 1, 1) := dk_27 (dk_at dksX3_advance_2 22 rfl rfl)
theorem dX3_advance_70 : decode cX3_advance 70 = .ok (.bipush 97, 2) := dk_16 97 (dk_at dksX3_advance_3 0 rfl rfl)
theorem dX3_advance_72 : decode cX3_advance 72 = .ok (.bipush 122, 2) := dk_16 122 (dk_at dksX3_advance_3 2 rfl rfl)
theorem dX3_advance_74 : decode cX3_advance 74 = .ok (.invokestatic 50, 3) := dk_184 0 50 (dk_at dksX3_advance_3 4 rfl rfl)
theorem dX3_advance_77 : decode cX3_advance 77 = .ok (.ifCond .eq 60, 3) := dk_153 0 60 (dk_at dksX3_advance_3 7 rfl rfl)
theorem dX3_advance_80 : decode cX3_advance 80 = .ok (.aload_n 0, 1) := dk_42 (dk_at dksX3_advance_3 10 rfl rfl)
theorem dX3_advance_81 : decode cX3_advance 81 = .ok (.aload_n 0, 1) := dk_42 (dk_at dksX3_advance_3 11 rfl rfl)
theorem dX3_advance_82 : decode cX3_advance 82 = .ok (.getfield 119, 3) := dk_180 0 119 (dk_at dksX3_advance_3 12 rfl rfl)
theorem dX3_advance_85 : decode cX3_advance 85 = .ok (.invokevirtual 122, 3) := dk_182 0 122 (dk_at dksX3_advance_3 15 rfl rfl)
theorem dX3_advance_88 : decode cX3_advance 88 = .ok (.bipush 97, 2) := dk_16 97 (dk_at dksX3_advance_3 18 rfl rfl)
theorem dX3_advance_90 : decode cX3_advance 90 = .ok (.bipush 122, 2) := dk_16 122 (dk_at dksX3_advance_3 20 rfl rfl)
theorem dX3_advance_92 : decode cX3_advance 92 = .ok (.invokestatic 50, 3) := dk_184 0 50 (dk_at dksX3_advance_4 0 rfl rfl)
theorem dX3_advance_95 : decode cX3_advance 95 = .ok (.ifCond .eq 16, 3) := dk_153 0 16 (dk_at dksX3_advance_4 3 rfl rfl)
theorem dX3_advance_98 : decode cX3_advance 98 = .ok (.aload_n 0, 1) := dk_42 (dk_at dksX3_advance_4 6 rfl rfl)
theorem dX3_advance_99 : decode cX3_advance 99 = .ok (.dup, 1) := dk_89 (dk_at dksX3_advance_4 7 rfl rfl)
theorem dX3_advance_100 : decode cX3_advance 100 = .ok (.getfield 119, 3) := dk_180 0 119 (dk_at dksX3_advance_4 8 rfl rfl)
theorem dX3_advance_103 : decode cX3_advance 103 = .ok (.iconst 1, 1) := dk_4 (dk_at dksX3_advance_4 11 rfl rfl)
theorem dX3_advance_104 : decode cX3_advance 104 = .ok (.iadd, 1) := dk_96 (dk_at dksX3_advance_4 12 rfl rfl)
theorem dX3_advance_105 : decode cX3_advance 105 = .ok (.putfield 119, 3) := dk_181 0 119 (dk_at dksX3_advance_4 13 rfl rfl)
theorem dX3_advance_108 : decode cX3_advance 108 = .ok (.goto (-28), 3) := dk_167 255 228 (dk_at dksX3_advance_4 16 rfl rfl)
theorem dX3_advance_111 : decode cX3_advance 111 = .ok (.aload_n 0, 1) := dk_42 (dk_at dksX3_advance_4 19 rfl rfl)
theorem dX3_advance_112 : decode cX3_advance 112 = .ok (.aload_n 0, 1) := dk_42 (dk_at dksX3_advance_4 20 rfl rfl)
theorem dX3_advance_113 : decode cX3_advance 113 = .ok (.getfield 119, 3) := dk_180 0 119 (dk_at dksX3_advance_4 21 rfl rfl)
theorem dX3_advance_116 : decode cX3_advance 116 = .ok (.aload_n 0, 1) := dk_42 (dk_at dksX3_advance_5 0 rfl rfl)
theorem dX3_advance_117 : decode cX3_advance 117 = .ok (.getfield 125, 3) := dk_180 0 125 (dk_at dksX3_advance_5 1 rfl rfl)
theorem dX3_advance_120 : decode cX3_advance 120 = .ok (.isub, 1) := dk_100 (dk_at dksX3_advance_5 4 rfl rfl)
theorem dX3_advance_121 : decode cX3_advance 121 = .ok (.bipush 6, 2) := dk_16 6 (dk_at dksX3_advance_5 5 rfl rfl)
theorem dX3_advance_123 : decode cX3_advance 123 = .ok (.if_icmp .le 7, 3) := dk_164 0 7 (dk_at dksX3_advance_5 7 rfl rfl)
theorem dX3_advance_126 : decode cX3_advance 126 = .ok (.iconst 1, 1) := dk_4 (dk_at dksX3_advance_5 10 rfl rfl)
theorem dX3_advance_127 : decode cX3_advance 127 = .ok (.goto 4, 3) := dk_167 0 4 (dk_at dksX3_advance_5 11 rfl rfl)
theorem dX3_advance_130 : decode cX3_advance 130 = .ok (.iconst 2, 1) := dk_5 (dk_at dksX3_advance_5 14 rfl rfl)
theorem dX3_advance_131 : decode cX3_advance 131 = .ok (.putfield 128, 3) := dk_181 0 128 (dk_at dksX3_advance_5 15 rfl rfl)
theorem dX3_advance_134 : decode cX3_advance 134 = .ok (.goto 153, 3) := dk_167 0 153 (dk_at dksX3_advance_5 18 rfl rfl)
theorem dX3_advance_137 : decode cX3_advance 137 = .ok (.iload_n 1, 1) := dk_27 (dk_at dksX3_advance_5 21 rfl rfl)
theorem dX3_advance_138 : decode cX3_advance 138 = .ok (.bipush 48, 2) := dk_16 48 (dk_at dksX3_advance_5 22 rfl rfl)
theorem dX3_advance_140 : decode cX3_advance 140 = .ok (.bipush 57, 2) := dk_16 57 (dk_at dksX3_advance_6 0 rfl rfl)
theorem dX3_advance_142 : decode cX3_advance 142 = .ok (.invokestatic 50, 3) := dk_184 0 50 (dk_at dksX3_advance_6 2 rfl rfl)
theorem dX3_advance_145 : decode cX3_advance 145 = .ok (.ifCond .eq 107, 3) := dk_153 0 107 (dk_at dksX3_advance_6 5 rfl rfl)
theorem dX3_advance_148 : decode cX3_advance 148 = .ok (.aload_n 0, 1) := dk_42 (dk_at dksX3_advance_6 8 rfl rfl)
theorem dX3_advance_149 : decode cX3_advance 149 = .ok (.iconst 0, 1) := dk_3 (dk_at dksX3_advance_6 9 rfl rfl)
theorem dX3_advance_150 : decode cX3_advance 150 = .ok (.putfield 131, 3) := dk_181 0 131 (dk_at dksX3_advance_6 10 rfl rfl)
theorem dX3_advance_153 : decode cX3_advance 153 = .ok (.aload_n 0, 1) := dk_42 (dk_at dksX3_advance_6 13 rfl rfl)
theorem dX3_advance_154 : decode cX3_advance 154 = .ok (.aload_n 0, 1) := dk_42 (dk_at dksX3_advance_6 14 rfl rfl)
theorem dX3_advance_155 : decode cX3_advance 155 = .ok (.getfield 119, 3) := dk_180 0 119 (dk_at dksX3_advance_6 15 rfl rfl)
theorem dX3_advance_158 : decode cX3_advance 158 = .ok (.invokevirtual 122, 3) := dk_182 0 122 (dk_at dksX3_advance_6 18 rfl rfl)
theorem dX3_advance_161 : decode cX3_advance 161 = .ok (.bipush 48, 2) := dk_16 48 (dk_at dksX3_advance_6 21 rfl rfl)
theorem dX3_advance_163 : decode cX3_advance 163 = .ok (.bipush 57, 2) := dk_16 57 (dk_at dksX3_advance_7 0 rfl rfl)
theorem dX3_advance_165 : decode cX3_advance 165 = .ok (.invokestatic 50, 3) := dk_184 0 50 (dk_at dksX3_advance_7 2 rfl rfl)
theorem dX3_advance_168 : decode cX3_advance 168 = .ok (.ifCond .eq 59, 3) := dk_153 0 59 (dk_at dksX3_advance_7 5 rfl rfl)
theorem dX3_advance_171 : decode cX3_advance 171 = .ok (.aload_n 0, 1) := dk_42 (dk_at dksX3_advance_7 8 rfl rfl)
theorem dX3_advance_172 : decode cX3_advance 172 = .ok (.aload_n 0, 1) := dk_42 (dk_at dksX3_advance_7 9 rfl rfl)
theorem dX3_advance_173 : decode cX3_advance 173 = .ok (.getfield 119, 3) := dk_180 0 119 (dk_at dksX3_advance_7 10 rfl rfl)
theorem dX3_advance_176 : decode cX3_advance 176 = .ok (.aload_n 0, 1) := dk_42 (dk_at dksX3_advance_7 13 rfl rfl)
theorem dX3_advance_177 : decode cX3_advance 177 = .ok (.getfield 125, 3) := dk_180 0 125 (dk_at dksX3_advance_7 14 rfl rfl)
theorem dX3_advance_180 : decode cX3_advance 180 = .ok (.isub, 1) := dk_100 (dk_at dksX3_advance_7 17 rfl rfl)
theorem dX3_advance_181 : decode cX3_advance 181 = .ok (.iconst 4, 1) := dk_7 (dk_at dksX3_advance_7 18 rfl rfl)
theorem dX3_advance_182 : decode cX3_advance 182 = .ok (.if_icmp .ge 25, 3) := dk_162 0 25 (dk_at dksX3_advance_7 19 rfl rfl)
theorem dX3_advance_185 : decode cX3_advance 185 = .ok (.bipush 10, 2) := dk_16 10 (dk_at dksX3_advance_7 22 rfl rfl)
theorem dX3_advance_187 : decode cX3_advance 187 = .ok (.aload_n 0, 1) := dk_42 (dk_at dksX3_advance_8 0 rfl rfl)
theorem dX3_advance_188 : decode cX3_advance 188 = .ok (.getfield 131, 3) := dk_180 0 131 (dk_at dksX3_advance_8 1 rfl rfl)
theorem dX3_advance_191 : decode cX3_advance 191 = .ok (.imul, 1) := dk_104 (dk_at dksX3_advance_8 4 rfl rfl)
theorem dX3_advance_192 : decode cX3_advance 192 = .ok (.aload_n 0, 1) := dk_42 (dk_at dksX3_advance_8 5 rfl rfl)
theorem dX3_advance_193 : decode cX3_advance 193 = .ok (.aload_n 0, 1) := dk_42 (dk_at dksX3_advance_8 6 rfl rfl)
theorem dX3_advance_194 : decode cX3_advance 194 = .ok (.getfield 119, 3) := dk_180 0 119 (dk_at dksX3_advance_8 7 rfl rfl)
theorem dX3_advance_197 : decode cX3_advance 197 = .ok (.invokevirtual 122, 3) := dk_182 0 122 (dk_at dksX3_advance_8 10 rfl rfl)
theorem dX3_advance_200 : decode cX3_advance 200 = .ok (.iadd, 1) := dk_96 (dk_at dksX3_advance_8 13 rfl rfl)
theorem dX3_advance_201 : decode cX3_advance 201 = .ok (.bipush 48, 2) := dk_16 48 (dk_at dksX3_advance_8 14 rfl rfl)
theorem dX3_advance_203 : decode cX3_advance 203 = .ok (.isub, 1) := dk_100 (dk_at dksX3_advance_8 16 rfl rfl)
theorem dX3_advance_204 : decode cX3_advance 204 = .ok (.goto 7, 3) := dk_167 0 7 (dk_at dksX3_advance_8 17 rfl rfl)
theorem dX3_advance_207 : decode cX3_advance 207 = .ok (.aload_n 0, 1) := dk_42 (dk_at dksX3_advance_8 20 rfl rfl)
theorem dX3_advance_208 : decode cX3_advance 208 = .ok (.getfield 131, 3) := dk_180 0 131 (dk_at dksX3_advance_8 21 rfl rfl)
theorem dX3_advance_211 : decode cX3_advance 211 = .ok (.putfield 131, 3) := dk_181 0 131 (dk_at dksX3_advance_9 0 rfl rfl)
theorem dX3_advance_214 : decode cX3_advance 214 = .ok (.aload_n 0, 1) := dk_42 (dk_at dksX3_advance_9 3 rfl rfl)
theorem dX3_advance_215 : decode cX3_advance 215 = .ok (.dup, 1) := dk_89 (dk_at dksX3_advance_9 4 rfl rfl)
theorem dX3_advance_216 : decode cX3_advance 216 = .ok (.getfield 119, 3) := dk_180 0 119 (dk_at dksX3_advance_9 5 rfl rfl)
theorem dX3_advance_219 : decode cX3_advance 219 = .ok (.iconst 1, 1) := dk_4 (dk_at dksX3_advance_9 8 rfl rfl)
theorem dX3_advance_220 : decode cX3_advance 220 = .ok (.iadd, 1) := dk_96 (dk_at dksX3_advance_9 9 rfl rfl)
theorem dX3_advance_221 : decode cX3_advance 221 = .ok (.putfield 119, 3) := dk_181 0 119 (dk_at dksX3_advance_9 10 rfl rfl)
theorem dX3_advance_224 : decode cX3_advance 224 = .ok (.goto (-71), 3) := dk_167 255 185 (dk_at dksX3_advance_9 13 rfl rfl)
theorem dX3_advance_227 : decode cX3_advance 227 = .ok (.aload_n 0, 1) := dk_42 (dk_at dksX3_advance_9 16 rfl rfl)
theorem dX3_advance_228 : decode cX3_advance 228 = .ok (.aload_n 0, 1) := dk_42 (dk_at dksX3_advance_9 17 rfl rfl)
theorem dX3_advance_229 : decode cX3_advance 229 = .ok (.getfield 119, 3) := dk_180 0 119 (dk_at dksX3_advance_9 18 rfl rfl)
theorem dX3_advance_232 : decode cX3_advance 232 = .ok (.aload_n 0, 1) := dk_42 (dk_at dksX3_advance_9 21 rfl rfl)
theorem dX3_advance_233 : decode cX3_advance 233 = .ok (.getfield 125, 3) := dk_180 0 125 (dk_at dksX3_advance_10 0 rfl rfl)
theorem dX3_advance_236 : decode cX3_advance 236 = .ok (.isub, 1) := dk_100 (dk_at dksX3_advance_10 3 rfl rfl)
theorem dX3_advance_237 : decode cX3_advance 237 = .ok (.iconst 4, 1) := dk_7 (dk_at dksX3_advance_10 4 rfl rfl)
theorem dX3_advance_238 : decode cX3_advance 238 = .ok (.if_icmp .le 7, 3) := dk_164 0 7 (dk_at dksX3_advance_10 5 rfl rfl)
theorem dX3_advance_241 : decode cX3_advance 241 = .ok (.iconst 1, 1) := dk_4 (dk_at dksX3_advance_10 8 rfl rfl)
theorem dX3_advance_242 : decode cX3_advance 242 = .ok (.goto 4, 3) := dk_167 0 4 (dk_at dksX3_advance_10 9 rfl rfl)
theorem dX3_advance_245 : decode cX3_advance 245 = .ok (.iconst 3, 1) := dk_6 (dk_at dksX3_advance_10 12 rfl rfl)
theorem dX3_advance_246 : decode cX3_advance 246 = .ok (.putfield 128, 3) := dk_181 0 128 (dk_at dksX3_advance_10 13 rfl rfl)
theorem dX3_advance_249 : decode cX3_advance 249 = .ok (.goto 38, 3) := dk_167 0 38 (dk_at dksX3_advance_10 16 rfl rfl)
theorem dX3_advance_252 : decode cX3_advance 252 = .ok (.aload_n 0, 1) := dk_42 (dk_at dksX3_advance_10 19 rfl rfl)
theorem dX3_advance_253 : decode cX3_advance 253 = .ok (.dup, 1) := dk_89 (dk_at dksX3_advance_10 20 rfl rfl)
theorem dX3_advance_254 : decode cX3_advance 254 = .ok (.getfield 119, 3) := dk_180 0 119 (dk_at dksX3_advance_10 21 rfl rfl)
theorem dX3_advance_257 : decode cX3_advance 257 = .ok (.iconst 1, 1) := dk_4 (dk_at dksX3_advance_11 0 rfl rfl)
theorem dX3_advance_258 : decode cX3_advance 258 = .ok (.iadd, 1) := dk_96 (dk_at dksX3_advance_11 1 rfl rfl)
theorem dX3_advance_259 : decode cX3_advance 259 = .ok (.putfield 119, 3) := dk_181 0 119 (dk_at dksX3_advance_11 2 rfl rfl)
theorem dX3_advance_262 : decode cX3_advance 262 = .ok (.aload_n 0, 1) := dk_42 (dk_at dksX3_advance_11 5 rfl rfl)
theorem dX3_advance_263 : decode cX3_advance 263 = .ok (.iload_n 1, 1) := dk_27 (dk_at dksX3_advance_11 6 rfl rfl)
theorem dX3_advance_264 : decode cX3_advance 264 = .ok (.bipush 59, 2) := dk_16 59 (dk_at dksX3_advance_11 7 rfl rfl)
theorem dX3_advance_266 : decode cX3_advance 266 = .ok (.if_icmp .ne 7, 3) := dk_160 0 7 (dk_at dksX3_advance_11 9 rfl rfl)
theorem dX3_advance_269 : decode cX3_advance 269 = .ok (.iconst 4, 1) := dk_7 (dk_at dksX3_advance_11 12 rfl rfl)
theorem dX3_advance_270 : decode cX3_advance 270 = .ok (.goto 14, 3) := dk_167 0 14 (dk_at dksX3_advance_11 13 rfl rfl)
theorem dX3_advance_273 : decode cX3_advance 273 = .ok (.iload_n 1, 1) := dk_27 (dk_at dksX3_advance_11 16 rfl rfl)
theorem dX3_advance_274 : decode cX3_advance 274 = .ok (.bipush 45, 2) := dk_16 45 (dk_at dksX3_advance_11 17 rfl rfl)
theorem dX3_advance_276 : decode cX3_advance 276 = .ok (.if_icmp .ne 7, 3) := dk_160 0 7 (dk_at dksX3_advance_11 19 rfl rfl)
theorem dX3_advance_279 : decode cX3_advance 279 = .ok (.iconst 5, 1) := dk_8 (dk_at dksX3_advance_11 22 rfl rfl)
theorem dX3_advance_280 : decode cX3_advance 280 = .ok (.goto 4, 3) := dk_167 0 4 (dk_at dksX3_advance_12 0 rfl rfl)
theorem dX3_advance_283 : decode cX3_advance 283 = .ok (.iconst 1, 1) := dk_4 (dk_at dksX3_advance_12 3 rfl rfl)
theorem dX3_advance_284 : decode cX3_advance 284 = .ok (.putfield 128, 3) := dk_181 0 128 (dk_at dksX3_advance_12 4 rfl rfl)
theorem dX3_advance_287 : decode cX3_advance 287 = .ok (.iconst 1, 1) := dk_4 (dk_at dksX3_advance_12 7 rfl rfl)
theorem dX3_advance_288 : decode cX3_advance 288 = .ok (.ireturn, 1) := dk_172 (dk_at dksX3_advance_12 8 rfl rfl)
abbrev cX3_byteAt : ByteArray := prog_11_method_31_code
def yX3_byteAt : MethodName := ⟨RX3, "byteAt", "(I)I"⟩
def dkwX3_byteAt_0 : List UInt8 := [27, 42, 180, 0, 109, 162, 0, 12, 42, 180, 0, 22, 27, 46, 167, 0, 4, 2, 172]
abbrev dktX3_byteAt_0 : List UInt8 := dkwX3_byteAt_0 ++ []
theorem dksX3_byteAt_0 : cX3_byteAt.data.toList.drop 0 = dktX3_byteAt_0 := by decide +kernel
theorem dX3_byteAt_0 : decode cX3_byteAt 0 = .ok (.iload_n 1, 1) := dk_27 (dk_at dksX3_byteAt_0 0 rfl rfl)
theorem dX3_byteAt_1 : decode cX3_byteAt 1 = .ok (.aload_n 0, 1) := dk_42 (dk_at dksX3_byteAt_0 1 rfl rfl)
theorem dX3_byteAt_2 : decode cX3_byteAt 2 = .ok (.getfield 109, 3) := dk_180 0 109 (dk_at dksX3_byteAt_0 2 rfl rfl)
theorem dX3_byteAt_5 : decode cX3_byteAt 5 = .ok (.if_icmp .ge 12, 3) := dk_162 0 12 (dk_at dksX3_byteAt_0 5 rfl rfl)
theorem dX3_byteAt_8 : decode cX3_byteAt 8 = .ok (.aload_n 0, 1) := dk_42 (dk_at dksX3_byteAt_0 8 rfl rfl)
theorem dX3_byteAt_9 : decode cX3_byteAt 9 = .ok (.getfield 22, 3) := dk_180 0 22 (dk_at dksX3_byteAt_0 9 rfl rfl)
theorem dX3_byteAt_12 : decode cX3_byteAt 12 = .ok (.iload_n 1, 1) := dk_27 (dk_at dksX3_byteAt_0 12 rfl rfl)
theorem dX3_byteAt_13 : decode cX3_byteAt 13 = .ok (.iaload, 1) := dk_46 (dk_at dksX3_byteAt_0 13 rfl rfl)
theorem dX3_byteAt_14 : decode cX3_byteAt 14 = .ok (.goto 4, 3) := dk_167 0 4 (dk_at dksX3_byteAt_0 14 rfl rfl)
theorem dX3_byteAt_17 : decode cX3_byteAt 17 = .ok (.iconst (-1), 1) := dk_2 (dk_at dksX3_byteAt_0 17 rfl rfl)
theorem dX3_byteAt_18 : decode cX3_byteAt 18 = .ok (.ireturn, 1) := dk_172 (dk_at dksX3_byteAt_0 18 rfl rfl)
abbrev cX3_statement : ByteArray := prog_11_method_39_code
def yX3_statement : MethodName := ⟨RX3, "statement", "()Z"⟩
def dkwX3_statement_7 : List UInt8 := [46, 4, 96, 79, 42, 182, 0, 141, 172]
abbrev dktX3_statement_7 : List UInt8 := dkwX3_statement_7 ++ []
def dkwX3_statement_6 : List UInt8 := [42, 180, 0, 7, 42, 180, 0, 7, 3, 46, 184, 0, 58, 16, 7, 96, 27, 79, 42, 180, 0, 7, 3, 92]
abbrev dktX3_statement_6 : List UInt8 := dkwX3_statement_6 ++ dktX3_statement_7
def dkwX3_statement_5 : List UInt8 := [154, 0, 5, 3, 172, 132, 1, 1, 167, 255, 230, 27, 184, 0, 160, 154, 0, 9, 42, 5, 182, 0, 145, 172]
abbrev dktX3_statement_5 : List UInt8 := dkwX3_statement_5 ++ dktX3_statement_6
def dkwX3_statement_4 : List UInt8 := [182, 0, 141, 87, 3, 60, 27, 5, 161, 0, 11, 42, 180, 0, 128, 7, 159, 0, 19, 42, 27, 182, 0, 157]
abbrev dktX3_statement_4 : List UInt8 := dkwX3_statement_4 ++ dktX3_statement_5
def dkwX3_statement_3 : List UInt8 := [182, 0, 145, 172, 42, 42, 180, 0, 125, 42, 180, 0, 119, 42, 180, 0, 125, 100, 182, 0, 154, 42]
abbrev dktX3_statement_3 : List UInt8 := dkwX3_statement_3 ++ dktX3_statement_4
def dkwX3_statement_2 : List UInt8 := [172, 42, 42, 180, 0, 125, 42, 180, 0, 119, 42, 180, 0, 125, 100, 182, 0, 151, 2, 159, 0, 9, 42, 6]
abbrev dktX3_statement_2 : List UInt8 := dkwX3_statement_2 ++ dktX3_statement_3
def dkwX3_statement_1 : List UInt8 := [42, 7, 182, 0, 145, 172, 42, 182, 0, 141, 87, 42, 180, 0, 128, 5, 159, 0, 9, 42, 4, 182, 0, 145]
abbrev dktX3_statement_1 : List UInt8 := dkwX3_statement_1 ++ dktX3_statement_2
def dkwX3_statement_0 : List UInt8 := [42, 182, 0, 148, 154, 0, 9, 42, 4, 182, 0, 145, 172, 42, 180, 0, 7, 3, 46, 16, 6, 160, 0, 9]
abbrev dktX3_statement_0 : List UInt8 := dkwX3_statement_0 ++ dktX3_statement_1
theorem dksX3_statement_0 : cX3_statement.data.toList.drop 0 = dktX3_statement_0 := by decide +kernel
theorem dksX3_statement_1 : cX3_statement.data.toList.drop 24 = dktX3_statement_1 := dk_seg dksX3_statement_0 24 rfl rfl
theorem dksX3_statement_2 : cX3_statement.data.toList.drop 48 = dktX3_statement_2 := dk_seg dksX3_statement_1 24 rfl rfl
theorem dksX3_statement_3 : cX3_statement.data.toList.drop 72 = dktX3_statement_3 := dk_seg dksX3_statement_2 24 rfl rfl
theorem dksX3_statement_4 : cX3_statement.data.toList.drop 94 = dktX3_statement_4 := dk_seg dksX3_statement_3 22 rfl rfl
theorem dksX3_statement_5 : cX3_statement.data.toList.drop 118 = dktX3_statement_5 := dk_seg dksX3_statement_4 24 rfl rfl
theorem dksX3_statement_6 : cX3_statement.data.toList.drop 142 = dktX3_statement_6 := dk_seg dksX3_statement_5 24 rfl rfl
theorem dksX3_statement_7 : cX3_statement.data.toList.drop 166 = dktX3_statement_7 := dk_seg dksX3_statement_6 24 rfl rfl
theorem dX3_statement_0 : decode cX3_statement 0 = .ok (.aload_n 0, 1) := dk_42 (dk_at dksX3_statement_0 0 rfl rfl)
theorem dX3_statement_1 : decode cX3_statement 1 = .ok (.invokevirtual 148, 3) := dk_182 0 148 (dk_at dksX3_statement_0 1 rfl rfl)
theorem dX3_statement_4 : decode cX3_statement 4 = .ok (.ifCond .ne 9, 3) := dk_154 0 9 (dk_at dksX3_statement_0 4 rfl rfl)
theorem dX3_statement_7 : decode cX3_statement 7 = .ok (.aload_n 0, 1) := dk_42 (dk_at dksX3_statement_0 7 rfl rfl)
theorem dX3_statement_8 : decode cX3_statement 8 = .ok (.iconst 1, 1) := dk_4 (dk_at dksX3_statement_0 8 rfl rfl)
theorem dX3_statement_9 : decode cX3_statement 9 = .ok (.invokevirtual 145, 3) := dk_182 0 145 (dk_at dksX3_statement_0 9 rfl rfl)
theorem dX3_statement_12 : decode cX3_statement 12 = .ok (.ireturn, 1) := dk_172 (dk_at dksX3_statement_0 12 rfl rfl)
theorem dX3_statement_13 : decode cX3_statement 13 = .ok (.aload_n 0, 1) := dk_42 (dk_at dksX3_statement_0 13 rfl rfl)
theorem dX3_statement_14 : decode cX3_statement 14 = .ok (.getfield 7, 3) := dk_180 0 7 (dk_at dksX3_statement_0 14 rfl rfl)
theorem dX3_statement_17 : decode cX3_statement 17 = .ok (.iconst 0, 1) := dk_3 (dk_at dksX3_statement_0 17 rfl rfl)
theorem dX3_statement_18 : decode cX3_statement 18 = .ok (.iaload, 1) := dk_46 (dk_at dksX3_statement_0 18 rfl rfl)
theorem dX3_statement_19 : decode cX3_statement 19 = .ok (.bipush 6, 2) := dk_16 6 (dk_at dksX3_statement_0 19 rfl rfl)
theorem dX3_statement_21 : decode cX3_statement 21 = .ok (.if_icmp .ne 9, 3) := dk_160 0 9 (dk_at dksX3_statement_0 21 rfl rfl)
theorem dX3_statement_24 : decode cX3_statement 24 = .ok (.aload_n 0, 1) := dk_42 (dk_at dksX3_statement_1 0 rfl rfl)
theorem dX3_statement_25 : decode cX3_statement 25 = .ok (.iconst 4, 1) := dk_7 (dk_at dksX3_statement_1 1 rfl rfl)
theorem dX3_statement_26 : decode cX3_statement 26 = .ok (.invokevirtual 145, 3) := dk_182 0 145 (dk_at dksX3_statement_1 2 rfl rfl)
theorem dX3_statement_29 : decode cX3_statement 29 = .ok (.ireturn, 1) := dk_172 (dk_at dksX3_statement_1 5 rfl rfl)
theorem dX3_statement_30 : decode cX3_statement 30 = .ok (.aload_n 0, 1) := dk_42 (dk_at dksX3_statement_1 6 rfl rfl)
theorem dX3_statement_31 : decode cX3_statement 31 = .ok (.invokevirtual 141, 3) := dk_182 0 141 (dk_at dksX3_statement_1 7 rfl rfl)
theorem dX3_statement_34 : decode cX3_statement 34 = .ok (.pop, 1) := dk_87 (dk_at dksX3_statement_1 10 rfl rfl)
theorem dX3_statement_35 : decode cX3_statement 35 = .ok (.aload_n 0, 1) := dk_42 (dk_at dksX3_statement_1 11 rfl rfl)
theorem dX3_statement_36 : decode cX3_statement 36 = .ok (.getfield 128, 3) := dk_180 0 128 (dk_at dksX3_statement_1 12 rfl rfl)
theorem dX3_statement_39 : decode cX3_statement 39 = .ok (.iconst 2, 1) := dk_5 (dk_at dksX3_statement_1 15 rfl rfl)
theorem dX3_statement_40 : decode cX3_statement 40 = .ok (.if_icmp .eq 9, 3) := dk_159 0 9 (dk_at dksX3_statement_1 16 rfl rfl)
theorem dX3_statement_43 : decode cX3_statement 43 = .ok (.aload_n 0, 1) := dk_42 (dk_at dksX3_statement_1 19 rfl rfl)
theorem dX3_statement_44 : decode cX3_statement 44 = .ok (.iconst 1, 1) := dk_4 (dk_at dksX3_statement_1 20 rfl rfl)
theorem dX3_statement_45 : decode cX3_statement 45 = .ok (.invokevirtual 145, 3) := dk_182 0 145 (dk_at dksX3_statement_1 21 rfl rfl)
theorem dX3_statement_48 : decode cX3_statement 48 = .ok (.ireturn, 1) := dk_172 (dk_at dksX3_statement_2 0 rfl rfl)
theorem dX3_statement_49 : decode cX3_statement 49 = .ok (.aload_n 0, 1) := dk_42 (dk_at dksX3_statement_2 1 rfl rfl)
theorem dX3_statement_50 : decode cX3_statement 50 = .ok (.aload_n 0, 1) := dk_42 (dk_at dksX3_statement_2 2 rfl rfl)
theorem dX3_statement_51 : decode cX3_statement 51 = .ok (.getfield 125, 3) := dk_180 0 125 (dk_at dksX3_statement_2 3 rfl rfl)
theorem dX3_statement_54 : decode cX3_statement 54 = .ok (.aload_n 0, 1) := dk_42 (dk_at dksX3_statement_2 6 rfl rfl)
theorem dX3_statement_55 : decode cX3_statement 55 = .ok (.getfield 119, 3) := dk_180 0 119 (dk_at dksX3_statement_2 7 rfl rfl)
theorem dX3_statement_58 : decode cX3_statement 58 = .ok (.aload_n 0, 1) := dk_42 (dk_at dksX3_statement_2 10 rfl rfl)
theorem dX3_statement_59 : decode cX3_statement 59 = .ok (.getfield 125, 3) := dk_180 0 125 (dk_at dksX3_statement_2 11 rfl rfl)
theorem dX3_statement_62 : decode cX3_statement 62 = .ok (.isub, 1) := dk_100 (dk_at dksX3_statement_2 14 rfl rfl)
theorem dX3_statement_63 : decode cX3_statement 63 = .ok (.invokevirtual 151, 3) := dk_182 0 151 (dk_at dksX3_statement_2 15 rfl rfl)
theorem dX3_statement_66 : decode cX3_statement 66 = .ok (.iconst (-1), 1) := dk_2 (dk_at dksX3_statement_2 18 rfl rfl)
theorem dX3_statement_67 : decode cX3_statement 67 = .ok (.if_icmp .eq 9, 3) := dk_159 0 9 (dk_at dksX3_statement_2 19 rfl rfl)
theorem dX3_statement_70 : decode cX3_statement 70 = .ok (.aload_n 0, 1) := dk_42 (dk_at dksX3_statement_2 22 rfl rfl)
theorem dX3_statement_71 : decode cX3_statement 71 = .ok (.iconst 3, 1) := dk_6 (dk_at dksX3_statement_2 23 rfl rfl)
theorem dX3_statement_72 : decode cX3_statement 72 = .ok (.invokevirtual 145, 3) := dk_182 0 145 (dk_at dksX3_statement_3 0 rfl rfl)
theorem dX3_statement_75 : decode cX3_statement 75 = .ok (.ireturn, 1) := dk_172 (dk_at dksX3_statement_3 3 rfl rfl)
theorem dX3_statement_76 : decode cX3_statement 76 = .ok (.aload_n 0, 1) := dk_42 (dk_at dksX3_statement_3 4 rfl rfl)
theorem dX3_statement_77 : decode cX3_statement 77 = .ok (.aload_n 0, 1) := dk_42 (dk_at dksX3_statement_3 5 rfl rfl)
theorem dX3_statement_78 : decode cX3_statement 78 = .ok (.getfield 125, 3) := dk_180 0 125 (dk_at dksX3_statement_3 6 rfl rfl)
theorem dX3_statement_81 : decode cX3_statement 81 = .ok (.aload_n 0, 1) := dk_42 (dk_at dksX3_statement_3 9 rfl rfl)
theorem dX3_statement_82 : decode cX3_statement 82 = .ok (.getfield 119, 3) := dk_180 0 119 (dk_at dksX3_statement_3 10 rfl rfl)
theorem dX3_statement_85 : decode cX3_statement 85 = .ok (.aload_n 0, 1) := dk_42 (dk_at dksX3_statement_3 13 rfl rfl)
theorem dX3_statement_86 : decode cX3_statement 86 = .ok (.getfield 125, 3) := dk_180 0 125 (dk_at dksX3_statement_3 14 rfl rfl)
theorem dX3_statement_89 : decode cX3_statement 89 = .ok (.isub, 1) := dk_100 (dk_at dksX3_statement_3 17 rfl rfl)
theorem dX3_statement_90 : decode cX3_statement 90 = .ok (.invokevirtual 154, 3) := dk_182 0 154 (dk_at dksX3_statement_3 18 rfl rfl)
theorem dX3_statement_93 : decode cX3_statement 93 = .ok (.aload_n 0, 1) := dk_42 (dk_at dksX3_statement_3 21 rfl rfl)
theorem dX3_statement_94 : decode cX3_statement 94 = .ok (.invokevirtual 141, 3) := dk_182 0 141 (dk_at dksX3_statement_4 0 rfl rfl)
theorem dX3_statement_97 : decode cX3_statement 97 = .ok (.pop, 1) := dk_87 (dk_at dksX3_statement_4 3 rfl rfl)
theorem dX3_statement_98 : decode cX3_statement 98 = .ok (.iconst 0, 1) := dk_3 (dk_at dksX3_statement_4 4 rfl rfl)
theorem dX3_statement_99 : decode cX3_statement 99 = .ok (.istore_n 1, 1) := dk_60 (dk_at dksX3_statement_4 5 rfl rfl)
theorem dX3_statement_100 : decode cX3_statement 100 = .ok (.iload_n 1, 1) := dk_27 (dk_at dksX3_statement_4 6 rfl rfl)
theorem dX3_statement_101 : decode cX3_statement 101 = .ok (.iconst 2, 1) := dk_5 (dk_at dksX3_statement_4 7 rfl rfl)
theorem dX3_statement_102 : decode cX3_statement 102 = .ok (.if_icmp .lt 11, 3) := dk_161 0 11 (dk_at dksX3_statement_4 8 rfl rfl)
theorem dX3_statement_105 : decode cX3_statement 105 = .ok (.aload_n 0, 1) := dk_42 (dk_at dksX3_statement_4 11 rfl rfl)
theorem dX3_statement_106 : decode cX3_statement 106 = .ok (.getfield 128, 3) := dk_180 0 128 (dk_at dksX3_statement_4 12 rfl rfl)
theorem dX3_statement_109 : decode cX3_statement 109 = .ok (.iconst 4, 1) := dk_7 (dk_at dksX3_statement_4 15 rfl rfl)
theorem dX3_statement_110 : decode cX3_statement 110 = .ok (.if_icmp .eq 19, 3) := dk_159 0 19 (dk_at dksX3_statement_4 16 rfl rfl)
theorem dX3_statement_113 : decode cX3_statement 113 = .ok (.aload_n 0, 1) := dk_42 (dk_at dksX3_statement_4 19 rfl rfl)
theorem dX3_statement_114 : decode cX3_statement 114 = .ok (.iload_n 1, 1) := dk_27 (dk_at dksX3_statement_4 20 rfl rfl)
theorem dX3_statement_115 : decode cX3_statement 115 = .ok (.invokevirtual 157, 3) := dk_182 0 157 (dk_at dksX3_statement_4 21 rfl rfl)
theorem dX3_statement_118 : decode cX3_statement 118 = .ok (.ifCond .ne 5, 3) := dk_154 0 5 (dk_at dksX3_statement_5 0 rfl rfl)
theorem dX3_statement_121 : decode cX3_statement 121 = .ok (.iconst 0, 1) := dk_3 (dk_at dksX3_statement_5 3 rfl rfl)
theorem dX3_statement_122 : decode cX3_statement 122 = .ok (.ireturn, 1) := dk_172 (dk_at dksX3_statement_5 4 rfl rfl)
theorem dX3_statement_123 : decode cX3_statement 123 = .ok (.iinc 1 1, 3) := dk_132 1 1 (dk_at dksX3_statement_5 5 rfl rfl)
theorem dX3_statement_126 : decode cX3_statement 126 = .ok (.goto (-26), 3) := dk_167 255 230 (dk_at dksX3_statement_5 8 rfl rfl)
theorem dX3_statement_129 : decode cX3_statement 129 = .ok (.iload_n 1, 1) := dk_27 (dk_at dksX3_statement_5 11 rfl rfl)
theorem dX3_statement_130 : decode cX3_statement 130 = .ok (.invokestatic 160, 3) := dk_184 0 160 (dk_at dksX3_statement_5 12 rfl rfl)
theorem dX3_statement_133 : decode cX3_statement 133 = .ok (.ifCond .ne 9, 3) := dk_154 0 9 (dk_at dksX3_statement_5 15 rfl rfl)
theorem dX3_statement_136 : decode cX3_statement 136 = .ok (.aload_n 0, 1) := dk_42 (dk_at dksX3_statement_5 18 rfl rfl)
theorem dX3_statement_137 : decode cX3_statement 137 = .ok (.iconst 2, 1) := dk_5 (dk_at dksX3_statement_5 19 rfl rfl)
theorem dX3_statement_138 : decode cX3_statement 138 = .ok (.invokevirtual 145, 3) := dk_182 0 145 (dk_at dksX3_statement_5 20 rfl rfl)
theorem dX3_statement_141 : decode cX3_statement 141 = .ok (.ireturn, 1) := dk_172 (dk_at dksX3_statement_5 23 rfl rfl)
theorem dX3_statement_142 : decode cX3_statement 142 = .ok (.aload_n 0, 1) := dk_42 (dk_at dksX3_statement_6 0 rfl rfl)
theorem dX3_statement_143 : decode cX3_statement 143 = .ok (.getfield 7, 3) := dk_180 0 7 (dk_at dksX3_statement_6 1 rfl rfl)
theorem dX3_statement_146 : decode cX3_statement 146 = .ok (.aload_n 0, 1) := dk_42 (dk_at dksX3_statement_6 4 rfl rfl)
theorem dX3_statement_147 : decode cX3_statement 147 = .ok (.getfield 7, 3) := dk_180 0 7 (dk_at dksX3_statement_6 5 rfl rfl)
theorem dX3_statement_150 : decode cX3_statement 150 = .ok (.iconst 0, 1) := dk_3 (dk_at dksX3_statement_6 8 rfl rfl)
theorem dX3_statement_151 : decode cX3_statement 151 = .ok (.iaload, 1) := dk_46 (dk_at dksX3_statement_6 9 rfl rfl)
theorem dX3_statement_152 : decode cX3_statement 152 = .ok (.invokestatic 58, 3) := dk_184 0 58 (dk_at dksX3_statement_6 10 rfl rfl)
theorem dX3_statement_155 : decode cX3_statement 155 = .ok (.bipush 7, 2) := dk_16 7 (dk_at dksX3_statement_6 13 rfl rfl)
theorem dX3_statement_157 : decode cX3_statement 157 = .ok (.iadd, 1) := dk_96 (dk_at dksX3_statement_6 15 rfl rfl)
theorem dX3_statement_158 : decode cX3_statement 158 = .ok (.iload_n 1, 1) := dk_27 (dk_at dksX3_statement_6 16 rfl rfl)
theorem dX3_statement_159 : decode cX3_statement 159 = .ok (.iastore, 1) := dk_79 (dk_at dksX3_statement_6 17 rfl rfl)
theorem dX3_statement_160 : decode cX3_statement 160 = .ok (.aload_n 0, 1) := dk_42 (dk_at dksX3_statement_6 18 rfl rfl)
theorem dX3_statement_161 : decode cX3_statement 161 = .ok (.getfield 7, 3) := dk_180 0 7 (dk_at dksX3_statement_6 19 rfl rfl)
theorem dX3_statement_164 : decode cX3_statement 164 = .ok (.iconst 0, 1) := dk_3 (dk_at dksX3_statement_6 22 rfl rfl)
theorem dX3_statement_165 : decode cX3_statement 165 = .ok (.dup2, 1) := dk_92 (dk_at dksX3_statement_6 23 rfl rfl)
theorem dX3_statement_166 : decode cX3_statement 166 = .ok (.iaload, 1) := dk_46 (dk_at dksX3_statement_7 0 rfl rfl)
theorem dX3_statement_167 : decode cX3_statement 167 = .ok (.iconst 1, 1) := dk_4 (dk_at dksX3_statement_7 1 rfl rfl)
theorem dX3_statement_168 : decode cX3_statement 168 = .ok (.iadd, 1) := dk_96 (dk_at dksX3_statement_7 2 rfl rfl)
theorem dX3_statement_169 : decode cX3_statement 169 = .ok (.iastore, 1) := dk_79 (dk_at dksX3_statement_7 3 rfl rfl)
theorem dX3_statement_170 : decode cX3_statement 170 = .ok (.aload_n 0, 1) := dk_42 (dk_at dksX3_statement_7 4 rfl rfl)
theorem dX3_statement_171 : decode cX3_statement 171 = .ok (.invokevirtual 141, 3) := dk_182 0 141 (dk_at dksX3_statement_7 5 rfl rfl)
theorem dX3_statement_174 : decode cX3_statement 174 = .ok (.ireturn, 1) := dk_172 (dk_at dksX3_statement_7 8 rfl rfl)
abbrev cX3_isBell : ByteArray := prog_11_method_34_code
def yX3_isBell : MethodName := ⟨RX3, "isBell", "()Z"⟩
def dkwX3_isBell_3 : List UInt8 := [180, 0, 22, 42, 180, 0, 125, 6, 96, 46, 16, 108, 160, 0, 7, 4, 167, 0, 4, 3, 172]
abbrev dktX3_isBell_3 : List UInt8 := dkwX3_isBell_3 ++ []
def dkwX3_isBell_2 : List UInt8 := [16, 101, 160, 0, 39, 42, 180, 0, 22, 42, 180, 0, 125, 5, 96, 46, 16, 108, 160, 0, 23, 42]
abbrev dktX3_isBell_2 : List UInt8 := dkwX3_isBell_2 ++ dktX3_isBell_3
def dkwX3_isBell_1 : List UInt8 := [180, 0, 22, 42, 180, 0, 125, 46, 16, 98, 160, 0, 55, 42, 180, 0, 22, 42, 180, 0, 125, 4, 96, 46]
abbrev dktX3_isBell_1 : List UInt8 := dkwX3_isBell_1 ++ dktX3_isBell_2
def dkwX3_isBell_0 : List UInt8 := [42, 180, 0, 128, 5, 160, 0, 82, 42, 180, 0, 119, 42, 180, 0, 125, 100, 7, 160, 0, 69, 42]
abbrev dktX3_isBell_0 : List UInt8 := dkwX3_isBell_0 ++ dktX3_isBell_1
theorem dksX3_isBell_0 : cX3_isBell.data.toList.drop 0 = dktX3_isBell_0 := by decide +kernel
theorem dksX3_isBell_1 : cX3_isBell.data.toList.drop 22 = dktX3_isBell_1 := dk_seg dksX3_isBell_0 22 rfl rfl
theorem dksX3_isBell_2 : cX3_isBell.data.toList.drop 46 = dktX3_isBell_2 := dk_seg dksX3_isBell_1 24 rfl rfl
theorem dksX3_isBell_3 : cX3_isBell.data.toList.drop 68 = dktX3_isBell_3 := dk_seg dksX3_isBell_2 22 rfl rfl
theorem dX3_isBell_0 : decode cX3_isBell 0 = .ok (.aload_n 0, 1) := dk_42 (dk_at dksX3_isBell_0 0 rfl rfl)
theorem dX3_isBell_1 : decode cX3_isBell 1 = .ok (.getfield 128, 3) := dk_180 0 128 (dk_at dksX3_isBell_0 1 rfl rfl)
theorem dX3_isBell_4 : decode cX3_isBell 4 = .ok (.iconst 2, 1) := dk_5 (dk_at dksX3_isBell_0 4 rfl rfl)
theorem dX3_isBell_5 : decode cX3_isBell 5 = .ok (.if_icmp .ne 82, 3) := dk_160 0 82 (dk_at dksX3_isBell_0 5 rfl rfl)
theorem dX3_isBell_8 : decode cX3_isBell 8 = .ok (.aload_n 0, 1) := dk_42 (dk_at dksX3_isBell_0 8 rfl rfl)
theorem dX3_isBell_9 : decode cX3_isBell 9 = .ok (.getfield 119, 3) := dk_180 0 119 (dk_at dksX3_isBell_0 9 rfl rfl)
theorem dX3_isBell_12 : decode cX3_isBell 12 = .ok (.aload_n 0, 1) := dk_42 (dk_at dksX3_isBell_0 12 rfl rfl)
theorem dX3_isBell_13 : decode cX3_isBell 13 = .ok (.getfield 125, 3) := dk_180 0 125 (dk_at dksX3_isBell_0 13 rfl rfl)
theorem dX3_isBell_16 : decode cX3_isBell 16 = .ok (.isub, 1) := dk_100 (dk_at dksX3_isBell_0 16 rfl rfl)
theorem dX3_isBell_17 : decode cX3_isBell 17 = .ok (.iconst 4, 1) := dk_7 (dk_at dksX3_isBell_0 17 rfl rfl)
theorem dX3_isBell_18 : decode cX3_isBell 18 = .ok (.if_icmp .ne 69, 3) := dk_160 0 69 (dk_at dksX3_isBell_0 18 rfl rfl)
theorem dX3_isBell_21 : decode cX3_isBell 21 = .ok (.aload_n 0, 1) := dk_42 (dk_at dksX3_isBell_0 21 rfl rfl)
theorem dX3_isBell_22 : decode cX3_isBell 22 = .ok (.getfield 22, 3) := dk_180 0 22 (dk_at dksX3_isBell_1 0 rfl rfl)
theorem dX3_isBell_25 : decode cX3_isBell 25 = .ok (.aload_n 0, 1) := dk_42 (dk_at dksX3_isBell_1 3 rfl rfl)
theorem dX3_isBell_26 : decode cX3_isBell 26 = .ok (.getfield 125, 3) := dk_180 0 125 (dk_at dksX3_isBell_1 4 rfl rfl)
theorem dX3_isBell_29 : decode cX3_isBell 29 = .ok (.iaload, 1) := dk_46 (dk_at dksX3_isBell_1 7 rfl rfl)
theorem dX3_isBell_30 : decode cX3_isBell 30 = .ok (.bipush 98, 2) := dk_16 98 (dk_at dksX3_isBell_1 8 rfl rfl)
theorem dX3_isBell_32 : decode cX3_isBell 32 = .ok (.if_icmp .ne 55, 3) := dk_160 0 55 (dk_at dksX3_isBell_1 10 rfl rfl)
theorem dX3_isBell_35 : decode cX3_isBell 35 = .ok (.aload_n 0, 1) := dk_42 (dk_at dksX3_isBell_1 13 rfl rfl)
theorem dX3_isBell_36 : decode cX3_isBell 36 = .ok (.getfield 22, 3) := dk_180 0 22 (dk_at dksX3_isBell_1 14 rfl rfl)
theorem dX3_isBell_39 : decode cX3_isBell 39 = .ok (.aload_n 0, 1) := dk_42 (dk_at dksX3_isBell_1 17 rfl rfl)
theorem dX3_isBell_40 : decode cX3_isBell 40 = .ok (.getfield 125, 3) := dk_180 0 125 (dk_at dksX3_isBell_1 18 rfl rfl)
theorem dX3_isBell_43 : decode cX3_isBell 43 = .ok (.iconst 1, 1) := dk_4 (dk_at dksX3_isBell_1 21 rfl rfl)
theorem dX3_isBell_44 : decode cX3_isBell 44 = .ok (.iadd, 1) := dk_96 (dk_at dksX3_isBell_1 22 rfl rfl)
theorem dX3_isBell_45 : decode cX3_isBell 45 = .ok (.iaload, 1) := dk_46 (dk_at dksX3_isBell_1 23 rfl rfl)
theorem dX3_isBell_46 : decode cX3_isBell 46 = .ok (.bipush 101, 2) := dk_16 101 (dk_at dksX3_isBell_2 0 rfl rfl)
theorem dX3_isBell_48 : decode cX3_isBell 48 = .ok (.if_icmp .ne 39, 3) := dk_160 0 39 (dk_at dksX3_isBell_2 2 rfl rfl)
theorem dX3_isBell_51 : decode cX3_isBell 51 = .ok (.aload_n 0, 1) := dk_42 (dk_at dksX3_isBell_2 5 rfl rfl)
theorem dX3_isBell_52 : decode cX3_isBell 52 = .ok (.getfield 22, 3) := dk_180 0 22 (dk_at dksX3_isBell_2 6 rfl rfl)
theorem dX3_isBell_55 : decode cX3_isBell 55 = .ok (.aload_n 0, 1) := dk_42 (dk_at dksX3_isBell_2 9 rfl rfl)
theorem dX3_isBell_56 : decode cX3_isBell 56 = .ok (.getfield 125, 3) := dk_180 0 125 (dk_at dksX3_isBell_2 10 rfl rfl)
theorem dX3_isBell_59 : decode cX3_isBell 59 = .ok (.iconst 2, 1) := dk_5 (dk_at dksX3_isBell_2 13 rfl rfl)
theorem dX3_isBell_60 : decode cX3_isBell 60 = .ok (.iadd, 1) := dk_96 (dk_at dksX3_isBell_2 14 rfl rfl)
theorem dX3_isBell_61 : decode cX3_isBell 61 = .ok (.iaload, 1) := dk_46 (dk_at dksX3_isBell_2 15 rfl rfl)
theorem dX3_isBell_62 : decode cX3_isBell 62 = .ok (.bipush 108, 2) := dk_16 108 (dk_at dksX3_isBell_2 16 rfl rfl)
theorem dX3_isBell_64 : decode cX3_isBell 64 = .ok (.if_icmp .ne 23, 3) := dk_160 0 23 (dk_at dksX3_isBell_2 18 rfl rfl)
theorem dX3_isBell_67 : decode cX3_isBell 67 = .ok (.aload_n 0, 1) := dk_42 (dk_at dksX3_isBell_2 21 rfl rfl)
theorem dX3_isBell_68 : decode cX3_isBell 68 = .ok (.getfield 22, 3) := dk_180 0 22 (dk_at dksX3_isBell_3 0 rfl rfl)
theorem dX3_isBell_71 : decode cX3_isBell 71 = .ok (.aload_n 0, 1) := dk_42 (dk_at dksX3_isBell_3 3 rfl rfl)
theorem dX3_isBell_72 : decode cX3_isBell 72 = .ok (.getfield 125, 3) := dk_180 0 125 (dk_at dksX3_isBell_3 4 rfl rfl)
theorem dX3_isBell_75 : decode cX3_isBell 75 = .ok (.iconst 3, 1) := dk_6 (dk_at dksX3_isBell_3 7 rfl rfl)
theorem dX3_isBell_76 : decode cX3_isBell 76 = .ok (.iadd, 1) := dk_96 (dk_at dksX3_isBell_3 8 rfl rfl)
theorem dX3_isBell_77 : decode cX3_isBell 77 = .ok (.iaload, 1) := dk_46 (dk_at dksX3_isBell_3 9 rfl rfl)
theorem dX3_isBell_78 : decode cX3_isBell 78 = .ok (.bipush 108, 2) := dk_16 108 (dk_at dksX3_isBell_3 10 rfl rfl)
theorem dX3_isBell_80 : decode cX3_isBell 80 = .ok (.if_icmp .ne 7, 3) := dk_160 0 7 (dk_at dksX3_isBell_3 12 rfl rfl)
theorem dX3_isBell_83 : decode cX3_isBell 83 = .ok (.iconst 1, 1) := dk_4 (dk_at dksX3_isBell_3 15 rfl rfl)
theorem dX3_isBell_84 : decode cX3_isBell 84 = .ok (.goto 4, 3) := dk_167 0 4 (dk_at dksX3_isBell_3 16 rfl rfl)
theorem dX3_isBell_87 : decode cX3_isBell 87 = .ok (.iconst 0, 1) := dk_3 (dk_at dksX3_isBell_3 19 rfl rfl)
theorem dX3_isBell_88 : decode cX3_isBell 88 = .ok (.ireturn, 1) := dk_172 (dk_at dksX3_isBell_3 20 rfl rfl)
abbrev cX3_fail : ByteArray := prog_11_method_33_code
def yX3_fail : MethodName := ⟨RX3, "fail", "(I)Z"⟩
def dkwX3_fail_0 : List UInt8 := [42, 27, 181, 0, 134, 42, 42, 180, 0, 125, 181, 0, 40, 3, 172]
abbrev dktX3_fail_0 : List UInt8 := dkwX3_fail_0 ++ []
theorem dksX3_fail_0 : cX3_fail.data.toList.drop 0 = dktX3_fail_0 := by decide +kernel
theorem dX3_fail_0 : decode cX3_fail 0 = .ok (.aload_n 0, 1) := dk_42 (dk_at dksX3_fail_0 0 rfl rfl)
theorem dX3_fail_1 : decode cX3_fail 1 = .ok (.iload_n 1, 1) := dk_27 (dk_at dksX3_fail_0 1 rfl rfl)
theorem dX3_fail_2 : decode cX3_fail 2 = .ok (.putfield 134, 3) := dk_181 0 134 (dk_at dksX3_fail_0 2 rfl rfl)
theorem dX3_fail_5 : decode cX3_fail 5 = .ok (.aload_n 0, 1) := dk_42 (dk_at dksX3_fail_0 5 rfl rfl)
theorem dX3_fail_6 : decode cX3_fail 6 = .ok (.aload_n 0, 1) := dk_42 (dk_at dksX3_fail_0 6 rfl rfl)
theorem dX3_fail_7 : decode cX3_fail 7 = .ok (.getfield 125, 3) := dk_180 0 125 (dk_at dksX3_fail_0 7 rfl rfl)
theorem dX3_fail_10 : decode cX3_fail 10 = .ok (.putfield 40, 3) := dk_181 0 40 (dk_at dksX3_fail_0 10 rfl rfl)
theorem dX3_fail_13 : decode cX3_fail 13 = .ok (.iconst 0, 1) := dk_3 (dk_at dksX3_fail_0 13 rfl rfl)
theorem dX3_fail_14 : decode cX3_fail 14 = .ok (.ireturn, 1) := dk_172 (dk_at dksX3_fail_0 14 rfl rfl)
abbrev cX3_named : ByteArray := prog_11_method_35_code
def yX3_named : MethodName := ⟨RX3, "named", "(II)I"⟩
def dkwX3_named_4 : List UInt8 := [132, 3, 1, 167, 255, 163, 2, 172]
abbrev dktX3_named_4 : List UInt8 := dkwX3_named_4 ++ []
def dkwX3_named_3 : List UInt8 := [160, 0, 7, 4, 167, 0, 4, 3, 54, 4, 132, 5, 1, 167, 255, 209, 21, 4, 153, 0, 5, 29, 172]
abbrev dktX3_named_3 : List UInt8 := dkwX3_named_3 ++ dktX3_named_4
def dkwX3_named_2 : List UInt8 := [42, 180, 0, 7, 29, 184, 0, 58, 4, 96, 21, 5, 96, 46, 42, 180, 0, 22, 27, 21, 5, 96, 46]
abbrev dktX3_named_2 : List UInt8 := dkwX3_named_2 ++ dktX3_named_3
def dkwX3_named_1 : List UInt8 := [160, 0, 7, 4, 167, 0, 4, 3, 54, 4, 3, 54, 5, 21, 4, 153, 0, 48, 21, 5, 28, 162, 0, 42]
abbrev dktX3_named_1 : List UInt8 := dkwX3_named_1 ++ dktX3_named_2
def dkwX3_named_0 : List UInt8 := [3, 62, 29, 42, 180, 0, 7, 3, 46, 162, 0, 89, 42, 180, 0, 7, 29, 184, 0, 58, 46, 28]
abbrev dktX3_named_0 : List UInt8 := dkwX3_named_0 ++ dktX3_named_1
theorem dksX3_named_0 : cX3_named.data.toList.drop 0 = dktX3_named_0 := by decide +kernel
theorem dksX3_named_1 : cX3_named.data.toList.drop 22 = dktX3_named_1 := dk_seg dksX3_named_0 22 rfl rfl
theorem dksX3_named_2 : cX3_named.data.toList.drop 46 = dktX3_named_2 := dk_seg dksX3_named_1 24 rfl rfl
theorem dksX3_named_3 : cX3_named.data.toList.drop 69 = dktX3_named_3 := dk_seg dksX3_named_2 23 rfl rfl
theorem dksX3_named_4 : cX3_named.data.toList.drop 92 = dktX3_named_4 := dk_seg dksX3_named_3 23 rfl rfl
theorem dX3_named_0 : decode cX3_named 0 = .ok (.iconst 0, 1) := dk_3 (dk_at dksX3_named_0 0 rfl rfl)
theorem dX3_named_1 : decode cX3_named 1 = .ok (.istore_n 3, 1) := dk_62 (dk_at dksX3_named_0 1 rfl rfl)
theorem dX3_named_2 : decode cX3_named 2 = .ok (.iload_n 3, 1) := dk_29 (dk_at dksX3_named_0 2 rfl rfl)
theorem dX3_named_3 : decode cX3_named 3 = .ok (.aload_n 0, 1) := dk_42 (dk_at dksX3_named_0 3 rfl rfl)
theorem dX3_named_4 : decode cX3_named 4 = .ok (.getfield 7, 3) := dk_180 0 7 (dk_at dksX3_named_0 4 rfl rfl)
theorem dX3_named_7 : decode cX3_named 7 = .ok (.iconst 0, 1) := dk_3 (dk_at dksX3_named_0 7 rfl rfl)
theorem dX3_named_8 : decode cX3_named 8 = .ok (.iaload, 1) := dk_46 (dk_at dksX3_named_0 8 rfl rfl)
theorem dX3_named_9 : decode cX3_named 9 = .ok (.if_icmp .ge 89, 3) := dk_162 0 89 (dk_at dksX3_named_0 9 rfl rfl)
theorem dX3_named_12 : decode cX3_named 12 = .ok (.aload_n 0, 1) := dk_42 (dk_at dksX3_named_0 12 rfl rfl)
theorem dX3_named_13 : decode cX3_named 13 = .ok (.getfield 7, 3) := dk_180 0 7 (dk_at dksX3_named_0 13 rfl rfl)
theorem dX3_named_16 : decode cX3_named 16 = .ok (.iload_n 3, 1) := dk_29 (dk_at dksX3_named_0 16 rfl rfl)
theorem dX3_named_17 : decode cX3_named 17 = .ok (.invokestatic 58, 3) := dk_184 0 58 (dk_at dksX3_named_0 17 rfl rfl)
theorem dX3_named_20 : decode cX3_named 20 = .ok (.iaload, 1) := dk_46 (dk_at dksX3_named_0 20 rfl rfl)
theorem dX3_named_21 : decode cX3_named 21 = .ok (.iload_n 2, 1) := dk_28 (dk_at dksX3_named_0 21 rfl rfl)
theorem dX3_named_22 : decode cX3_named 22 = .ok (.if_icmp .ne 7, 3) := dk_160 0 7 (dk_at dksX3_named_1 0 rfl rfl)
theorem dX3_named_25 : decode cX3_named 25 = .ok (.iconst 1, 1) := dk_4 (dk_at dksX3_named_1 3 rfl rfl)
theorem dX3_named_26 : decode cX3_named 26 = .ok (.goto 4, 3) := dk_167 0 4 (dk_at dksX3_named_1 4 rfl rfl)
theorem dX3_named_29 : decode cX3_named 29 = .ok (.iconst 0, 1) := dk_3 (dk_at dksX3_named_1 7 rfl rfl)
theorem dX3_named_30 : decode cX3_named 30 = .ok (.istore 4, 2) := dk_54 4 (dk_at dksX3_named_1 8 rfl rfl)
theorem dX3_named_32 : decode cX3_named 32 = .ok (.iconst 0, 1) := dk_3 (dk_at dksX3_named_1 10 rfl rfl)
theorem dX3_named_33 : decode cX3_named 33 = .ok (.istore 5, 2) := dk_54 5 (dk_at dksX3_named_1 11 rfl rfl)
theorem dX3_named_35 : decode cX3_named 35 = .ok (.iload 4, 2) := dk_21 4 (dk_at dksX3_named_1 13 rfl rfl)
theorem dX3_named_37 : decode cX3_named 37 = .ok (.ifCond .eq 48, 3) := dk_153 0 48 (dk_at dksX3_named_1 15 rfl rfl)
theorem dX3_named_40 : decode cX3_named 40 = .ok (.iload 5, 2) := dk_21 5 (dk_at dksX3_named_1 18 rfl rfl)
theorem dX3_named_42 : decode cX3_named 42 = .ok (.iload_n 2, 1) := dk_28 (dk_at dksX3_named_1 20 rfl rfl)
theorem dX3_named_43 : decode cX3_named 43 = .ok (.if_icmp .ge 42, 3) := dk_162 0 42 (dk_at dksX3_named_1 21 rfl rfl)
theorem dX3_named_46 : decode cX3_named 46 = .ok (.aload_n 0, 1) := dk_42 (dk_at dksX3_named_2 0 rfl rfl)
theorem dX3_named_47 : decode cX3_named 47 = .ok (.getfield 7, 3) := dk_180 0 7 (dk_at dksX3_named_2 1 rfl rfl)
theorem dX3_named_50 : decode cX3_named 50 = .ok (.iload_n 3, 1) := dk_29 (dk_at dksX3_named_2 4 rfl rfl)
theorem dX3_named_51 : decode cX3_named 51 = .ok (.invokestatic 58, 3) := dk_184 0 58 (dk_at dksX3_named_2 5 rfl rfl)
theorem dX3_named_54 : decode cX3_named 54 = .ok (.iconst 1, 1) := dk_4 (dk_at dksX3_named_2 8 rfl rfl)
theorem dX3_named_55 : decode cX3_named 55 = .ok (.iadd, 1) := dk_96 (dk_at dksX3_named_2 9 rfl rfl)
theorem dX3_named_56 : decode cX3_named 56 = .ok (.iload 5, 2) := dk_21 5 (dk_at dksX3_named_2 10 rfl rfl)
theorem dX3_named_58 : decode cX3_named 58 = .ok (.iadd, 1) := dk_96 (dk_at dksX3_named_2 12 rfl rfl)
theorem dX3_named_59 : decode cX3_named 59 = .ok (.iaload, 1) := dk_46 (dk_at dksX3_named_2 13 rfl rfl)
theorem dX3_named_60 : decode cX3_named 60 = .ok (.aload_n 0, 1) := dk_42 (dk_at dksX3_named_2 14 rfl rfl)
theorem dX3_named_61 : decode cX3_named 61 = .ok (.getfield 22, 3) := dk_180 0 22 (dk_at dksX3_named_2 15 rfl rfl)
theorem dX3_named_64 : decode cX3_named 64 = .ok (.iload_n 1, 1) := dk_27 (dk_at dksX3_named_2 18 rfl rfl)
theorem dX3_named_65 : decode cX3_named 65 = .ok (.iload 5, 2) := dk_21 5 (dk_at dksX3_named_2 19 rfl rfl)
theorem dX3_named_67 : decode cX3_named 67 = .ok (.iadd, 1) := dk_96 (dk_at dksX3_named_2 21 rfl rfl)
theorem dX3_named_68 : decode cX3_named 68 = .ok (.iaload, 1) := dk_46 (dk_at dksX3_named_2 22 rfl rfl)
theorem dX3_named_69 : decode cX3_named 69 = .ok (.if_icmp .ne 7, 3) := dk_160 0 7 (dk_at dksX3_named_3 0 rfl rfl)
theorem dX3_named_72 : decode cX3_named 72 = .ok (.iconst 1, 1) := dk_4 (dk_at dksX3_named_3 3 rfl rfl)
theorem dX3_named_73 : decode cX3_named 73 = .ok (.goto 4, 3) := dk_167 0 4 (dk_at dksX3_named_3 4 rfl rfl)
theorem dX3_named_76 : decode cX3_named 76 = .ok (.iconst 0, 1) := dk_3 (dk_at dksX3_named_3 7 rfl rfl)
theorem dX3_named_77 : decode cX3_named 77 = .ok (.istore 4, 2) := dk_54 4 (dk_at dksX3_named_3 8 rfl rfl)
theorem dX3_named_79 : decode cX3_named 79 = .ok (.iinc 5 1, 3) := dk_132 5 1 (dk_at dksX3_named_3 10 rfl rfl)
theorem dX3_named_82 : decode cX3_named 82 = .ok (.goto (-47), 3) := dk_167 255 209 (dk_at dksX3_named_3 13 rfl rfl)
theorem dX3_named_85 : decode cX3_named 85 = .ok (.iload 4, 2) := dk_21 4 (dk_at dksX3_named_3 16 rfl rfl)
theorem dX3_named_87 : decode cX3_named 87 = .ok (.ifCond .eq 5, 3) := dk_153 0 5 (dk_at dksX3_named_3 18 rfl rfl)
theorem dX3_named_90 : decode cX3_named 90 = .ok (.iload_n 3, 1) := dk_29 (dk_at dksX3_named_3 21 rfl rfl)
theorem dX3_named_91 : decode cX3_named 91 = .ok (.ireturn, 1) := dk_172 (dk_at dksX3_named_3 22 rfl rfl)
theorem dX3_named_92 : decode cX3_named 92 = .ok (.iinc 3 1, 3) := dk_132 3 1 (dk_at dksX3_named_4 0 rfl rfl)
theorem dX3_named_95 : decode cX3_named 95 = .ok (.goto (-93), 3) := dk_167 255 163 (dk_at dksX3_named_4 3 rfl rfl)
theorem dX3_named_98 : decode cX3_named 98 = .ok (.iconst (-1), 1) := dk_2 (dk_at dksX3_named_4 6 rfl rfl)
theorem dX3_named_99 : decode cX3_named 99 = .ok (.ireturn, 1) := dk_172 (dk_at dksX3_named_4 7 rfl rfl)
abbrev cX3_row : ByteArray := prog_11_method_9_code
def yX3_row : MethodName := ⟨RX3, "row", "(I)I"⟩
def dkwX3_row_0 : List UInt8 := [4, 16, 72, 26, 104, 96, 172]
abbrev dktX3_row_0 : List UInt8 := dkwX3_row_0 ++ []
theorem dksX3_row_0 : cX3_row.data.toList.drop 0 = dktX3_row_0 := by decide +kernel
theorem dX3_row_0 : decode cX3_row 0 = .ok (.iconst 1, 1) := dk_4 (dk_at dksX3_row_0 0 rfl rfl)
theorem dX3_row_1 : decode cX3_row 1 = .ok (.bipush 72, 2) := dk_16 72 (dk_at dksX3_row_0 1 rfl rfl)
theorem dX3_row_3 : decode cX3_row 3 = .ok (.iload_n 0, 1) := dk_26 (dk_at dksX3_row_0 3 rfl rfl)
theorem dX3_row_4 : decode cX3_row 4 = .ok (.imul, 1) := dk_104 (dk_at dksX3_row_0 4 rfl rfl)
theorem dX3_row_5 : decode cX3_row 5 = .ok (.iadd, 1) := dk_96 (dk_at dksX3_row_0 5 rfl rfl)
theorem dX3_row_6 : decode cX3_row 6 = .ok (.ireturn, 1) := dk_172 (dk_at dksX3_row_0 6 rfl rfl)
abbrev cX3_putName : ByteArray := prog_11_method_36_code
def yX3_putName : MethodName := ⟨RX3, "putName", "(II)V"⟩
def dkwX3_putName_2 : List UInt8 := [21, 4, 96, 46, 79, 132, 4, 1, 167, 255, 227, 177]
abbrev dktX3_putName_2 : List UInt8 := dkwX3_putName_2 ++ []
def dkwX3_putName_1 : List UInt8 := [3, 54, 4, 21, 4, 28, 162, 0, 29, 42, 180, 0, 7, 29, 4, 96, 21, 4, 96, 42, 180, 0, 22, 27]
abbrev dktX3_putName_1 : List UInt8 := dkwX3_putName_1 ++ dktX3_putName_2
def dkwX3_putName_0 : List UInt8 := [42, 180, 0, 7, 3, 46, 184, 0, 58, 62, 42, 29, 16, 72, 182, 0, 137, 42, 180, 0, 7, 29, 28, 79]
abbrev dktX3_putName_0 : List UInt8 := dkwX3_putName_0 ++ dktX3_putName_1
theorem dksX3_putName_0 : cX3_putName.data.toList.drop 0 = dktX3_putName_0 := by decide +kernel
theorem dksX3_putName_1 : cX3_putName.data.toList.drop 24 = dktX3_putName_1 := dk_seg dksX3_putName_0 24 rfl rfl
theorem dksX3_putName_2 : cX3_putName.data.toList.drop 48 = dktX3_putName_2 := dk_seg dksX3_putName_1 24 rfl rfl
theorem dX3_putName_0 : decode cX3_putName 0 = .ok (.aload_n 0, 1) := dk_42 (dk_at dksX3_putName_0 0 rfl rfl)
theorem dX3_putName_1 : decode cX3_putName 1 = .ok (.getfield 7, 3) := dk_180 0 7 (dk_at dksX3_putName_0 1 rfl rfl)
theorem dX3_putName_4 : decode cX3_putName 4 = .ok (.iconst 0, 1) := dk_3 (dk_at dksX3_putName_0 4 rfl rfl)
theorem dX3_putName_5 : decode cX3_putName 5 = .ok (.iaload, 1) := dk_46 (dk_at dksX3_putName_0 5 rfl rfl)
theorem dX3_putName_6 : decode cX3_putName 6 = .ok (.invokestatic 58, 3) := dk_184 0 58 (dk_at dksX3_putName_0 6 rfl rfl)
theorem dX3_putName_9 : decode cX3_putName 9 = .ok (.istore_n 3, 1) := dk_62 (dk_at dksX3_putName_0 9 rfl rfl)
theorem dX3_putName_10 : decode cX3_putName 10 = .ok (.aload_n 0, 1) := dk_42 (dk_at dksX3_putName_0 10 rfl rfl)
theorem dX3_putName_11 : decode cX3_putName 11 = .ok (.iload_n 3, 1) := dk_29 (dk_at dksX3_putName_0 11 rfl rfl)
theorem dX3_putName_12 : decode cX3_putName 12 = .ok (.bipush 72, 2) := dk_16 72 (dk_at dksX3_putName_0 12 rfl rfl)
theorem dX3_putName_14 : decode cX3_putName 14 = .ok (.invokevirtual 137, 3) := dk_182 0 137 (dk_at dksX3_putName_0 14 rfl rfl)
theorem dX3_putName_17 : decode cX3_putName 17 = .ok (.aload_n 0, 1) := dk_42 (dk_at dksX3_putName_0 17 rfl rfl)
theorem dX3_putName_18 : decode cX3_putName 18 = .ok (.getfield 7, 3) := dk_180 0 7 (dk_at dksX3_putName_0 18 rfl rfl)
theorem dX3_putName_21 : decode cX3_putName 21 = .ok (.iload_n 3, 1) := dk_29 (dk_at dksX3_putName_0 21 rfl rfl)
theorem dX3_putName_22 : decode cX3_putName 22 = .ok (.iload_n 2, 1) := dk_28 (dk_at dksX3_putName_0 22 rfl rfl)
theorem dX3_putName_23 : decode cX3_putName 23 = .ok (.iastore, 1) := dk_79 (dk_at dksX3_putName_0 23 rfl rfl)
theorem dX3_putName_24 : decode cX3_putName 24 = .ok (.iconst 0, 1) := dk_3 (dk_at dksX3_putName_1 0 rfl rfl)
theorem dX3_putName_25 : decode cX3_putName 25 = .ok (.istore 4, 2) := dk_54 4 (dk_at dksX3_putName_1 1 rfl rfl)
theorem dX3_putName_27 : decode cX3_putName 27 = .ok (.iload 4, 2) := dk_21 4 (dk_at dksX3_putName_1 3 rfl rfl)
theorem dX3_putName_29 : decode cX3_putName 29 = .ok (.iload_n 2, 1) := dk_28 (dk_at dksX3_putName_1 5 rfl rfl)
theorem dX3_putName_30 : decode cX3_putName 30 = .ok (.if_icmp .ge 29, 3) := dk_162 0 29 (dk_at dksX3_putName_1 6 rfl rfl)
theorem dX3_putName_33 : decode cX3_putName 33 = .ok (.aload_n 0, 1) := dk_42 (dk_at dksX3_putName_1 9 rfl rfl)
theorem dX3_putName_34 : decode cX3_putName 34 = .ok (.getfield 7, 3) := dk_180 0 7 (dk_at dksX3_putName_1 10 rfl rfl)
theorem dX3_putName_37 : decode cX3_putName 37 = .ok (.iload_n 3, 1) := dk_29 (dk_at dksX3_putName_1 13 rfl rfl)
theorem dX3_putName_38 : decode cX3_putName 38 = .ok (.iconst 1, 1) := dk_4 (dk_at dksX3_putName_1 14 rfl rfl)
theorem dX3_putName_39 : decode cX3_putName 39 = .ok (.iadd, 1) := dk_96 (dk_at dksX3_putName_1 15 rfl rfl)
theorem dX3_putName_40 : decode cX3_putName 40 = .ok (.iload 4, 2) := dk_21 4 (dk_at dksX3_putName_1 16 rfl rfl)
theorem dX3_putName_42 : decode cX3_putName 42 = .ok (.iadd, 1) := dk_96 (dk_at dksX3_putName_1 18 rfl rfl)
theorem dX3_putName_43 : decode cX3_putName 43 = .ok (.aload_n 0, 1) := dk_42 (dk_at dksX3_putName_1 19 rfl rfl)
theorem dX3_putName_44 : decode cX3_putName 44 = .ok (.getfield 22, 3) := dk_180 0 22 (dk_at dksX3_putName_1 20 rfl rfl)
theorem dX3_putName_47 : decode cX3_putName 47 = .ok (.iload_n 1, 1) := dk_27 (dk_at dksX3_putName_1 23 rfl rfl)
theorem dX3_putName_48 : decode cX3_putName 48 = .ok (.iload 4, 2) := dk_21 4 (dk_at dksX3_putName_2 0 rfl rfl)
theorem dX3_putName_50 : decode cX3_putName 50 = .ok (.iadd, 1) := dk_96 (dk_at dksX3_putName_2 2 rfl rfl)
theorem dX3_putName_51 : decode cX3_putName 51 = .ok (.iaload, 1) := dk_46 (dk_at dksX3_putName_2 3 rfl rfl)
theorem dX3_putName_52 : decode cX3_putName 52 = .ok (.iastore, 1) := dk_79 (dk_at dksX3_putName_2 4 rfl rfl)
theorem dX3_putName_53 : decode cX3_putName 53 = .ok (.iinc 4 1, 3) := dk_132 4 1 (dk_at dksX3_putName_2 5 rfl rfl)
theorem dX3_putName_56 : decode cX3_putName 56 = .ok (.goto (-29), 3) := dk_167 255 227 (dk_at dksX3_putName_2 8 rfl rfl)
theorem dX3_putName_59 : decode cX3_putName 59 = .ok (.return_, 1) := dk_177 (dk_at dksX3_putName_2 11 rfl rfl)
abbrev cX3_sampleHere : ByteArray := prog_11_method_38_code
def yX3_sampleHere : MethodName := ⟨RX3, "sampleHere", "(I)Z"⟩
def dkwX3_sampleHere_3 : List UInt8 := [180, 0, 131, 116, 167, 0, 7, 42, 180, 0, 131, 79, 42, 182, 0, 141, 172]
abbrev dktX3_sampleHere_3 : List UInt8 := dkwX3_sampleHere_3 ++ []
def dkwX3_sampleHere_2 : List UInt8 := [172, 42, 180, 0, 7, 42, 180, 0, 7, 3, 46, 184, 0, 58, 16, 8, 96, 27, 96, 28, 153, 0, 11, 42]
abbrev dktX3_sampleHere_2 : List UInt8 := dkwX3_sampleHere_2 ++ dktX3_sampleHere_3
def dkwX3_sampleHere_1 : List UInt8 := [180, 0, 128, 6, 159, 0, 9, 42, 4, 182, 0, 145, 172, 27, 16, 64, 160, 0, 9, 42, 7, 182, 0, 145]
abbrev dktX3_sampleHere_1 : List UInt8 := dkwX3_sampleHere_1 ++ dktX3_sampleHere_2
def dkwX3_sampleHere_0 : List UInt8 := [42, 180, 0, 128, 8, 160, 0, 7, 4, 167, 0, 4, 3, 61, 28, 153, 0, 8, 42, 182, 0, 141, 87, 42]
abbrev dktX3_sampleHere_0 : List UInt8 := dkwX3_sampleHere_0 ++ dktX3_sampleHere_1
theorem dksX3_sampleHere_0 : cX3_sampleHere.data.toList.drop 0 = dktX3_sampleHere_0 := by decide +kernel
theorem dksX3_sampleHere_1 : cX3_sampleHere.data.toList.drop 24 = dktX3_sampleHere_1 := dk_seg dksX3_sampleHere_0 24 rfl rfl
theorem dksX3_sampleHere_2 : cX3_sampleHere.data.toList.drop 48 = dktX3_sampleHere_2 := dk_seg dksX3_sampleHere_1 24 rfl rfl
theorem dksX3_sampleHere_3 : cX3_sampleHere.data.toList.drop 72 = dktX3_sampleHere_3 := dk_seg dksX3_sampleHere_2 24 rfl rfl
theorem dX3_sampleHere_0 : decode cX3_sampleHere 0 = .ok (.aload_n 0, 1) := dk_42 (dk_at dksX3_sampleHere_0 0 rfl rfl)
theorem dX3_sampleHere_1 : decode cX3_sampleHere 1 = .ok (.getfield 128, 3) := dk_180 0 128 (dk_at dksX3_sampleHere_0 1 rfl rfl)
theorem dX3_sampleHere_4 : decode cX3_sampleHere 4 = .ok (.iconst 5, 1) := dk_8 (dk_at dksX3_sampleHere_0 4 rfl rfl)
theorem dX3_sampleHere_5 : decode cX3_sampleHere 5 = .ok (.if_icmp .ne 7, 3) := dk_160 0 7 (dk_at dksX3_sampleHere_0 5 rfl rfl)
theorem dX3_sampleHere_8 : decode cX3_sampleHere 8 = .ok (.iconst 1, 1) := dk_4 (dk_at dksX3_sampleHere_0 8 rfl rfl)
theorem dX3_sampleHere_9 : decode cX3_sampleHere 9 = .ok (.goto 4, 3) := dk_167 0 4 (dk_at dksX3_sampleHere_0 9 rfl rfl)
theorem dX3_sampleHere_12 : decode cX3_sampleHere 12 = .ok (.iconst 0, 1) := dk_3 (dk_at dksX3_sampleHere_0 12 rfl rfl)
theorem dX3_sampleHere_13 : decode cX3_sampleHere 13 = .ok (.istore_n 2, 1) := dk_61 (dk_at dksX3_sampleHere_0 13 rfl rfl)
theorem dX3_sampleHere_14 : decode cX3_sampleHere 14 = .ok (.iload_n 2, 1) := dk_28 (dk_at dksX3_sampleHere_0 14 rfl rfl)
theorem dX3_sampleHere_15 : decode cX3_sampleHere 15 = .ok (.ifCond .eq 8, 3) := dk_153 0 8 (dk_at dksX3_sampleHere_0 15 rfl rfl)
theorem dX3_sampleHere_18 : decode cX3_sampleHere 18 = .ok (.aload_n 0, 1) := dk_42 (dk_at dksX3_sampleHere_0 18 rfl rfl)
theorem dX3_sampleHere_19 : decode cX3_sampleHere 19 = .ok (.invokevirtual 141, 3) := dk_182 0 141 (dk_at dksX3_sampleHere_0 19 rfl rfl)
theorem dX3_sampleHere_22 : decode cX3_sampleHere 22 = .ok (.pop, 1) := dk_87 (dk_at dksX3_sampleHere_0 22 rfl rfl)
theorem dX3_sampleHere_23 : decode cX3_sampleHere 23 = .ok (.aload_n 0, 1) := dk_42 (dk_at dksX3_sampleHere_0 23 rfl rfl)
theorem dX3_sampleHere_24 : decode cX3_sampleHere 24 = .ok (.getfield 128, 3) := dk_180 0 128 (dk_at dksX3_sampleHere_1 0 rfl rfl)
theorem dX3_sampleHere_27 : decode cX3_sampleHere 27 = .ok (.iconst 3, 1) := dk_6 (dk_at dksX3_sampleHere_1 3 rfl rfl)
theorem dX3_sampleHere_28 : decode cX3_sampleHere 28 = .ok (.if_icmp .eq 9, 3) := dk_159 0 9 (dk_at dksX3_sampleHere_1 4 rfl rfl)
theorem dX3_sampleHere_31 : decode cX3_sampleHere 31 = .ok (.aload_n 0, 1) := dk_42 (dk_at dksX3_sampleHere_1 7 rfl rfl)
theorem dX3_sampleHere_32 : decode cX3_sampleHere 32 = .ok (.iconst 1, 1) := dk_4 (dk_at dksX3_sampleHere_1 8 rfl rfl)
theorem dX3_sampleHere_33 : decode cX3_sampleHere 33 = .ok (.invokevirtual 145, 3) := dk_182 0 145 (dk_at dksX3_sampleHere_1 9 rfl rfl)
theorem dX3_sampleHere_36 : decode cX3_sampleHere 36 = .ok (.ireturn, 1) := dk_172 (dk_at dksX3_sampleHere_1 12 rfl rfl)
theorem dX3_sampleHere_37 : decode cX3_sampleHere 37 = .ok (.iload_n 1, 1) := dk_27 (dk_at dksX3_sampleHere_1 13 rfl rfl)
theorem dX3_sampleHere_38 : decode cX3_sampleHere 38 = .ok (.bipush 64, 2) := dk_16 64 (dk_at dksX3_sampleHere_1 14 rfl rfl)
theorem dX3_sampleHere_40 : decode cX3_sampleHere 40 = .ok (.if_icmp .ne 9, 3) := dk_160 0 9 (dk_at dksX3_sampleHere_1 16 rfl rfl)
theorem dX3_sampleHere_43 : decode cX3_sampleHere 43 = .ok (.aload_n 0, 1) := dk_42 (dk_at dksX3_sampleHere_1 19 rfl rfl)
theorem dX3_sampleHere_44 : decode cX3_sampleHere 44 = .ok (.iconst 4, 1) := dk_7 (dk_at dksX3_sampleHere_1 20 rfl rfl)
theorem dX3_sampleHere_45 : decode cX3_sampleHere 45 = .ok (.invokevirtual 145, 3) := dk_182 0 145 (dk_at dksX3_sampleHere_1 21 rfl rfl)
theorem dX3_sampleHere_48 : decode cX3_sampleHere 48 = .ok (.ireturn, 1) := dk_172 (dk_at dksX3_sampleHere_2 0 rfl rfl)
theorem dX3_sampleHere_49 : decode cX3_sampleHere 49 = .ok (.aload_n 0, 1) := dk_42 (dk_at dksX3_sampleHere_2 1 rfl rfl)
theorem dX3_sampleHere_50 : decode cX3_sampleHere 50 = .ok (.getfield 7, 3) := dk_180 0 7 (dk_at dksX3_sampleHere_2 2 rfl rfl)
theorem dX3_sampleHere_53 : decode cX3_sampleHere 53 = .ok (.aload_n 0, 1) := dk_42 (dk_at dksX3_sampleHere_2 5 rfl rfl)
theorem dX3_sampleHere_54 : decode cX3_sampleHere 54 = .ok (.getfield 7, 3) := dk_180 0 7 (dk_at dksX3_sampleHere_2 6 rfl rfl)
theorem dX3_sampleHere_57 : decode cX3_sampleHere 57 = .ok (.iconst 0, 1) := dk_3 (dk_at dksX3_sampleHere_2 9 rfl rfl)
theorem dX3_sampleHere_58 : decode cX3_sampleHere 58 = .ok (.iaload, 1) := dk_46 (dk_at dksX3_sampleHere_2 10 rfl rfl)
theorem dX3_sampleHere_59 : decode cX3_sampleHere 59 = .ok (.invokestatic 58, 3) := dk_184 0 58 (dk_at dksX3_sampleHere_2 11 rfl rfl)
theorem dX3_sampleHere_62 : decode cX3_sampleHere 62 = .ok (.bipush 8, 2) := dk_16 8 (dk_at dksX3_sampleHere_2 14 rfl rfl)
theorem dX3_sampleHere_64 : decode cX3_sampleHere 64 = .ok (.iadd, 1) := dk_96 (dk_at dksX3_sampleHere_2 16 rfl rfl)
theorem dX3_sampleHere_65 : decode cX3_sampleHere 65 = .ok (.iload_n 1, 1) := dk_27 (dk_at dksX3_sampleHere_2 17 rfl rfl)
theorem dX3_sampleHere_66 : decode cX3_sampleHere 66 = .ok (.iadd, 1) := dk_96 (dk_at dksX3_sampleHere_2 18 rfl rfl)
theorem dX3_sampleHere_67 : decode cX3_sampleHere 67 = .ok (.iload_n 2, 1) := dk_28 (dk_at dksX3_sampleHere_2 19 rfl rfl)
theorem dX3_sampleHere_68 : decode cX3_sampleHere 68 = .ok (.ifCond .eq 11, 3) := dk_153 0 11 (dk_at dksX3_sampleHere_2 20 rfl rfl)
theorem dX3_sampleHere_71 : decode cX3_sampleHere 71 = .ok (.aload_n 0, 1) := dk_42 (dk_at dksX3_sampleHere_2 23 rfl rfl)
theorem dX3_sampleHere_72 : decode cX3_sampleHere 72 = .ok (.getfield 131, 3) := dk_180 0 131 (dk_at dksX3_sampleHere_3 0 rfl rfl)
theorem dX3_sampleHere_75 : decode cX3_sampleHere 75 = .ok (.ineg, 1) := dk_116 (dk_at dksX3_sampleHere_3 3 rfl rfl)
theorem dX3_sampleHere_76 : decode cX3_sampleHere 76 = .ok (.goto 7, 3) := dk_167 0 7 (dk_at dksX3_sampleHere_3 4 rfl rfl)
theorem dX3_sampleHere_79 : decode cX3_sampleHere 79 = .ok (.aload_n 0, 1) := dk_42 (dk_at dksX3_sampleHere_3 7 rfl rfl)
theorem dX3_sampleHere_80 : decode cX3_sampleHere 80 = .ok (.getfield 131, 3) := dk_180 0 131 (dk_at dksX3_sampleHere_3 8 rfl rfl)
theorem dX3_sampleHere_83 : decode cX3_sampleHere 83 = .ok (.iastore, 1) := dk_79 (dk_at dksX3_sampleHere_3 11 rfl rfl)
theorem dX3_sampleHere_84 : decode cX3_sampleHere 84 = .ok (.aload_n 0, 1) := dk_42 (dk_at dksX3_sampleHere_3 12 rfl rfl)
theorem dX3_sampleHere_85 : decode cX3_sampleHere 85 = .ok (.invokevirtual 141, 3) := dk_182 0 141 (dk_at dksX3_sampleHere_3 13 rfl rfl)
theorem dX3_sampleHere_88 : decode cX3_sampleHere 88 = .ok (.ireturn, 1) := dk_172 (dk_at dksX3_sampleHere_3 16 rfl rfl)
abbrev cX3_isLength : ByteArray := prog_11_method_15_code
def yX3_isLength : MethodName := ⟨RX3, "isLength", "(I)Z"⟩
def dkwX3_isLength_0 : List UInt8 := [26, 5, 16, 64, 184, 0, 50, 153, 0, 15, 26, 26, 4, 100, 126, 154, 0, 7, 4, 167, 0, 4, 3, 172]
abbrev dktX3_isLength_0 : List UInt8 := dkwX3_isLength_0 ++ []
theorem dksX3_isLength_0 : cX3_isLength.data.toList.drop 0 = dktX3_isLength_0 := by decide +kernel
theorem dX3_isLength_0 : decode cX3_isLength 0 = .ok (.iload_n 0, 1) := dk_26 (dk_at dksX3_isLength_0 0 rfl rfl)
theorem dX3_isLength_1 : decode cX3_isLength 1 = .ok (.iconst 2, 1) := dk_5 (dk_at dksX3_isLength_0 1 rfl rfl)
theorem dX3_isLength_2 : decode cX3_isLength 2 = .ok (.bipush 64, 2) := dk_16 64 (dk_at dksX3_isLength_0 2 rfl rfl)
theorem dX3_isLength_4 : decode cX3_isLength 4 = .ok (.invokestatic 50, 3) := dk_184 0 50 (dk_at dksX3_isLength_0 4 rfl rfl)
theorem dX3_isLength_7 : decode cX3_isLength 7 = .ok (.ifCond .eq 15, 3) := dk_153 0 15 (dk_at dksX3_isLength_0 7 rfl rfl)
theorem dX3_isLength_10 : decode cX3_isLength 10 = .ok (.iload_n 0, 1) := dk_26 (dk_at dksX3_isLength_0 10 rfl rfl)
theorem dX3_isLength_11 : decode cX3_isLength 11 = .ok (.iload_n 0, 1) := dk_26 (dk_at dksX3_isLength_0 11 rfl rfl)
theorem dX3_isLength_12 : decode cX3_isLength 12 = .ok (.iconst 1, 1) := dk_4 (dk_at dksX3_isLength_0 12 rfl rfl)
theorem dX3_isLength_13 : decode cX3_isLength 13 = .ok (.isub, 1) := dk_100 (dk_at dksX3_isLength_0 13 rfl rfl)
theorem dX3_isLength_14 : decode cX3_isLength 14 = .ok (.iand, 1) := dk_126 (dk_at dksX3_isLength_0 14 rfl rfl)
theorem dX3_isLength_15 : decode cX3_isLength 15 = .ok (.ifCond .ne 7, 3) := dk_154 0 7 (dk_at dksX3_isLength_0 15 rfl rfl)
theorem dX3_isLength_18 : decode cX3_isLength 18 = .ok (.iconst 1, 1) := dk_4 (dk_at dksX3_isLength_0 18 rfl rfl)
theorem dX3_isLength_19 : decode cX3_isLength 19 = .ok (.goto 4, 3) := dk_167 0 4 (dk_at dksX3_isLength_0 19 rfl rfl)
theorem dX3_isLength_22 : decode cX3_isLength 22 = .ok (.iconst 0, 1) := dk_3 (dk_at dksX3_isLength_0 22 rfl rfl)
theorem dX3_isLength_23 : decode cX3_isLength 23 = .ok (.ireturn, 1) := dk_172 (dk_at dksX3_isLength_0 23 rfl rfl)
abbrev cX3_layBack : ByteArray := prog_11_method_7_code
def yX3_layBack : MethodName := ⟨RX3, "layBack", "()V"⟩
def dkwX3_layBack_1 : List UInt8 := [167, 255, 234, 177]
abbrev dktX3_layBack_1 : List UInt8 := dkwX3_layBack_1 ++ []
def dkwX3_layBack_0 : List UInt8 := [3, 60, 27, 17, 1, 177, 162, 0, 21, 42, 180, 0, 7, 27, 42, 180, 0, 13, 27, 46, 79, 132, 1, 1]
abbrev dktX3_layBack_0 : List UInt8 := dkwX3_layBack_0 ++ dktX3_layBack_1
theorem dksX3_layBack_0 : cX3_layBack.data.toList.drop 0 = dktX3_layBack_0 := by decide +kernel
theorem dksX3_layBack_1 : cX3_layBack.data.toList.drop 24 = dktX3_layBack_1 := dk_seg dksX3_layBack_0 24 rfl rfl
theorem dX3_layBack_0 : decode cX3_layBack 0 = .ok (.iconst 0, 1) := dk_3 (dk_at dksX3_layBack_0 0 rfl rfl)
theorem dX3_layBack_1 : decode cX3_layBack 1 = .ok (.istore_n 1, 1) := dk_60 (dk_at dksX3_layBack_0 1 rfl rfl)
theorem dX3_layBack_2 : decode cX3_layBack 2 = .ok (.iload_n 1, 1) := dk_27 (dk_at dksX3_layBack_0 2 rfl rfl)
theorem dX3_layBack_3 : decode cX3_layBack 3 = .ok (.sipush 433, 3) := dk_17 1 177 (dk_at dksX3_layBack_0 3 rfl rfl)
theorem dX3_layBack_6 : decode cX3_layBack 6 = .ok (.if_icmp .ge 21, 3) := dk_162 0 21 (dk_at dksX3_layBack_0 6 rfl rfl)
theorem dX3_layBack_9 : decode cX3_layBack 9 = .ok (.aload_n 0, 1) := dk_42 (dk_at dksX3_layBack_0 9 rfl rfl)
theorem dX3_layBack_10 : decode cX3_layBack 10 = .ok (.getfield 7, 3) := dk_180 0 7 (dk_at dksX3_layBack_0 10 rfl rfl)
theorem dX3_layBack_13 : decode cX3_layBack 13 = .ok (.iload_n 1, 1) := dk_27 (dk_at dksX3_layBack_0 13 rfl rfl)
theorem dX3_layBack_14 : decode cX3_layBack 14 = .ok (.aload_n 0, 1) := dk_42 (dk_at dksX3_layBack_0 14 rfl rfl)
theorem dX3_layBack_15 : decode cX3_layBack 15 = .ok (.getfield 13, 3) := dk_180 0 13 (dk_at dksX3_layBack_0 15 rfl rfl)
theorem dX3_layBack_18 : decode cX3_layBack 18 = .ok (.iload_n 1, 1) := dk_27 (dk_at dksX3_layBack_0 18 rfl rfl)
theorem dX3_layBack_19 : decode cX3_layBack 19 = .ok (.iaload, 1) := dk_46 (dk_at dksX3_layBack_0 19 rfl rfl)
theorem dX3_layBack_20 : decode cX3_layBack 20 = .ok (.iastore, 1) := dk_79 (dk_at dksX3_layBack_0 20 rfl rfl)
theorem dX3_layBack_21 : decode cX3_layBack 21 = .ok (.iinc 1 1, 3) := dk_132 1 1 (dk_at dksX3_layBack_0 21 rfl rfl)
theorem dX3_layBack_24 : decode cX3_layBack 24 = .ok (.goto (-22), 3) := dk_167 255 234 (dk_at dksX3_layBack_1 0 rfl rfl)
theorem dX3_layBack_27 : decode cX3_layBack 27 = .ok (.return_, 1) := dk_177 (dk_at dksX3_layBack_1 3 rfl rfl)
abbrev cX3_errorKind : ByteArray := prog_11_method_42_code
def yX3_errorKind : MethodName := ⟨RX3, "errorKind", "()I"⟩
def dkwX3_errorKind_0 : List UInt8 := [42, 3, 181, 0, 44, 42, 180, 0, 134, 172]
abbrev dktX3_errorKind_0 : List UInt8 := dkwX3_errorKind_0 ++ []
theorem dksX3_errorKind_0 : cX3_errorKind.data.toList.drop 0 = dktX3_errorKind_0 := by decide +kernel
theorem dX3_errorKind_0 : decode cX3_errorKind 0 = .ok (.aload_n 0, 1) := dk_42 (dk_at dksX3_errorKind_0 0 rfl rfl)
theorem dX3_errorKind_1 : decode cX3_errorKind 1 = .ok (.iconst 0, 1) := dk_3 (dk_at dksX3_errorKind_0 1 rfl rfl)
theorem dX3_errorKind_2 : decode cX3_errorKind 2 = .ok (.putfield 44, 3) := dk_181 0 44 (dk_at dksX3_errorKind_0 2 rfl rfl)
theorem dX3_errorKind_5 : decode cX3_errorKind 5 = .ok (.aload_n 0, 1) := dk_42 (dk_at dksX3_errorKind_0 5 rfl rfl)
theorem dX3_errorKind_6 : decode cX3_errorKind 6 = .ok (.getfield 134, 3) := dk_180 0 134 (dk_at dksX3_errorKind_0 6 rfl rfl)
theorem dX3_errorKind_9 : decode cX3_errorKind 9 = .ok (.ireturn, 1) := dk_172 (dk_at dksX3_errorKind_0 9 rfl rfl)
abbrev cX3_errorOffset : ByteArray := prog_11_method_43_code
def yX3_errorOffset : MethodName := ⟨RX3, "errorOffset", "()I"⟩
def dkwX3_errorOffset_0 : List UInt8 := [42, 3, 181, 0, 44, 42, 180, 0, 40, 172]
abbrev dktX3_errorOffset_0 : List UInt8 := dkwX3_errorOffset_0 ++ []
theorem dksX3_errorOffset_0 : cX3_errorOffset.data.toList.drop 0 = dktX3_errorOffset_0 := by decide +kernel
theorem dX3_errorOffset_0 : decode cX3_errorOffset 0 = .ok (.aload_n 0, 1) := dk_42 (dk_at dksX3_errorOffset_0 0 rfl rfl)
theorem dX3_errorOffset_1 : decode cX3_errorOffset 1 = .ok (.iconst 0, 1) := dk_3 (dk_at dksX3_errorOffset_0 1 rfl rfl)
theorem dX3_errorOffset_2 : decode cX3_errorOffset 2 = .ok (.putfield 44, 3) := dk_181 0 44 (dk_at dksX3_errorOffset_0 2 rfl rfl)
theorem dX3_errorOffset_5 : decode cX3_errorOffset 5 = .ok (.aload_n 0, 1) := dk_42 (dk_at dksX3_errorOffset_0 5 rfl rfl)
theorem dX3_errorOffset_6 : decode cX3_errorOffset 6 = .ok (.getfield 40, 3) := dk_180 0 40 (dk_at dksX3_errorOffset_0 6 rfl rfl)
theorem dX3_errorOffset_9 : decode cX3_errorOffset 9 = .ok (.ireturn, 1) := dk_172 (dk_at dksX3_errorOffset_0 9 rfl rfl)
abbrev cX3_recordingCount : ByteArray := prog_11_method_44_code
def yX3_recordingCount : MethodName := ⟨RX3, "recordingCount", "()I"⟩
def dkwX3_recordingCount_0 : List UInt8 := [42, 3, 181, 0, 44, 42, 180, 0, 7, 3, 46, 172]
abbrev dktX3_recordingCount_0 : List UInt8 := dkwX3_recordingCount_0 ++ []
theorem dksX3_recordingCount_0 : cX3_recordingCount.data.toList.drop 0 = dktX3_recordingCount_0 := by decide +kernel
theorem dX3_recordingCount_0 : decode cX3_recordingCount 0 = .ok (.aload_n 0, 1) := dk_42 (dk_at dksX3_recordingCount_0 0 rfl rfl)
theorem dX3_recordingCount_1 : decode cX3_recordingCount 1 = .ok (.iconst 0, 1) := dk_3 (dk_at dksX3_recordingCount_0 1 rfl rfl)
theorem dX3_recordingCount_2 : decode cX3_recordingCount 2 = .ok (.putfield 44, 3) := dk_181 0 44 (dk_at dksX3_recordingCount_0 2 rfl rfl)
theorem dX3_recordingCount_5 : decode cX3_recordingCount 5 = .ok (.aload_n 0, 1) := dk_42 (dk_at dksX3_recordingCount_0 5 rfl rfl)
theorem dX3_recordingCount_6 : decode cX3_recordingCount 6 = .ok (.getfield 7, 3) := dk_180 0 7 (dk_at dksX3_recordingCount_0 6 rfl rfl)
theorem dX3_recordingCount_9 : decode cX3_recordingCount 9 = .ok (.iconst 0, 1) := dk_3 (dk_at dksX3_recordingCount_0 9 rfl rfl)
theorem dX3_recordingCount_10 : decode cX3_recordingCount 10 = .ok (.iaload, 1) := dk_46 (dk_at dksX3_recordingCount_0 10 rfl rfl)
theorem dX3_recordingCount_11 : decode cX3_recordingCount 11 = .ok (.ireturn, 1) := dk_172 (dk_at dksX3_recordingCount_0 11 rfl rfl)
abbrev cX3_length : ByteArray := prog_11_method_45_code
def yX3_length : MethodName := ⟨RX3, "length", "(I)I"⟩
def dkwX3_length_0 : List UInt8 := [42, 42, 27, 182, 0, 54, 182, 0, 112, 153, 0, 11, 42, 27, 182, 0, 62, 167, 0, 4, 2, 172]
abbrev dktX3_length_0 : List UInt8 := dkwX3_length_0 ++ []
theorem dksX3_length_0 : cX3_length.data.toList.drop 0 = dktX3_length_0 := by decide +kernel
theorem dX3_length_0 : decode cX3_length 0 = .ok (.aload_n 0, 1) := dk_42 (dk_at dksX3_length_0 0 rfl rfl)
theorem dX3_length_1 : decode cX3_length 1 = .ok (.aload_n 0, 1) := dk_42 (dk_at dksX3_length_0 1 rfl rfl)
theorem dX3_length_2 : decode cX3_length 2 = .ok (.iload_n 1, 1) := dk_27 (dk_at dksX3_length_0 2 rfl rfl)
theorem dX3_length_3 : decode cX3_length 3 = .ok (.invokevirtual 54, 3) := dk_182 0 54 (dk_at dksX3_length_0 3 rfl rfl)
theorem dX3_length_6 : decode cX3_length 6 = .ok (.invokevirtual 112, 3) := dk_182 0 112 (dk_at dksX3_length_0 6 rfl rfl)
theorem dX3_length_9 : decode cX3_length 9 = .ok (.ifCond .eq 11, 3) := dk_153 0 11 (dk_at dksX3_length_0 9 rfl rfl)
theorem dX3_length_12 : decode cX3_length 12 = .ok (.aload_n 0, 1) := dk_42 (dk_at dksX3_length_0 12 rfl rfl)
theorem dX3_length_13 : decode cX3_length 13 = .ok (.iload_n 1, 1) := dk_27 (dk_at dksX3_length_0 13 rfl rfl)
theorem dX3_length_14 : decode cX3_length 14 = .ok (.invokevirtual 62, 3) := dk_182 0 62 (dk_at dksX3_length_0 14 rfl rfl)
theorem dX3_length_17 : decode cX3_length 17 = .ok (.goto 4, 3) := dk_167 0 4 (dk_at dksX3_length_0 17 rfl rfl)
theorem dX3_length_20 : decode cX3_length 20 = .ok (.iconst (-1), 1) := dk_2 (dk_at dksX3_length_0 20 rfl rfl)
theorem dX3_length_21 : decode cX3_length 21 = .ok (.ireturn, 1) := dk_172 (dk_at dksX3_length_0 21 rfl rfl)
abbrev cX3_isRecording : ByteArray := prog_11_method_10_code
def yX3_isRecording : MethodName := ⟨RX3, "isRecording", "(I)Z"⟩
def dkwX3_isRecording_0 : List UInt8 := [27, 3, 42, 180, 0, 7, 3, 46, 4, 100, 184, 0, 50, 172]
abbrev dktX3_isRecording_0 : List UInt8 := dkwX3_isRecording_0 ++ []
theorem dksX3_isRecording_0 : cX3_isRecording.data.toList.drop 0 = dktX3_isRecording_0 := by decide +kernel
theorem dX3_isRecording_0 : decode cX3_isRecording 0 = .ok (.iload_n 1, 1) := dk_27 (dk_at dksX3_isRecording_0 0 rfl rfl)
theorem dX3_isRecording_1 : decode cX3_isRecording 1 = .ok (.iconst 0, 1) := dk_3 (dk_at dksX3_isRecording_0 1 rfl rfl)
theorem dX3_isRecording_2 : decode cX3_isRecording 2 = .ok (.aload_n 0, 1) := dk_42 (dk_at dksX3_isRecording_0 2 rfl rfl)
theorem dX3_isRecording_3 : decode cX3_isRecording 3 = .ok (.getfield 7, 3) := dk_180 0 7 (dk_at dksX3_isRecording_0 3 rfl rfl)
theorem dX3_isRecording_6 : decode cX3_isRecording 6 = .ok (.iconst 0, 1) := dk_3 (dk_at dksX3_isRecording_0 6 rfl rfl)
theorem dX3_isRecording_7 : decode cX3_isRecording 7 = .ok (.iaload, 1) := dk_46 (dk_at dksX3_isRecording_0 7 rfl rfl)
theorem dX3_isRecording_8 : decode cX3_isRecording 8 = .ok (.iconst 1, 1) := dk_4 (dk_at dksX3_isRecording_0 8 rfl rfl)
theorem dX3_isRecording_9 : decode cX3_isRecording 9 = .ok (.isub, 1) := dk_100 (dk_at dksX3_isRecording_0 9 rfl rfl)
theorem dX3_isRecording_10 : decode cX3_isRecording 10 = .ok (.invokestatic 50, 3) := dk_184 0 50 (dk_at dksX3_isRecording_0 10 rfl rfl)
theorem dX3_isRecording_13 : decode cX3_isRecording 13 = .ok (.ireturn, 1) := dk_172 (dk_at dksX3_isRecording_0 13 rfl rfl)
abbrev cX3_size : ByteArray := prog_11_method_12_code
def yX3_size : MethodName := ⟨RX3, "size", "(I)I"⟩
def dkwX3_size_0 : List UInt8 := [42, 180, 0, 7, 27, 184, 0, 58, 16, 7, 96, 46, 172]
abbrev dktX3_size_0 : List UInt8 := dkwX3_size_0 ++ []
theorem dksX3_size_0 : cX3_size.data.toList.drop 0 = dktX3_size_0 := by decide +kernel
theorem dX3_size_0 : decode cX3_size 0 = .ok (.aload_n 0, 1) := dk_42 (dk_at dksX3_size_0 0 rfl rfl)
theorem dX3_size_1 : decode cX3_size 1 = .ok (.getfield 7, 3) := dk_180 0 7 (dk_at dksX3_size_0 1 rfl rfl)
theorem dX3_size_4 : decode cX3_size 4 = .ok (.iload_n 1, 1) := dk_27 (dk_at dksX3_size_0 4 rfl rfl)
theorem dX3_size_5 : decode cX3_size 5 = .ok (.invokestatic 58, 3) := dk_184 0 58 (dk_at dksX3_size_0 5 rfl rfl)
theorem dX3_size_8 : decode cX3_size 8 = .ok (.bipush 7, 2) := dk_16 7 (dk_at dksX3_size_0 8 rfl rfl)
theorem dX3_size_10 : decode cX3_size 10 = .ok (.iadd, 1) := dk_96 (dk_at dksX3_size_0 10 rfl rfl)
theorem dX3_size_11 : decode cX3_size 11 = .ok (.iaload, 1) := dk_46 (dk_at dksX3_size_0 11 rfl rfl)
theorem dX3_size_12 : decode cX3_size 12 = .ok (.ireturn, 1) := dk_172 (dk_at dksX3_size_0 12 rfl rfl)
abbrev cX3_nameCharacter : ByteArray := prog_11_method_46_code
def yX3_nameCharacter : MethodName := ⟨RX3, "nameCharacter", "(II)C"⟩
def dkwX3_nameCharacter_2 : List UInt8 := [153, 0, 20, 42, 180, 0, 7, 27, 184, 0, 58, 4, 96, 28, 96, 46, 146, 167, 0, 4, 3, 172]
abbrev dktX3_nameCharacter_2 : List UInt8 := dkwX3_nameCharacter_2 ++ []
def dkwX3_nameCharacter_1 : List UInt8 := [167, 0, 4, 3, 184, 0, 58, 46, 4, 100, 184, 0, 50, 153, 0, 7, 4, 167, 0, 4, 3, 182, 0, 112]
abbrev dktX3_nameCharacter_1 : List UInt8 := dkwX3_nameCharacter_1 ++ dktX3_nameCharacter_2
def dkwX3_nameCharacter_0 : List UInt8 := [42, 27, 182, 0, 54, 62, 42, 29, 153, 0, 34, 28, 3, 42, 180, 0, 7, 29, 153, 0, 7, 27]
abbrev dktX3_nameCharacter_0 : List UInt8 := dkwX3_nameCharacter_0 ++ dktX3_nameCharacter_1
theorem dksX3_nameCharacter_0 : cX3_nameCharacter.data.toList.drop 0 = dktX3_nameCharacter_0 := by decide +kernel
theorem dksX3_nameCharacter_1 : cX3_nameCharacter.data.toList.drop 22 = dktX3_nameCharacter_1 := dk_seg dksX3_nameCharacter_0 22 rfl rfl
theorem dksX3_nameCharacter_2 : cX3_nameCharacter.data.toList.drop 46 = dktX3_nameCharacter_2 := dk_seg dksX3_nameCharacter_1 24 rfl rfl
theorem dX3_nameCharacter_0 : decode cX3_nameCharacter 0 = .ok (.aload_n 0, 1) := dk_42 (dk_at dksX3_nameCharacter_0 0 rfl rfl)
theorem dX3_nameCharacter_1 : decode cX3_nameCharacter 1 = .ok (.iload_n 1, 1) := dk_27 (dk_at dksX3_nameCharacter_0 1 rfl rfl)
theorem dX3_nameCharacter_2 : decode cX3_nameCharacter 2 = .ok (.invokevirtual 54, 3) := dk_182 0 54 (dk_at dksX3_nameCharacter_0 2 rfl rfl)
theorem dX3_nameCharacter_5 : decode cX3_nameCharacter 5 = .ok (.istore_n 3, 1) := dk_62 (dk_at dksX3_nameCharacter_0 5 rfl rfl)
theorem dX3_nameCharacter_6 : decode cX3_nameCharacter 6 = .ok (.aload_n 0, 1) := dk_42 (dk_at dksX3_nameCharacter_0 6 rfl rfl)
theorem dX3_nameCharacter_7 : decode cX3_nameCharacter 7 = .ok (.iload_n 3, 1) := dk_29 (dk_at dksX3_nameCharacter_0 7 rfl rfl)
theorem dX3_nameCharacter_8 : decode cX3_nameCharacter 8 = .ok (.ifCond .eq 34, 3) := dk_153 0 34 (dk_at dksX3_nameCharacter_0 8 rfl rfl)
theorem dX3_nameCharacter_11 : decode cX3_nameCharacter 11 = .ok (.iload_n 2, 1) := dk_28 (dk_at dksX3_nameCharacter_0 11 rfl rfl)
theorem dX3_nameCharacter_12 : decode cX3_nameCharacter 12 = .ok (.iconst 0, 1) := dk_3 (dk_at dksX3_nameCharacter_0 12 rfl rfl)
theorem dX3_nameCharacter_13 : decode cX3_nameCharacter 13 = .ok (.aload_n 0, 1) := dk_42 (dk_at dksX3_nameCharacter_0 13 rfl rfl)
theorem dX3_nameCharacter_14 : decode cX3_nameCharacter 14 = .ok (.getfield 7, 3) := dk_180 0 7 (dk_at dksX3_nameCharacter_0 14 rfl rfl)
theorem dX3_nameCharacter_17 : decode cX3_nameCharacter 17 = .ok (.iload_n 3, 1) := dk_29 (dk_at dksX3_nameCharacter_0 17 rfl rfl)
theorem dX3_nameCharacter_18 : decode cX3_nameCharacter 18 = .ok (.ifCond .eq 7, 3) := dk_153 0 7 (dk_at dksX3_nameCharacter_0 18 rfl rfl)
theorem dX3_nameCharacter_21 : decode cX3_nameCharacter 21 = .ok (.iload_n 1, 1) := dk_27 (dk_at dksX3_nameCharacter_0 21 rfl rfl)
theorem dX3_nameCharacter_22 : decode cX3_nameCharacter 22 = .ok (.goto 4, 3) := dk_167 0 4 (dk_at dksX3_nameCharacter_1 0 rfl rfl)
theorem dX3_nameCharacter_25 : decode cX3_nameCharacter 25 = .ok (.iconst 0, 1) := dk_3 (dk_at dksX3_nameCharacter_1 3 rfl rfl)
theorem dX3_nameCharacter_26 : decode cX3_nameCharacter 26 = .ok (.invokestatic 58, 3) := dk_184 0 58 (dk_at dksX3_nameCharacter_1 4 rfl rfl)
theorem dX3_nameCharacter_29 : decode cX3_nameCharacter 29 = .ok (.iaload, 1) := dk_46 (dk_at dksX3_nameCharacter_1 7 rfl rfl)
theorem dX3_nameCharacter_30 : decode cX3_nameCharacter 30 = .ok (.iconst 1, 1) := dk_4 (dk_at dksX3_nameCharacter_1 8 rfl rfl)
theorem dX3_nameCharacter_31 : decode cX3_nameCharacter 31 = .ok (.isub, 1) := dk_100 (dk_at dksX3_nameCharacter_1 9 rfl rfl)
theorem dX3_nameCharacter_32 : decode cX3_nameCharacter 32 = .ok (.invokestatic 50, 3) := dk_184 0 50 (dk_at dksX3_nameCharacter_1 10 rfl rfl)
theorem dX3_nameCharacter_35 : decode cX3_nameCharacter 35 = .ok (.ifCond .eq 7, 3) := dk_153 0 7 (dk_at dksX3_nameCharacter_1 13 rfl rfl)
theorem dX3_nameCharacter_38 : decode cX3_nameCharacter 38 = .ok (.iconst 1, 1) := dk_4 (dk_at dksX3_nameCharacter_1 16 rfl rfl)
theorem dX3_nameCharacter_39 : decode cX3_nameCharacter 39 = .ok (.goto 4, 3) := dk_167 0 4 (dk_at dksX3_nameCharacter_1 17 rfl rfl)
theorem dX3_nameCharacter_42 : decode cX3_nameCharacter 42 = .ok (.iconst 0, 1) := dk_3 (dk_at dksX3_nameCharacter_1 20 rfl rfl)
theorem dX3_nameCharacter_43 : decode cX3_nameCharacter 43 = .ok (.invokevirtual 112, 3) := dk_182 0 112 (dk_at dksX3_nameCharacter_1 21 rfl rfl)
theorem dX3_nameCharacter_46 : decode cX3_nameCharacter 46 = .ok (.ifCond .eq 20, 3) := dk_153 0 20 (dk_at dksX3_nameCharacter_2 0 rfl rfl)
theorem dX3_nameCharacter_49 : decode cX3_nameCharacter 49 = .ok (.aload_n 0, 1) := dk_42 (dk_at dksX3_nameCharacter_2 3 rfl rfl)
theorem dX3_nameCharacter_50 : decode cX3_nameCharacter 50 = .ok (.getfield 7, 3) := dk_180 0 7 (dk_at dksX3_nameCharacter_2 4 rfl rfl)
theorem dX3_nameCharacter_53 : decode cX3_nameCharacter 53 = .ok (.iload_n 1, 1) := dk_27 (dk_at dksX3_nameCharacter_2 7 rfl rfl)
theorem dX3_nameCharacter_54 : decode cX3_nameCharacter 54 = .ok (.invokestatic 58, 3) := dk_184 0 58 (dk_at dksX3_nameCharacter_2 8 rfl rfl)
theorem dX3_nameCharacter_57 : decode cX3_nameCharacter 57 = .ok (.iconst 1, 1) := dk_4 (dk_at dksX3_nameCharacter_2 11 rfl rfl)
theorem dX3_nameCharacter_58 : decode cX3_nameCharacter 58 = .ok (.iadd, 1) := dk_96 (dk_at dksX3_nameCharacter_2 12 rfl rfl)
theorem dX3_nameCharacter_59 : decode cX3_nameCharacter 59 = .ok (.iload_n 2, 1) := dk_28 (dk_at dksX3_nameCharacter_2 13 rfl rfl)
theorem dX3_nameCharacter_60 : decode cX3_nameCharacter 60 = .ok (.iadd, 1) := dk_96 (dk_at dksX3_nameCharacter_2 14 rfl rfl)
theorem dX3_nameCharacter_61 : decode cX3_nameCharacter 61 = .ok (.iaload, 1) := dk_46 (dk_at dksX3_nameCharacter_2 15 rfl rfl)
theorem dX3_nameCharacter_62 : decode cX3_nameCharacter 62 = .ok (.i2c, 1) := dk_146 (dk_at dksX3_nameCharacter_2 16 rfl rfl)
theorem dX3_nameCharacter_63 : decode cX3_nameCharacter 63 = .ok (.goto 4, 3) := dk_167 0 4 (dk_at dksX3_nameCharacter_2 17 rfl rfl)
theorem dX3_nameCharacter_66 : decode cX3_nameCharacter 66 = .ok (.iconst 0, 1) := dk_3 (dk_at dksX3_nameCharacter_2 20 rfl rfl)
theorem dX3_nameCharacter_67 : decode cX3_nameCharacter 67 = .ok (.ireturn, 1) := dk_172 (dk_at dksX3_nameCharacter_2 21 rfl rfl)
abbrev cX3_findRecording : ByteArray := prog_11_method_47_code
def yX3_findRecording : MethodName := ⟨RX3, "findRecording", "()I"⟩
def dkwX3_findRecording_1 : List UInt8 := [182, 0, 151, 167, 0, 4, 2, 172]
abbrev dktX3_findRecording_1 : List UInt8 := dkwX3_findRecording_1 ++ []
def dkwX3_findRecording_0 : List UInt8 := [42, 3, 181, 0, 44, 42, 180, 0, 109, 4, 16, 6, 184, 0, 50, 153, 0, 15, 42, 3, 42, 180, 0, 109]
abbrev dktX3_findRecording_0 : List UInt8 := dkwX3_findRecording_0 ++ dktX3_findRecording_1
theorem dksX3_findRecording_0 : cX3_findRecording.data.toList.drop 0 = dktX3_findRecording_0 := by decide +kernel
theorem dksX3_findRecording_1 : cX3_findRecording.data.toList.drop 24 = dktX3_findRecording_1 := dk_seg dksX3_findRecording_0 24 rfl rfl
theorem dX3_findRecording_0 : decode cX3_findRecording 0 = .ok (.aload_n 0, 1) := dk_42 (dk_at dksX3_findRecording_0 0 rfl rfl)
theorem dX3_findRecording_1 : decode cX3_findRecording 1 = .ok (.iconst 0, 1) := dk_3 (dk_at dksX3_findRecording_0 1 rfl rfl)
theorem dX3_findRecording_2 : decode cX3_findRecording 2 = .ok (.putfield 44, 3) := dk_181 0 44 (dk_at dksX3_findRecording_0 2 rfl rfl)
theorem dX3_findRecording_5 : decode cX3_findRecording 5 = .ok (.aload_n 0, 1) := dk_42 (dk_at dksX3_findRecording_0 5 rfl rfl)
theorem dX3_findRecording_6 : decode cX3_findRecording 6 = .ok (.getfield 109, 3) := dk_180 0 109 (dk_at dksX3_findRecording_0 6 rfl rfl)
theorem dX3_findRecording_9 : decode cX3_findRecording 9 = .ok (.iconst 1, 1) := dk_4 (dk_at dksX3_findRecording_0 9 rfl rfl)
theorem dX3_findRecording_10 : decode cX3_findRecording 10 = .ok (.bipush 6, 2) := dk_16 6 (dk_at dksX3_findRecording_0 10 rfl rfl)
theorem dX3_findRecording_12 : decode cX3_findRecording 12 = .ok (.invokestatic 50, 3) := dk_184 0 50 (dk_at dksX3_findRecording_0 12 rfl rfl)
theorem dX3_findRecording_15 : decode cX3_findRecording 15 = .ok (.ifCond .eq 15, 3) := dk_153 0 15 (dk_at dksX3_findRecording_0 15 rfl rfl)
theorem dX3_findRecording_18 : decode cX3_findRecording 18 = .ok (.aload_n 0, 1) := dk_42 (dk_at dksX3_findRecording_0 18 rfl rfl)
theorem dX3_findRecording_19 : decode cX3_findRecording 19 = .ok (.iconst 0, 1) := dk_3 (dk_at dksX3_findRecording_0 19 rfl rfl)
theorem dX3_findRecording_20 : decode cX3_findRecording 20 = .ok (.aload_n 0, 1) := dk_42 (dk_at dksX3_findRecording_0 20 rfl rfl)
theorem dX3_findRecording_21 : decode cX3_findRecording 21 = .ok (.getfield 109, 3) := dk_180 0 109 (dk_at dksX3_findRecording_0 21 rfl rfl)
theorem dX3_findRecording_24 : decode cX3_findRecording 24 = .ok (.invokevirtual 151, 3) := dk_182 0 151 (dk_at dksX3_findRecording_1 0 rfl rfl)
theorem dX3_findRecording_27 : decode cX3_findRecording 27 = .ok (.goto 4, 3) := dk_167 0 4 (dk_at dksX3_findRecording_1 3 rfl rfl)
theorem dX3_findRecording_30 : decode cX3_findRecording 30 = .ok (.iconst (-1), 1) := dk_2 (dk_at dksX3_findRecording_1 6 rfl rfl)
theorem dX3_findRecording_31 : decode cX3_findRecording 31 = .ok (.ireturn, 1) := dk_172 (dk_at dksX3_findRecording_1 7 rfl rfl)
abbrev cX3_sample : ByteArray := prog_11_method_48_code
def yX3_sample : MethodName := ⟨RX3, "sample", "(II)I"⟩
def dkwX3_sample_0 : List UInt8 := [42, 42, 27, 28, 182, 0, 179, 182, 0, 112, 153, 0, 12, 42, 27, 28, 182, 0, 82, 167, 0, 4, 2, 172]
abbrev dktX3_sample_0 : List UInt8 := dkwX3_sample_0 ++ []
theorem dksX3_sample_0 : cX3_sample.data.toList.drop 0 = dktX3_sample_0 := by decide +kernel
theorem dX3_sample_0 : decode cX3_sample 0 = .ok (.aload_n 0, 1) := dk_42 (dk_at dksX3_sample_0 0 rfl rfl)
theorem dX3_sample_1 : decode cX3_sample 1 = .ok (.aload_n 0, 1) := dk_42 (dk_at dksX3_sample_0 1 rfl rfl)
theorem dX3_sample_2 : decode cX3_sample 2 = .ok (.iload_n 1, 1) := dk_27 (dk_at dksX3_sample_0 2 rfl rfl)
theorem dX3_sample_3 : decode cX3_sample 3 = .ok (.iload_n 2, 1) := dk_28 (dk_at dksX3_sample_0 3 rfl rfl)
theorem dX3_sample_4 : decode cX3_sample 4 = .ok (.invokevirtual 179, 3) := dk_182 0 179 (dk_at dksX3_sample_0 4 rfl rfl)
theorem dX3_sample_7 : decode cX3_sample 7 = .ok (.invokevirtual 112, 3) := dk_182 0 112 (dk_at dksX3_sample_0 7 rfl rfl)
theorem dX3_sample_10 : decode cX3_sample 10 = .ok (.ifCond .eq 12, 3) := dk_153 0 12 (dk_at dksX3_sample_0 10 rfl rfl)
theorem dX3_sample_13 : decode cX3_sample 13 = .ok (.aload_n 0, 1) := dk_42 (dk_at dksX3_sample_0 13 rfl rfl)
theorem dX3_sample_14 : decode cX3_sample 14 = .ok (.iload_n 1, 1) := dk_27 (dk_at dksX3_sample_0 14 rfl rfl)
theorem dX3_sample_15 : decode cX3_sample 15 = .ok (.iload_n 2, 1) := dk_28 (dk_at dksX3_sample_0 15 rfl rfl)
theorem dX3_sample_16 : decode cX3_sample 16 = .ok (.invokevirtual 82, 3) := dk_182 0 82 (dk_at dksX3_sample_0 16 rfl rfl)
theorem dX3_sample_19 : decode cX3_sample 19 = .ok (.goto 4, 3) := dk_167 0 4 (dk_at dksX3_sample_0 19 rfl rfl)
theorem dX3_sample_22 : decode cX3_sample 22 = .ok (.iconst (-1), 1) := dk_2 (dk_at dksX3_sample_0 22 rfl rfl)
theorem dX3_sample_23 : decode cX3_sample 23 = .ok (.ireturn, 1) := dk_172 (dk_at dksX3_sample_0 23 rfl rfl)
abbrev cX3_isPlace : ByteArray := prog_11_method_13_code
def yX3_isPlace : MethodName := ⟨RX3, "isPlace", "(II)Z"⟩
def dkwX3_isPlace_1 : List UInt8 := [167, 0, 4, 3, 172]
abbrev dktX3_isPlace_1 : List UInt8 := dkwX3_isPlace_1 ++ []
def dkwX3_isPlace_0 : List UInt8 := [42, 27, 182, 0, 54, 153, 0, 22, 28, 3, 42, 27, 182, 0, 62, 4, 100, 184, 0, 50, 153, 0, 7, 4]
abbrev dktX3_isPlace_0 : List UInt8 := dkwX3_isPlace_0 ++ dktX3_isPlace_1
theorem dksX3_isPlace_0 : cX3_isPlace.data.toList.drop 0 = dktX3_isPlace_0 := by decide +kernel
theorem dksX3_isPlace_1 : cX3_isPlace.data.toList.drop 24 = dktX3_isPlace_1 := dk_seg dksX3_isPlace_0 24 rfl rfl
theorem dX3_isPlace_0 : decode cX3_isPlace 0 = .ok (.aload_n 0, 1) := dk_42 (dk_at dksX3_isPlace_0 0 rfl rfl)
theorem dX3_isPlace_1 : decode cX3_isPlace 1 = .ok (.iload_n 1, 1) := dk_27 (dk_at dksX3_isPlace_0 1 rfl rfl)
theorem dX3_isPlace_2 : decode cX3_isPlace 2 = .ok (.invokevirtual 54, 3) := dk_182 0 54 (dk_at dksX3_isPlace_0 2 rfl rfl)
theorem dX3_isPlace_5 : decode cX3_isPlace 5 = .ok (.ifCond .eq 22, 3) := dk_153 0 22 (dk_at dksX3_isPlace_0 5 rfl rfl)
theorem dX3_isPlace_8 : decode cX3_isPlace 8 = .ok (.iload_n 2, 1) := dk_28 (dk_at dksX3_isPlace_0 8 rfl rfl)
theorem dX3_isPlace_9 : decode cX3_isPlace 9 = .ok (.iconst 0, 1) := dk_3 (dk_at dksX3_isPlace_0 9 rfl rfl)
theorem dX3_isPlace_10 : decode cX3_isPlace 10 = .ok (.aload_n 0, 1) := dk_42 (dk_at dksX3_isPlace_0 10 rfl rfl)
theorem dX3_isPlace_11 : decode cX3_isPlace 11 = .ok (.iload_n 1, 1) := dk_27 (dk_at dksX3_isPlace_0 11 rfl rfl)
theorem dX3_isPlace_12 : decode cX3_isPlace 12 = .ok (.invokevirtual 62, 3) := dk_182 0 62 (dk_at dksX3_isPlace_0 12 rfl rfl)
theorem dX3_isPlace_15 : decode cX3_isPlace 15 = .ok (.iconst 1, 1) := dk_4 (dk_at dksX3_isPlace_0 15 rfl rfl)
theorem dX3_isPlace_16 : decode cX3_isPlace 16 = .ok (.isub, 1) := dk_100 (dk_at dksX3_isPlace_0 16 rfl rfl)
theorem dX3_isPlace_17 : decode cX3_isPlace 17 = .ok (.invokestatic 50, 3) := dk_184 0 50 (dk_at dksX3_isPlace_0 17 rfl rfl)
theorem dX3_isPlace_20 : decode cX3_isPlace 20 = .ok (.ifCond .eq 7, 3) := dk_153 0 7 (dk_at dksX3_isPlace_0 20 rfl rfl)
theorem dX3_isPlace_23 : decode cX3_isPlace 23 = .ok (.iconst 1, 1) := dk_4 (dk_at dksX3_isPlace_0 23 rfl rfl)
theorem dX3_isPlace_24 : decode cX3_isPlace 24 = .ok (.goto 4, 3) := dk_167 0 4 (dk_at dksX3_isPlace_1 0 rfl rfl)
theorem dX3_isPlace_27 : decode cX3_isPlace 27 = .ok (.iconst 0, 1) := dk_3 (dk_at dksX3_isPlace_1 3 rfl rfl)
theorem dX3_isPlace_28 : decode cX3_isPlace 28 = .ok (.ireturn, 1) := dk_172 (dk_at dksX3_isPlace_1 4 rfl rfl)
abbrev cX3_at : ByteArray := prog_11_method_14_code
def yX3_at : MethodName := ⟨RX3, "at", "(II)I"⟩
def dkwX3_at_0 : List UInt8 := [42, 180, 0, 7, 27, 184, 0, 58, 16, 8, 96, 28, 96, 46, 172]
abbrev dktX3_at_0 : List UInt8 := dkwX3_at_0 ++ []
theorem dksX3_at_0 : cX3_at.data.toList.drop 0 = dktX3_at_0 := by decide +kernel
theorem dX3_at_0 : decode cX3_at 0 = .ok (.aload_n 0, 1) := dk_42 (dk_at dksX3_at_0 0 rfl rfl)
theorem dX3_at_1 : decode cX3_at 1 = .ok (.getfield 7, 3) := dk_180 0 7 (dk_at dksX3_at_0 1 rfl rfl)
theorem dX3_at_4 : decode cX3_at 4 = .ok (.iload_n 1, 1) := dk_27 (dk_at dksX3_at_0 4 rfl rfl)
theorem dX3_at_5 : decode cX3_at 5 = .ok (.invokestatic 58, 3) := dk_184 0 58 (dk_at dksX3_at_0 5 rfl rfl)
theorem dX3_at_8 : decode cX3_at 8 = .ok (.bipush 8, 2) := dk_16 8 (dk_at dksX3_at_0 8 rfl rfl)
theorem dX3_at_10 : decode cX3_at 10 = .ok (.iadd, 1) := dk_96 (dk_at dksX3_at_0 10 rfl rfl)
theorem dX3_at_11 : decode cX3_at 11 = .ok (.iload_n 2, 1) := dk_28 (dk_at dksX3_at_0 11 rfl rfl)
theorem dX3_at_12 : decode cX3_at 12 = .ok (.iadd, 1) := dk_96 (dk_at dksX3_at_0 12 rfl rfl)
theorem dX3_at_13 : decode cX3_at 13 = .ok (.iaload, 1) := dk_46 (dk_at dksX3_at_0 13 rfl rfl)
theorem dX3_at_14 : decode cX3_at 14 = .ok (.ireturn, 1) := dk_172 (dk_at dksX3_at_0 14 rfl rfl)
abbrev cX3_energy : ByteArray := prog_11_method_49_code
def yX3_energy : MethodName := ⟨RX3, "energy", "(I)J"⟩
def dkwX3_energy_0 : List UInt8 := [42, 42, 27, 182, 0, 54, 182, 0, 112, 154, 0, 7, 20, 0, 182, 173, 42, 27, 182, 0, 184, 173]
abbrev dktX3_energy_0 : List UInt8 := dkwX3_energy_0 ++ []
theorem dksX3_energy_0 : cX3_energy.data.toList.drop 0 = dktX3_energy_0 := by decide +kernel
theorem dX3_energy_0 : decode cX3_energy 0 = .ok (.aload_n 0, 1) := dk_42 (dk_at dksX3_energy_0 0 rfl rfl)
theorem dX3_energy_1 : decode cX3_energy 1 = .ok (.aload_n 0, 1) := dk_42 (dk_at dksX3_energy_0 1 rfl rfl)
theorem dX3_energy_2 : decode cX3_energy 2 = .ok (.iload_n 1, 1) := dk_27 (dk_at dksX3_energy_0 2 rfl rfl)
theorem dX3_energy_3 : decode cX3_energy 3 = .ok (.invokevirtual 54, 3) := dk_182 0 54 (dk_at dksX3_energy_0 3 rfl rfl)
theorem dX3_energy_6 : decode cX3_energy 6 = .ok (.invokevirtual 112, 3) := dk_182 0 112 (dk_at dksX3_energy_0 6 rfl rfl)
theorem dX3_energy_9 : decode cX3_energy 9 = .ok (.ifCond .ne 7, 3) := dk_154 0 7 (dk_at dksX3_energy_0 9 rfl rfl)
theorem dX3_energy_12 : decode cX3_energy 12 = .ok (.ldc2_w 182, 3) := dk_20 0 182 (dk_at dksX3_energy_0 12 rfl rfl)
theorem dX3_energy_15 : decode cX3_energy 15 = .ok (.lreturn, 1) := dk_173 (dk_at dksX3_energy_0 15 rfl rfl)
theorem dX3_energy_16 : decode cX3_energy 16 = .ok (.aload_n 0, 1) := dk_42 (dk_at dksX3_energy_0 16 rfl rfl)
theorem dX3_energy_17 : decode cX3_energy 17 = .ok (.iload_n 1, 1) := dk_27 (dk_at dksX3_energy_0 17 rfl rfl)
theorem dX3_energy_18 : decode cX3_energy 18 = .ok (.invokevirtual 184, 3) := dk_182 0 184 (dk_at dksX3_energy_0 18 rfl rfl)
theorem dX3_energy_21 : decode cX3_energy 21 = .ok (.lreturn, 1) := dk_173 (dk_at dksX3_energy_0 21 rfl rfl)
abbrev cX3_energyOf : ByteArray := prog_11_method_57_code
def yX3_energyOf : MethodName := ⟨RX3, "energyOf", "(I)J"⟩
def dkwX3_energyOf_1 : List UInt8 := [184, 0, 88, 97, 65, 132, 4, 1, 167, 255, 230, 32, 173]
abbrev dktX3_energyOf_1 : List UInt8 := dkwX3_energyOf_1 ++ []
def dkwX3_energyOf_0 : List UInt8 := [9, 65, 3, 54, 4, 21, 4, 42, 27, 182, 0, 62, 162, 0, 22, 32, 42, 27, 21, 4, 182, 0, 82]
abbrev dktX3_energyOf_0 : List UInt8 := dkwX3_energyOf_0 ++ dktX3_energyOf_1
theorem dksX3_energyOf_0 : cX3_energyOf.data.toList.drop 0 = dktX3_energyOf_0 := by decide +kernel
theorem dksX3_energyOf_1 : cX3_energyOf.data.toList.drop 23 = dktX3_energyOf_1 := dk_seg dksX3_energyOf_0 23 rfl rfl
theorem dX3_energyOf_0 : decode cX3_energyOf 0 = .ok (.lconst 0, 1) := dk_9 (dk_at dksX3_energyOf_0 0 rfl rfl)
theorem dX3_energyOf_1 : decode cX3_energyOf 1 = .ok (.lstore_n 2, 1) := dk_65 (dk_at dksX3_energyOf_0 1 rfl rfl)
theorem dX3_energyOf_2 : decode cX3_energyOf 2 = .ok (.iconst 0, 1) := dk_3 (dk_at dksX3_energyOf_0 2 rfl rfl)
theorem dX3_energyOf_3 : decode cX3_energyOf 3 = .ok (.istore 4, 2) := dk_54 4 (dk_at dksX3_energyOf_0 3 rfl rfl)
theorem dX3_energyOf_5 : decode cX3_energyOf 5 = .ok (.iload 4, 2) := dk_21 4 (dk_at dksX3_energyOf_0 5 rfl rfl)
theorem dX3_energyOf_7 : decode cX3_energyOf 7 = .ok (.aload_n 0, 1) := dk_42 (dk_at dksX3_energyOf_0 7 rfl rfl)
theorem dX3_energyOf_8 : decode cX3_energyOf 8 = .ok (.iload_n 1, 1) := dk_27 (dk_at dksX3_energyOf_0 8 rfl rfl)
theorem dX3_energyOf_9 : decode cX3_energyOf 9 = .ok (.invokevirtual 62, 3) := dk_182 0 62 (dk_at dksX3_energyOf_0 9 rfl rfl)
theorem dX3_energyOf_12 : decode cX3_energyOf 12 = .ok (.if_icmp .ge 22, 3) := dk_162 0 22 (dk_at dksX3_energyOf_0 12 rfl rfl)
theorem dX3_energyOf_15 : decode cX3_energyOf 15 = .ok (.lload_n 2, 1) := dk_32 (dk_at dksX3_energyOf_0 15 rfl rfl)
theorem dX3_energyOf_16 : decode cX3_energyOf 16 = .ok (.aload_n 0, 1) := dk_42 (dk_at dksX3_energyOf_0 16 rfl rfl)
theorem dX3_energyOf_17 : decode cX3_energyOf 17 = .ok (.iload_n 1, 1) := dk_27 (dk_at dksX3_energyOf_0 17 rfl rfl)
theorem dX3_energyOf_18 : decode cX3_energyOf 18 = .ok (.iload 4, 2) := dk_21 4 (dk_at dksX3_energyOf_0 18 rfl rfl)
theorem dX3_energyOf_20 : decode cX3_energyOf 20 = .ok (.invokevirtual 82, 3) := dk_182 0 82 (dk_at dksX3_energyOf_0 20 rfl rfl)
theorem dX3_energyOf_23 : decode cX3_energyOf 23 = .ok (.invokestatic 88, 3) := dk_184 0 88 (dk_at dksX3_energyOf_1 0 rfl rfl)
theorem dX3_energyOf_26 : decode cX3_energyOf 26 = .ok (.ladd, 1) := dk_97 (dk_at dksX3_energyOf_1 3 rfl rfl)
theorem dX3_energyOf_27 : decode cX3_energyOf 27 = .ok (.lstore_n 2, 1) := dk_65 (dk_at dksX3_energyOf_1 4 rfl rfl)
theorem dX3_energyOf_28 : decode cX3_energyOf 28 = .ok (.iinc 4 1, 3) := dk_132 4 1 (dk_at dksX3_energyOf_1 5 rfl rfl)
theorem dX3_energyOf_31 : decode cX3_energyOf 31 = .ok (.goto (-26), 3) := dk_167 255 230 (dk_at dksX3_energyOf_1 8 rfl rfl)
theorem dX3_energyOf_34 : decode cX3_energyOf 34 = .ok (.lload_n 2, 1) := dk_32 (dk_at dksX3_energyOf_1 11 rfl rfl)
theorem dX3_energyOf_35 : decode cX3_energyOf 35 = .ok (.lreturn, 1) := dk_173 (dk_at dksX3_energyOf_1 12 rfl rfl)
abbrev cX3_square : ByteArray := prog_11_method_22_code
def yX3_square : MethodName := ⟨RX3, "square", "(I)J"⟩
def dkwX3_square_0 : List UInt8 := [26, 133, 26, 133, 105, 173]
abbrev dktX3_square_0 : List UInt8 := dkwX3_square_0 ++ []
theorem dksX3_square_0 : cX3_square.data.toList.drop 0 = dktX3_square_0 := by decide +kernel
theorem dX3_square_0 : decode cX3_square 0 = .ok (.iload_n 0, 1) := dk_26 (dk_at dksX3_square_0 0 rfl rfl)
theorem dX3_square_1 : decode cX3_square 1 = .ok (.i2l, 1) := dk_133 (dk_at dksX3_square_0 1 rfl rfl)
theorem dX3_square_2 : decode cX3_square 2 = .ok (.iload_n 0, 1) := dk_26 (dk_at dksX3_square_0 2 rfl rfl)
theorem dX3_square_3 : decode cX3_square 3 = .ok (.i2l, 1) := dk_133 (dk_at dksX3_square_0 3 rfl rfl)
theorem dX3_square_4 : decode cX3_square 4 = .ok (.lmul, 1) := dk_105 (dk_at dksX3_square_0 4 rfl rfl)
theorem dX3_square_5 : decode cX3_square 5 = .ok (.lreturn, 1) := dk_173 (dk_at dksX3_square_0 5 rfl rfl)
abbrev cX3_loudestPlace : ByteArray := prog_11_method_50_code
def yX3_loudestPlace : MethodName := ⟨RX3, "loudestPlace", "(I)I"⟩
def dkwX3_loudestPlace_2 : List UInt8 := [29, 167, 0, 4, 28, 61, 132, 3, 1, 167, 255, 217, 28, 172]
abbrev dktX3_loudestPlace_2 : List UInt8 := dkwX3_loudestPlace_2 ++ []
def dkwX3_loudestPlace_1 : List UInt8 := [162, 0, 36, 42, 27, 29, 182, 0, 82, 184, 0, 100, 42, 27, 28, 182, 0, 82, 184, 0, 100, 164, 0, 7]
abbrev dktX3_loudestPlace_1 : List UInt8 := dkwX3_loudestPlace_1 ++ dktX3_loudestPlace_2
def dkwX3_loudestPlace_0 : List UInt8 := [42, 42, 27, 182, 0, 54, 182, 0, 112, 154, 0, 5, 2, 172, 3, 61, 4, 62, 29, 42, 27, 182, 0, 62]
abbrev dktX3_loudestPlace_0 : List UInt8 := dkwX3_loudestPlace_0 ++ dktX3_loudestPlace_1
theorem dksX3_loudestPlace_0 : cX3_loudestPlace.data.toList.drop 0 = dktX3_loudestPlace_0 := by decide +kernel
theorem dksX3_loudestPlace_1 : cX3_loudestPlace.data.toList.drop 24 = dktX3_loudestPlace_1 := dk_seg dksX3_loudestPlace_0 24 rfl rfl
theorem dksX3_loudestPlace_2 : cX3_loudestPlace.data.toList.drop 48 = dktX3_loudestPlace_2 := dk_seg dksX3_loudestPlace_1 24 rfl rfl
theorem dX3_loudestPlace_0 : decode cX3_loudestPlace 0 = .ok (.aload_n 0, 1) := dk_42 (dk_at dksX3_loudestPlace_0 0 rfl rfl)
theorem dX3_loudestPlace_1 : decode cX3_loudestPlace 1 = .ok (.aload_n 0, 1) := dk_42 (dk_at dksX3_loudestPlace_0 1 rfl rfl)
theorem dX3_loudestPlace_2 : decode cX3_loudestPlace 2 = .ok (.iload_n 1, 1) := dk_27 (dk_at dksX3_loudestPlace_0 2 rfl rfl)
theorem dX3_loudestPlace_3 : decode cX3_loudestPlace 3 = .ok (.invokevirtual 54, 3) := dk_182 0 54 (dk_at dksX3_loudestPlace_0 3 rfl rfl)
theorem dX3_loudestPlace_6 : decode cX3_loudestPlace 6 = .ok (.invokevirtual 112, 3) := dk_182 0 112 (dk_at dksX3_loudestPlace_0 6 rfl rfl)
theorem dX3_loudestPlace_9 : decode cX3_loudestPlace 9 = .ok (.ifCond .ne 5, 3) := dk_154 0 5 (dk_at dksX3_loudestPlace_0 9 rfl rfl)
theorem dX3_loudestPlace_12 : decode cX3_loudestPlace 12 = .ok (.iconst (-1), 1) := dk_2 (dk_at dksX3_loudestPlace_0 12 rfl rfl)
theorem dX3_loudestPlace_13 : decode cX3_loudestPlace 13 = .ok (.ireturn, 1) := dk_172 (dk_at dksX3_loudestPlace_0 13 rfl rfl)
theorem dX3_loudestPlace_14 : decode cX3_loudestPlace 14 = .ok (.iconst 0, 1) := dk_3 (dk_at dksX3_loudestPlace_0 14 rfl rfl)
theorem dX3_loudestPlace_15 : decode cX3_loudestPlace 15 = .ok (.istore_n 2, 1) := dk_61 (dk_at dksX3_loudestPlace_0 15 rfl rfl)
theorem dX3_loudestPlace_16 : decode cX3_loudestPlace 16 = .ok (.iconst 1, 1) := dk_4 (dk_at dksX3_loudestPlace_0 16 rfl rfl)
theorem dX3_loudestPlace_17 : decode cX3_loudestPlace 17 = .ok (.istore_n 3, 1) := dk_62 (dk_at dksX3_loudestPlace_0 17 rfl rfl)
theorem dX3_loudestPlace_18 : decode cX3_loudestPlace 18 = .ok (.iload_n 3, 1) := dk_29 (dk_at dksX3_loudestPlace_0 18 rfl rfl)
theorem dX3_loudestPlace_19 : decode cX3_loudestPlace 19 = .ok (.aload_n 0, 1) := dk_42 (dk_at dksX3_loudestPlace_0 19 rfl rfl)
theorem dX3_loudestPlace_20 : decode cX3_loudestPlace 20 = .ok (.iload_n 1, 1) := dk_27 (dk_at dksX3_loudestPlace_0 20 rfl rfl)
theorem dX3_loudestPlace_21 : decode cX3_loudestPlace 21 = .ok (.invokevirtual 62, 3) := dk_182 0 62 (dk_at dksX3_loudestPlace_0 21 rfl rfl)
theorem dX3_loudestPlace_24 : decode cX3_loudestPlace 24 = .ok (.if_icmp .ge 36, 3) := dk_162 0 36 (dk_at dksX3_loudestPlace_1 0 rfl rfl)
theorem dX3_loudestPlace_27 : decode cX3_loudestPlace 27 = .ok (.aload_n 0, 1) := dk_42 (dk_at dksX3_loudestPlace_1 3 rfl rfl)
theorem dX3_loudestPlace_28 : decode cX3_loudestPlace 28 = .ok (.iload_n 1, 1) := dk_27 (dk_at dksX3_loudestPlace_1 4 rfl rfl)
theorem dX3_loudestPlace_29 : decode cX3_loudestPlace 29 = .ok (.iload_n 3, 1) := dk_29 (dk_at dksX3_loudestPlace_1 5 rfl rfl)
theorem dX3_loudestPlace_30 : decode cX3_loudestPlace 30 = .ok (.invokevirtual 82, 3) := dk_182 0 82 (dk_at dksX3_loudestPlace_1 6 rfl rfl)
theorem dX3_loudestPlace_33 : decode cX3_loudestPlace 33 = .ok (.invokestatic 100, 3) := dk_184 0 100 (dk_at dksX3_loudestPlace_1 9 rfl rfl)
theorem dX3_loudestPlace_36 : decode cX3_loudestPlace 36 = .ok (.aload_n 0, 1) := dk_42 (dk_at dksX3_loudestPlace_1 12 rfl rfl)
theorem dX3_loudestPlace_37 : decode cX3_loudestPlace 37 = .ok (.iload_n 1, 1) := dk_27 (dk_at dksX3_loudestPlace_1 13 rfl rfl)
theorem dX3_loudestPlace_38 : decode cX3_loudestPlace 38 = .ok (.iload_n 2, 1) := dk_28 (dk_at dksX3_loudestPlace_1 14 rfl rfl)
theorem dX3_loudestPlace_39 : decode cX3_loudestPlace 39 = .ok (.invokevirtual 82, 3) := dk_182 0 82 (dk_at dksX3_loudestPlace_1 15 rfl rfl)
theorem dX3_loudestPlace_42 : decode cX3_loudestPlace 42 = .ok (.invokestatic 100, 3) := dk_184 0 100 (dk_at dksX3_loudestPlace_1 18 rfl rfl)
theorem dX3_loudestPlace_45 : decode cX3_loudestPlace 45 = .ok (.if_icmp .le 7, 3) := dk_164 0 7 (dk_at dksX3_loudestPlace_1 21 rfl rfl)
theorem dX3_loudestPlace_48 : decode cX3_loudestPlace 48 = .ok (.iload_n 3, 1) := dk_29 (dk_at dksX3_loudestPlace_2 0 rfl rfl)
theorem dX3_loudestPlace_49 : decode cX3_loudestPlace 49 = .ok (.goto 4, 3) := dk_167 0 4 (dk_at dksX3_loudestPlace_2 1 rfl rfl)
theorem dX3_loudestPlace_52 : decode cX3_loudestPlace 52 = .ok (.iload_n 2, 1) := dk_28 (dk_at dksX3_loudestPlace_2 4 rfl rfl)
theorem dX3_loudestPlace_53 : decode cX3_loudestPlace 53 = .ok (.istore_n 2, 1) := dk_61 (dk_at dksX3_loudestPlace_2 5 rfl rfl)
theorem dX3_loudestPlace_54 : decode cX3_loudestPlace 54 = .ok (.iinc 3 1, 3) := dk_132 3 1 (dk_at dksX3_loudestPlace_2 6 rfl rfl)
theorem dX3_loudestPlace_57 : decode cX3_loudestPlace 57 = .ok (.goto (-39), 3) := dk_167 255 217 (dk_at dksX3_loudestPlace_2 9 rfl rfl)
theorem dX3_loudestPlace_60 : decode cX3_loudestPlace 60 = .ok (.iload_n 2, 1) := dk_28 (dk_at dksX3_loudestPlace_2 12 rfl rfl)
theorem dX3_loudestPlace_61 : decode cX3_loudestPlace 61 = .ok (.ireturn, 1) := dk_172 (dk_at dksX3_loudestPlace_2 13 rfl rfl)
abbrev cX3_samplesBetween : ByteArray := prog_11_method_51_code
def yX3_samplesBetween : MethodName := ⟨RX3, "samplesBetween", "(III)I"⟩
def dkwX3_samplesBetween_3 : List UInt8 := [167, 255, 218, 21, 4, 172]
abbrev dktX3_samplesBetween_3 : List UInt8 := dkwX3_samplesBetween_3 ++ []
def dkwX3_samplesBetween_2 : List UInt8 := [182, 0, 82, 28, 29, 184, 0, 50, 153, 0, 7, 4, 167, 0, 4, 3, 96, 54, 4, 132, 5, 1]
abbrev dktX3_samplesBetween_2 : List UInt8 := dkwX3_samplesBetween_2 ++ dktX3_samplesBetween_3
def dkwX3_samplesBetween_1 : List UInt8 := [3, 54, 4, 3, 54, 5, 21, 5, 42, 27, 182, 0, 62, 162, 0, 34, 21, 4, 42, 27, 21, 5]
abbrev dktX3_samplesBetween_1 : List UInt8 := dkwX3_samplesBetween_1 ++ dktX3_samplesBetween_2
def dkwX3_samplesBetween_0 : List UInt8 := [42, 42, 27, 182, 0, 54, 28, 29, 163, 0, 7, 4, 167, 0, 4, 3, 182, 0, 187, 154, 0, 5, 2, 172]
abbrev dktX3_samplesBetween_0 : List UInt8 := dkwX3_samplesBetween_0 ++ dktX3_samplesBetween_1
theorem dksX3_samplesBetween_0 : cX3_samplesBetween.data.toList.drop 0 = dktX3_samplesBetween_0 := by decide +kernel
theorem dksX3_samplesBetween_1 : cX3_samplesBetween.data.toList.drop 24 = dktX3_samplesBetween_1 := dk_seg dksX3_samplesBetween_0 24 rfl rfl
theorem dksX3_samplesBetween_2 : cX3_samplesBetween.data.toList.drop 46 = dktX3_samplesBetween_2 := dk_seg dksX3_samplesBetween_1 22 rfl rfl
theorem dksX3_samplesBetween_3 : cX3_samplesBetween.data.toList.drop 68 = dktX3_samplesBetween_3 := dk_seg dksX3_samplesBetween_2 22 rfl rfl
theorem dX3_samplesBetween_0 : decode cX3_samplesBetween 0 = .ok (.aload_n 0, 1) := dk_42 (dk_at dksX3_samplesBetween_0 0 rfl rfl)
theorem dX3_samplesBetween_1 : decode cX3_samplesBetween 1 = .ok (.aload_n 0, 1) := dk_42 (dk_at dksX3_samplesBetween_0 1 rfl rfl)
theorem dX3_samplesBetween_2 : decode cX3_samplesBetween 2 = .ok (.iload_n 1, 1) := dk_27 (dk_at dksX3_samplesBetween_0 2 rfl rfl)
theorem dX3_samplesBetween_3 : decode cX3_samplesBetween 3 = .ok (.invokevirtual 54, 3) := dk_182 0 54 (dk_at dksX3_samplesBetween_0 3 rfl rfl)
theorem dX3_samplesBetween_6 : decode cX3_samplesBetween 6 = .ok (.iload_n 2, 1) := dk_28 (dk_at dksX3_samplesBetween_0 6 rfl rfl)
theorem dX3_samplesBetween_7 : decode cX3_samplesBetween 7 = .ok (.iload_n 3, 1) := dk_29 (dk_at dksX3_samplesBetween_0 7 rfl rfl)
theorem dX3_samplesBetween_8 : decode cX3_samplesBetween 8 = .ok (.if_icmp .gt 7, 3) := dk_163 0 7 (dk_at dksX3_samplesBetween_0 8 rfl rfl)
theorem dX3_samplesBetween_11 : decode cX3_samplesBetween 11 = .ok (.iconst 1, 1) := dk_4 (dk_at dksX3_samplesBetween_0 11 rfl rfl)
theorem dX3_samplesBetween_12 : decode cX3_samplesBetween 12 = .ok (.goto 4, 3) := dk_167 0 4 (dk_at dksX3_samplesBetween_0 12 rfl rfl)
theorem dX3_samplesBetween_15 : decode cX3_samplesBetween 15 = .ok (.iconst 0, 1) := dk_3 (dk_at dksX3_samplesBetween_0 15 rfl rfl)
theorem dX3_samplesBetween_16 : decode cX3_samplesBetween 16 = .ok (.invokevirtual 187, 3) := dk_182 0 187 (dk_at dksX3_samplesBetween_0 16 rfl rfl)
theorem dX3_samplesBetween_19 : decode cX3_samplesBetween 19 = .ok (.ifCond .ne 5, 3) := dk_154 0 5 (dk_at dksX3_samplesBetween_0 19 rfl rfl)
theorem dX3_samplesBetween_22 : decode cX3_samplesBetween 22 = .ok (.iconst (-1), 1) := dk_2 (dk_at dksX3_samplesBetween_0 22 rfl rfl)
theorem dX3_samplesBetween_23 : decode cX3_samplesBetween 23 = .ok (.ireturn, 1) := dk_172 (dk_at dksX3_samplesBetween_0 23 rfl rfl)
theorem dX3_samplesBetween_24 : decode cX3_samplesBetween 24 = .ok (.iconst 0, 1) := dk_3 (dk_at dksX3_samplesBetween_1 0 rfl rfl)
theorem dX3_samplesBetween_25 : decode cX3_samplesBetween 25 = .ok (.istore 4, 2) := dk_54 4 (dk_at dksX3_samplesBetween_1 1 rfl rfl)
theorem dX3_samplesBetween_27 : decode cX3_samplesBetween 27 = .ok (.iconst 0, 1) := dk_3 (dk_at dksX3_samplesBetween_1 3 rfl rfl)
theorem dX3_samplesBetween_28 : decode cX3_samplesBetween 28 = .ok (.istore 5, 2) := dk_54 5 (dk_at dksX3_samplesBetween_1 4 rfl rfl)
theorem dX3_samplesBetween_30 : decode cX3_samplesBetween 30 = .ok (.iload 5, 2) := dk_21 5 (dk_at dksX3_samplesBetween_1 6 rfl rfl)
theorem dX3_samplesBetween_32 : decode cX3_samplesBetween 32 = .ok (.aload_n 0, 1) := dk_42 (dk_at dksX3_samplesBetween_1 8 rfl rfl)
theorem dX3_samplesBetween_33 : decode cX3_samplesBetween 33 = .ok (.iload_n 1, 1) := dk_27 (dk_at dksX3_samplesBetween_1 9 rfl rfl)
theorem dX3_samplesBetween_34 : decode cX3_samplesBetween 34 = .ok (.invokevirtual 62, 3) := dk_182 0 62 (dk_at dksX3_samplesBetween_1 10 rfl rfl)
theorem dX3_samplesBetween_37 : decode cX3_samplesBetween 37 = .ok (.if_icmp .ge 34, 3) := dk_162 0 34 (dk_at dksX3_samplesBetween_1 13 rfl rfl)
theorem dX3_samplesBetween_40 : decode cX3_samplesBetween 40 = .ok (.iload 4, 2) := dk_21 4 (dk_at dksX3_samplesBetween_1 16 rfl rfl)
theorem dX3_samplesBetween_42 : decode cX3_samplesBetween 42 = .ok (.aload_n 0, 1) := dk_42 (dk_at dksX3_samplesBetween_1 18 rfl rfl)
theorem dX3_samplesBetween_43 : decode cX3_samplesBetween 43 = .ok (.iload_n 1, 1) := dk_27 (dk_at dksX3_samplesBetween_1 19 rfl rfl)
theorem dX3_samplesBetween_44 : decode cX3_samplesBetween 44 = .ok (.iload 5, 2) := dk_21 5 (dk_at dksX3_samplesBetween_1 20 rfl rfl)
theorem dX3_samplesBetween_46 : decode cX3_samplesBetween 46 = .ok (.invokevirtual 82, 3) := dk_182 0 82 (dk_at dksX3_samplesBetween_2 0 rfl rfl)
theorem dX3_samplesBetween_49 : decode cX3_samplesBetween 49 = .ok (.iload_n 2, 1) := dk_28 (dk_at dksX3_samplesBetween_2 3 rfl rfl)
theorem dX3_samplesBetween_50 : decode cX3_samplesBetween 50 = .ok (.iload_n 3, 1) := dk_29 (dk_at dksX3_samplesBetween_2 4 rfl rfl)
theorem dX3_samplesBetween_51 : decode cX3_samplesBetween 51 = .ok (.invokestatic 50, 3) := dk_184 0 50 (dk_at dksX3_samplesBetween_2 5 rfl rfl)
theorem dX3_samplesBetween_54 : decode cX3_samplesBetween 54 = .ok (.ifCond .eq 7, 3) := dk_153 0 7 (dk_at dksX3_samplesBetween_2 8 rfl rfl)
theorem dX3_samplesBetween_57 : decode cX3_samplesBetween 57 = .ok (.iconst 1, 1) := dk_4 (dk_at dksX3_samplesBetween_2 11 rfl rfl)
theorem dX3_samplesBetween_58 : decode cX3_samplesBetween 58 = .ok (.goto 4, 3) := dk_167 0 4 (dk_at dksX3_samplesBetween_2 12 rfl rfl)
theorem dX3_samplesBetween_61 : decode cX3_samplesBetween 61 = .ok (.iconst 0, 1) := dk_3 (dk_at dksX3_samplesBetween_2 15 rfl rfl)
theorem dX3_samplesBetween_62 : decode cX3_samplesBetween 62 = .ok (.iadd, 1) := dk_96 (dk_at dksX3_samplesBetween_2 16 rfl rfl)
theorem dX3_samplesBetween_63 : decode cX3_samplesBetween 63 = .ok (.istore 4, 2) := dk_54 4 (dk_at dksX3_samplesBetween_2 17 rfl rfl)
theorem dX3_samplesBetween_65 : decode cX3_samplesBetween 65 = .ok (.iinc 5 1, 3) := dk_132 5 1 (dk_at dksX3_samplesBetween_2 19 rfl rfl)
theorem dX3_samplesBetween_68 : decode cX3_samplesBetween 68 = .ok (.goto (-38), 3) := dk_167 255 218 (dk_at dksX3_samplesBetween_3 0 rfl rfl)
theorem dX3_samplesBetween_71 : decode cX3_samplesBetween 71 = .ok (.iload 4, 2) := dk_21 4 (dk_at dksX3_samplesBetween_3 3 rfl rfl)
theorem dX3_samplesBetween_73 : decode cX3_samplesBetween 73 = .ok (.ireturn, 1) := dk_172 (dk_at dksX3_samplesBetween_3 5 rfl rfl)
abbrev cX3_good_2 : ByteArray := prog_11_method_5_code
def yX3_good_2 : MethodName := ⟨RX3, "good", "(ZZ)Z"⟩
def dkwX3_good_2_1 : List UInt8 := [180, 0, 44, 154, 0, 7, 4, 167, 0, 4, 3, 172]
abbrev dktX3_good_2_1 : List UInt8 := dkwX3_good_2_1 ++ []
def dkwX3_good_2_0 : List UInt8 := [42, 27, 154, 0, 7, 4, 167, 0, 12, 28, 153, 0, 7, 3, 167, 0, 4, 5, 181, 0, 44, 42]
abbrev dktX3_good_2_0 : List UInt8 := dkwX3_good_2_0 ++ dktX3_good_2_1
theorem dksX3_good_2_0 : cX3_good_2.data.toList.drop 0 = dktX3_good_2_0 := by decide +kernel
theorem dksX3_good_2_1 : cX3_good_2.data.toList.drop 22 = dktX3_good_2_1 := dk_seg dksX3_good_2_0 22 rfl rfl
theorem dX3_good_2_0 : decode cX3_good_2 0 = .ok (.aload_n 0, 1) := dk_42 (dk_at dksX3_good_2_0 0 rfl rfl)
theorem dX3_good_2_1 : decode cX3_good_2 1 = .ok (.iload_n 1, 1) := dk_27 (dk_at dksX3_good_2_0 1 rfl rfl)
theorem dX3_good_2_2 : decode cX3_good_2 2 = .ok (.ifCond .ne 7, 3) := dk_154 0 7 (dk_at dksX3_good_2_0 2 rfl rfl)
theorem dX3_good_2_5 : decode cX3_good_2 5 = .ok (.iconst 1, 1) := dk_4 (dk_at dksX3_good_2_0 5 rfl rfl)
theorem dX3_good_2_6 : decode cX3_good_2 6 = .ok (.goto 12, 3) := dk_167 0 12 (dk_at dksX3_good_2_0 6 rfl rfl)
theorem dX3_good_2_9 : decode cX3_good_2 9 = .ok (.iload_n 2, 1) := dk_28 (dk_at dksX3_good_2_0 9 rfl rfl)
theorem dX3_good_2_10 : decode cX3_good_2 10 = .ok (.ifCond .eq 7, 3) := dk_153 0 7 (dk_at dksX3_good_2_0 10 rfl rfl)
theorem dX3_good_2_13 : decode cX3_good_2 13 = .ok (.iconst 0, 1) := dk_3 (dk_at dksX3_good_2_0 13 rfl rfl)
theorem dX3_good_2_14 : decode cX3_good_2 14 = .ok (.goto 4, 3) := dk_167 0 4 (dk_at dksX3_good_2_0 14 rfl rfl)
theorem dX3_good_2_17 : decode cX3_good_2 17 = .ok (.iconst 2, 1) := dk_5 (dk_at dksX3_good_2_0 17 rfl rfl)
theorem dX3_good_2_18 : decode cX3_good_2 18 = .ok (.putfield 44, 3) := dk_181 0 44 (dk_at dksX3_good_2_0 18 rfl rfl)
theorem dX3_good_2_21 : decode cX3_good_2 21 = .ok (.aload_n 0, 1) := dk_42 (dk_at dksX3_good_2_0 21 rfl rfl)
theorem dX3_good_2_22 : decode cX3_good_2 22 = .ok (.getfield 44, 3) := dk_180 0 44 (dk_at dksX3_good_2_1 0 rfl rfl)
theorem dX3_good_2_25 : decode cX3_good_2 25 = .ok (.ifCond .ne 7, 3) := dk_154 0 7 (dk_at dksX3_good_2_1 3 rfl rfl)
theorem dX3_good_2_28 : decode cX3_good_2 28 = .ok (.iconst 1, 1) := dk_4 (dk_at dksX3_good_2_1 6 rfl rfl)
theorem dX3_good_2_29 : decode cX3_good_2 29 = .ok (.goto 4, 3) := dk_167 0 4 (dk_at dksX3_good_2_1 7 rfl rfl)
theorem dX3_good_2_32 : decode cX3_good_2 32 = .ok (.iconst 0, 1) := dk_3 (dk_at dksX3_good_2_1 10 rfl rfl)
theorem dX3_good_2_33 : decode cX3_good_2 33 = .ok (.ireturn, 1) := dk_172 (dk_at dksX3_good_2_1 11 rfl rfl)
abbrev cX3_meanLoudness : ByteArray := prog_11_method_52_code
def yX3_meanLoudness : MethodName := ⟨RX3, "meanLoudness", "(I)D"⟩
def dkwX3_meanLoudness_2 : List UInt8 := [27, 182, 0, 62, 135, 111, 175]
abbrev dktX3_meanLoudness_2 : List UInt8 := dkwX3_meanLoudness_2 ++ []
def dkwX3_meanLoudness_1 : List UInt8 := [162, 0, 21, 28, 42, 27, 29, 182, 0, 82, 184, 0, 100, 96, 61, 132, 3, 1, 167, 255, 232, 28, 135, 42]
abbrev dktX3_meanLoudness_1 : List UInt8 := dkwX3_meanLoudness_1 ++ dktX3_meanLoudness_2
def dkwX3_meanLoudness_0 : List UInt8 := [42, 42, 27, 182, 0, 54, 182, 0, 112, 154, 0, 5, 14, 175, 3, 61, 3, 62, 29, 42, 27, 182, 0, 62]
abbrev dktX3_meanLoudness_0 : List UInt8 := dkwX3_meanLoudness_0 ++ dktX3_meanLoudness_1
theorem dksX3_meanLoudness_0 : cX3_meanLoudness.data.toList.drop 0 = dktX3_meanLoudness_0 := by decide +kernel
theorem dksX3_meanLoudness_1 : cX3_meanLoudness.data.toList.drop 24 = dktX3_meanLoudness_1 := dk_seg dksX3_meanLoudness_0 24 rfl rfl
theorem dksX3_meanLoudness_2 : cX3_meanLoudness.data.toList.drop 48 = dktX3_meanLoudness_2 := dk_seg dksX3_meanLoudness_1 24 rfl rfl
theorem dX3_meanLoudness_0 : decode cX3_meanLoudness 0 = .ok (.aload_n 0, 1) := dk_42 (dk_at dksX3_meanLoudness_0 0 rfl rfl)
theorem dX3_meanLoudness_1 : decode cX3_meanLoudness 1 = .ok (.aload_n 0, 1) := dk_42 (dk_at dksX3_meanLoudness_0 1 rfl rfl)
theorem dX3_meanLoudness_2 : decode cX3_meanLoudness 2 = .ok (.iload_n 1, 1) := dk_27 (dk_at dksX3_meanLoudness_0 2 rfl rfl)
theorem dX3_meanLoudness_3 : decode cX3_meanLoudness 3 = .ok (.invokevirtual 54, 3) := dk_182 0 54 (dk_at dksX3_meanLoudness_0 3 rfl rfl)
theorem dX3_meanLoudness_6 : decode cX3_meanLoudness 6 = .ok (.invokevirtual 112, 3) := dk_182 0 112 (dk_at dksX3_meanLoudness_0 6 rfl rfl)
theorem dX3_meanLoudness_9 : decode cX3_meanLoudness 9 = .ok (.ifCond .ne 5, 3) := dk_154 0 5 (dk_at dksX3_meanLoudness_0 9 rfl rfl)
theorem dX3_meanLoudness_12 : decode cX3_meanLoudness 12 = .ok (.dconst 0, 1) := dk_14 (dk_at dksX3_meanLoudness_0 12 rfl rfl)
theorem dX3_meanLoudness_13 : decode cX3_meanLoudness 13 = .ok (.dreturn, 1) := dk_175 (dk_at dksX3_meanLoudness_0 13 rfl rfl)
theorem dX3_meanLoudness_14 : decode cX3_meanLoudness 14 = .ok (.iconst 0, 1) := dk_3 (dk_at dksX3_meanLoudness_0 14 rfl rfl)
theorem dX3_meanLoudness_15 : decode cX3_meanLoudness 15 = .ok (.istore_n 2, 1) := dk_61 (dk_at dksX3_meanLoudness_0 15 rfl rfl)
theorem dX3_meanLoudness_16 : decode cX3_meanLoudness 16 = .ok (.iconst 0, 1) := dk_3 (dk_at dksX3_meanLoudness_0 16 rfl rfl)
theorem dX3_meanLoudness_17 : decode cX3_meanLoudness 17 = .ok (.istore_n 3, 1) := dk_62 (dk_at dksX3_meanLoudness_0 17 rfl rfl)
theorem dX3_meanLoudness_18 : decode cX3_meanLoudness 18 = .ok (.iload_n 3, 1) := dk_29 (dk_at dksX3_meanLoudness_0 18 rfl rfl)
theorem dX3_meanLoudness_19 : decode cX3_meanLoudness 19 = .ok (.aload_n 0, 1) := dk_42 (dk_at dksX3_meanLoudness_0 19 rfl rfl)
theorem dX3_meanLoudness_20 : decode cX3_meanLoudness 20 = .ok (.iload_n 1, 1) := dk_27 (dk_at dksX3_meanLoudness_0 20 rfl rfl)
theorem dX3_meanLoudness_21 : decode cX3_meanLoudness 21 = .ok (.invokevirtual 62, 3) := dk_182 0 62 (dk_at dksX3_meanLoudness_0 21 rfl rfl)
theorem dX3_meanLoudness_24 : decode cX3_meanLoudness 24 = .ok (.if_icmp .ge 21, 3) := dk_162 0 21 (dk_at dksX3_meanLoudness_1 0 rfl rfl)
theorem dX3_meanLoudness_27 : decode cX3_meanLoudness 27 = .ok (.iload_n 2, 1) := dk_28 (dk_at dksX3_meanLoudness_1 3 rfl rfl)
theorem dX3_meanLoudness_28 : decode cX3_meanLoudness 28 = .ok (.aload_n 0, 1) := dk_42 (dk_at dksX3_meanLoudness_1 4 rfl rfl)
theorem dX3_meanLoudness_29 : decode cX3_meanLoudness 29 = .ok (.iload_n 1, 1) := dk_27 (dk_at dksX3_meanLoudness_1 5 rfl rfl)
theorem dX3_meanLoudness_30 : decode cX3_meanLoudness 30 = .ok (.iload_n 3, 1) := dk_29 (dk_at dksX3_meanLoudness_1 6 rfl rfl)
theorem dX3_meanLoudness_31 : decode cX3_meanLoudness 31 = .ok (.invokevirtual 82, 3) := dk_182 0 82 (dk_at dksX3_meanLoudness_1 7 rfl rfl)
theorem dX3_meanLoudness_34 : decode cX3_meanLoudness 34 = .ok (.invokestatic 100, 3) := dk_184 0 100 (dk_at dksX3_meanLoudness_1 10 rfl rfl)
theorem dX3_meanLoudness_37 : decode cX3_meanLoudness 37 = .ok (.iadd, 1) := dk_96 (dk_at dksX3_meanLoudness_1 13 rfl rfl)
theorem dX3_meanLoudness_38 : decode cX3_meanLoudness 38 = .ok (.istore_n 2, 1) := dk_61 (dk_at dksX3_meanLoudness_1 14 rfl rfl)
theorem dX3_meanLoudness_39 : decode cX3_meanLoudness 39 = .ok (.iinc 3 1, 3) := dk_132 3 1 (dk_at dksX3_meanLoudness_1 15 rfl rfl)
theorem dX3_meanLoudness_42 : decode cX3_meanLoudness 42 = .ok (.goto (-24), 3) := dk_167 255 232 (dk_at dksX3_meanLoudness_1 18 rfl rfl)
theorem dX3_meanLoudness_45 : decode cX3_meanLoudness 45 = .ok (.iload_n 2, 1) := dk_28 (dk_at dksX3_meanLoudness_1 21 rfl rfl)
theorem dX3_meanLoudness_46 : decode cX3_meanLoudness 46 = .ok (.i2d, 1) := dk_135 (dk_at dksX3_meanLoudness_1 22 rfl rfl)
theorem dX3_meanLoudness_47 : decode cX3_meanLoudness 47 = .ok (.aload_n 0, 1) := dk_42 (dk_at dksX3_meanLoudness_1 23 rfl rfl)
theorem dX3_meanLoudness_48 : decode cX3_meanLoudness 48 = .ok (.iload_n 1, 1) := dk_27 (dk_at dksX3_meanLoudness_2 0 rfl rfl)
theorem dX3_meanLoudness_49 : decode cX3_meanLoudness 49 = .ok (.invokevirtual 62, 3) := dk_182 0 62 (dk_at dksX3_meanLoudness_2 1 rfl rfl)
theorem dX3_meanLoudness_52 : decode cX3_meanLoudness 52 = .ok (.i2d, 1) := dk_135 (dk_at dksX3_meanLoudness_2 4 rfl rfl)
theorem dX3_meanLoudness_53 : decode cX3_meanLoudness 53 = .ok (.ddiv, 1) := dk_111 (dk_at dksX3_meanLoudness_2 5 rfl rfl)
theorem dX3_meanLoudness_54 : decode cX3_meanLoudness 54 = .ok (.dreturn, 1) := dk_175 (dk_at dksX3_meanLoudness_2 6 rfl rfl)
abbrev cX3_signChanges : ByteArray := prog_11_method_54_code
def yX3_signChanges : MethodName := ⟨RX3, "signChanges", "(I)I"⟩
def dkwX3_signChanges_0 : List UInt8 := [42, 42, 27, 182, 0, 54, 182, 0, 112, 153, 0, 11, 42, 27, 182, 0, 190, 167, 0, 4, 2, 172]
abbrev dktX3_signChanges_0 : List UInt8 := dkwX3_signChanges_0 ++ []
theorem dksX3_signChanges_0 : cX3_signChanges.data.toList.drop 0 = dktX3_signChanges_0 := by decide +kernel
theorem dX3_signChanges_0 : decode cX3_signChanges 0 = .ok (.aload_n 0, 1) := dk_42 (dk_at dksX3_signChanges_0 0 rfl rfl)
theorem dX3_signChanges_1 : decode cX3_signChanges 1 = .ok (.aload_n 0, 1) := dk_42 (dk_at dksX3_signChanges_0 1 rfl rfl)
theorem dX3_signChanges_2 : decode cX3_signChanges 2 = .ok (.iload_n 1, 1) := dk_27 (dk_at dksX3_signChanges_0 2 rfl rfl)
theorem dX3_signChanges_3 : decode cX3_signChanges 3 = .ok (.invokevirtual 54, 3) := dk_182 0 54 (dk_at dksX3_signChanges_0 3 rfl rfl)
theorem dX3_signChanges_6 : decode cX3_signChanges 6 = .ok (.invokevirtual 112, 3) := dk_182 0 112 (dk_at dksX3_signChanges_0 6 rfl rfl)
theorem dX3_signChanges_9 : decode cX3_signChanges 9 = .ok (.ifCond .eq 11, 3) := dk_153 0 11 (dk_at dksX3_signChanges_0 9 rfl rfl)
theorem dX3_signChanges_12 : decode cX3_signChanges 12 = .ok (.aload_n 0, 1) := dk_42 (dk_at dksX3_signChanges_0 12 rfl rfl)
theorem dX3_signChanges_13 : decode cX3_signChanges 13 = .ok (.iload_n 1, 1) := dk_27 (dk_at dksX3_signChanges_0 13 rfl rfl)
theorem dX3_signChanges_14 : decode cX3_signChanges 14 = .ok (.invokevirtual 190, 3) := dk_182 0 190 (dk_at dksX3_signChanges_0 14 rfl rfl)
theorem dX3_signChanges_17 : decode cX3_signChanges 17 = .ok (.goto 4, 3) := dk_167 0 4 (dk_at dksX3_signChanges_0 17 rfl rfl)
theorem dX3_signChanges_20 : decode cX3_signChanges 20 = .ok (.iconst (-1), 1) := dk_2 (dk_at dksX3_signChanges_0 20 rfl rfl)
theorem dX3_signChanges_21 : decode cX3_signChanges 21 = .ok (.ireturn, 1) := dk_172 (dk_at dksX3_signChanges_0 21 rfl rfl)
abbrev cX3_signs : ByteArray := prog_11_method_53_code
def yX3_signs : MethodName := ⟨RX3, "signs", "(I)I"⟩
def dkwX3_signs_3 : List UInt8 := [28, 172]
abbrev dktX3_signs_3 : List UInt8 := dkwX3_signs_3 ++ []
def dkwX3_signs_2 : List UInt8 := [167, 0, 4, 3, 96, 61, 21, 5, 154, 0, 7, 29, 167, 0, 5, 21, 5, 62, 132, 4, 1, 167, 255, 196]
abbrev dktX3_signs_2 : List UInt8 := dkwX3_signs_2 ++ dktX3_signs_3
def dkwX3_signs_1 : List UInt8 := [54, 5, 28, 21, 5, 156, 0, 7, 29, 157, 0, 12, 21, 5, 158, 0, 11, 29, 156, 0, 7, 4]
abbrev dktX3_signs_1 : List UInt8 := dkwX3_signs_1 ++ dktX3_signs_2
def dkwX3_signs_0 : List UInt8 := [3, 61, 3, 62, 3, 54, 4, 21, 4, 42, 27, 182, 0, 62, 162, 0, 56, 42, 27, 21, 4, 182, 0, 82]
abbrev dktX3_signs_0 : List UInt8 := dkwX3_signs_0 ++ dktX3_signs_1
theorem dksX3_signs_0 : cX3_signs.data.toList.drop 0 = dktX3_signs_0 := by decide +kernel
theorem dksX3_signs_1 : cX3_signs.data.toList.drop 24 = dktX3_signs_1 := dk_seg dksX3_signs_0 24 rfl rfl
theorem dksX3_signs_2 : cX3_signs.data.toList.drop 46 = dktX3_signs_2 := dk_seg dksX3_signs_1 22 rfl rfl
theorem dksX3_signs_3 : cX3_signs.data.toList.drop 70 = dktX3_signs_3 := dk_seg dksX3_signs_2 24 rfl rfl
theorem dX3_signs_0 : decode cX3_signs 0 = .ok (.iconst 0, 1) := dk_3 (dk_at dksX3_signs_0 0 rfl rfl)
theorem dX3_signs_1 : decode cX3_signs 1 = .ok (.istore_n 2, 1) := dk_61 (dk_at dksX3_signs_0 1 rfl rfl)
theorem dX3_signs_2 : decode cX3_signs 2 = .ok (.iconst 0, 1) := dk_3 (dk_at dksX3_signs_0 2 rfl rfl)
theorem dX3_signs_3 : decode cX3_signs 3 = .ok (.istore_n 3, 1) := dk_62 (dk_at dksX3_signs_0 3 rfl rfl)
theorem dX3_signs_4 : decode cX3_signs 4 = .ok (.iconst 0, 1) := dk_3 (dk_at dksX3_signs_0 4 rfl rfl)
theorem dX3_signs_5 : decode cX3_signs 5 = .ok (.istore 4, 2) := dk_54 4 (dk_at dksX3_signs_0 5 rfl rfl)
theorem dX3_signs_7 : decode cX3_signs 7 = .ok (.iload 4, 2) := dk_21 4 (dk_at dksX3_signs_0 7 rfl rfl)
theorem dX3_signs_9 : decode cX3_signs 9 = .ok (.aload_n 0, 1) := dk_42 (dk_at dksX3_signs_0 9 rfl rfl)
theorem dX3_signs_10 : decode cX3_signs 10 = .ok (.iload_n 1, 1) := dk_27 (dk_at dksX3_signs_0 10 rfl rfl)
theorem dX3_signs_11 : decode cX3_signs 11 = .ok (.invokevirtual 62, 3) := dk_182 0 62 (dk_at dksX3_signs_0 11 rfl rfl)
theorem dX3_signs_14 : decode cX3_signs 14 = .ok (.if_icmp .ge 56, 3) := dk_162 0 56 (dk_at dksX3_signs_0 14 rfl rfl)
theorem dX3_signs_17 : decode cX3_signs 17 = .ok (.aload_n 0, 1) := dk_42 (dk_at dksX3_signs_0 17 rfl rfl)
theorem dX3_signs_18 : decode cX3_signs 18 = .ok (.iload_n 1, 1) := dk_27 (dk_at dksX3_signs_0 18 rfl rfl)
theorem dX3_signs_19 : decode cX3_signs 19 = .ok (.iload 4, 2) := dk_21 4 (dk_at dksX3_signs_0 19 rfl rfl)
theorem dX3_signs_21 : decode cX3_signs 21 = .ok (.invokevirtual 82, 3) := dk_182 0 82 (dk_at dksX3_signs_0 21 rfl rfl)
theorem dX3_signs_24 : decode cX3_signs 24 = .ok (.istore 5, 2) := dk_54 5 (dk_at dksX3_signs_1 0 rfl rfl)
theorem dX3_signs_26 : decode cX3_signs 26 = .ok (.iload_n 2, 1) := dk_28 (dk_at dksX3_signs_1 2 rfl rfl)
theorem dX3_signs_27 : decode cX3_signs 27 = .ok (.iload 5, 2) := dk_21 5 (dk_at dksX3_signs_1 3 rfl rfl)
theorem dX3_signs_29 : decode cX3_signs 29 = .ok (.ifCond .ge 7, 3) := dk_156 0 7 (dk_at dksX3_signs_1 5 rfl rfl)
theorem dX3_signs_32 : decode cX3_signs 32 = .ok (.iload_n 3, 1) := dk_29 (dk_at dksX3_signs_1 8 rfl rfl)
theorem dX3_signs_33 : decode cX3_signs 33 = .ok (.ifCond .gt 12, 3) := dk_157 0 12 (dk_at dksX3_signs_1 9 rfl rfl)
theorem dX3_signs_36 : decode cX3_signs 36 = .ok (.iload 5, 2) := dk_21 5 (dk_at dksX3_signs_1 12 rfl rfl)
theorem dX3_signs_38 : decode cX3_signs 38 = .ok (.ifCond .le 11, 3) := dk_158 0 11 (dk_at dksX3_signs_1 14 rfl rfl)
theorem dX3_signs_41 : decode cX3_signs 41 = .ok (.iload_n 3, 1) := dk_29 (dk_at dksX3_signs_1 17 rfl rfl)
theorem dX3_signs_42 : decode cX3_signs 42 = .ok (.ifCond .ge 7, 3) := dk_156 0 7 (dk_at dksX3_signs_1 18 rfl rfl)
theorem dX3_signs_45 : decode cX3_signs 45 = .ok (.iconst 1, 1) := dk_4 (dk_at dksX3_signs_1 21 rfl rfl)
theorem dX3_signs_46 : decode cX3_signs 46 = .ok (.goto 4, 3) := dk_167 0 4 (dk_at dksX3_signs_2 0 rfl rfl)
theorem dX3_signs_49 : decode cX3_signs 49 = .ok (.iconst 0, 1) := dk_3 (dk_at dksX3_signs_2 3 rfl rfl)
theorem dX3_signs_50 : decode cX3_signs 50 = .ok (.iadd, 1) := dk_96 (dk_at dksX3_signs_2 4 rfl rfl)
theorem dX3_signs_51 : decode cX3_signs 51 = .ok (.istore_n 2, 1) := dk_61 (dk_at dksX3_signs_2 5 rfl rfl)
theorem dX3_signs_52 : decode cX3_signs 52 = .ok (.iload 5, 2) := dk_21 5 (dk_at dksX3_signs_2 6 rfl rfl)
theorem dX3_signs_54 : decode cX3_signs 54 = .ok (.ifCond .ne 7, 3) := dk_154 0 7 (dk_at dksX3_signs_2 8 rfl rfl)
theorem dX3_signs_57 : decode cX3_signs 57 = .ok (.iload_n 3, 1) := dk_29 (dk_at dksX3_signs_2 11 rfl rfl)
theorem dX3_signs_58 : decode cX3_signs 58 = .ok (.goto 5, 3) := dk_167 0 5 (dk_at dksX3_signs_2 12 rfl rfl)
theorem dX3_signs_61 : decode cX3_signs 61 = .ok (.iload 5, 2) := dk_21 5 (dk_at dksX3_signs_2 15 rfl rfl)
theorem dX3_signs_63 : decode cX3_signs 63 = .ok (.istore_n 3, 1) := dk_62 (dk_at dksX3_signs_2 17 rfl rfl)
theorem dX3_signs_64 : decode cX3_signs 64 = .ok (.iinc 4 1, 3) := dk_132 4 1 (dk_at dksX3_signs_2 18 rfl rfl)
theorem dX3_signs_67 : decode cX3_signs 67 = .ok (.goto (-60), 3) := dk_167 255 196 (dk_at dksX3_signs_2 21 rfl rfl)
theorem dX3_signs_70 : decode cX3_signs 70 = .ok (.iload_n 2, 1) := dk_28 (dk_at dksX3_signs_3 0 rfl rfl)
theorem dX3_signs_71 : decode cX3_signs 71 = .ok (.ireturn, 1) := dk_172 (dk_at dksX3_signs_3 1 rfl rfl)
abbrev cX3_isSymmetric : ByteArray := prog_11_method_56_code
def yX3_isSymmetric : MethodName := ⟨RX3, "isSymmetric", "(I)Z"⟩
def dkwX3_isSymmetric_1 : List UInt8 := [3, 172]
abbrev dktX3_isSymmetric_1 : List UInt8 := dkwX3_isSymmetric_1 ++ []
def dkwX3_isSymmetric_0 : List UInt8 := [42, 42, 27, 182, 0, 54, 182, 0, 112, 153, 0, 15, 42, 27, 182, 0, 193, 153, 0, 7, 4, 167, 0, 4]
abbrev dktX3_isSymmetric_0 : List UInt8 := dkwX3_isSymmetric_0 ++ dktX3_isSymmetric_1
theorem dksX3_isSymmetric_0 : cX3_isSymmetric.data.toList.drop 0 = dktX3_isSymmetric_0 := by decide +kernel
theorem dksX3_isSymmetric_1 : cX3_isSymmetric.data.toList.drop 24 = dktX3_isSymmetric_1 := dk_seg dksX3_isSymmetric_0 24 rfl rfl
theorem dX3_isSymmetric_0 : decode cX3_isSymmetric 0 = .ok (.aload_n 0, 1) := dk_42 (dk_at dksX3_isSymmetric_0 0 rfl rfl)
theorem dX3_isSymmetric_1 : decode cX3_isSymmetric 1 = .ok (.aload_n 0, 1) := dk_42 (dk_at dksX3_isSymmetric_0 1 rfl rfl)
theorem dX3_isSymmetric_2 : decode cX3_isSymmetric 2 = .ok (.iload_n 1, 1) := dk_27 (dk_at dksX3_isSymmetric_0 2 rfl rfl)
theorem dX3_isSymmetric_3 : decode cX3_isSymmetric 3 = .ok (.invokevirtual 54, 3) := dk_182 0 54 (dk_at dksX3_isSymmetric_0 3 rfl rfl)
theorem dX3_isSymmetric_6 : decode cX3_isSymmetric 6 = .ok (.invokevirtual 112, 3) := dk_182 0 112 (dk_at dksX3_isSymmetric_0 6 rfl rfl)
theorem dX3_isSymmetric_9 : decode cX3_isSymmetric 9 = .ok (.ifCond .eq 15, 3) := dk_153 0 15 (dk_at dksX3_isSymmetric_0 9 rfl rfl)
theorem dX3_isSymmetric_12 : decode cX3_isSymmetric 12 = .ok (.aload_n 0, 1) := dk_42 (dk_at dksX3_isSymmetric_0 12 rfl rfl)
theorem dX3_isSymmetric_13 : decode cX3_isSymmetric 13 = .ok (.iload_n 1, 1) := dk_27 (dk_at dksX3_isSymmetric_0 13 rfl rfl)
theorem dX3_isSymmetric_14 : decode cX3_isSymmetric 14 = .ok (.invokevirtual 193, 3) := dk_182 0 193 (dk_at dksX3_isSymmetric_0 14 rfl rfl)
theorem dX3_isSymmetric_17 : decode cX3_isSymmetric 17 = .ok (.ifCond .eq 7, 3) := dk_153 0 7 (dk_at dksX3_isSymmetric_0 17 rfl rfl)
theorem dX3_isSymmetric_20 : decode cX3_isSymmetric 20 = .ok (.iconst 1, 1) := dk_4 (dk_at dksX3_isSymmetric_0 20 rfl rfl)
theorem dX3_isSymmetric_21 : decode cX3_isSymmetric 21 = .ok (.goto 4, 3) := dk_167 0 4 (dk_at dksX3_isSymmetric_0 21 rfl rfl)
theorem dX3_isSymmetric_24 : decode cX3_isSymmetric 24 = .ok (.iconst 0, 1) := dk_3 (dk_at dksX3_isSymmetric_1 0 rfl rfl)
theorem dX3_isSymmetric_25 : decode cX3_isSymmetric 25 = .ok (.ireturn, 1) := dk_172 (dk_at dksX3_isSymmetric_1 1 rfl rfl)
abbrev cX3_symmetric : ByteArray := prog_11_method_55_code
def yX3_symmetric : MethodName := ⟨RX3, "symmetric", "(I)Z"⟩
def dkwX3_symmetric_1 : List UInt8 := [4, 100, 28, 100, 182, 0, 82, 159, 0, 5, 3, 172, 132, 2, 1, 167, 255, 219, 4, 172]
abbrev dktX3_symmetric_1 : List UInt8 := dkwX3_symmetric_1 ++ []
def dkwX3_symmetric_0 : List UInt8 := [3, 61, 28, 42, 27, 182, 0, 62, 162, 0, 34, 42, 27, 28, 182, 0, 82, 42, 27, 42, 27, 182, 0, 62]
abbrev dktX3_symmetric_0 : List UInt8 := dkwX3_symmetric_0 ++ dktX3_symmetric_1
theorem dksX3_symmetric_0 : cX3_symmetric.data.toList.drop 0 = dktX3_symmetric_0 := by decide +kernel
theorem dksX3_symmetric_1 : cX3_symmetric.data.toList.drop 24 = dktX3_symmetric_1 := dk_seg dksX3_symmetric_0 24 rfl rfl
theorem dX3_symmetric_0 : decode cX3_symmetric 0 = .ok (.iconst 0, 1) := dk_3 (dk_at dksX3_symmetric_0 0 rfl rfl)
theorem dX3_symmetric_1 : decode cX3_symmetric 1 = .ok (.istore_n 2, 1) := dk_61 (dk_at dksX3_symmetric_0 1 rfl rfl)
theorem dX3_symmetric_2 : decode cX3_symmetric 2 = .ok (.iload_n 2, 1) := dk_28 (dk_at dksX3_symmetric_0 2 rfl rfl)
theorem dX3_symmetric_3 : decode cX3_symmetric 3 = .ok (.aload_n 0, 1) := dk_42 (dk_at dksX3_symmetric_0 3 rfl rfl)
theorem dX3_symmetric_4 : decode cX3_symmetric 4 = .ok (.iload_n 1, 1) := dk_27 (dk_at dksX3_symmetric_0 4 rfl rfl)
theorem dX3_symmetric_5 : decode cX3_symmetric 5 = .ok (.invokevirtual 62, 3) := dk_182 0 62 (dk_at dksX3_symmetric_0 5 rfl rfl)
theorem dX3_symmetric_8 : decode cX3_symmetric 8 = .ok (.if_icmp .ge 34, 3) := dk_162 0 34 (dk_at dksX3_symmetric_0 8 rfl rfl)
theorem dX3_symmetric_11 : decode cX3_symmetric 11 = .ok (.aload_n 0, 1) := dk_42 (dk_at dksX3_symmetric_0 11 rfl rfl)
theorem dX3_symmetric_12 : decode cX3_symmetric 12 = .ok (.iload_n 1, 1) := dk_27 (dk_at dksX3_symmetric_0 12 rfl rfl)
theorem dX3_symmetric_13 : decode cX3_symmetric 13 = .ok (.iload_n 2, 1) := dk_28 (dk_at dksX3_symmetric_0 13 rfl rfl)
theorem dX3_symmetric_14 : decode cX3_symmetric 14 = .ok (.invokevirtual 82, 3) := dk_182 0 82 (dk_at dksX3_symmetric_0 14 rfl rfl)
theorem dX3_symmetric_17 : decode cX3_symmetric 17 = .ok (.aload_n 0, 1) := dk_42 (dk_at dksX3_symmetric_0 17 rfl rfl)
theorem dX3_symmetric_18 : decode cX3_symmetric 18 = .ok (.iload_n 1, 1) := dk_27 (dk_at dksX3_symmetric_0 18 rfl rfl)
theorem dX3_symmetric_19 : decode cX3_symmetric 19 = .ok (.aload_n 0, 1) := dk_42 (dk_at dksX3_symmetric_0 19 rfl rfl)
theorem dX3_symmetric_20 : decode cX3_symmetric 20 = .ok (.iload_n 1, 1) := dk_27 (dk_at dksX3_symmetric_0 20 rfl rfl)
theorem dX3_symmetric_21 : decode cX3_symmetric 21 = .ok (.invokevirtual 62, 3) := dk_182 0 62 (dk_at dksX3_symmetric_0 21 rfl rfl)
theorem dX3_symmetric_24 : decode cX3_symmetric 24 = .ok (.iconst 1, 1) := dk_4 (dk_at dksX3_symmetric_1 0 rfl rfl)
theorem dX3_symmetric_25 : decode cX3_symmetric 25 = .ok (.isub, 1) := dk_100 (dk_at dksX3_symmetric_1 1 rfl rfl)
theorem dX3_symmetric_26 : decode cX3_symmetric 26 = .ok (.iload_n 2, 1) := dk_28 (dk_at dksX3_symmetric_1 2 rfl rfl)
theorem dX3_symmetric_27 : decode cX3_symmetric 27 = .ok (.isub, 1) := dk_100 (dk_at dksX3_symmetric_1 3 rfl rfl)
theorem dX3_symmetric_28 : decode cX3_symmetric 28 = .ok (.invokevirtual 82, 3) := dk_182 0 82 (dk_at dksX3_symmetric_1 4 rfl rfl)
theorem dX3_symmetric_31 : decode cX3_symmetric 31 = .ok (.if_icmp .eq 5, 3) := dk_159 0 5 (dk_at dksX3_symmetric_1 7 rfl rfl)
theorem dX3_symmetric_34 : decode cX3_symmetric 34 = .ok (.iconst 0, 1) := dk_3 (dk_at dksX3_symmetric_1 10 rfl rfl)
theorem dX3_symmetric_35 : decode cX3_symmetric 35 = .ok (.ireturn, 1) := dk_172 (dk_at dksX3_symmetric_1 11 rfl rfl)
theorem dX3_symmetric_36 : decode cX3_symmetric 36 = .ok (.iinc 2 1, 3) := dk_132 2 1 (dk_at dksX3_symmetric_1 12 rfl rfl)
theorem dX3_symmetric_39 : decode cX3_symmetric 39 = .ok (.goto (-37), 3) := dk_167 255 219 (dk_at dksX3_symmetric_1 15 rfl rfl)
theorem dX3_symmetric_42 : decode cX3_symmetric 42 = .ok (.iconst 1, 1) := dk_4 (dk_at dksX3_symmetric_1 18 rfl rfl)
theorem dX3_symmetric_43 : decode cX3_symmetric 43 = .ok (.ireturn, 1) := dk_172 (dk_at dksX3_symmetric_1 19 rfl rfl)
abbrev cX3_loudestRecording : ByteArray := prog_11_method_58_code
def yX3_loudestRecording : MethodName := ⟨RX3, "loudestRecording", "()I"⟩
def dkwX3_loudestRecording_2 : List UInt8 := [158, 0, 7, 28, 167, 0, 4, 27, 60, 132, 2, 1, 167, 255, 223, 27, 172]
abbrev dktX3_loudestRecording_2 : List UInt8 := dkwX3_loudestRecording_2 ++ []
def dkwX3_loudestRecording_1 : List UInt8 := [60, 4, 61, 28, 42, 180, 0, 7, 3, 46, 162, 0, 29, 42, 28, 182, 0, 184, 42, 27, 182, 0, 184, 148]
abbrev dktX3_loudestRecording_1 : List UInt8 := dkwX3_loudestRecording_1 ++ dktX3_loudestRecording_2
def dkwX3_loudestRecording_0 : List UInt8 := [42, 42, 180, 0, 7, 3, 46, 158, 0, 7, 4, 167, 0, 4, 3, 182, 0, 112, 154, 0, 5, 2, 172, 3]
abbrev dktX3_loudestRecording_0 : List UInt8 := dkwX3_loudestRecording_0 ++ dktX3_loudestRecording_1
theorem dksX3_loudestRecording_0 : cX3_loudestRecording.data.toList.drop 0 = dktX3_loudestRecording_0 := by decide +kernel
theorem dksX3_loudestRecording_1 : cX3_loudestRecording.data.toList.drop 24 = dktX3_loudestRecording_1 := dk_seg dksX3_loudestRecording_0 24 rfl rfl
theorem dksX3_loudestRecording_2 : cX3_loudestRecording.data.toList.drop 48 = dktX3_loudestRecording_2 := dk_seg dksX3_loudestRecording_1 24 rfl rfl
theorem dX3_loudestRecording_0 : decode cX3_loudestRecording 0 = .ok (.aload_n 0, 1) := dk_42 (dk_at dksX3_loudestRecording_0 0 rfl rfl)
theorem dX3_loudestRecording_1 : decode cX3_loudestRecording 1 = .ok (.aload_n 0, 1) := dk_42 (dk_at dksX3_loudestRecording_0 1 rfl rfl)
theorem dX3_loudestRecording_2 : decode cX3_loudestRecording 2 = .ok (.getfield 7, 3) := dk_180 0 7 (dk_at dksX3_loudestRecording_0 2 rfl rfl)
theorem dX3_loudestRecording_5 : decode cX3_loudestRecording 5 = .ok (.iconst 0, 1) := dk_3 (dk_at dksX3_loudestRecording_0 5 rfl rfl)
theorem dX3_loudestRecording_6 : decode cX3_loudestRecording 6 = .ok (.iaload, 1) := dk_46 (dk_at dksX3_loudestRecording_0 6 rfl rfl)
theorem dX3_loudestRecording_7 : decode cX3_loudestRecording 7 = .ok (.ifCond .le 7, 3) := dk_158 0 7 (dk_at dksX3_loudestRecording_0 7 rfl rfl)
theorem dX3_loudestRecording_10 : decode cX3_loudestRecording 10 = .ok (.iconst 1, 1) := dk_4 (dk_at dksX3_loudestRecording_0 10 rfl rfl)
theorem dX3_loudestRecording_11 : decode cX3_loudestRecording 11 = .ok (.goto 4, 3) := dk_167 0 4 (dk_at dksX3_loudestRecording_0 11 rfl rfl)
theorem dX3_loudestRecording_14 : decode cX3_loudestRecording 14 = .ok (.iconst 0, 1) := dk_3 (dk_at dksX3_loudestRecording_0 14 rfl rfl)
theorem dX3_loudestRecording_15 : decode cX3_loudestRecording 15 = .ok (.invokevirtual 112, 3) := dk_182 0 112 (dk_at dksX3_loudestRecording_0 15 rfl rfl)
theorem dX3_loudestRecording_18 : decode cX3_loudestRecording 18 = .ok (.ifCond .ne 5, 3) := dk_154 0 5 (dk_at dksX3_loudestRecording_0 18 rfl rfl)
theorem dX3_loudestRecording_21 : decode cX3_loudestRecording 21 = .ok (.iconst (-1), 1) := dk_2 (dk_at dksX3_loudestRecording_0 21 rfl rfl)
theorem dX3_loudestRecording_22 : decode cX3_loudestRecording 22 = .ok (.ireturn, 1) := dk_172 (dk_at dksX3_loudestRecording_0 22 rfl rfl)
theorem dX3_loudestRecording_23 : decode cX3_loudestRecording 23 = .ok (.iconst 0, 1) := dk_3 (dk_at dksX3_loudestRecording_0 23 rfl rfl)
theorem dX3_loudestRecording_24 : decode cX3_loudestRecording 24 = .ok (.istore_n 1, 1) := dk_60 (dk_at dksX3_loudestRecording_1 0 rfl rfl)
theorem dX3_loudestRecording_25 : decode cX3_loudestRecording 25 = .ok (.iconst 1, 1) := dk_4 (dk_at dksX3_loudestRecording_1 1 rfl rfl)
theorem dX3_loudestRecording_26 : decode cX3_loudestRecording 26 = .ok (.istore_n 2, 1) := dk_61 (dk_at dksX3_loudestRecording_1 2 rfl rfl)
theorem dX3_loudestRecording_27 : decode cX3_loudestRecording 27 = .ok (.iload_n 2, 1) := dk_28 (dk_at dksX3_loudestRecording_1 3 rfl rfl)
theorem dX3_loudestRecording_28 : decode cX3_loudestRecording 28 = .ok (.aload_n 0, 1) := dk_42 (dk_at dksX3_loudestRecording_1 4 rfl rfl)
theorem dX3_loudestRecording_29 : decode cX3_loudestRecording 29 = .ok (.getfield 7, 3) := dk_180 0 7 (dk_at dksX3_loudestRecording_1 5 rfl rfl)
theorem dX3_loudestRecording_32 : decode cX3_loudestRecording 32 = .ok (.iconst 0, 1) := dk_3 (dk_at dksX3_loudestRecording_1 8 rfl rfl)
theorem dX3_loudestRecording_33 : decode cX3_loudestRecording 33 = .ok (.iaload, 1) := dk_46 (dk_at dksX3_loudestRecording_1 9 rfl rfl)
theorem dX3_loudestRecording_34 : decode cX3_loudestRecording 34 = .ok (.if_icmp .ge 29, 3) := dk_162 0 29 (dk_at dksX3_loudestRecording_1 10 rfl rfl)
theorem dX3_loudestRecording_37 : decode cX3_loudestRecording 37 = .ok (.aload_n 0, 1) := dk_42 (dk_at dksX3_loudestRecording_1 13 rfl rfl)
theorem dX3_loudestRecording_38 : decode cX3_loudestRecording 38 = .ok (.iload_n 2, 1) := dk_28 (dk_at dksX3_loudestRecording_1 14 rfl rfl)
theorem dX3_loudestRecording_39 : decode cX3_loudestRecording 39 = .ok (.invokevirtual 184, 3) := dk_182 0 184 (dk_at dksX3_loudestRecording_1 15 rfl rfl)
theorem dX3_loudestRecording_42 : decode cX3_loudestRecording 42 = .ok (.aload_n 0, 1) := dk_42 (dk_at dksX3_loudestRecording_1 18 rfl rfl)
theorem dX3_loudestRecording_43 : decode cX3_loudestRecording 43 = .ok (.iload_n 1, 1) := dk_27 (dk_at dksX3_loudestRecording_1 19 rfl rfl)
theorem dX3_loudestRecording_44 : decode cX3_loudestRecording 44 = .ok (.invokevirtual 184, 3) := dk_182 0 184 (dk_at dksX3_loudestRecording_1 20 rfl rfl)
theorem dX3_loudestRecording_47 : decode cX3_loudestRecording 47 = .ok (.lcmp, 1) := dk_148 (dk_at dksX3_loudestRecording_1 23 rfl rfl)
theorem dX3_loudestRecording_48 : decode cX3_loudestRecording 48 = .ok (.ifCond .le 7, 3) := dk_158 0 7 (dk_at dksX3_loudestRecording_2 0 rfl rfl)
theorem dX3_loudestRecording_51 : decode cX3_loudestRecording 51 = .ok (.iload_n 2, 1) := dk_28 (dk_at dksX3_loudestRecording_2 3 rfl rfl)
theorem dX3_loudestRecording_52 : decode cX3_loudestRecording 52 = .ok (.goto 4, 3) := dk_167 0 4 (dk_at dksX3_loudestRecording_2 4 rfl rfl)
theorem dX3_loudestRecording_55 : decode cX3_loudestRecording 55 = .ok (.iload_n 1, 1) := dk_27 (dk_at dksX3_loudestRecording_2 7 rfl rfl)
theorem dX3_loudestRecording_56 : decode cX3_loudestRecording 56 = .ok (.istore_n 1, 1) := dk_60 (dk_at dksX3_loudestRecording_2 8 rfl rfl)
theorem dX3_loudestRecording_57 : decode cX3_loudestRecording 57 = .ok (.iinc 2 1, 3) := dk_132 2 1 (dk_at dksX3_loudestRecording_2 9 rfl rfl)
theorem dX3_loudestRecording_60 : decode cX3_loudestRecording 60 = .ok (.goto (-33), 3) := dk_167 255 223 (dk_at dksX3_loudestRecording_2 12 rfl rfl)
theorem dX3_loudestRecording_63 : decode cX3_loudestRecording 63 = .ok (.iload_n 1, 1) := dk_27 (dk_at dksX3_loudestRecording_2 15 rfl rfl)
theorem dX3_loudestRecording_64 : decode cX3_loudestRecording 64 = .ok (.ireturn, 1) := dk_172 (dk_at dksX3_loudestRecording_2 16 rfl rfl)
abbrev cX3_walsh : ByteArray := prog_11_method_59_code
def yX3_walsh : MethodName := ⟨RX3, "walsh", "(III)I"⟩
def dkwX3_walsh_2 : List UInt8 := [167, 0, 4, 2, 172]
abbrev dktX3_walsh_2 : List UInt8 := dkwX3_walsh_2 ++ []
def dkwX3_walsh_1 : List UInt8 := [184, 0, 50, 153, 0, 7, 4, 167, 0, 4, 3, 182, 0, 112, 153, 0, 11, 28, 29, 184, 0, 79]
abbrev dktX3_walsh_1 : List UInt8 := dkwX3_walsh_1 ++ dktX3_walsh_2
def dkwX3_walsh_0 : List UInt8 := [42, 27, 184, 0, 160, 153, 0, 29, 28, 3, 27, 4, 100, 184, 0, 50, 153, 0, 18, 29, 3, 27, 4, 100]
abbrev dktX3_walsh_0 : List UInt8 := dkwX3_walsh_0 ++ dktX3_walsh_1
theorem dksX3_walsh_0 : cX3_walsh.data.toList.drop 0 = dktX3_walsh_0 := by decide +kernel
theorem dksX3_walsh_1 : cX3_walsh.data.toList.drop 24 = dktX3_walsh_1 := dk_seg dksX3_walsh_0 24 rfl rfl
theorem dksX3_walsh_2 : cX3_walsh.data.toList.drop 46 = dktX3_walsh_2 := dk_seg dksX3_walsh_1 22 rfl rfl
theorem dX3_walsh_0 : decode cX3_walsh 0 = .ok (.aload_n 0, 1) := dk_42 (dk_at dksX3_walsh_0 0 rfl rfl)
theorem dX3_walsh_1 : decode cX3_walsh 1 = .ok (.iload_n 1, 1) := dk_27 (dk_at dksX3_walsh_0 1 rfl rfl)
theorem dX3_walsh_2 : decode cX3_walsh 2 = .ok (.invokestatic 160, 3) := dk_184 0 160 (dk_at dksX3_walsh_0 2 rfl rfl)
theorem dX3_walsh_5 : decode cX3_walsh 5 = .ok (.ifCond .eq 29, 3) := dk_153 0 29 (dk_at dksX3_walsh_0 5 rfl rfl)
theorem dX3_walsh_8 : decode cX3_walsh 8 = .ok (.iload_n 2, 1) := dk_28 (dk_at dksX3_walsh_0 8 rfl rfl)
theorem dX3_walsh_9 : decode cX3_walsh 9 = .ok (.iconst 0, 1) := dk_3 (dk_at dksX3_walsh_0 9 rfl rfl)
theorem dX3_walsh_10 : decode cX3_walsh 10 = .ok (.iload_n 1, 1) := dk_27 (dk_at dksX3_walsh_0 10 rfl rfl)
theorem dX3_walsh_11 : decode cX3_walsh 11 = .ok (.iconst 1, 1) := dk_4 (dk_at dksX3_walsh_0 11 rfl rfl)
theorem dX3_walsh_12 : decode cX3_walsh 12 = .ok (.isub, 1) := dk_100 (dk_at dksX3_walsh_0 12 rfl rfl)
theorem dX3_walsh_13 : decode cX3_walsh 13 = .ok (.invokestatic 50, 3) := dk_184 0 50 (dk_at dksX3_walsh_0 13 rfl rfl)
theorem dX3_walsh_16 : decode cX3_walsh 16 = .ok (.ifCond .eq 18, 3) := dk_153 0 18 (dk_at dksX3_walsh_0 16 rfl rfl)
theorem dX3_walsh_19 : decode cX3_walsh 19 = .ok (.iload_n 3, 1) := dk_29 (dk_at dksX3_walsh_0 19 rfl rfl)
theorem dX3_walsh_20 : decode cX3_walsh 20 = .ok (.iconst 0, 1) := dk_3 (dk_at dksX3_walsh_0 20 rfl rfl)
theorem dX3_walsh_21 : decode cX3_walsh 21 = .ok (.iload_n 1, 1) := dk_27 (dk_at dksX3_walsh_0 21 rfl rfl)
theorem dX3_walsh_22 : decode cX3_walsh 22 = .ok (.iconst 1, 1) := dk_4 (dk_at dksX3_walsh_0 22 rfl rfl)
theorem dX3_walsh_23 : decode cX3_walsh 23 = .ok (.isub, 1) := dk_100 (dk_at dksX3_walsh_0 23 rfl rfl)
theorem dX3_walsh_24 : decode cX3_walsh 24 = .ok (.invokestatic 50, 3) := dk_184 0 50 (dk_at dksX3_walsh_1 0 rfl rfl)
theorem dX3_walsh_27 : decode cX3_walsh 27 = .ok (.ifCond .eq 7, 3) := dk_153 0 7 (dk_at dksX3_walsh_1 3 rfl rfl)
theorem dX3_walsh_30 : decode cX3_walsh 30 = .ok (.iconst 1, 1) := dk_4 (dk_at dksX3_walsh_1 6 rfl rfl)
theorem dX3_walsh_31 : decode cX3_walsh 31 = .ok (.goto 4, 3) := dk_167 0 4 (dk_at dksX3_walsh_1 7 rfl rfl)
theorem dX3_walsh_34 : decode cX3_walsh 34 = .ok (.iconst 0, 1) := dk_3 (dk_at dksX3_walsh_1 10 rfl rfl)
theorem dX3_walsh_35 : decode cX3_walsh 35 = .ok (.invokevirtual 112, 3) := dk_182 0 112 (dk_at dksX3_walsh_1 11 rfl rfl)
theorem dX3_walsh_38 : decode cX3_walsh 38 = .ok (.ifCond .eq 11, 3) := dk_153 0 11 (dk_at dksX3_walsh_1 14 rfl rfl)
theorem dX3_walsh_41 : decode cX3_walsh 41 = .ok (.iload_n 2, 1) := dk_28 (dk_at dksX3_walsh_1 17 rfl rfl)
theorem dX3_walsh_42 : decode cX3_walsh 42 = .ok (.iload_n 3, 1) := dk_29 (dk_at dksX3_walsh_1 18 rfl rfl)
theorem dX3_walsh_43 : decode cX3_walsh 43 = .ok (.invokestatic 79, 3) := dk_184 0 79 (dk_at dksX3_walsh_1 19 rfl rfl)
theorem dX3_walsh_46 : decode cX3_walsh 46 = .ok (.goto 4, 3) := dk_167 0 4 (dk_at dksX3_walsh_2 0 rfl rfl)
theorem dX3_walsh_49 : decode cX3_walsh 49 = .ok (.iconst (-1), 1) := dk_2 (dk_at dksX3_walsh_2 3 rfl rfl)
theorem dX3_walsh_50 : decode cX3_walsh 50 = .ok (.ireturn, 1) := dk_172 (dk_at dksX3_walsh_2 4 rfl rfl)
abbrev cX3_sign : ByteArray := prog_11_method_18_code
def yX3_sign : MethodName := ⟨RX3, "sign", "(II)I"⟩
def dkwX3_sign_0 : List UInt8 := [26, 27, 126, 184, 0, 74, 5, 112, 154, 0, 7, 4, 167, 0, 4, 2, 172]
abbrev dktX3_sign_0 : List UInt8 := dkwX3_sign_0 ++ []
theorem dksX3_sign_0 : cX3_sign.data.toList.drop 0 = dktX3_sign_0 := by decide +kernel
theorem dX3_sign_0 : decode cX3_sign 0 = .ok (.iload_n 0, 1) := dk_26 (dk_at dksX3_sign_0 0 rfl rfl)
theorem dX3_sign_1 : decode cX3_sign 1 = .ok (.iload_n 1, 1) := dk_27 (dk_at dksX3_sign_0 1 rfl rfl)
theorem dX3_sign_2 : decode cX3_sign 2 = .ok (.iand, 1) := dk_126 (dk_at dksX3_sign_0 2 rfl rfl)
theorem dX3_sign_3 : decode cX3_sign 3 = .ok (.invokestatic 74, 3) := dk_184 0 74 (dk_at dksX3_sign_0 3 rfl rfl)
theorem dX3_sign_6 : decode cX3_sign 6 = .ok (.iconst 2, 1) := dk_5 (dk_at dksX3_sign_0 6 rfl rfl)
theorem dX3_sign_7 : decode cX3_sign 7 = .ok (.irem, 1) := dk_112 (dk_at dksX3_sign_0 7 rfl rfl)
theorem dX3_sign_8 : decode cX3_sign 8 = .ok (.ifCond .ne 7, 3) := dk_154 0 7 (dk_at dksX3_sign_0 8 rfl rfl)
theorem dX3_sign_11 : decode cX3_sign 11 = .ok (.iconst 1, 1) := dk_4 (dk_at dksX3_sign_0 11 rfl rfl)
theorem dX3_sign_12 : decode cX3_sign 12 = .ok (.goto 4, 3) := dk_167 0 4 (dk_at dksX3_sign_0 12 rfl rfl)
theorem dX3_sign_15 : decode cX3_sign 15 = .ok (.iconst (-1), 1) := dk_2 (dk_at dksX3_sign_0 15 rfl rfl)
theorem dX3_sign_16 : decode cX3_sign 16 = .ok (.ireturn, 1) := dk_172 (dk_at dksX3_sign_0 16 rfl rfl)
abbrev cX3_sequency : ByteArray := prog_11_method_60_code
def yX3_sequency : MethodName := ⟨RX3, "sequency", "(II)I"⟩
def dkwX3_sequency_1 : List UInt8 := [182, 0, 112, 153, 0, 11, 27, 28, 184, 0, 196, 167, 0, 4, 2, 172]
abbrev dktX3_sequency_1 : List UInt8 := dkwX3_sequency_1 ++ []
def dkwX3_sequency_0 : List UInt8 := [42, 27, 184, 0, 160, 153, 0, 18, 28, 3, 27, 4, 100, 184, 0, 50, 153, 0, 7, 4, 167, 0, 4, 3]
abbrev dktX3_sequency_0 : List UInt8 := dkwX3_sequency_0 ++ dktX3_sequency_1
theorem dksX3_sequency_0 : cX3_sequency.data.toList.drop 0 = dktX3_sequency_0 := by decide +kernel
theorem dksX3_sequency_1 : cX3_sequency.data.toList.drop 24 = dktX3_sequency_1 := dk_seg dksX3_sequency_0 24 rfl rfl
theorem dX3_sequency_0 : decode cX3_sequency 0 = .ok (.aload_n 0, 1) := dk_42 (dk_at dksX3_sequency_0 0 rfl rfl)
theorem dX3_sequency_1 : decode cX3_sequency 1 = .ok (.iload_n 1, 1) := dk_27 (dk_at dksX3_sequency_0 1 rfl rfl)
theorem dX3_sequency_2 : decode cX3_sequency 2 = .ok (.invokestatic 160, 3) := dk_184 0 160 (dk_at dksX3_sequency_0 2 rfl rfl)
theorem dX3_sequency_5 : decode cX3_sequency 5 = .ok (.ifCond .eq 18, 3) := dk_153 0 18 (dk_at dksX3_sequency_0 5 rfl rfl)
theorem dX3_sequency_8 : decode cX3_sequency 8 = .ok (.iload_n 2, 1) := dk_28 (dk_at dksX3_sequency_0 8 rfl rfl)
theorem dX3_sequency_9 : decode cX3_sequency 9 = .ok (.iconst 0, 1) := dk_3 (dk_at dksX3_sequency_0 9 rfl rfl)
theorem dX3_sequency_10 : decode cX3_sequency 10 = .ok (.iload_n 1, 1) := dk_27 (dk_at dksX3_sequency_0 10 rfl rfl)
theorem dX3_sequency_11 : decode cX3_sequency 11 = .ok (.iconst 1, 1) := dk_4 (dk_at dksX3_sequency_0 11 rfl rfl)
theorem dX3_sequency_12 : decode cX3_sequency 12 = .ok (.isub, 1) := dk_100 (dk_at dksX3_sequency_0 12 rfl rfl)
theorem dX3_sequency_13 : decode cX3_sequency 13 = .ok (.invokestatic 50, 3) := dk_184 0 50 (dk_at dksX3_sequency_0 13 rfl rfl)
theorem dX3_sequency_16 : decode cX3_sequency 16 = .ok (.ifCond .eq 7, 3) := dk_153 0 7 (dk_at dksX3_sequency_0 16 rfl rfl)
theorem dX3_sequency_19 : decode cX3_sequency 19 = .ok (.iconst 1, 1) := dk_4 (dk_at dksX3_sequency_0 19 rfl rfl)
theorem dX3_sequency_20 : decode cX3_sequency 20 = .ok (.goto 4, 3) := dk_167 0 4 (dk_at dksX3_sequency_0 20 rfl rfl)
theorem dX3_sequency_23 : decode cX3_sequency 23 = .ok (.iconst 0, 1) := dk_3 (dk_at dksX3_sequency_0 23 rfl rfl)
theorem dX3_sequency_24 : decode cX3_sequency 24 = .ok (.invokevirtual 112, 3) := dk_182 0 112 (dk_at dksX3_sequency_1 0 rfl rfl)
theorem dX3_sequency_27 : decode cX3_sequency 27 = .ok (.ifCond .eq 11, 3) := dk_153 0 11 (dk_at dksX3_sequency_1 3 rfl rfl)
theorem dX3_sequency_30 : decode cX3_sequency 30 = .ok (.iload_n 1, 1) := dk_27 (dk_at dksX3_sequency_1 6 rfl rfl)
theorem dX3_sequency_31 : decode cX3_sequency 31 = .ok (.iload_n 2, 1) := dk_28 (dk_at dksX3_sequency_1 7 rfl rfl)
theorem dX3_sequency_32 : decode cX3_sequency 32 = .ok (.invokestatic 196, 3) := dk_184 0 196 (dk_at dksX3_sequency_1 8 rfl rfl)
theorem dX3_sequency_35 : decode cX3_sequency 35 = .ok (.goto 4, 3) := dk_167 0 4 (dk_at dksX3_sequency_1 11 rfl rfl)
theorem dX3_sequency_38 : decode cX3_sequency 38 = .ok (.iconst (-1), 1) := dk_2 (dk_at dksX3_sequency_1 14 rfl rfl)
theorem dX3_sequency_39 : decode cX3_sequency 39 = .ok (.ireturn, 1) := dk_172 (dk_at dksX3_sequency_1 15 rfl rfl)
abbrev cX3_changes : ByteArray := prog_11_method_19_code
def yX3_changes : MethodName := ⟨RX3, "changes", "(II)I"⟩
def dkwX3_changes_1 : List UInt8 := [160, 0, 7, 3, 167, 0, 4, 4, 96, 61, 132, 3, 1, 167, 255, 225, 28, 172]
abbrev dktX3_changes_1 : List UInt8 := dkwX3_changes_1 ++ []
def dkwX3_changes_0 : List UInt8 := [3, 61, 4, 62, 29, 26, 162, 0, 32, 28, 27, 29, 184, 0, 79, 27, 29, 4, 100, 184, 0, 79]
abbrev dktX3_changes_0 : List UInt8 := dkwX3_changes_0 ++ dktX3_changes_1
theorem dksX3_changes_0 : cX3_changes.data.toList.drop 0 = dktX3_changes_0 := by decide +kernel
theorem dksX3_changes_1 : cX3_changes.data.toList.drop 22 = dktX3_changes_1 := dk_seg dksX3_changes_0 22 rfl rfl
theorem dX3_changes_0 : decode cX3_changes 0 = .ok (.iconst 0, 1) := dk_3 (dk_at dksX3_changes_0 0 rfl rfl)
theorem dX3_changes_1 : decode cX3_changes 1 = .ok (.istore_n 2, 1) := dk_61 (dk_at dksX3_changes_0 1 rfl rfl)
theorem dX3_changes_2 : decode cX3_changes 2 = .ok (.iconst 1, 1) := dk_4 (dk_at dksX3_changes_0 2 rfl rfl)
theorem dX3_changes_3 : decode cX3_changes 3 = .ok (.istore_n 3, 1) := dk_62 (dk_at dksX3_changes_0 3 rfl rfl)
theorem dX3_changes_4 : decode cX3_changes 4 = .ok (.iload_n 3, 1) := dk_29 (dk_at dksX3_changes_0 4 rfl rfl)
theorem dX3_changes_5 : decode cX3_changes 5 = .ok (.iload_n 0, 1) := dk_26 (dk_at dksX3_changes_0 5 rfl rfl)
theorem dX3_changes_6 : decode cX3_changes 6 = .ok (.if_icmp .ge 32, 3) := dk_162 0 32 (dk_at dksX3_changes_0 6 rfl rfl)
theorem dX3_changes_9 : decode cX3_changes 9 = .ok (.iload_n 2, 1) := dk_28 (dk_at dksX3_changes_0 9 rfl rfl)
theorem dX3_changes_10 : decode cX3_changes 10 = .ok (.iload_n 1, 1) := dk_27 (dk_at dksX3_changes_0 10 rfl rfl)
theorem dX3_changes_11 : decode cX3_changes 11 = .ok (.iload_n 3, 1) := dk_29 (dk_at dksX3_changes_0 11 rfl rfl)
theorem dX3_changes_12 : decode cX3_changes 12 = .ok (.invokestatic 79, 3) := dk_184 0 79 (dk_at dksX3_changes_0 12 rfl rfl)
theorem dX3_changes_15 : decode cX3_changes 15 = .ok (.iload_n 1, 1) := dk_27 (dk_at dksX3_changes_0 15 rfl rfl)
theorem dX3_changes_16 : decode cX3_changes 16 = .ok (.iload_n 3, 1) := dk_29 (dk_at dksX3_changes_0 16 rfl rfl)
theorem dX3_changes_17 : decode cX3_changes 17 = .ok (.iconst 1, 1) := dk_4 (dk_at dksX3_changes_0 17 rfl rfl)
theorem dX3_changes_18 : decode cX3_changes 18 = .ok (.isub, 1) := dk_100 (dk_at dksX3_changes_0 18 rfl rfl)
theorem dX3_changes_19 : decode cX3_changes 19 = .ok (.invokestatic 79, 3) := dk_184 0 79 (dk_at dksX3_changes_0 19 rfl rfl)
theorem dX3_changes_22 : decode cX3_changes 22 = .ok (.if_icmp .ne 7, 3) := dk_160 0 7 (dk_at dksX3_changes_1 0 rfl rfl)
theorem dX3_changes_25 : decode cX3_changes 25 = .ok (.iconst 0, 1) := dk_3 (dk_at dksX3_changes_1 3 rfl rfl)
theorem dX3_changes_26 : decode cX3_changes 26 = .ok (.goto 4, 3) := dk_167 0 4 (dk_at dksX3_changes_1 4 rfl rfl)
theorem dX3_changes_29 : decode cX3_changes 29 = .ok (.iconst 1, 1) := dk_4 (dk_at dksX3_changes_1 7 rfl rfl)
theorem dX3_changes_30 : decode cX3_changes 30 = .ok (.iadd, 1) := dk_96 (dk_at dksX3_changes_1 8 rfl rfl)
theorem dX3_changes_31 : decode cX3_changes 31 = .ok (.istore_n 2, 1) := dk_61 (dk_at dksX3_changes_1 9 rfl rfl)
theorem dX3_changes_32 : decode cX3_changes 32 = .ok (.iinc 3 1, 3) := dk_132 3 1 (dk_at dksX3_changes_1 10 rfl rfl)
theorem dX3_changes_35 : decode cX3_changes 35 = .ok (.goto (-31), 3) := dk_167 255 225 (dk_at dksX3_changes_1 13 rfl rfl)
theorem dX3_changes_38 : decode cX3_changes 38 = .ok (.iload_n 2, 1) := dk_28 (dk_at dksX3_changes_1 16 rfl rfl)
theorem dX3_changes_39 : decode cX3_changes 39 = .ok (.ireturn, 1) := dk_172 (dk_at dksX3_changes_1 17 rfl rfl)
abbrev cX3_indexOfSequency : ByteArray := prog_11_method_61_code
def yX3_indexOfSequency : MethodName := ⟨RX3, "indexOfSequency", "(II)I"⟩
def dkwX3_indexOfSequency_2 : List UInt8 := [167, 255, 244, 29, 172]
abbrev dktX3_indexOfSequency_2 : List UInt8 := dkwX3_indexOfSequency_2 ++ []
def dkwX3_indexOfSequency_1 : List UInt8 := [182, 0, 112, 154, 0, 5, 2, 172, 3, 62, 27, 29, 184, 0, 196, 28, 159, 0, 9, 132, 3, 1]
abbrev dktX3_indexOfSequency_1 : List UInt8 := dkwX3_indexOfSequency_1 ++ dktX3_indexOfSequency_2
def dkwX3_indexOfSequency_0 : List UInt8 := [42, 27, 184, 0, 160, 153, 0, 18, 28, 3, 27, 4, 100, 184, 0, 50, 153, 0, 7, 4, 167, 0, 4, 3]
abbrev dktX3_indexOfSequency_0 : List UInt8 := dkwX3_indexOfSequency_0 ++ dktX3_indexOfSequency_1
theorem dksX3_indexOfSequency_0 : cX3_indexOfSequency.data.toList.drop 0 = dktX3_indexOfSequency_0 := by decide +kernel
theorem dksX3_indexOfSequency_1 : cX3_indexOfSequency.data.toList.drop 24 = dktX3_indexOfSequency_1 := dk_seg dksX3_indexOfSequency_0 24 rfl rfl
theorem dksX3_indexOfSequency_2 : cX3_indexOfSequency.data.toList.drop 46 = dktX3_indexOfSequency_2 := dk_seg dksX3_indexOfSequency_1 22 rfl rfl
theorem dX3_indexOfSequency_0 : decode cX3_indexOfSequency 0 = .ok (.aload_n 0, 1) := dk_42 (dk_at dksX3_indexOfSequency_0 0 rfl rfl)
theorem dX3_indexOfSequency_1 : decode cX3_indexOfSequency 1 = .ok (.iload_n 1, 1) := dk_27 (dk_at dksX3_indexOfSequency_0 1 rfl rfl)
theorem dX3_indexOfSequency_2 : decode cX3_indexOfSequency 2 = .ok (.invokestatic 160, 3) := dk_184 0 160 (dk_at dksX3_indexOfSequency_0 2 rfl rfl)
theorem dX3_indexOfSequency_5 : decode cX3_indexOfSequency 5 = .ok (.ifCond .eq 18, 3) := dk_153 0 18 (dk_at dksX3_indexOfSequency_0 5 rfl rfl)
theorem dX3_indexOfSequency_8 : decode cX3_indexOfSequency 8 = .ok (.iload_n 2, 1) := dk_28 (dk_at dksX3_indexOfSequency_0 8 rfl rfl)
theorem dX3_indexOfSequency_9 : decode cX3_indexOfSequency 9 = .ok (.iconst 0, 1) := dk_3 (dk_at dksX3_indexOfSequency_0 9 rfl rfl)
theorem dX3_indexOfSequency_10 : decode cX3_indexOfSequency 10 = .ok (.iload_n 1, 1) := dk_27 (dk_at dksX3_indexOfSequency_0 10 rfl rfl)
theorem dX3_indexOfSequency_11 : decode cX3_indexOfSequency 11 = .ok (.iconst 1, 1) := dk_4 (dk_at dksX3_indexOfSequency_0 11 rfl rfl)
theorem dX3_indexOfSequency_12 : decode cX3_indexOfSequency 12 = .ok (.isub, 1) := dk_100 (dk_at dksX3_indexOfSequency_0 12 rfl rfl)
theorem dX3_indexOfSequency_13 : decode cX3_indexOfSequency 13 = .ok (.invokestatic 50, 3) := dk_184 0 50 (dk_at dksX3_indexOfSequency_0 13 rfl rfl)
theorem dX3_indexOfSequency_16 : decode cX3_indexOfSequency 16 = .ok (.ifCond .eq 7, 3) := dk_153 0 7 (dk_at dksX3_indexOfSequency_0 16 rfl rfl)
theorem dX3_indexOfSequency_19 : decode cX3_indexOfSequency 19 = .ok (.iconst 1, 1) := dk_4 (dk_at dksX3_indexOfSequency_0 19 rfl rfl)
theorem dX3_indexOfSequency_20 : decode cX3_indexOfSequency 20 = .ok (.goto 4, 3) := dk_167 0 4 (dk_at dksX3_indexOfSequency_0 20 rfl rfl)
theorem dX3_indexOfSequency_23 : decode cX3_indexOfSequency 23 = .ok (.iconst 0, 1) := dk_3 (dk_at dksX3_indexOfSequency_0 23 rfl rfl)
theorem dX3_indexOfSequency_24 : decode cX3_indexOfSequency 24 = .ok (.invokevirtual 112, 3) := dk_182 0 112 (dk_at dksX3_indexOfSequency_1 0 rfl rfl)
theorem dX3_indexOfSequency_27 : decode cX3_indexOfSequency 27 = .ok (.ifCond .ne 5, 3) := dk_154 0 5 (dk_at dksX3_indexOfSequency_1 3 rfl rfl)
theorem dX3_indexOfSequency_30 : decode cX3_indexOfSequency 30 = .ok (.iconst (-1), 1) := dk_2 (dk_at dksX3_indexOfSequency_1 6 rfl rfl)
theorem dX3_indexOfSequency_31 : decode cX3_indexOfSequency 31 = .ok (.ireturn, 1) := dk_172 (dk_at dksX3_indexOfSequency_1 7 rfl rfl)
theorem dX3_indexOfSequency_32 : decode cX3_indexOfSequency 32 = .ok (.iconst 0, 1) := dk_3 (dk_at dksX3_indexOfSequency_1 8 rfl rfl)
theorem dX3_indexOfSequency_33 : decode cX3_indexOfSequency 33 = .ok (.istore_n 3, 1) := dk_62 (dk_at dksX3_indexOfSequency_1 9 rfl rfl)
theorem dX3_indexOfSequency_34 : decode cX3_indexOfSequency 34 = .ok (.iload_n 1, 1) := dk_27 (dk_at dksX3_indexOfSequency_1 10 rfl rfl)
theorem dX3_indexOfSequency_35 : decode cX3_indexOfSequency 35 = .ok (.iload_n 3, 1) := dk_29 (dk_at dksX3_indexOfSequency_1 11 rfl rfl)
theorem dX3_indexOfSequency_36 : decode cX3_indexOfSequency 36 = .ok (.invokestatic 196, 3) := dk_184 0 196 (dk_at dksX3_indexOfSequency_1 12 rfl rfl)
theorem dX3_indexOfSequency_39 : decode cX3_indexOfSequency 39 = .ok (.iload_n 2, 1) := dk_28 (dk_at dksX3_indexOfSequency_1 15 rfl rfl)
theorem dX3_indexOfSequency_40 : decode cX3_indexOfSequency 40 = .ok (.if_icmp .eq 9, 3) := dk_159 0 9 (dk_at dksX3_indexOfSequency_1 16 rfl rfl)
theorem dX3_indexOfSequency_43 : decode cX3_indexOfSequency 43 = .ok (.iinc 3 1, 3) := dk_132 3 1 (dk_at dksX3_indexOfSequency_1 19 rfl rfl)
theorem dX3_indexOfSequency_46 : decode cX3_indexOfSequency 46 = .ok (.goto (-12), 3) := dk_167 255 244 (dk_at dksX3_indexOfSequency_2 0 rfl rfl)
theorem dX3_indexOfSequency_49 : decode cX3_indexOfSequency 49 = .ok (.iload_n 3, 1) := dk_29 (dk_at dksX3_indexOfSequency_2 3 rfl rfl)
theorem dX3_indexOfSequency_50 : decode cX3_indexOfSequency 50 = .ok (.ireturn, 1) := dk_172 (dk_at dksX3_indexOfSequency_2 4 rfl rfl)
abbrev cX3_coefficient : ByteArray := prog_11_method_62_code
def yX3_coefficient : MethodName := ⟨RX3, "coefficient", "(II)I"⟩
def dkwX3_coefficient_0 : List UInt8 := [42, 42, 27, 28, 182, 0, 179, 182, 0, 112, 153, 0, 12, 42, 27, 28, 182, 0, 85, 167, 0, 4, 2, 172]
abbrev dktX3_coefficient_0 : List UInt8 := dkwX3_coefficient_0 ++ []
theorem dksX3_coefficient_0 : cX3_coefficient.data.toList.drop 0 = dktX3_coefficient_0 := by decide +kernel
theorem dX3_coefficient_0 : decode cX3_coefficient 0 = .ok (.aload_n 0, 1) := dk_42 (dk_at dksX3_coefficient_0 0 rfl rfl)
theorem dX3_coefficient_1 : decode cX3_coefficient 1 = .ok (.aload_n 0, 1) := dk_42 (dk_at dksX3_coefficient_0 1 rfl rfl)
theorem dX3_coefficient_2 : decode cX3_coefficient 2 = .ok (.iload_n 1, 1) := dk_27 (dk_at dksX3_coefficient_0 2 rfl rfl)
theorem dX3_coefficient_3 : decode cX3_coefficient 3 = .ok (.iload_n 2, 1) := dk_28 (dk_at dksX3_coefficient_0 3 rfl rfl)
theorem dX3_coefficient_4 : decode cX3_coefficient 4 = .ok (.invokevirtual 179, 3) := dk_182 0 179 (dk_at dksX3_coefficient_0 4 rfl rfl)
theorem dX3_coefficient_7 : decode cX3_coefficient 7 = .ok (.invokevirtual 112, 3) := dk_182 0 112 (dk_at dksX3_coefficient_0 7 rfl rfl)
theorem dX3_coefficient_10 : decode cX3_coefficient 10 = .ok (.ifCond .eq 12, 3) := dk_153 0 12 (dk_at dksX3_coefficient_0 10 rfl rfl)
theorem dX3_coefficient_13 : decode cX3_coefficient 13 = .ok (.aload_n 0, 1) := dk_42 (dk_at dksX3_coefficient_0 13 rfl rfl)
theorem dX3_coefficient_14 : decode cX3_coefficient 14 = .ok (.iload_n 1, 1) := dk_27 (dk_at dksX3_coefficient_0 14 rfl rfl)
theorem dX3_coefficient_15 : decode cX3_coefficient 15 = .ok (.iload_n 2, 1) := dk_28 (dk_at dksX3_coefficient_0 15 rfl rfl)
theorem dX3_coefficient_16 : decode cX3_coefficient 16 = .ok (.invokevirtual 85, 3) := dk_182 0 85 (dk_at dksX3_coefficient_0 16 rfl rfl)
theorem dX3_coefficient_19 : decode cX3_coefficient 19 = .ok (.goto 4, 3) := dk_167 0 4 (dk_at dksX3_coefficient_0 19 rfl rfl)
theorem dX3_coefficient_22 : decode cX3_coefficient 22 = .ok (.iconst (-1), 1) := dk_2 (dk_at dksX3_coefficient_0 22 rfl rfl)
theorem dX3_coefficient_23 : decode cX3_coefficient 23 = .ok (.ireturn, 1) := dk_172 (dk_at dksX3_coefficient_0 23 rfl rfl)
abbrev cX3_sum : ByteArray := prog_11_method_20_code
def yX3_sum : MethodName := ⟨RX3, "sum", "(II)I"⟩
def dkwX3_sum_1 : List UInt8 := [21, 4, 184, 0, 79, 104, 96, 62, 132, 4, 1, 167, 255, 226, 29, 172]
abbrev dktX3_sum_1 : List UInt8 := dkwX3_sum_1 ++ []
def dkwX3_sum_0 : List UInt8 := [3, 62, 3, 54, 4, 21, 4, 42, 27, 182, 0, 62, 162, 0, 26, 29, 42, 27, 21, 4, 182, 0, 82, 28]
abbrev dktX3_sum_0 : List UInt8 := dkwX3_sum_0 ++ dktX3_sum_1
theorem dksX3_sum_0 : cX3_sum.data.toList.drop 0 = dktX3_sum_0 := by decide +kernel
theorem dksX3_sum_1 : cX3_sum.data.toList.drop 24 = dktX3_sum_1 := dk_seg dksX3_sum_0 24 rfl rfl
theorem dX3_sum_0 : decode cX3_sum 0 = .ok (.iconst 0, 1) := dk_3 (dk_at dksX3_sum_0 0 rfl rfl)
theorem dX3_sum_1 : decode cX3_sum 1 = .ok (.istore_n 3, 1) := dk_62 (dk_at dksX3_sum_0 1 rfl rfl)
theorem dX3_sum_2 : decode cX3_sum 2 = .ok (.iconst 0, 1) := dk_3 (dk_at dksX3_sum_0 2 rfl rfl)
theorem dX3_sum_3 : decode cX3_sum 3 = .ok (.istore 4, 2) := dk_54 4 (dk_at dksX3_sum_0 3 rfl rfl)
theorem dX3_sum_5 : decode cX3_sum 5 = .ok (.iload 4, 2) := dk_21 4 (dk_at dksX3_sum_0 5 rfl rfl)
theorem dX3_sum_7 : decode cX3_sum 7 = .ok (.aload_n 0, 1) := dk_42 (dk_at dksX3_sum_0 7 rfl rfl)
theorem dX3_sum_8 : decode cX3_sum 8 = .ok (.iload_n 1, 1) := dk_27 (dk_at dksX3_sum_0 8 rfl rfl)
theorem dX3_sum_9 : decode cX3_sum 9 = .ok (.invokevirtual 62, 3) := dk_182 0 62 (dk_at dksX3_sum_0 9 rfl rfl)
theorem dX3_sum_12 : decode cX3_sum 12 = .ok (.if_icmp .ge 26, 3) := dk_162 0 26 (dk_at dksX3_sum_0 12 rfl rfl)
theorem dX3_sum_15 : decode cX3_sum 15 = .ok (.iload_n 3, 1) := dk_29 (dk_at dksX3_sum_0 15 rfl rfl)
theorem dX3_sum_16 : decode cX3_sum 16 = .ok (.aload_n 0, 1) := dk_42 (dk_at dksX3_sum_0 16 rfl rfl)
theorem dX3_sum_17 : decode cX3_sum 17 = .ok (.iload_n 1, 1) := dk_27 (dk_at dksX3_sum_0 17 rfl rfl)
theorem dX3_sum_18 : decode cX3_sum 18 = .ok (.iload 4, 2) := dk_21 4 (dk_at dksX3_sum_0 18 rfl rfl)
theorem dX3_sum_20 : decode cX3_sum 20 = .ok (.invokevirtual 82, 3) := dk_182 0 82 (dk_at dksX3_sum_0 20 rfl rfl)
theorem dX3_sum_23 : decode cX3_sum 23 = .ok (.iload_n 2, 1) := dk_28 (dk_at dksX3_sum_0 23 rfl rfl)
theorem dX3_sum_24 : decode cX3_sum 24 = .ok (.iload 4, 2) := dk_21 4 (dk_at dksX3_sum_1 0 rfl rfl)
theorem dX3_sum_26 : decode cX3_sum 26 = .ok (.invokestatic 79, 3) := dk_184 0 79 (dk_at dksX3_sum_1 2 rfl rfl)
theorem dX3_sum_29 : decode cX3_sum 29 = .ok (.imul, 1) := dk_104 (dk_at dksX3_sum_1 5 rfl rfl)
theorem dX3_sum_30 : decode cX3_sum 30 = .ok (.iadd, 1) := dk_96 (dk_at dksX3_sum_1 6 rfl rfl)
theorem dX3_sum_31 : decode cX3_sum 31 = .ok (.istore_n 3, 1) := dk_62 (dk_at dksX3_sum_1 7 rfl rfl)
theorem dX3_sum_32 : decode cX3_sum 32 = .ok (.iinc 4 1, 3) := dk_132 4 1 (dk_at dksX3_sum_1 8 rfl rfl)
theorem dX3_sum_35 : decode cX3_sum 35 = .ok (.goto (-30), 3) := dk_167 255 226 (dk_at dksX3_sum_1 11 rfl rfl)
theorem dX3_sum_38 : decode cX3_sum 38 = .ok (.iload_n 3, 1) := dk_29 (dk_at dksX3_sum_1 14 rfl rfl)
theorem dX3_sum_39 : decode cX3_sum 39 = .ok (.ireturn, 1) := dk_172 (dk_at dksX3_sum_1 15 rfl rfl)
abbrev cX3_tones : ByteArray := prog_11_method_63_code
def yX3_tones : MethodName := ⟨RX3, "tones", "(I)I"⟩
def dkwX3_tones_2 : List UInt8 := [167, 255, 227, 28, 172]
abbrev dktX3_tones_2 : List UInt8 := dkwX3_tones_2 ++ []
def dkwX3_tones_1 : List UInt8 := [162, 0, 26, 28, 42, 27, 29, 182, 0, 85, 154, 0, 7, 3, 167, 0, 4, 4, 96, 61, 132, 3, 1]
abbrev dktX3_tones_1 : List UInt8 := dkwX3_tones_1 ++ dktX3_tones_2
def dkwX3_tones_0 : List UInt8 := [42, 42, 27, 182, 0, 54, 182, 0, 112, 154, 0, 5, 2, 172, 3, 61, 3, 62, 29, 42, 27, 182, 0, 62]
abbrev dktX3_tones_0 : List UInt8 := dkwX3_tones_0 ++ dktX3_tones_1
theorem dksX3_tones_0 : cX3_tones.data.toList.drop 0 = dktX3_tones_0 := by decide +kernel
theorem dksX3_tones_1 : cX3_tones.data.toList.drop 24 = dktX3_tones_1 := dk_seg dksX3_tones_0 24 rfl rfl
theorem dksX3_tones_2 : cX3_tones.data.toList.drop 47 = dktX3_tones_2 := dk_seg dksX3_tones_1 23 rfl rfl
theorem dX3_tones_0 : decode cX3_tones 0 = .ok (.aload_n 0, 1) := dk_42 (dk_at dksX3_tones_0 0 rfl rfl)
theorem dX3_tones_1 : decode cX3_tones 1 = .ok (.aload_n 0, 1) := dk_42 (dk_at dksX3_tones_0 1 rfl rfl)
theorem dX3_tones_2 : decode cX3_tones 2 = .ok (.iload_n 1, 1) := dk_27 (dk_at dksX3_tones_0 2 rfl rfl)
theorem dX3_tones_3 : decode cX3_tones 3 = .ok (.invokevirtual 54, 3) := dk_182 0 54 (dk_at dksX3_tones_0 3 rfl rfl)
theorem dX3_tones_6 : decode cX3_tones 6 = .ok (.invokevirtual 112, 3) := dk_182 0 112 (dk_at dksX3_tones_0 6 rfl rfl)
theorem dX3_tones_9 : decode cX3_tones 9 = .ok (.ifCond .ne 5, 3) := dk_154 0 5 (dk_at dksX3_tones_0 9 rfl rfl)
theorem dX3_tones_12 : decode cX3_tones 12 = .ok (.iconst (-1), 1) := dk_2 (dk_at dksX3_tones_0 12 rfl rfl)
theorem dX3_tones_13 : decode cX3_tones 13 = .ok (.ireturn, 1) := dk_172 (dk_at dksX3_tones_0 13 rfl rfl)
theorem dX3_tones_14 : decode cX3_tones 14 = .ok (.iconst 0, 1) := dk_3 (dk_at dksX3_tones_0 14 rfl rfl)
theorem dX3_tones_15 : decode cX3_tones 15 = .ok (.istore_n 2, 1) := dk_61 (dk_at dksX3_tones_0 15 rfl rfl)
theorem dX3_tones_16 : decode cX3_tones 16 = .ok (.iconst 0, 1) := dk_3 (dk_at dksX3_tones_0 16 rfl rfl)
theorem dX3_tones_17 : decode cX3_tones 17 = .ok (.istore_n 3, 1) := dk_62 (dk_at dksX3_tones_0 17 rfl rfl)
theorem dX3_tones_18 : decode cX3_tones 18 = .ok (.iload_n 3, 1) := dk_29 (dk_at dksX3_tones_0 18 rfl rfl)
theorem dX3_tones_19 : decode cX3_tones 19 = .ok (.aload_n 0, 1) := dk_42 (dk_at dksX3_tones_0 19 rfl rfl)
theorem dX3_tones_20 : decode cX3_tones 20 = .ok (.iload_n 1, 1) := dk_27 (dk_at dksX3_tones_0 20 rfl rfl)
theorem dX3_tones_21 : decode cX3_tones 21 = .ok (.invokevirtual 62, 3) := dk_182 0 62 (dk_at dksX3_tones_0 21 rfl rfl)
theorem dX3_tones_24 : decode cX3_tones 24 = .ok (.if_icmp .ge 26, 3) := dk_162 0 26 (dk_at dksX3_tones_1 0 rfl rfl)
theorem dX3_tones_27 : decode cX3_tones 27 = .ok (.iload_n 2, 1) := dk_28 (dk_at dksX3_tones_1 3 rfl rfl)
theorem dX3_tones_28 : decode cX3_tones 28 = .ok (.aload_n 0, 1) := dk_42 (dk_at dksX3_tones_1 4 rfl rfl)
theorem dX3_tones_29 : decode cX3_tones 29 = .ok (.iload_n 1, 1) := dk_27 (dk_at dksX3_tones_1 5 rfl rfl)
theorem dX3_tones_30 : decode cX3_tones 30 = .ok (.iload_n 3, 1) := dk_29 (dk_at dksX3_tones_1 6 rfl rfl)
theorem dX3_tones_31 : decode cX3_tones 31 = .ok (.invokevirtual 85, 3) := dk_182 0 85 (dk_at dksX3_tones_1 7 rfl rfl)
theorem dX3_tones_34 : decode cX3_tones 34 = .ok (.ifCond .ne 7, 3) := dk_154 0 7 (dk_at dksX3_tones_1 10 rfl rfl)
theorem dX3_tones_37 : decode cX3_tones 37 = .ok (.iconst 0, 1) := dk_3 (dk_at dksX3_tones_1 13 rfl rfl)
theorem dX3_tones_38 : decode cX3_tones 38 = .ok (.goto 4, 3) := dk_167 0 4 (dk_at dksX3_tones_1 14 rfl rfl)
theorem dX3_tones_41 : decode cX3_tones 41 = .ok (.iconst 1, 1) := dk_4 (dk_at dksX3_tones_1 17 rfl rfl)
theorem dX3_tones_42 : decode cX3_tones 42 = .ok (.iadd, 1) := dk_96 (dk_at dksX3_tones_1 18 rfl rfl)
theorem dX3_tones_43 : decode cX3_tones 43 = .ok (.istore_n 2, 1) := dk_61 (dk_at dksX3_tones_1 19 rfl rfl)
theorem dX3_tones_44 : decode cX3_tones 44 = .ok (.iinc 3 1, 3) := dk_132 3 1 (dk_at dksX3_tones_1 20 rfl rfl)
theorem dX3_tones_47 : decode cX3_tones 47 = .ok (.goto (-29), 3) := dk_167 255 227 (dk_at dksX3_tones_2 0 rfl rfl)
theorem dX3_tones_50 : decode cX3_tones 50 = .ok (.iload_n 2, 1) := dk_28 (dk_at dksX3_tones_2 3 rfl rfl)
theorem dX3_tones_51 : decode cX3_tones 51 = .ok (.ireturn, 1) := dk_172 (dk_at dksX3_tones_2 4 rfl rfl)
abbrev cX3_bandEnergy : ByteArray := prog_11_method_66_code
def yX3_bandEnergy : MethodName := ⟨RX3, "bandEnergy", "(III)J"⟩
def dkwX3_bandEnergy_2 : List UInt8 := [20, 0, 182, 173]
abbrev dktX3_bandEnergy_2 : List UInt8 := dkwX3_bandEnergy_2 ++ []
def dkwX3_bandEnergy_1 : List UInt8 := [153, 0, 7, 4, 167, 0, 4, 3, 182, 0, 187, 153, 0, 13, 42, 27, 28, 29, 182, 0, 202, 167, 0, 6]
abbrev dktX3_bandEnergy_1 : List UInt8 := dkwX3_bandEnergy_1 ++ dktX3_bandEnergy_2
def dkwX3_bandEnergy_0 : List UInt8 := [42, 27, 182, 0, 54, 54, 4, 42, 21, 4, 21, 4, 153, 0, 17, 42, 27, 28, 29, 182, 0, 199]
abbrev dktX3_bandEnergy_0 : List UInt8 := dkwX3_bandEnergy_0 ++ dktX3_bandEnergy_1
theorem dksX3_bandEnergy_0 : cX3_bandEnergy.data.toList.drop 0 = dktX3_bandEnergy_0 := by decide +kernel
theorem dksX3_bandEnergy_1 : cX3_bandEnergy.data.toList.drop 22 = dktX3_bandEnergy_1 := dk_seg dksX3_bandEnergy_0 22 rfl rfl
theorem dksX3_bandEnergy_2 : cX3_bandEnergy.data.toList.drop 46 = dktX3_bandEnergy_2 := dk_seg dksX3_bandEnergy_1 24 rfl rfl
theorem dX3_bandEnergy_0 : decode cX3_bandEnergy 0 = .ok (.aload_n 0, 1) := dk_42 (dk_at dksX3_bandEnergy_0 0 rfl rfl)
theorem dX3_bandEnergy_1 : decode cX3_bandEnergy 1 = .ok (.iload_n 1, 1) := dk_27 (dk_at dksX3_bandEnergy_0 1 rfl rfl)
theorem dX3_bandEnergy_2 : decode cX3_bandEnergy 2 = .ok (.invokevirtual 54, 3) := dk_182 0 54 (dk_at dksX3_bandEnergy_0 2 rfl rfl)
theorem dX3_bandEnergy_5 : decode cX3_bandEnergy 5 = .ok (.istore 4, 2) := dk_54 4 (dk_at dksX3_bandEnergy_0 5 rfl rfl)
theorem dX3_bandEnergy_7 : decode cX3_bandEnergy 7 = .ok (.aload_n 0, 1) := dk_42 (dk_at dksX3_bandEnergy_0 7 rfl rfl)
theorem dX3_bandEnergy_8 : decode cX3_bandEnergy 8 = .ok (.iload 4, 2) := dk_21 4 (dk_at dksX3_bandEnergy_0 8 rfl rfl)
theorem dX3_bandEnergy_10 : decode cX3_bandEnergy 10 = .ok (.iload 4, 2) := dk_21 4 (dk_at dksX3_bandEnergy_0 10 rfl rfl)
theorem dX3_bandEnergy_12 : decode cX3_bandEnergy 12 = .ok (.ifCond .eq 17, 3) := dk_153 0 17 (dk_at dksX3_bandEnergy_0 12 rfl rfl)
theorem dX3_bandEnergy_15 : decode cX3_bandEnergy 15 = .ok (.aload_n 0, 1) := dk_42 (dk_at dksX3_bandEnergy_0 15 rfl rfl)
theorem dX3_bandEnergy_16 : decode cX3_bandEnergy 16 = .ok (.iload_n 1, 1) := dk_27 (dk_at dksX3_bandEnergy_0 16 rfl rfl)
theorem dX3_bandEnergy_17 : decode cX3_bandEnergy 17 = .ok (.iload_n 2, 1) := dk_28 (dk_at dksX3_bandEnergy_0 17 rfl rfl)
theorem dX3_bandEnergy_18 : decode cX3_bandEnergy 18 = .ok (.iload_n 3, 1) := dk_29 (dk_at dksX3_bandEnergy_0 18 rfl rfl)
theorem dX3_bandEnergy_19 : decode cX3_bandEnergy 19 = .ok (.invokevirtual 199, 3) := dk_182 0 199 (dk_at dksX3_bandEnergy_0 19 rfl rfl)
theorem dX3_bandEnergy_22 : decode cX3_bandEnergy 22 = .ok (.ifCond .eq 7, 3) := dk_153 0 7 (dk_at dksX3_bandEnergy_1 0 rfl rfl)
theorem dX3_bandEnergy_25 : decode cX3_bandEnergy 25 = .ok (.iconst 1, 1) := dk_4 (dk_at dksX3_bandEnergy_1 3 rfl rfl)
theorem dX3_bandEnergy_26 : decode cX3_bandEnergy 26 = .ok (.goto 4, 3) := dk_167 0 4 (dk_at dksX3_bandEnergy_1 4 rfl rfl)
theorem dX3_bandEnergy_29 : decode cX3_bandEnergy 29 = .ok (.iconst 0, 1) := dk_3 (dk_at dksX3_bandEnergy_1 7 rfl rfl)
theorem dX3_bandEnergy_30 : decode cX3_bandEnergy 30 = .ok (.invokevirtual 187, 3) := dk_182 0 187 (dk_at dksX3_bandEnergy_1 8 rfl rfl)
theorem dX3_bandEnergy_33 : decode cX3_bandEnergy 33 = .ok (.ifCond .eq 13, 3) := dk_153 0 13 (dk_at dksX3_bandEnergy_1 11 rfl rfl)
theorem dX3_bandEnergy_36 : decode cX3_bandEnergy 36 = .ok (.aload_n 0, 1) := dk_42 (dk_at dksX3_bandEnergy_1 14 rfl rfl)
theorem dX3_bandEnergy_37 : decode cX3_bandEnergy 37 = .ok (.iload_n 1, 1) := dk_27 (dk_at dksX3_bandEnergy_1 15 rfl rfl)
theorem dX3_bandEnergy_38 : decode cX3_bandEnergy 38 = .ok (.iload_n 2, 1) := dk_28 (dk_at dksX3_bandEnergy_1 16 rfl rfl)
theorem dX3_bandEnergy_39 : decode cX3_bandEnergy 39 = .ok (.iload_n 3, 1) := dk_29 (dk_at dksX3_bandEnergy_1 17 rfl rfl)
theorem dX3_bandEnergy_40 : decode cX3_bandEnergy 40 = .ok (.invokevirtual 202, 3) := dk_182 0 202 (dk_at dksX3_bandEnergy_1 18 rfl rfl)
theorem dX3_bandEnergy_43 : decode cX3_bandEnergy 43 = .ok (.goto 6, 3) := dk_167 0 6 (dk_at dksX3_bandEnergy_1 21 rfl rfl)
theorem dX3_bandEnergy_46 : decode cX3_bandEnergy 46 = .ok (.ldc2_w 182, 3) := dk_20 0 182 (dk_at dksX3_bandEnergy_2 0 rfl rfl)
theorem dX3_bandEnergy_49 : decode cX3_bandEnergy 49 = .ok (.lreturn, 1) := dk_173 (dk_at dksX3_bandEnergy_2 3 rfl rfl)
abbrev cX3_isBand : ByteArray := prog_11_method_64_code
def yX3_isBand : MethodName := ⟨RX3, "isBand", "(III)Z"⟩
def dkwX3_isBand_0 : List UInt8 := [28, 155, 0, 21, 29, 42, 27, 182, 0, 62, 162, 0, 12, 28, 29, 163, 0, 7, 4, 167, 0, 4, 3, 172]
abbrev dktX3_isBand_0 : List UInt8 := dkwX3_isBand_0 ++ []
theorem dksX3_isBand_0 : cX3_isBand.data.toList.drop 0 = dktX3_isBand_0 := by decide +kernel
theorem dX3_isBand_0 : decode cX3_isBand 0 = .ok (.iload_n 2, 1) := dk_28 (dk_at dksX3_isBand_0 0 rfl rfl)
theorem dX3_isBand_1 : decode cX3_isBand 1 = .ok (.ifCond .lt 21, 3) := dk_155 0 21 (dk_at dksX3_isBand_0 1 rfl rfl)
theorem dX3_isBand_4 : decode cX3_isBand 4 = .ok (.iload_n 3, 1) := dk_29 (dk_at dksX3_isBand_0 4 rfl rfl)
theorem dX3_isBand_5 : decode cX3_isBand 5 = .ok (.aload_n 0, 1) := dk_42 (dk_at dksX3_isBand_0 5 rfl rfl)
theorem dX3_isBand_6 : decode cX3_isBand 6 = .ok (.iload_n 1, 1) := dk_27 (dk_at dksX3_isBand_0 6 rfl rfl)
theorem dX3_isBand_7 : decode cX3_isBand 7 = .ok (.invokevirtual 62, 3) := dk_182 0 62 (dk_at dksX3_isBand_0 7 rfl rfl)
theorem dX3_isBand_10 : decode cX3_isBand 10 = .ok (.if_icmp .ge 12, 3) := dk_162 0 12 (dk_at dksX3_isBand_0 10 rfl rfl)
theorem dX3_isBand_13 : decode cX3_isBand 13 = .ok (.iload_n 2, 1) := dk_28 (dk_at dksX3_isBand_0 13 rfl rfl)
theorem dX3_isBand_14 : decode cX3_isBand 14 = .ok (.iload_n 3, 1) := dk_29 (dk_at dksX3_isBand_0 14 rfl rfl)
theorem dX3_isBand_15 : decode cX3_isBand 15 = .ok (.if_icmp .gt 7, 3) := dk_163 0 7 (dk_at dksX3_isBand_0 15 rfl rfl)
theorem dX3_isBand_18 : decode cX3_isBand 18 = .ok (.iconst 1, 1) := dk_4 (dk_at dksX3_isBand_0 18 rfl rfl)
theorem dX3_isBand_19 : decode cX3_isBand 19 = .ok (.goto 4, 3) := dk_167 0 4 (dk_at dksX3_isBand_0 19 rfl rfl)
theorem dX3_isBand_22 : decode cX3_isBand 22 = .ok (.iconst 0, 1) := dk_3 (dk_at dksX3_isBand_0 22 rfl rfl)
theorem dX3_isBand_23 : decode cX3_isBand 23 = .ok (.ireturn, 1) := dk_172 (dk_at dksX3_isBand_0 23 rfl rfl)
abbrev cX3_band : ByteArray := prog_11_method_65_code
def yX3_band : MethodName := ⟨RX3, "band", "(III)J"⟩
def dkwX3_band_2 : List UInt8 := [184, 0, 88, 167, 0, 4, 9, 97, 55, 4, 132, 6, 1, 167, 255, 206, 22, 4, 173]
abbrev dktX3_band_2 : List UInt8 := dkwX3_band_2 ++ []
def dkwX3_band_1 : List UInt8 := [27, 182, 0, 62, 21, 6, 184, 0, 196, 28, 29, 184, 0, 50, 153, 0, 16, 42, 180, 0, 28, 21, 6, 46]
abbrev dktX3_band_1 : List UInt8 := dkwX3_band_1 ++ dktX3_band_2
def dkwX3_band_0 : List UInt8 := [42, 27, 182, 0, 92, 9, 55, 4, 3, 54, 6, 21, 6, 42, 27, 182, 0, 62, 162, 0, 46, 22, 4, 42]
abbrev dktX3_band_0 : List UInt8 := dkwX3_band_0 ++ dktX3_band_1
theorem dksX3_band_0 : cX3_band.data.toList.drop 0 = dktX3_band_0 := by decide +kernel
theorem dksX3_band_1 : cX3_band.data.toList.drop 24 = dktX3_band_1 := dk_seg dksX3_band_0 24 rfl rfl
theorem dksX3_band_2 : cX3_band.data.toList.drop 48 = dktX3_band_2 := dk_seg dksX3_band_1 24 rfl rfl
theorem dX3_band_0 : decode cX3_band 0 = .ok (.aload_n 0, 1) := dk_42 (dk_at dksX3_band_0 0 rfl rfl)
theorem dX3_band_1 : decode cX3_band 1 = .ok (.iload_n 1, 1) := dk_27 (dk_at dksX3_band_0 1 rfl rfl)
theorem dX3_band_2 : decode cX3_band 2 = .ok (.invokevirtual 92, 3) := dk_182 0 92 (dk_at dksX3_band_0 2 rfl rfl)
theorem dX3_band_5 : decode cX3_band 5 = .ok (.lconst 0, 1) := dk_9 (dk_at dksX3_band_0 5 rfl rfl)
theorem dX3_band_6 : decode cX3_band 6 = .ok (.lstore 4, 2) := dk_55 4 (dk_at dksX3_band_0 6 rfl rfl)
theorem dX3_band_8 : decode cX3_band 8 = .ok (.iconst 0, 1) := dk_3 (dk_at dksX3_band_0 8 rfl rfl)
theorem dX3_band_9 : decode cX3_band 9 = .ok (.istore 6, 2) := dk_54 6 (dk_at dksX3_band_0 9 rfl rfl)
theorem dX3_band_11 : decode cX3_band 11 = .ok (.iload 6, 2) := dk_21 6 (dk_at dksX3_band_0 11 rfl rfl)
theorem dX3_band_13 : decode cX3_band 13 = .ok (.aload_n 0, 1) := dk_42 (dk_at dksX3_band_0 13 rfl rfl)
theorem dX3_band_14 : decode cX3_band 14 = .ok (.iload_n 1, 1) := dk_27 (dk_at dksX3_band_0 14 rfl rfl)
theorem dX3_band_15 : decode cX3_band 15 = .ok (.invokevirtual 62, 3) := dk_182 0 62 (dk_at dksX3_band_0 15 rfl rfl)
theorem dX3_band_18 : decode cX3_band 18 = .ok (.if_icmp .ge 46, 3) := dk_162 0 46 (dk_at dksX3_band_0 18 rfl rfl)
theorem dX3_band_21 : decode cX3_band 21 = .ok (.lload 4, 2) := dk_22 4 (dk_at dksX3_band_0 21 rfl rfl)
theorem dX3_band_23 : decode cX3_band 23 = .ok (.aload_n 0, 1) := dk_42 (dk_at dksX3_band_0 23 rfl rfl)
theorem dX3_band_24 : decode cX3_band 24 = .ok (.iload_n 1, 1) := dk_27 (dk_at dksX3_band_1 0 rfl rfl)
theorem dX3_band_25 : decode cX3_band 25 = .ok (.invokevirtual 62, 3) := dk_182 0 62 (dk_at dksX3_band_1 1 rfl rfl)
theorem dX3_band_28 : decode cX3_band 28 = .ok (.iload 6, 2) := dk_21 6 (dk_at dksX3_band_1 4 rfl rfl)
theorem dX3_band_30 : decode cX3_band 30 = .ok (.invokestatic 196, 3) := dk_184 0 196 (dk_at dksX3_band_1 6 rfl rfl)
theorem dX3_band_33 : decode cX3_band 33 = .ok (.iload_n 2, 1) := dk_28 (dk_at dksX3_band_1 9 rfl rfl)
theorem dX3_band_34 : decode cX3_band 34 = .ok (.iload_n 3, 1) := dk_29 (dk_at dksX3_band_1 10 rfl rfl)
theorem dX3_band_35 : decode cX3_band 35 = .ok (.invokestatic 50, 3) := dk_184 0 50 (dk_at dksX3_band_1 11 rfl rfl)
theorem dX3_band_38 : decode cX3_band 38 = .ok (.ifCond .eq 16, 3) := dk_153 0 16 (dk_at dksX3_band_1 14 rfl rfl)
theorem dX3_band_41 : decode cX3_band 41 = .ok (.aload_n 0, 1) := dk_42 (dk_at dksX3_band_1 17 rfl rfl)
theorem dX3_band_42 : decode cX3_band 42 = .ok (.getfield 28, 3) := dk_180 0 28 (dk_at dksX3_band_1 18 rfl rfl)
theorem dX3_band_45 : decode cX3_band 45 = .ok (.iload 6, 2) := dk_21 6 (dk_at dksX3_band_1 21 rfl rfl)
theorem dX3_band_47 : decode cX3_band 47 = .ok (.iaload, 1) := dk_46 (dk_at dksX3_band_1 23 rfl rfl)
theorem dX3_band_48 : decode cX3_band 48 = .ok (.invokestatic 88, 3) := dk_184 0 88 (dk_at dksX3_band_2 0 rfl rfl)
theorem dX3_band_51 : decode cX3_band 51 = .ok (.goto 4, 3) := dk_167 0 4 (dk_at dksX3_band_2 3 rfl rfl)
theorem dX3_band_54 : decode cX3_band 54 = .ok (.lconst 0, 1) := dk_9 (dk_at dksX3_band_2 6 rfl rfl)
theorem dX3_band_55 : decode cX3_band 55 = .ok (.ladd, 1) := dk_97 (dk_at dksX3_band_2 7 rfl rfl)
theorem dX3_band_56 : decode cX3_band 56 = .ok (.lstore 4, 2) := dk_55 4 (dk_at dksX3_band_2 8 rfl rfl)
theorem dX3_band_58 : decode cX3_band 58 = .ok (.iinc 6 1, 3) := dk_132 6 1 (dk_at dksX3_band_2 10 rfl rfl)
theorem dX3_band_61 : decode cX3_band 61 = .ok (.goto (-50), 3) := dk_167 255 206 (dk_at dksX3_band_2 13 rfl rfl)
theorem dX3_band_64 : decode cX3_band 64 = .ok (.lload 4, 2) := dk_22 4 (dk_at dksX3_band_2 16 rfl rfl)
theorem dX3_band_66 : decode cX3_band 66 = .ok (.lreturn, 1) := dk_173 (dk_at dksX3_band_2 18 rfl rfl)
abbrev cX3_transform : ByteArray := prog_11_method_21_code
def yX3_transform : MethodName := ⟨RX3, "transform", "(I)V"⟩
def dkwX3_transform_1 : List UInt8 := [132, 2, 1, 167, 255, 232, 177]
abbrev dktX3_transform_1 : List UInt8 := dkwX3_transform_1 ++ []
def dkwX3_transform_0 : List UInt8 := [3, 61, 28, 42, 27, 182, 0, 62, 162, 0, 21, 42, 180, 0, 28, 28, 42, 27, 28, 182, 0, 85, 79]
abbrev dktX3_transform_0 : List UInt8 := dkwX3_transform_0 ++ dktX3_transform_1
theorem dksX3_transform_0 : cX3_transform.data.toList.drop 0 = dktX3_transform_0 := by decide +kernel
theorem dksX3_transform_1 : cX3_transform.data.toList.drop 23 = dktX3_transform_1 := dk_seg dksX3_transform_0 23 rfl rfl
theorem dX3_transform_0 : decode cX3_transform 0 = .ok (.iconst 0, 1) := dk_3 (dk_at dksX3_transform_0 0 rfl rfl)
theorem dX3_transform_1 : decode cX3_transform 1 = .ok (.istore_n 2, 1) := dk_61 (dk_at dksX3_transform_0 1 rfl rfl)
theorem dX3_transform_2 : decode cX3_transform 2 = .ok (.iload_n 2, 1) := dk_28 (dk_at dksX3_transform_0 2 rfl rfl)
theorem dX3_transform_3 : decode cX3_transform 3 = .ok (.aload_n 0, 1) := dk_42 (dk_at dksX3_transform_0 3 rfl rfl)
theorem dX3_transform_4 : decode cX3_transform 4 = .ok (.iload_n 1, 1) := dk_27 (dk_at dksX3_transform_0 4 rfl rfl)
theorem dX3_transform_5 : decode cX3_transform 5 = .ok (.invokevirtual 62, 3) := dk_182 0 62 (dk_at dksX3_transform_0 5 rfl rfl)
theorem dX3_transform_8 : decode cX3_transform 8 = .ok (.if_icmp .ge 21, 3) := dk_162 0 21 (dk_at dksX3_transform_0 8 rfl rfl)
theorem dX3_transform_11 : decode cX3_transform 11 = .ok (.aload_n 0, 1) := dk_42 (dk_at dksX3_transform_0 11 rfl rfl)
theorem dX3_transform_12 : decode cX3_transform 12 = .ok (.getfield 28, 3) := dk_180 0 28 (dk_at dksX3_transform_0 12 rfl rfl)
theorem dX3_transform_15 : decode cX3_transform 15 = .ok (.iload_n 2, 1) := dk_28 (dk_at dksX3_transform_0 15 rfl rfl)
theorem dX3_transform_16 : decode cX3_transform 16 = .ok (.aload_n 0, 1) := dk_42 (dk_at dksX3_transform_0 16 rfl rfl)
theorem dX3_transform_17 : decode cX3_transform 17 = .ok (.iload_n 1, 1) := dk_27 (dk_at dksX3_transform_0 17 rfl rfl)
theorem dX3_transform_18 : decode cX3_transform 18 = .ok (.iload_n 2, 1) := dk_28 (dk_at dksX3_transform_0 18 rfl rfl)
theorem dX3_transform_19 : decode cX3_transform 19 = .ok (.invokevirtual 85, 3) := dk_182 0 85 (dk_at dksX3_transform_0 19 rfl rfl)
theorem dX3_transform_22 : decode cX3_transform 22 = .ok (.iastore, 1) := dk_79 (dk_at dksX3_transform_0 22 rfl rfl)
theorem dX3_transform_23 : decode cX3_transform 23 = .ok (.iinc 2 1, 3) := dk_132 2 1 (dk_at dksX3_transform_1 0 rfl rfl)
theorem dX3_transform_26 : decode cX3_transform 26 = .ok (.goto (-24), 3) := dk_167 255 232 (dk_at dksX3_transform_1 3 rfl rfl)
theorem dX3_transform_29 : decode cX3_transform 29 = .ok (.return_, 1) := dk_177 (dk_at dksX3_transform_1 6 rfl rfl)
abbrev cX3_strongestBand : ByteArray := prog_11_method_68_code
def yX3_strongestBand : MethodName := ⟨RX3, "strongestBand", "(II)I"⟩
def dkwX3_strongestBand_2 : List UInt8 := [172]
abbrev dktX3_strongestBand_2 : List UInt8 := dkwX3_strongestBand_2 ++ []
def dkwX3_strongestBand_1 : List UInt8 := [153, 0, 7, 4, 167, 0, 4, 3, 182, 0, 187, 153, 0, 12, 42, 27, 28, 182, 0, 206, 167, 0, 4, 2]
abbrev dktX3_strongestBand_1 : List UInt8 := dkwX3_strongestBand_1 ++ dktX3_strongestBand_2
def dkwX3_strongestBand_0 : List UInt8 := [42, 27, 182, 0, 54, 62, 42, 29, 29, 153, 0, 20, 28, 4, 42, 27, 182, 0, 62, 184, 0, 50]
abbrev dktX3_strongestBand_0 : List UInt8 := dkwX3_strongestBand_0 ++ dktX3_strongestBand_1
theorem dksX3_strongestBand_0 : cX3_strongestBand.data.toList.drop 0 = dktX3_strongestBand_0 := by decide +kernel
theorem dksX3_strongestBand_1 : cX3_strongestBand.data.toList.drop 22 = dktX3_strongestBand_1 := dk_seg dksX3_strongestBand_0 22 rfl rfl
theorem dksX3_strongestBand_2 : cX3_strongestBand.data.toList.drop 46 = dktX3_strongestBand_2 := dk_seg dksX3_strongestBand_1 24 rfl rfl
theorem dX3_strongestBand_0 : decode cX3_strongestBand 0 = .ok (.aload_n 0, 1) := dk_42 (dk_at dksX3_strongestBand_0 0 rfl rfl)
theorem dX3_strongestBand_1 : decode cX3_strongestBand 1 = .ok (.iload_n 1, 1) := dk_27 (dk_at dksX3_strongestBand_0 1 rfl rfl)
theorem dX3_strongestBand_2 : decode cX3_strongestBand 2 = .ok (.invokevirtual 54, 3) := dk_182 0 54 (dk_at dksX3_strongestBand_0 2 rfl rfl)
theorem dX3_strongestBand_5 : decode cX3_strongestBand 5 = .ok (.istore_n 3, 1) := dk_62 (dk_at dksX3_strongestBand_0 5 rfl rfl)
theorem dX3_strongestBand_6 : decode cX3_strongestBand 6 = .ok (.aload_n 0, 1) := dk_42 (dk_at dksX3_strongestBand_0 6 rfl rfl)
theorem dX3_strongestBand_7 : decode cX3_strongestBand 7 = .ok (.iload_n 3, 1) := dk_29 (dk_at dksX3_strongestBand_0 7 rfl rfl)
theorem dX3_strongestBand_8 : decode cX3_strongestBand 8 = .ok (.iload_n 3, 1) := dk_29 (dk_at dksX3_strongestBand_0 8 rfl rfl)
theorem dX3_strongestBand_9 : decode cX3_strongestBand 9 = .ok (.ifCond .eq 20, 3) := dk_153 0 20 (dk_at dksX3_strongestBand_0 9 rfl rfl)
theorem dX3_strongestBand_12 : decode cX3_strongestBand 12 = .ok (.iload_n 2, 1) := dk_28 (dk_at dksX3_strongestBand_0 12 rfl rfl)
theorem dX3_strongestBand_13 : decode cX3_strongestBand 13 = .ok (.iconst 1, 1) := dk_4 (dk_at dksX3_strongestBand_0 13 rfl rfl)
theorem dX3_strongestBand_14 : decode cX3_strongestBand 14 = .ok (.aload_n 0, 1) := dk_42 (dk_at dksX3_strongestBand_0 14 rfl rfl)
theorem dX3_strongestBand_15 : decode cX3_strongestBand 15 = .ok (.iload_n 1, 1) := dk_27 (dk_at dksX3_strongestBand_0 15 rfl rfl)
theorem dX3_strongestBand_16 : decode cX3_strongestBand 16 = .ok (.invokevirtual 62, 3) := dk_182 0 62 (dk_at dksX3_strongestBand_0 16 rfl rfl)
theorem dX3_strongestBand_19 : decode cX3_strongestBand 19 = .ok (.invokestatic 50, 3) := dk_184 0 50 (dk_at dksX3_strongestBand_0 19 rfl rfl)
theorem dX3_strongestBand_22 : decode cX3_strongestBand 22 = .ok (.ifCond .eq 7, 3) := dk_153 0 7 (dk_at dksX3_strongestBand_1 0 rfl rfl)
theorem dX3_strongestBand_25 : decode cX3_strongestBand 25 = .ok (.iconst 1, 1) := dk_4 (dk_at dksX3_strongestBand_1 3 rfl rfl)
theorem dX3_strongestBand_26 : decode cX3_strongestBand 26 = .ok (.goto 4, 3) := dk_167 0 4 (dk_at dksX3_strongestBand_1 4 rfl rfl)
theorem dX3_strongestBand_29 : decode cX3_strongestBand 29 = .ok (.iconst 0, 1) := dk_3 (dk_at dksX3_strongestBand_1 7 rfl rfl)
theorem dX3_strongestBand_30 : decode cX3_strongestBand 30 = .ok (.invokevirtual 187, 3) := dk_182 0 187 (dk_at dksX3_strongestBand_1 8 rfl rfl)
theorem dX3_strongestBand_33 : decode cX3_strongestBand 33 = .ok (.ifCond .eq 12, 3) := dk_153 0 12 (dk_at dksX3_strongestBand_1 11 rfl rfl)
theorem dX3_strongestBand_36 : decode cX3_strongestBand 36 = .ok (.aload_n 0, 1) := dk_42 (dk_at dksX3_strongestBand_1 14 rfl rfl)
theorem dX3_strongestBand_37 : decode cX3_strongestBand 37 = .ok (.iload_n 1, 1) := dk_27 (dk_at dksX3_strongestBand_1 15 rfl rfl)
theorem dX3_strongestBand_38 : decode cX3_strongestBand 38 = .ok (.iload_n 2, 1) := dk_28 (dk_at dksX3_strongestBand_1 16 rfl rfl)
theorem dX3_strongestBand_39 : decode cX3_strongestBand 39 = .ok (.invokevirtual 206, 3) := dk_182 0 206 (dk_at dksX3_strongestBand_1 17 rfl rfl)
theorem dX3_strongestBand_42 : decode cX3_strongestBand 42 = .ok (.goto 4, 3) := dk_167 0 4 (dk_at dksX3_strongestBand_1 20 rfl rfl)
theorem dX3_strongestBand_45 : decode cX3_strongestBand 45 = .ok (.iconst (-1), 1) := dk_2 (dk_at dksX3_strongestBand_1 23 rfl rfl)
theorem dX3_strongestBand_46 : decode cX3_strongestBand 46 = .ok (.ireturn, 1) := dk_172 (dk_at dksX3_strongestBand_2 0 rfl rfl)
abbrev cX3_strongest : ByteArray := prog_11_method_67_code
def yX3_strongest : MethodName := ⟨RX3, "strongest", "(II)I"⟩
def dkwX3_strongest_2 : List UInt8 := [167, 0, 4, 29, 62, 132, 4, 1, 167, 255, 206, 29, 172]
abbrev dktX3_strongest_2 : List UInt8 := dkwX3_strongest_2 ++ []
def dkwX3_strongest_1 : List UInt8 := [96, 4, 100, 182, 0, 202, 42, 27, 29, 29, 28, 96, 4, 100, 182, 0, 202, 148, 158, 0, 8, 21, 4]
abbrev dktX3_strongest_1 : List UInt8 := dkwX3_strongest_1 ++ dktX3_strongest_2
def dkwX3_strongest_0 : List UInt8 := [3, 62, 4, 54, 4, 21, 4, 28, 96, 42, 27, 182, 0, 62, 163, 0, 44, 42, 27, 21, 4, 21, 4, 28]
abbrev dktX3_strongest_0 : List UInt8 := dkwX3_strongest_0 ++ dktX3_strongest_1
theorem dksX3_strongest_0 : cX3_strongest.data.toList.drop 0 = dktX3_strongest_0 := by decide +kernel
theorem dksX3_strongest_1 : cX3_strongest.data.toList.drop 24 = dktX3_strongest_1 := dk_seg dksX3_strongest_0 24 rfl rfl
theorem dksX3_strongest_2 : cX3_strongest.data.toList.drop 47 = dktX3_strongest_2 := dk_seg dksX3_strongest_1 23 rfl rfl
theorem dX3_strongest_0 : decode cX3_strongest 0 = .ok (.iconst 0, 1) := dk_3 (dk_at dksX3_strongest_0 0 rfl rfl)
theorem dX3_strongest_1 : decode cX3_strongest 1 = .ok (.istore_n 3, 1) := dk_62 (dk_at dksX3_strongest_0 1 rfl rfl)
theorem dX3_strongest_2 : decode cX3_strongest 2 = .ok (.iconst 1, 1) := dk_4 (dk_at dksX3_strongest_0 2 rfl rfl)
theorem dX3_strongest_3 : decode cX3_strongest 3 = .ok (.istore 4, 2) := dk_54 4 (dk_at dksX3_strongest_0 3 rfl rfl)
theorem dX3_strongest_5 : decode cX3_strongest 5 = .ok (.iload 4, 2) := dk_21 4 (dk_at dksX3_strongest_0 5 rfl rfl)
theorem dX3_strongest_7 : decode cX3_strongest 7 = .ok (.iload_n 2, 1) := dk_28 (dk_at dksX3_strongest_0 7 rfl rfl)
theorem dX3_strongest_8 : decode cX3_strongest 8 = .ok (.iadd, 1) := dk_96 (dk_at dksX3_strongest_0 8 rfl rfl)
theorem dX3_strongest_9 : decode cX3_strongest 9 = .ok (.aload_n 0, 1) := dk_42 (dk_at dksX3_strongest_0 9 rfl rfl)
theorem dX3_strongest_10 : decode cX3_strongest 10 = .ok (.iload_n 1, 1) := dk_27 (dk_at dksX3_strongest_0 10 rfl rfl)
theorem dX3_strongest_11 : decode cX3_strongest 11 = .ok (.invokevirtual 62, 3) := dk_182 0 62 (dk_at dksX3_strongest_0 11 rfl rfl)
theorem dX3_strongest_14 : decode cX3_strongest 14 = .ok (.if_icmp .gt 44, 3) := dk_163 0 44 (dk_at dksX3_strongest_0 14 rfl rfl)
theorem dX3_strongest_17 : decode cX3_strongest 17 = .ok (.aload_n 0, 1) := dk_42 (dk_at dksX3_strongest_0 17 rfl rfl)
theorem dX3_strongest_18 : decode cX3_strongest 18 = .ok (.iload_n 1, 1) := dk_27 (dk_at dksX3_strongest_0 18 rfl rfl)
theorem dX3_strongest_19 : decode cX3_strongest 19 = .ok (.iload 4, 2) := dk_21 4 (dk_at dksX3_strongest_0 19 rfl rfl)
theorem dX3_strongest_21 : decode cX3_strongest 21 = .ok (.iload 4, 2) := dk_21 4 (dk_at dksX3_strongest_0 21 rfl rfl)
theorem dX3_strongest_23 : decode cX3_strongest 23 = .ok (.iload_n 2, 1) := dk_28 (dk_at dksX3_strongest_0 23 rfl rfl)
theorem dX3_strongest_24 : decode cX3_strongest 24 = .ok (.iadd, 1) := dk_96 (dk_at dksX3_strongest_1 0 rfl rfl)
theorem dX3_strongest_25 : decode cX3_strongest 25 = .ok (.iconst 1, 1) := dk_4 (dk_at dksX3_strongest_1 1 rfl rfl)
theorem dX3_strongest_26 : decode cX3_strongest 26 = .ok (.isub, 1) := dk_100 (dk_at dksX3_strongest_1 2 rfl rfl)
theorem dX3_strongest_27 : decode cX3_strongest 27 = .ok (.invokevirtual 202, 3) := dk_182 0 202 (dk_at dksX3_strongest_1 3 rfl rfl)
theorem dX3_strongest_30 : decode cX3_strongest 30 = .ok (.aload_n 0, 1) := dk_42 (dk_at dksX3_strongest_1 6 rfl rfl)
theorem dX3_strongest_31 : decode cX3_strongest 31 = .ok (.iload_n 1, 1) := dk_27 (dk_at dksX3_strongest_1 7 rfl rfl)
theorem dX3_strongest_32 : decode cX3_strongest 32 = .ok (.iload_n 3, 1) := dk_29 (dk_at dksX3_strongest_1 8 rfl rfl)
theorem dX3_strongest_33 : decode cX3_strongest 33 = .ok (.iload_n 3, 1) := dk_29 (dk_at dksX3_strongest_1 9 rfl rfl)
theorem dX3_strongest_34 : decode cX3_strongest 34 = .ok (.iload_n 2, 1) := dk_28 (dk_at dksX3_strongest_1 10 rfl rfl)
theorem dX3_strongest_35 : decode cX3_strongest 35 = .ok (.iadd, 1) := dk_96 (dk_at dksX3_strongest_1 11 rfl rfl)
theorem dX3_strongest_36 : decode cX3_strongest 36 = .ok (.iconst 1, 1) := dk_4 (dk_at dksX3_strongest_1 12 rfl rfl)
theorem dX3_strongest_37 : decode cX3_strongest 37 = .ok (.isub, 1) := dk_100 (dk_at dksX3_strongest_1 13 rfl rfl)
theorem dX3_strongest_38 : decode cX3_strongest 38 = .ok (.invokevirtual 202, 3) := dk_182 0 202 (dk_at dksX3_strongest_1 14 rfl rfl)
theorem dX3_strongest_41 : decode cX3_strongest 41 = .ok (.lcmp, 1) := dk_148 (dk_at dksX3_strongest_1 17 rfl rfl)
theorem dX3_strongest_42 : decode cX3_strongest 42 = .ok (.ifCond .le 8, 3) := dk_158 0 8 (dk_at dksX3_strongest_1 18 rfl rfl)
theorem dX3_strongest_45 : decode cX3_strongest 45 = .ok (.iload 4, 2) := dk_21 4 (dk_at dksX3_strongest_1 21 rfl rfl)
theorem dX3_strongest_47 : decode cX3_strongest 47 = .ok (.goto 4, 3) := dk_167 0 4 (dk_at dksX3_strongest_2 0 rfl rfl)
theorem dX3_strongest_50 : decode cX3_strongest 50 = .ok (.iload_n 3, 1) := dk_29 (dk_at dksX3_strongest_2 3 rfl rfl)
theorem dX3_strongest_51 : decode cX3_strongest 51 = .ok (.istore_n 3, 1) := dk_62 (dk_at dksX3_strongest_2 4 rfl rfl)
theorem dX3_strongest_52 : decode cX3_strongest 52 = .ok (.iinc 4 1, 3) := dk_132 4 1 (dk_at dksX3_strongest_2 5 rfl rfl)
theorem dX3_strongest_55 : decode cX3_strongest 55 = .ok (.goto (-50), 3) := dk_167 255 206 (dk_at dksX3_strongest_2 8 rfl rfl)
theorem dX3_strongest_58 : decode cX3_strongest 58 = .ok (.iload_n 3, 1) := dk_29 (dk_at dksX3_strongest_2 11 rfl rfl)
theorem dX3_strongest_59 : decode cX3_strongest 59 = .ok (.ireturn, 1) := dk_172 (dk_at dksX3_strongest_2 12 rfl rfl)
abbrev cX3_tonesAbove : ByteArray := prog_11_method_71_code
def yX3_tonesAbove : MethodName := ⟨RX3, "tonesAbove", "(II)I"⟩
def dkwX3_tonesAbove_1 : List UInt8 := [167, 0, 4, 2, 172]
abbrev dktX3_tonesAbove_1 : List UInt8 := dkwX3_tonesAbove_1 ++ []
def dkwX3_tonesAbove_0 : List UInt8 := [42, 42, 27, 182, 0, 54, 28, 184, 0, 210, 182, 0, 187, 153, 0, 12, 42, 27, 28, 182, 0, 213]
abbrev dktX3_tonesAbove_0 : List UInt8 := dkwX3_tonesAbove_0 ++ dktX3_tonesAbove_1
theorem dksX3_tonesAbove_0 : cX3_tonesAbove.data.toList.drop 0 = dktX3_tonesAbove_0 := by decide +kernel
theorem dksX3_tonesAbove_1 : cX3_tonesAbove.data.toList.drop 22 = dktX3_tonesAbove_1 := dk_seg dksX3_tonesAbove_0 22 rfl rfl
theorem dX3_tonesAbove_0 : decode cX3_tonesAbove 0 = .ok (.aload_n 0, 1) := dk_42 (dk_at dksX3_tonesAbove_0 0 rfl rfl)
theorem dX3_tonesAbove_1 : decode cX3_tonesAbove 1 = .ok (.aload_n 0, 1) := dk_42 (dk_at dksX3_tonesAbove_0 1 rfl rfl)
theorem dX3_tonesAbove_2 : decode cX3_tonesAbove 2 = .ok (.iload_n 1, 1) := dk_27 (dk_at dksX3_tonesAbove_0 2 rfl rfl)
theorem dX3_tonesAbove_3 : decode cX3_tonesAbove 3 = .ok (.invokevirtual 54, 3) := dk_182 0 54 (dk_at dksX3_tonesAbove_0 3 rfl rfl)
theorem dX3_tonesAbove_6 : decode cX3_tonesAbove 6 = .ok (.iload_n 2, 1) := dk_28 (dk_at dksX3_tonesAbove_0 6 rfl rfl)
theorem dX3_tonesAbove_7 : decode cX3_tonesAbove 7 = .ok (.invokestatic 210, 3) := dk_184 0 210 (dk_at dksX3_tonesAbove_0 7 rfl rfl)
theorem dX3_tonesAbove_10 : decode cX3_tonesAbove 10 = .ok (.invokevirtual 187, 3) := dk_182 0 187 (dk_at dksX3_tonesAbove_0 10 rfl rfl)
theorem dX3_tonesAbove_13 : decode cX3_tonesAbove 13 = .ok (.ifCond .eq 12, 3) := dk_153 0 12 (dk_at dksX3_tonesAbove_0 13 rfl rfl)
theorem dX3_tonesAbove_16 : decode cX3_tonesAbove 16 = .ok (.aload_n 0, 1) := dk_42 (dk_at dksX3_tonesAbove_0 16 rfl rfl)
theorem dX3_tonesAbove_17 : decode cX3_tonesAbove 17 = .ok (.iload_n 1, 1) := dk_27 (dk_at dksX3_tonesAbove_0 17 rfl rfl)
theorem dX3_tonesAbove_18 : decode cX3_tonesAbove 18 = .ok (.iload_n 2, 1) := dk_28 (dk_at dksX3_tonesAbove_0 18 rfl rfl)
theorem dX3_tonesAbove_19 : decode cX3_tonesAbove 19 = .ok (.invokevirtual 213, 3) := dk_182 0 213 (dk_at dksX3_tonesAbove_0 19 rfl rfl)
theorem dX3_tonesAbove_22 : decode cX3_tonesAbove 22 = .ok (.goto 4, 3) := dk_167 0 4 (dk_at dksX3_tonesAbove_1 0 rfl rfl)
theorem dX3_tonesAbove_25 : decode cX3_tonesAbove 25 = .ok (.iconst (-1), 1) := dk_2 (dk_at dksX3_tonesAbove_1 3 rfl rfl)
theorem dX3_tonesAbove_26 : decode cX3_tonesAbove 26 = .ok (.ireturn, 1) := dk_172 (dk_at dksX3_tonesAbove_1 4 rfl rfl)
abbrev cX3_isThreshold : ByteArray := prog_11_method_69_code
def yX3_isThreshold : MethodName := ⟨RX3, "isThreshold", "(I)Z"⟩
def dkwX3_isThreshold_0 : List UInt8 := [26, 3, 18, 209, 184, 0, 50, 172]
abbrev dktX3_isThreshold_0 : List UInt8 := dkwX3_isThreshold_0 ++ []
theorem dksX3_isThreshold_0 : cX3_isThreshold.data.toList.drop 0 = dktX3_isThreshold_0 := by decide +kernel
theorem dX3_isThreshold_0 : decode cX3_isThreshold 0 = .ok (.iload_n 0, 1) := dk_26 (dk_at dksX3_isThreshold_0 0 rfl rfl)
theorem dX3_isThreshold_1 : decode cX3_isThreshold 1 = .ok (.iconst 0, 1) := dk_3 (dk_at dksX3_isThreshold_0 1 rfl rfl)
theorem dX3_isThreshold_2 : decode cX3_isThreshold 2 = .ok (.ldc 209, 2) := dk_18 209 (dk_at dksX3_isThreshold_0 2 rfl rfl)
theorem dX3_isThreshold_4 : decode cX3_isThreshold 4 = .ok (.invokestatic 50, 3) := dk_184 0 50 (dk_at dksX3_isThreshold_0 4 rfl rfl)
theorem dX3_isThreshold_7 : decode cX3_isThreshold 7 = .ok (.ireturn, 1) := dk_172 (dk_at dksX3_isThreshold_0 7 rfl rfl)
abbrev cX3_above : ByteArray := prog_11_method_70_code
def yX3_above : MethodName := ⟨RX3, "above", "(II)I"⟩
def dkwX3_above_1 : List UInt8 := [184, 0, 100, 28, 161, 0, 7, 4, 167, 0, 4, 3, 96, 62, 132, 4, 1, 167, 255, 221, 29, 172]
abbrev dktX3_above_1 : List UInt8 := dkwX3_above_1 ++ []
def dkwX3_above_0 : List UInt8 := [3, 62, 3, 54, 4, 21, 4, 42, 27, 182, 0, 62, 162, 0, 31, 29, 42, 27, 21, 4, 182, 0, 85]
abbrev dktX3_above_0 : List UInt8 := dkwX3_above_0 ++ dktX3_above_1
theorem dksX3_above_0 : cX3_above.data.toList.drop 0 = dktX3_above_0 := by decide +kernel
theorem dksX3_above_1 : cX3_above.data.toList.drop 23 = dktX3_above_1 := dk_seg dksX3_above_0 23 rfl rfl
theorem dX3_above_0 : decode cX3_above 0 = .ok (.iconst 0, 1) := dk_3 (dk_at dksX3_above_0 0 rfl rfl)
theorem dX3_above_1 : decode cX3_above 1 = .ok (.istore_n 3, 1) := dk_62 (dk_at dksX3_above_0 1 rfl rfl)
theorem dX3_above_2 : decode cX3_above 2 = .ok (.iconst 0, 1) := dk_3 (dk_at dksX3_above_0 2 rfl rfl)
theorem dX3_above_3 : decode cX3_above 3 = .ok (.istore 4, 2) := dk_54 4 (dk_at dksX3_above_0 3 rfl rfl)
theorem dX3_above_5 : decode cX3_above 5 = .ok (.iload 4, 2) := dk_21 4 (dk_at dksX3_above_0 5 rfl rfl)
theorem dX3_above_7 : decode cX3_above 7 = .ok (.aload_n 0, 1) := dk_42 (dk_at dksX3_above_0 7 rfl rfl)
theorem dX3_above_8 : decode cX3_above 8 = .ok (.iload_n 1, 1) := dk_27 (dk_at dksX3_above_0 8 rfl rfl)
theorem dX3_above_9 : decode cX3_above 9 = .ok (.invokevirtual 62, 3) := dk_182 0 62 (dk_at dksX3_above_0 9 rfl rfl)
theorem dX3_above_12 : decode cX3_above 12 = .ok (.if_icmp .ge 31, 3) := dk_162 0 31 (dk_at dksX3_above_0 12 rfl rfl)
theorem dX3_above_15 : decode cX3_above 15 = .ok (.iload_n 3, 1) := dk_29 (dk_at dksX3_above_0 15 rfl rfl)
theorem dX3_above_16 : decode cX3_above 16 = .ok (.aload_n 0, 1) := dk_42 (dk_at dksX3_above_0 16 rfl rfl)
theorem dX3_above_17 : decode cX3_above 17 = .ok (.iload_n 1, 1) := dk_27 (dk_at dksX3_above_0 17 rfl rfl)
theorem dX3_above_18 : decode cX3_above 18 = .ok (.iload 4, 2) := dk_21 4 (dk_at dksX3_above_0 18 rfl rfl)
theorem dX3_above_20 : decode cX3_above 20 = .ok (.invokevirtual 85, 3) := dk_182 0 85 (dk_at dksX3_above_0 20 rfl rfl)
theorem dX3_above_23 : decode cX3_above 23 = .ok (.invokestatic 100, 3) := dk_184 0 100 (dk_at dksX3_above_1 0 rfl rfl)
theorem dX3_above_26 : decode cX3_above 26 = .ok (.iload_n 2, 1) := dk_28 (dk_at dksX3_above_1 3 rfl rfl)
theorem dX3_above_27 : decode cX3_above 27 = .ok (.if_icmp .lt 7, 3) := dk_161 0 7 (dk_at dksX3_above_1 4 rfl rfl)
theorem dX3_above_30 : decode cX3_above 30 = .ok (.iconst 1, 1) := dk_4 (dk_at dksX3_above_1 7 rfl rfl)
theorem dX3_above_31 : decode cX3_above 31 = .ok (.goto 4, 3) := dk_167 0 4 (dk_at dksX3_above_1 8 rfl rfl)
theorem dX3_above_34 : decode cX3_above 34 = .ok (.iconst 0, 1) := dk_3 (dk_at dksX3_above_1 11 rfl rfl)
theorem dX3_above_35 : decode cX3_above 35 = .ok (.iadd, 1) := dk_96 (dk_at dksX3_above_1 12 rfl rfl)
theorem dX3_above_36 : decode cX3_above 36 = .ok (.istore_n 3, 1) := dk_62 (dk_at dksX3_above_1 13 rfl rfl)
theorem dX3_above_37 : decode cX3_above 37 = .ok (.iinc 4 1, 3) := dk_132 4 1 (dk_at dksX3_above_1 14 rfl rfl)
theorem dX3_above_40 : decode cX3_above 40 = .ok (.goto (-35), 3) := dk_167 255 221 (dk_at dksX3_above_1 17 rfl rfl)
theorem dX3_above_43 : decode cX3_above 43 = .ok (.iload_n 3, 1) := dk_29 (dk_at dksX3_above_1 20 rfl rfl)
theorem dX3_above_44 : decode cX3_above 44 = .ok (.ireturn, 1) := dk_172 (dk_at dksX3_above_1 21 rfl rfl)
abbrev cX3_meanSequency : ByteArray := prog_11_method_72_code
def yX3_meanSequency : MethodName := ⟨RX3, "meanSequency", "(I)D"⟩
def dkwX3_meanSequency_3 : List UInt8 := [182, 0, 216, 55, 4, 22, 4, 9, 148, 154, 0, 7, 14, 167, 0, 9, 32, 138, 22, 4, 138, 111, 175]
abbrev dktX3_meanSequency_3 : List UInt8 := dkwX3_meanSequency_3 ++ []
def dkwX3_meanSequency_2 : List UInt8 := [180, 0, 28, 21, 4, 46, 184, 0, 88, 105, 97, 65, 132, 4, 1, 167, 255, 218, 42, 42, 27, 182, 0, 62]
abbrev dktX3_meanSequency_2 : List UInt8 := dkwX3_meanSequency_2 ++ dktX3_meanSequency_3
def dkwX3_meanSequency_1 : List UInt8 := [21, 4, 42, 27, 182, 0, 62, 162, 0, 34, 32, 42, 27, 182, 0, 62, 21, 4, 184, 0, 196, 133, 42]
abbrev dktX3_meanSequency_1 : List UInt8 := dkwX3_meanSequency_1 ++ dktX3_meanSequency_2
def dkwX3_meanSequency_0 : List UInt8 := [42, 42, 27, 182, 0, 54, 182, 0, 112, 154, 0, 5, 14, 175, 42, 27, 182, 0, 92, 9, 65, 3, 54, 4]
abbrev dktX3_meanSequency_0 : List UInt8 := dkwX3_meanSequency_0 ++ dktX3_meanSequency_1
theorem dksX3_meanSequency_0 : cX3_meanSequency.data.toList.drop 0 = dktX3_meanSequency_0 := by decide +kernel
theorem dksX3_meanSequency_1 : cX3_meanSequency.data.toList.drop 24 = dktX3_meanSequency_1 := dk_seg dksX3_meanSequency_0 24 rfl rfl
theorem dksX3_meanSequency_2 : cX3_meanSequency.data.toList.drop 47 = dktX3_meanSequency_2 := dk_seg dksX3_meanSequency_1 23 rfl rfl
theorem dksX3_meanSequency_3 : cX3_meanSequency.data.toList.drop 71 = dktX3_meanSequency_3 := dk_seg dksX3_meanSequency_2 24 rfl rfl
theorem dX3_meanSequency_0 : decode cX3_meanSequency 0 = .ok (.aload_n 0, 1) := dk_42 (dk_at dksX3_meanSequency_0 0 rfl rfl)
theorem dX3_meanSequency_1 : decode cX3_meanSequency 1 = .ok (.aload_n 0, 1) := dk_42 (dk_at dksX3_meanSequency_0 1 rfl rfl)
theorem dX3_meanSequency_2 : decode cX3_meanSequency 2 = .ok (.iload_n 1, 1) := dk_27 (dk_at dksX3_meanSequency_0 2 rfl rfl)
theorem dX3_meanSequency_3 : decode cX3_meanSequency 3 = .ok (.invokevirtual 54, 3) := dk_182 0 54 (dk_at dksX3_meanSequency_0 3 rfl rfl)
theorem dX3_meanSequency_6 : decode cX3_meanSequency 6 = .ok (.invokevirtual 112, 3) := dk_182 0 112 (dk_at dksX3_meanSequency_0 6 rfl rfl)
theorem dX3_meanSequency_9 : decode cX3_meanSequency 9 = .ok (.ifCond .ne 5, 3) := dk_154 0 5 (dk_at dksX3_meanSequency_0 9 rfl rfl)
theorem dX3_meanSequency_12 : decode cX3_meanSequency 12 = .ok (.dconst 0, 1) := dk_14 (dk_at dksX3_meanSequency_0 12 rfl rfl)
theorem dX3_meanSequency_13 : decode cX3_meanSequency 13 = .ok (.dreturn, 1) := dk_175 (dk_at dksX3_meanSequency_0 13 rfl rfl)
theorem dX3_meanSequency_14 : decode cX3_meanSequency 14 = .ok (.aload_n 0, 1) := dk_42 (dk_at dksX3_meanSequency_0 14 rfl rfl)
theorem dX3_meanSequency_15 : decode cX3_meanSequency 15 = .ok (.iload_n 1, 1) := dk_27 (dk_at dksX3_meanSequency_0 15 rfl rfl)
theorem dX3_meanSequency_16 : decode cX3_meanSequency 16 = .ok (.invokevirtual 92, 3) := dk_182 0 92 (dk_at dksX3_meanSequency_0 16 rfl rfl)
theorem dX3_meanSequency_19 : decode cX3_meanSequency 19 = .ok (.lconst 0, 1) := dk_9 (dk_at dksX3_meanSequency_0 19 rfl rfl)
theorem dX3_meanSequency_20 : decode cX3_meanSequency 20 = .ok (.lstore_n 2, 1) := dk_65 (dk_at dksX3_meanSequency_0 20 rfl rfl)
theorem dX3_meanSequency_21 : decode cX3_meanSequency 21 = .ok (.iconst 0, 1) := dk_3 (dk_at dksX3_meanSequency_0 21 rfl rfl)
theorem dX3_meanSequency_22 : decode cX3_meanSequency 22 = .ok (.istore 4, 2) := dk_54 4 (dk_at dksX3_meanSequency_0 22 rfl rfl)
theorem dX3_meanSequency_24 : decode cX3_meanSequency 24 = .ok (.iload 4, 2) := dk_21 4 (dk_at dksX3_meanSequency_1 0 rfl rfl)
theorem dX3_meanSequency_26 : decode cX3_meanSequency 26 = .ok (.aload_n 0, 1) := dk_42 (dk_at dksX3_meanSequency_1 2 rfl rfl)
theorem dX3_meanSequency_27 : decode cX3_meanSequency 27 = .ok (.iload_n 1, 1) := dk_27 (dk_at dksX3_meanSequency_1 3 rfl rfl)
theorem dX3_meanSequency_28 : decode cX3_meanSequency 28 = .ok (.invokevirtual 62, 3) := dk_182 0 62 (dk_at dksX3_meanSequency_1 4 rfl rfl)
theorem dX3_meanSequency_31 : decode cX3_meanSequency 31 = .ok (.if_icmp .ge 34, 3) := dk_162 0 34 (dk_at dksX3_meanSequency_1 7 rfl rfl)
theorem dX3_meanSequency_34 : decode cX3_meanSequency 34 = .ok (.lload_n 2, 1) := dk_32 (dk_at dksX3_meanSequency_1 10 rfl rfl)
theorem dX3_meanSequency_35 : decode cX3_meanSequency 35 = .ok (.aload_n 0, 1) := dk_42 (dk_at dksX3_meanSequency_1 11 rfl rfl)
theorem dX3_meanSequency_36 : decode cX3_meanSequency 36 = .ok (.iload_n 1, 1) := dk_27 (dk_at dksX3_meanSequency_1 12 rfl rfl)
theorem dX3_meanSequency_37 : decode cX3_meanSequency 37 = .ok (.invokevirtual 62, 3) := dk_182 0 62 (dk_at dksX3_meanSequency_1 13 rfl rfl)
theorem dX3_meanSequency_40 : decode cX3_meanSequency 40 = .ok (.iload 4, 2) := dk_21 4 (dk_at dksX3_meanSequency_1 16 rfl rfl)
theorem dX3_meanSequency_42 : decode cX3_meanSequency 42 = .ok (.invokestatic 196, 3) := dk_184 0 196 (dk_at dksX3_meanSequency_1 18 rfl rfl)
theorem dX3_meanSequency_45 : decode cX3_meanSequency 45 = .ok (.i2l, 1) := dk_133 (dk_at dksX3_meanSequency_1 21 rfl rfl)
theorem dX3_meanSequency_46 : decode cX3_meanSequency 46 = .ok (.aload_n 0, 1) := dk_42 (dk_at dksX3_meanSequency_1 22 rfl rfl)
theorem dX3_meanSequency_47 : decode cX3_meanSequency 47 = .ok (.getfield 28, 3) := dk_180 0 28 (dk_at dksX3_meanSequency_2 0 rfl rfl)
theorem dX3_meanSequency_50 : decode cX3_meanSequency 50 = .ok (.iload 4, 2) := dk_21 4 (dk_at dksX3_meanSequency_2 3 rfl rfl)
theorem dX3_meanSequency_52 : decode cX3_meanSequency 52 = .ok (.iaload, 1) := dk_46 (dk_at dksX3_meanSequency_2 5 rfl rfl)
theorem dX3_meanSequency_53 : decode cX3_meanSequency 53 = .ok (.invokestatic 88, 3) := dk_184 0 88 (dk_at dksX3_meanSequency_2 6 rfl rfl)
theorem dX3_meanSequency_56 : decode cX3_meanSequency 56 = .ok (.lmul, 1) := dk_105 (dk_at dksX3_meanSequency_2 9 rfl rfl)
theorem dX3_meanSequency_57 : decode cX3_meanSequency 57 = .ok (.ladd, 1) := dk_97 (dk_at dksX3_meanSequency_2 10 rfl rfl)
theorem dX3_meanSequency_58 : decode cX3_meanSequency 58 = .ok (.lstore_n 2, 1) := dk_65 (dk_at dksX3_meanSequency_2 11 rfl rfl)
theorem dX3_meanSequency_59 : decode cX3_meanSequency 59 = .ok (.iinc 4 1, 3) := dk_132 4 1 (dk_at dksX3_meanSequency_2 12 rfl rfl)
theorem dX3_meanSequency_62 : decode cX3_meanSequency 62 = .ok (.goto (-38), 3) := dk_167 255 218 (dk_at dksX3_meanSequency_2 15 rfl rfl)
theorem dX3_meanSequency_65 : decode cX3_meanSequency 65 = .ok (.aload_n 0, 1) := dk_42 (dk_at dksX3_meanSequency_2 18 rfl rfl)
theorem dX3_meanSequency_66 : decode cX3_meanSequency 66 = .ok (.aload_n 0, 1) := dk_42 (dk_at dksX3_meanSequency_2 19 rfl rfl)
theorem dX3_meanSequency_67 : decode cX3_meanSequency 67 = .ok (.iload_n 1, 1) := dk_27 (dk_at dksX3_meanSequency_2 20 rfl rfl)
theorem dX3_meanSequency_68 : decode cX3_meanSequency 68 = .ok (.invokevirtual 62, 3) := dk_182 0 62 (dk_at dksX3_meanSequency_2 21 rfl rfl)
theorem dX3_meanSequency_71 : decode cX3_meanSequency 71 = .ok (.invokevirtual 216, 3) := dk_182 0 216 (dk_at dksX3_meanSequency_3 0 rfl rfl)
theorem dX3_meanSequency_74 : decode cX3_meanSequency 74 = .ok (.lstore 4, 2) := dk_55 4 (dk_at dksX3_meanSequency_3 3 rfl rfl)
theorem dX3_meanSequency_76 : decode cX3_meanSequency 76 = .ok (.lload 4, 2) := dk_22 4 (dk_at dksX3_meanSequency_3 5 rfl rfl)
theorem dX3_meanSequency_78 : decode cX3_meanSequency 78 = .ok (.lconst 0, 1) := dk_9 (dk_at dksX3_meanSequency_3 7 rfl rfl)
theorem dX3_meanSequency_79 : decode cX3_meanSequency 79 = .ok (.lcmp, 1) := dk_148 (dk_at dksX3_meanSequency_3 8 rfl rfl)
theorem dX3_meanSequency_80 : decode cX3_meanSequency 80 = .ok (.ifCond .ne 7, 3) := dk_154 0 7 (dk_at dksX3_meanSequency_3 9 rfl rfl)
theorem dX3_meanSequency_83 : decode cX3_meanSequency 83 = .ok (.dconst 0, 1) := dk_14 (dk_at dksX3_meanSequency_3 12 rfl rfl)
theorem dX3_meanSequency_84 : decode cX3_meanSequency 84 = .ok (.goto 9, 3) := dk_167 0 9 (dk_at dksX3_meanSequency_3 13 rfl rfl)
theorem dX3_meanSequency_87 : decode cX3_meanSequency 87 = .ok (.lload_n 2, 1) := dk_32 (dk_at dksX3_meanSequency_3 16 rfl rfl)
theorem dX3_meanSequency_88 : decode cX3_meanSequency 88 = .ok (.l2d, 1) := dk_138 (dk_at dksX3_meanSequency_3 17 rfl rfl)
theorem dX3_meanSequency_89 : decode cX3_meanSequency 89 = .ok (.lload 4, 2) := dk_22 4 (dk_at dksX3_meanSequency_3 18 rfl rfl)
theorem dX3_meanSequency_91 : decode cX3_meanSequency 91 = .ok (.l2d, 1) := dk_138 (dk_at dksX3_meanSequency_3 20 rfl rfl)
theorem dX3_meanSequency_92 : decode cX3_meanSequency 92 = .ok (.ddiv, 1) := dk_111 (dk_at dksX3_meanSequency_3 21 rfl rfl)
theorem dX3_meanSequency_93 : decode cX3_meanSequency 93 = .ok (.dreturn, 1) := dk_175 (dk_at dksX3_meanSequency_3 22 rfl rfl)
abbrev cX3_coefficientEnergy : ByteArray := prog_11_method_23_code
def yX3_coefficientEnergy : MethodName := ⟨RX3, "coefficientEnergy", "(I)J"⟩
def dkwX3_coefficientEnergy_1 : List UInt8 := [132, 4, 1, 167, 255, 234, 32, 173]
abbrev dktX3_coefficientEnergy_1 : List UInt8 := dkwX3_coefficientEnergy_1 ++ []
def dkwX3_coefficientEnergy_0 : List UInt8 := [9, 65, 3, 54, 4, 21, 4, 27, 162, 0, 22, 32, 42, 180, 0, 28, 21, 4, 46, 184, 0, 88, 97, 65]
abbrev dktX3_coefficientEnergy_0 : List UInt8 := dkwX3_coefficientEnergy_0 ++ dktX3_coefficientEnergy_1
theorem dksX3_coefficientEnergy_0 : cX3_coefficientEnergy.data.toList.drop 0 = dktX3_coefficientEnergy_0 := by decide +kernel
theorem dksX3_coefficientEnergy_1 : cX3_coefficientEnergy.data.toList.drop 24 = dktX3_coefficientEnergy_1 := dk_seg dksX3_coefficientEnergy_0 24 rfl rfl
theorem dX3_coefficientEnergy_0 : decode cX3_coefficientEnergy 0 = .ok (.lconst 0, 1) := dk_9 (dk_at dksX3_coefficientEnergy_0 0 rfl rfl)
theorem dX3_coefficientEnergy_1 : decode cX3_coefficientEnergy 1 = .ok (.lstore_n 2, 1) := dk_65 (dk_at dksX3_coefficientEnergy_0 1 rfl rfl)
theorem dX3_coefficientEnergy_2 : decode cX3_coefficientEnergy 2 = .ok (.iconst 0, 1) := dk_3 (dk_at dksX3_coefficientEnergy_0 2 rfl rfl)
theorem dX3_coefficientEnergy_3 : decode cX3_coefficientEnergy 3 = .ok (.istore 4, 2) := dk_54 4 (dk_at dksX3_coefficientEnergy_0 3 rfl rfl)
theorem dX3_coefficientEnergy_5 : decode cX3_coefficientEnergy 5 = .ok (.iload 4, 2) := dk_21 4 (dk_at dksX3_coefficientEnergy_0 5 rfl rfl)
theorem dX3_coefficientEnergy_7 : decode cX3_coefficientEnergy 7 = .ok (.iload_n 1, 1) := dk_27 (dk_at dksX3_coefficientEnergy_0 7 rfl rfl)
theorem dX3_coefficientEnergy_8 : decode cX3_coefficientEnergy 8 = .ok (.if_icmp .ge 22, 3) := dk_162 0 22 (dk_at dksX3_coefficientEnergy_0 8 rfl rfl)
theorem dX3_coefficientEnergy_11 : decode cX3_coefficientEnergy 11 = .ok (.lload_n 2, 1) := dk_32 (dk_at dksX3_coefficientEnergy_0 11 rfl rfl)
theorem dX3_coefficientEnergy_12 : decode cX3_coefficientEnergy 12 = .ok (.aload_n 0, 1) := dk_42 (dk_at dksX3_coefficientEnergy_0 12 rfl rfl)
theorem dX3_coefficientEnergy_13 : decode cX3_coefficientEnergy 13 = .ok (.getfield 28, 3) := dk_180 0 28 (dk_at dksX3_coefficientEnergy_0 13 rfl rfl)
theorem dX3_coefficientEnergy_16 : decode cX3_coefficientEnergy 16 = .ok (.iload 4, 2) := dk_21 4 (dk_at dksX3_coefficientEnergy_0 16 rfl rfl)
theorem dX3_coefficientEnergy_18 : decode cX3_coefficientEnergy 18 = .ok (.iaload, 1) := dk_46 (dk_at dksX3_coefficientEnergy_0 18 rfl rfl)
theorem dX3_coefficientEnergy_19 : decode cX3_coefficientEnergy 19 = .ok (.invokestatic 88, 3) := dk_184 0 88 (dk_at dksX3_coefficientEnergy_0 19 rfl rfl)
theorem dX3_coefficientEnergy_22 : decode cX3_coefficientEnergy 22 = .ok (.ladd, 1) := dk_97 (dk_at dksX3_coefficientEnergy_0 22 rfl rfl)
theorem dX3_coefficientEnergy_23 : decode cX3_coefficientEnergy 23 = .ok (.lstore_n 2, 1) := dk_65 (dk_at dksX3_coefficientEnergy_0 23 rfl rfl)
theorem dX3_coefficientEnergy_24 : decode cX3_coefficientEnergy 24 = .ok (.iinc 4 1, 3) := dk_132 4 1 (dk_at dksX3_coefficientEnergy_1 0 rfl rfl)
theorem dX3_coefficientEnergy_27 : decode cX3_coefficientEnergy 27 = .ok (.goto (-22), 3) := dk_167 255 234 (dk_at dksX3_coefficientEnergy_1 3 rfl rfl)
theorem dX3_coefficientEnergy_30 : decode cX3_coefficientEnergy 30 = .ok (.lload_n 2, 1) := dk_32 (dk_at dksX3_coefficientEnergy_1 6 rfl rfl)
theorem dX3_coefficientEnergy_31 : decode cX3_coefficientEnergy 31 = .ok (.lreturn, 1) := dk_173 (dk_at dksX3_coefficientEnergy_1 7 rfl rfl)
abbrev cX3_peak : ByteArray := prog_11_method_73_code
def yX3_peak : MethodName := ⟨RX3, "peak", "(II)I"⟩
def dkwX3_peak_1 : List UInt8 := [28, 46, 172]
abbrev dktX3_peak_1 : List UInt8 := dkwX3_peak_1 ++ []
def dkwX3_peak_0 : List UInt8 := [42, 42, 27, 28, 182, 0, 179, 182, 0, 112, 154, 0, 5, 2, 172, 42, 27, 182, 0, 219, 42, 180, 0, 34]
abbrev dktX3_peak_0 : List UInt8 := dkwX3_peak_0 ++ dktX3_peak_1
theorem dksX3_peak_0 : cX3_peak.data.toList.drop 0 = dktX3_peak_0 := by decide +kernel
theorem dksX3_peak_1 : cX3_peak.data.toList.drop 24 = dktX3_peak_1 := dk_seg dksX3_peak_0 24 rfl rfl
theorem dX3_peak_0 : decode cX3_peak 0 = .ok (.aload_n 0, 1) := dk_42 (dk_at dksX3_peak_0 0 rfl rfl)
theorem dX3_peak_1 : decode cX3_peak 1 = .ok (.aload_n 0, 1) := dk_42 (dk_at dksX3_peak_0 1 rfl rfl)
theorem dX3_peak_2 : decode cX3_peak 2 = .ok (.iload_n 1, 1) := dk_27 (dk_at dksX3_peak_0 2 rfl rfl)
theorem dX3_peak_3 : decode cX3_peak 3 = .ok (.iload_n 2, 1) := dk_28 (dk_at dksX3_peak_0 3 rfl rfl)
theorem dX3_peak_4 : decode cX3_peak 4 = .ok (.invokevirtual 179, 3) := dk_182 0 179 (dk_at dksX3_peak_0 4 rfl rfl)
theorem dX3_peak_7 : decode cX3_peak 7 = .ok (.invokevirtual 112, 3) := dk_182 0 112 (dk_at dksX3_peak_0 7 rfl rfl)
theorem dX3_peak_10 : decode cX3_peak 10 = .ok (.ifCond .ne 5, 3) := dk_154 0 5 (dk_at dksX3_peak_0 10 rfl rfl)
theorem dX3_peak_13 : decode cX3_peak 13 = .ok (.iconst (-1), 1) := dk_2 (dk_at dksX3_peak_0 13 rfl rfl)
theorem dX3_peak_14 : decode cX3_peak 14 = .ok (.ireturn, 1) := dk_172 (dk_at dksX3_peak_0 14 rfl rfl)
theorem dX3_peak_15 : decode cX3_peak 15 = .ok (.aload_n 0, 1) := dk_42 (dk_at dksX3_peak_0 15 rfl rfl)
theorem dX3_peak_16 : decode cX3_peak 16 = .ok (.iload_n 1, 1) := dk_27 (dk_at dksX3_peak_0 16 rfl rfl)
theorem dX3_peak_17 : decode cX3_peak 17 = .ok (.invokevirtual 219, 3) := dk_182 0 219 (dk_at dksX3_peak_0 17 rfl rfl)
theorem dX3_peak_20 : decode cX3_peak 20 = .ok (.aload_n 0, 1) := dk_42 (dk_at dksX3_peak_0 20 rfl rfl)
theorem dX3_peak_21 : decode cX3_peak 21 = .ok (.getfield 34, 3) := dk_180 0 34 (dk_at dksX3_peak_0 21 rfl rfl)
theorem dX3_peak_24 : decode cX3_peak 24 = .ok (.iload_n 2, 1) := dk_28 (dk_at dksX3_peak_1 0 rfl rfl)
theorem dX3_peak_25 : decode cX3_peak 25 = .ok (.iaload, 1) := dk_46 (dk_at dksX3_peak_1 1 rfl rfl)
theorem dX3_peak_26 : decode cX3_peak 26 = .ok (.ireturn, 1) := dk_172 (dk_at dksX3_peak_1 2 rfl rfl)
abbrev cX3_findPeaks : ByteArray := prog_11_method_24_code
def yX3_findPeaks : MethodName := ⟨RX3, "findPeaks", "(I)V"⟩
def dkwX3_findPeaks_5 : List UInt8 := [42, 180, 0, 34, 28, 29, 79, 132, 2, 1, 167, 255, 160, 177]
abbrev dktX3_findPeaks_5 : List UInt8 := dkwX3_findPeaks_5 ++ []
def dkwX3_findPeaks_4 : List UInt8 := [180, 0, 28, 29, 46, 184, 0, 100, 164, 0, 8, 21, 4, 167, 0, 4, 29, 62, 132, 4, 1, 167, 255, 187]
abbrev dktX3_findPeaks_4 : List UInt8 := dkwX3_findPeaks_4 ++ dktX3_findPeaks_5
def dkwX3_findPeaks_3 : List UInt8 := [54, 5, 21, 5, 153, 0, 35, 29, 2, 159, 0, 25, 42, 180, 0, 28, 21, 4, 46, 184, 0, 100, 42]
abbrev dktX3_findPeaks_3 : List UInt8 := dkwX3_findPeaks_3 ++ dktX3_findPeaks_4
def dkwX3_findPeaks_2 : List UInt8 := [42, 27, 182, 0, 62, 162, 0, 65, 42, 21, 4, 28, 182, 0, 96, 154, 0, 7, 4, 167, 0, 4, 3]
abbrev dktX3_findPeaks_2 : List UInt8 := dkwX3_findPeaks_2 ++ dktX3_findPeaks_3
def dkwX3_findPeaks_1 : List UInt8 := [132, 2, 1, 167, 255, 237, 3, 61, 28, 42, 27, 182, 0, 62, 162, 0, 93, 2, 62, 3, 54, 4, 21, 4]
abbrev dktX3_findPeaks_1 : List UInt8 := dkwX3_findPeaks_1 ++ dktX3_findPeaks_2
def dkwX3_findPeaks_0 : List UInt8 := [42, 27, 182, 0, 92, 3, 61, 28, 42, 27, 182, 0, 62, 162, 0, 16, 42, 180, 0, 34, 28, 2, 79]
abbrev dktX3_findPeaks_0 : List UInt8 := dkwX3_findPeaks_0 ++ dktX3_findPeaks_1
theorem dksX3_findPeaks_0 : cX3_findPeaks.data.toList.drop 0 = dktX3_findPeaks_0 := by decide +kernel
theorem dksX3_findPeaks_1 : cX3_findPeaks.data.toList.drop 23 = dktX3_findPeaks_1 := dk_seg dksX3_findPeaks_0 23 rfl rfl
theorem dksX3_findPeaks_2 : cX3_findPeaks.data.toList.drop 47 = dktX3_findPeaks_2 := dk_seg dksX3_findPeaks_1 24 rfl rfl
theorem dksX3_findPeaks_3 : cX3_findPeaks.data.toList.drop 70 = dktX3_findPeaks_3 := dk_seg dksX3_findPeaks_2 23 rfl rfl
theorem dksX3_findPeaks_4 : cX3_findPeaks.data.toList.drop 93 = dktX3_findPeaks_4 := dk_seg dksX3_findPeaks_3 23 rfl rfl
theorem dksX3_findPeaks_5 : cX3_findPeaks.data.toList.drop 117 = dktX3_findPeaks_5 := dk_seg dksX3_findPeaks_4 24 rfl rfl
theorem dX3_findPeaks_0 : decode cX3_findPeaks 0 = .ok (.aload_n 0, 1) := dk_42 (dk_at dksX3_findPeaks_0 0 rfl rfl)
theorem dX3_findPeaks_1 : decode cX3_findPeaks 1 = .ok (.iload_n 1, 1) := dk_27 (dk_at dksX3_findPeaks_0 1 rfl rfl)
theorem dX3_findPeaks_2 : decode cX3_findPeaks 2 = .ok (.invokevirtual 92, 3) := dk_182 0 92 (dk_at dksX3_findPeaks_0 2 rfl rfl)
theorem dX3_findPeaks_5 : decode cX3_findPeaks 5 = .ok (.iconst 0, 1) := dk_3 (dk_at dksX3_findPeaks_0 5 rfl rfl)
theorem dX3_findPeaks_6 : decode cX3_findPeaks 6 = .ok (.istore_n 2, 1) := dk_61 (dk_at dksX3_findPeaks_0 6 rfl rfl)
theorem dX3_findPeaks_7 : decode cX3_findPeaks 7 = .ok (.iload_n 2, 1) := dk_28 (dk_at dksX3_findPeaks_0 7 rfl rfl)
theorem dX3_findPeaks_8 : decode cX3_findPeaks 8 = .ok (.aload_n 0, 1) := dk_42 (dk_at dksX3_findPeaks_0 8 rfl rfl)
theorem dX3_findPeaks_9 : decode cX3_findPeaks 9 = .ok (.iload_n 1, 1) := dk_27 (dk_at dksX3_findPeaks_0 9 rfl rfl)
theorem dX3_findPeaks_10 : decode cX3_findPeaks 10 = .ok (.invokevirtual 62, 3) := dk_182 0 62 (dk_at dksX3_findPeaks_0 10 rfl rfl)
theorem dX3_findPeaks_13 : decode cX3_findPeaks 13 = .ok (.if_icmp .ge 16, 3) := dk_162 0 16 (dk_at dksX3_findPeaks_0 13 rfl rfl)
theorem dX3_findPeaks_16 : decode cX3_findPeaks 16 = .ok (.aload_n 0, 1) := dk_42 (dk_at dksX3_findPeaks_0 16 rfl rfl)
theorem dX3_findPeaks_17 : decode cX3_findPeaks 17 = .ok (.getfield 34, 3) := dk_180 0 34 (dk_at dksX3_findPeaks_0 17 rfl rfl)
theorem dX3_findPeaks_20 : decode cX3_findPeaks 20 = .ok (.iload_n 2, 1) := dk_28 (dk_at dksX3_findPeaks_0 20 rfl rfl)
theorem dX3_findPeaks_21 : decode cX3_findPeaks 21 = .ok (.iconst (-1), 1) := dk_2 (dk_at dksX3_findPeaks_0 21 rfl rfl)
theorem dX3_findPeaks_22 : decode cX3_findPeaks 22 = .ok (.iastore, 1) := dk_79 (dk_at dksX3_findPeaks_0 22 rfl rfl)
theorem dX3_findPeaks_23 : decode cX3_findPeaks 23 = .ok (.iinc 2 1, 3) := dk_132 2 1 (dk_at dksX3_findPeaks_1 0 rfl rfl)
theorem dX3_findPeaks_26 : decode cX3_findPeaks 26 = .ok (.goto (-19), 3) := dk_167 255 237 (dk_at dksX3_findPeaks_1 3 rfl rfl)
theorem dX3_findPeaks_29 : decode cX3_findPeaks 29 = .ok (.iconst 0, 1) := dk_3 (dk_at dksX3_findPeaks_1 6 rfl rfl)
theorem dX3_findPeaks_30 : decode cX3_findPeaks 30 = .ok (.istore_n 2, 1) := dk_61 (dk_at dksX3_findPeaks_1 7 rfl rfl)
theorem dX3_findPeaks_31 : decode cX3_findPeaks 31 = .ok (.iload_n 2, 1) := dk_28 (dk_at dksX3_findPeaks_1 8 rfl rfl)
theorem dX3_findPeaks_32 : decode cX3_findPeaks 32 = .ok (.aload_n 0, 1) := dk_42 (dk_at dksX3_findPeaks_1 9 rfl rfl)
theorem dX3_findPeaks_33 : decode cX3_findPeaks 33 = .ok (.iload_n 1, 1) := dk_27 (dk_at dksX3_findPeaks_1 10 rfl rfl)
theorem dX3_findPeaks_34 : decode cX3_findPeaks 34 = .ok (.invokevirtual 62, 3) := dk_182 0 62 (dk_at dksX3_findPeaks_1 11 rfl rfl)
theorem dX3_findPeaks_37 : decode cX3_findPeaks 37 = .ok (.if_icmp .ge 93, 3) := dk_162 0 93 (dk_at dksX3_findPeaks_1 14 rfl rfl)
theorem dX3_findPeaks_40 : decode cX3_findPeaks 40 = .ok (.iconst (-1), 1) := dk_2 (dk_at dksX3_findPeaks_1 17 rfl rfl)
theorem dX3_findPeaks_41 : decode cX3_findPeaks 41 = .ok (.istore_n 3, 1) := dk_62 (dk_at dksX3_findPeaks_1 18 rfl rfl)
theorem dX3_findPeaks_42 : decode cX3_findPeaks 42 = .ok (.iconst 0, 1) := dk_3 (dk_at dksX3_findPeaks_1 19 rfl rfl)
theorem dX3_findPeaks_43 : decode cX3_findPeaks 43 = .ok (.istore 4, 2) := dk_54 4 (dk_at dksX3_findPeaks_1 20 rfl rfl)
theorem dX3_findPeaks_45 : decode cX3_findPeaks 45 = .ok (.iload 4, 2) := dk_21 4 (dk_at dksX3_findPeaks_1 22 rfl rfl)
theorem dX3_findPeaks_47 : decode cX3_findPeaks 47 = .ok (.aload_n 0, 1) := dk_42 (dk_at dksX3_findPeaks_2 0 rfl rfl)
theorem dX3_findPeaks_48 : decode cX3_findPeaks 48 = .ok (.iload_n 1, 1) := dk_27 (dk_at dksX3_findPeaks_2 1 rfl rfl)
theorem dX3_findPeaks_49 : decode cX3_findPeaks 49 = .ok (.invokevirtual 62, 3) := dk_182 0 62 (dk_at dksX3_findPeaks_2 2 rfl rfl)
theorem dX3_findPeaks_52 : decode cX3_findPeaks 52 = .ok (.if_icmp .ge 65, 3) := dk_162 0 65 (dk_at dksX3_findPeaks_2 5 rfl rfl)
theorem dX3_findPeaks_55 : decode cX3_findPeaks 55 = .ok (.aload_n 0, 1) := dk_42 (dk_at dksX3_findPeaks_2 8 rfl rfl)
theorem dX3_findPeaks_56 : decode cX3_findPeaks 56 = .ok (.iload 4, 2) := dk_21 4 (dk_at dksX3_findPeaks_2 9 rfl rfl)
theorem dX3_findPeaks_58 : decode cX3_findPeaks 58 = .ok (.iload_n 2, 1) := dk_28 (dk_at dksX3_findPeaks_2 11 rfl rfl)
theorem dX3_findPeaks_59 : decode cX3_findPeaks 59 = .ok (.invokevirtual 96, 3) := dk_182 0 96 (dk_at dksX3_findPeaks_2 12 rfl rfl)
theorem dX3_findPeaks_62 : decode cX3_findPeaks 62 = .ok (.ifCond .ne 7, 3) := dk_154 0 7 (dk_at dksX3_findPeaks_2 15 rfl rfl)
theorem dX3_findPeaks_65 : decode cX3_findPeaks 65 = .ok (.iconst 1, 1) := dk_4 (dk_at dksX3_findPeaks_2 18 rfl rfl)
theorem dX3_findPeaks_66 : decode cX3_findPeaks 66 = .ok (.goto 4, 3) := dk_167 0 4 (dk_at dksX3_findPeaks_2 19 rfl rfl)
theorem dX3_findPeaks_69 : decode cX3_findPeaks 69 = .ok (.iconst 0, 1) := dk_3 (dk_at dksX3_findPeaks_2 22 rfl rfl)
theorem dX3_findPeaks_70 : decode cX3_findPeaks 70 = .ok (.istore 5, 2) := dk_54 5 (dk_at dksX3_findPeaks_3 0 rfl rfl)
theorem dX3_findPeaks_72 : decode cX3_findPeaks 72 = .ok (.iload 5, 2) := dk_21 5 (dk_at dksX3_findPeaks_3 2 rfl rfl)
theorem dX3_findPeaks_74 : decode cX3_findPeaks 74 = .ok (.ifCond .eq 35, 3) := dk_153 0 35 (dk_at dksX3_findPeaks_3 4 rfl rfl)
theorem dX3_findPeaks_77 : decode cX3_findPeaks 77 = .ok (.iload_n 3, 1) := dk_29 (dk_at dksX3_findPeaks_3 7 rfl rfl)
theorem dX3_findPeaks_78 : decode cX3_findPeaks 78 = .ok (.iconst (-1), 1) := dk_2 (dk_at dksX3_findPeaks_3 8 rfl rfl)
theorem dX3_findPeaks_79 : decode cX3_findPeaks 79 = .ok (.if_icmp .eq 25, 3) := dk_159 0 25 (dk_at dksX3_findPeaks_3 9 rfl rfl)
theorem dX3_findPeaks_82 : decode cX3_findPeaks 82 = .ok (.aload_n 0, 1) := dk_42 (dk_at dksX3_findPeaks_3 12 rfl rfl)
theorem dX3_findPeaks_83 : decode cX3_findPeaks 83 = .ok (.getfield 28, 3) := dk_180 0 28 (dk_at dksX3_findPeaks_3 13 rfl rfl)
theorem dX3_findPeaks_86 : decode cX3_findPeaks 86 = .ok (.iload 4, 2) := dk_21 4 (dk_at dksX3_findPeaks_3 16 rfl rfl)
theorem dX3_findPeaks_88 : decode cX3_findPeaks 88 = .ok (.iaload, 1) := dk_46 (dk_at dksX3_findPeaks_3 18 rfl rfl)
theorem dX3_findPeaks_89 : decode cX3_findPeaks 89 = .ok (.invokestatic 100, 3) := dk_184 0 100 (dk_at dksX3_findPeaks_3 19 rfl rfl)
theorem dX3_findPeaks_92 : decode cX3_findPeaks 92 = .ok (.aload_n 0, 1) := dk_42 (dk_at dksX3_findPeaks_3 22 rfl rfl)
theorem dX3_findPeaks_93 : decode cX3_findPeaks 93 = .ok (.getfield 28, 3) := dk_180 0 28 (dk_at dksX3_findPeaks_4 0 rfl rfl)
theorem dX3_findPeaks_96 : decode cX3_findPeaks 96 = .ok (.iload_n 3, 1) := dk_29 (dk_at dksX3_findPeaks_4 3 rfl rfl)
theorem dX3_findPeaks_97 : decode cX3_findPeaks 97 = .ok (.iaload, 1) := dk_46 (dk_at dksX3_findPeaks_4 4 rfl rfl)
theorem dX3_findPeaks_98 : decode cX3_findPeaks 98 = .ok (.invokestatic 100, 3) := dk_184 0 100 (dk_at dksX3_findPeaks_4 5 rfl rfl)
theorem dX3_findPeaks_101 : decode cX3_findPeaks 101 = .ok (.if_icmp .le 8, 3) := dk_164 0 8 (dk_at dksX3_findPeaks_4 8 rfl rfl)
theorem dX3_findPeaks_104 : decode cX3_findPeaks 104 = .ok (.iload 4, 2) := dk_21 4 (dk_at dksX3_findPeaks_4 11 rfl rfl)
theorem dX3_findPeaks_106 : decode cX3_findPeaks 106 = .ok (.goto 4, 3) := dk_167 0 4 (dk_at dksX3_findPeaks_4 13 rfl rfl)
theorem dX3_findPeaks_109 : decode cX3_findPeaks 109 = .ok (.iload_n 3, 1) := dk_29 (dk_at dksX3_findPeaks_4 16 rfl rfl)
theorem dX3_findPeaks_110 : decode cX3_findPeaks 110 = .ok (.istore_n 3, 1) := dk_62 (dk_at dksX3_findPeaks_4 17 rfl rfl)
theorem dX3_findPeaks_111 : decode cX3_findPeaks 111 = .ok (.iinc 4 1, 3) := dk_132 4 1 (dk_at dksX3_findPeaks_4 18 rfl rfl)
theorem dX3_findPeaks_114 : decode cX3_findPeaks 114 = .ok (.goto (-69), 3) := dk_167 255 187 (dk_at dksX3_findPeaks_4 21 rfl rfl)
theorem dX3_findPeaks_117 : decode cX3_findPeaks 117 = .ok (.aload_n 0, 1) := dk_42 (dk_at dksX3_findPeaks_5 0 rfl rfl)
theorem dX3_findPeaks_118 : decode cX3_findPeaks 118 = .ok (.getfield 34, 3) := dk_180 0 34 (dk_at dksX3_findPeaks_5 1 rfl rfl)
theorem dX3_findPeaks_121 : decode cX3_findPeaks 121 = .ok (.iload_n 2, 1) := dk_28 (dk_at dksX3_findPeaks_5 4 rfl rfl)
theorem dX3_findPeaks_122 : decode cX3_findPeaks 122 = .ok (.iload_n 3, 1) := dk_29 (dk_at dksX3_findPeaks_5 5 rfl rfl)
theorem dX3_findPeaks_123 : decode cX3_findPeaks 123 = .ok (.iastore, 1) := dk_79 (dk_at dksX3_findPeaks_5 6 rfl rfl)
theorem dX3_findPeaks_124 : decode cX3_findPeaks 124 = .ok (.iinc 2 1, 3) := dk_132 2 1 (dk_at dksX3_findPeaks_5 7 rfl rfl)
theorem dX3_findPeaks_127 : decode cX3_findPeaks 127 = .ok (.goto (-96), 3) := dk_167 255 160 (dk_at dksX3_findPeaks_5 10 rfl rfl)
theorem dX3_findPeaks_130 : decode cX3_findPeaks 130 = .ok (.return_, 1) := dk_177 (dk_at dksX3_findPeaks_5 13 rfl rfl)
abbrev cX3_isAmong : ByteArray := prog_11_method_25_code
def yX3_isAmong : MethodName := ⟨RX3, "isAmong", "(II)Z"⟩
def dkwX3_isAmong_1 : List UInt8 := [167, 255, 236, 3, 172]
abbrev dktX3_isAmong_1 : List UInt8 := dkwX3_isAmong_1 ++ []
def dkwX3_isAmong_0 : List UInt8 := [3, 62, 29, 28, 162, 0, 21, 42, 180, 0, 34, 29, 46, 27, 160, 0, 5, 4, 172, 132, 3, 1]
abbrev dktX3_isAmong_0 : List UInt8 := dkwX3_isAmong_0 ++ dktX3_isAmong_1
theorem dksX3_isAmong_0 : cX3_isAmong.data.toList.drop 0 = dktX3_isAmong_0 := by decide +kernel
theorem dksX3_isAmong_1 : cX3_isAmong.data.toList.drop 22 = dktX3_isAmong_1 := dk_seg dksX3_isAmong_0 22 rfl rfl
theorem dX3_isAmong_0 : decode cX3_isAmong 0 = .ok (.iconst 0, 1) := dk_3 (dk_at dksX3_isAmong_0 0 rfl rfl)
theorem dX3_isAmong_1 : decode cX3_isAmong 1 = .ok (.istore_n 3, 1) := dk_62 (dk_at dksX3_isAmong_0 1 rfl rfl)
theorem dX3_isAmong_2 : decode cX3_isAmong 2 = .ok (.iload_n 3, 1) := dk_29 (dk_at dksX3_isAmong_0 2 rfl rfl)
theorem dX3_isAmong_3 : decode cX3_isAmong 3 = .ok (.iload_n 2, 1) := dk_28 (dk_at dksX3_isAmong_0 3 rfl rfl)
theorem dX3_isAmong_4 : decode cX3_isAmong 4 = .ok (.if_icmp .ge 21, 3) := dk_162 0 21 (dk_at dksX3_isAmong_0 4 rfl rfl)
theorem dX3_isAmong_7 : decode cX3_isAmong 7 = .ok (.aload_n 0, 1) := dk_42 (dk_at dksX3_isAmong_0 7 rfl rfl)
theorem dX3_isAmong_8 : decode cX3_isAmong 8 = .ok (.getfield 34, 3) := dk_180 0 34 (dk_at dksX3_isAmong_0 8 rfl rfl)
theorem dX3_isAmong_11 : decode cX3_isAmong 11 = .ok (.iload_n 3, 1) := dk_29 (dk_at dksX3_isAmong_0 11 rfl rfl)
theorem dX3_isAmong_12 : decode cX3_isAmong 12 = .ok (.iaload, 1) := dk_46 (dk_at dksX3_isAmong_0 12 rfl rfl)
theorem dX3_isAmong_13 : decode cX3_isAmong 13 = .ok (.iload_n 1, 1) := dk_27 (dk_at dksX3_isAmong_0 13 rfl rfl)
theorem dX3_isAmong_14 : decode cX3_isAmong 14 = .ok (.if_icmp .ne 5, 3) := dk_160 0 5 (dk_at dksX3_isAmong_0 14 rfl rfl)
theorem dX3_isAmong_17 : decode cX3_isAmong 17 = .ok (.iconst 1, 1) := dk_4 (dk_at dksX3_isAmong_0 17 rfl rfl)
theorem dX3_isAmong_18 : decode cX3_isAmong 18 = .ok (.ireturn, 1) := dk_172 (dk_at dksX3_isAmong_0 18 rfl rfl)
theorem dX3_isAmong_19 : decode cX3_isAmong 19 = .ok (.iinc 3 1, 3) := dk_132 3 1 (dk_at dksX3_isAmong_0 19 rfl rfl)
theorem dX3_isAmong_22 : decode cX3_isAmong 22 = .ok (.goto (-20), 3) := dk_167 255 236 (dk_at dksX3_isAmong_1 0 rfl rfl)
theorem dX3_isAmong_25 : decode cX3_isAmong 25 = .ok (.iconst 0, 1) := dk_3 (dk_at dksX3_isAmong_1 3 rfl rfl)
theorem dX3_isAmong_26 : decode cX3_isAmong 26 = .ok (.ireturn, 1) := dk_172 (dk_at dksX3_isAmong_1 4 rfl rfl)
abbrev cX3_rank : ByteArray := prog_11_method_74_code
def yX3_rank : MethodName := ⟨RX3, "rank", "(II)I"⟩
def dkwX3_rank_1 : List UInt8 := [180, 0, 34, 29, 46, 28, 159, 0, 9, 132, 3, 1, 167, 255, 243, 29, 172]
abbrev dktX3_rank_1 : List UInt8 := dkwX3_rank_1 ++ []
def dkwX3_rank_0 : List UInt8 := [42, 42, 27, 28, 182, 0, 179, 182, 0, 112, 154, 0, 5, 2, 172, 42, 27, 182, 0, 219, 3, 62, 42]
abbrev dktX3_rank_0 : List UInt8 := dkwX3_rank_0 ++ dktX3_rank_1
theorem dksX3_rank_0 : cX3_rank.data.toList.drop 0 = dktX3_rank_0 := by decide +kernel
theorem dksX3_rank_1 : cX3_rank.data.toList.drop 23 = dktX3_rank_1 := dk_seg dksX3_rank_0 23 rfl rfl
theorem dX3_rank_0 : decode cX3_rank 0 = .ok (.aload_n 0, 1) := dk_42 (dk_at dksX3_rank_0 0 rfl rfl)
theorem dX3_rank_1 : decode cX3_rank 1 = .ok (.aload_n 0, 1) := dk_42 (dk_at dksX3_rank_0 1 rfl rfl)
theorem dX3_rank_2 : decode cX3_rank 2 = .ok (.iload_n 1, 1) := dk_27 (dk_at dksX3_rank_0 2 rfl rfl)
theorem dX3_rank_3 : decode cX3_rank 3 = .ok (.iload_n 2, 1) := dk_28 (dk_at dksX3_rank_0 3 rfl rfl)
theorem dX3_rank_4 : decode cX3_rank 4 = .ok (.invokevirtual 179, 3) := dk_182 0 179 (dk_at dksX3_rank_0 4 rfl rfl)
theorem dX3_rank_7 : decode cX3_rank 7 = .ok (.invokevirtual 112, 3) := dk_182 0 112 (dk_at dksX3_rank_0 7 rfl rfl)
theorem dX3_rank_10 : decode cX3_rank 10 = .ok (.ifCond .ne 5, 3) := dk_154 0 5 (dk_at dksX3_rank_0 10 rfl rfl)
theorem dX3_rank_13 : decode cX3_rank 13 = .ok (.iconst (-1), 1) := dk_2 (dk_at dksX3_rank_0 13 rfl rfl)
theorem dX3_rank_14 : decode cX3_rank 14 = .ok (.ireturn, 1) := dk_172 (dk_at dksX3_rank_0 14 rfl rfl)
theorem dX3_rank_15 : decode cX3_rank 15 = .ok (.aload_n 0, 1) := dk_42 (dk_at dksX3_rank_0 15 rfl rfl)
theorem dX3_rank_16 : decode cX3_rank 16 = .ok (.iload_n 1, 1) := dk_27 (dk_at dksX3_rank_0 16 rfl rfl)
theorem dX3_rank_17 : decode cX3_rank 17 = .ok (.invokevirtual 219, 3) := dk_182 0 219 (dk_at dksX3_rank_0 17 rfl rfl)
theorem dX3_rank_20 : decode cX3_rank 20 = .ok (.iconst 0, 1) := dk_3 (dk_at dksX3_rank_0 20 rfl rfl)
theorem dX3_rank_21 : decode cX3_rank 21 = .ok (.istore_n 3, 1) := dk_62 (dk_at dksX3_rank_0 21 rfl rfl)
theorem dX3_rank_22 : decode cX3_rank 22 = .ok (.aload_n 0, 1) := dk_42 (dk_at dksX3_rank_0 22 rfl rfl)
theorem dX3_rank_23 : decode cX3_rank 23 = .ok (.getfield 34, 3) := dk_180 0 34 (dk_at dksX3_rank_1 0 rfl rfl)
theorem dX3_rank_26 : decode cX3_rank 26 = .ok (.iload_n 3, 1) := dk_29 (dk_at dksX3_rank_1 3 rfl rfl)
theorem dX3_rank_27 : decode cX3_rank 27 = .ok (.iaload, 1) := dk_46 (dk_at dksX3_rank_1 4 rfl rfl)
theorem dX3_rank_28 : decode cX3_rank 28 = .ok (.iload_n 2, 1) := dk_28 (dk_at dksX3_rank_1 5 rfl rfl)
theorem dX3_rank_29 : decode cX3_rank 29 = .ok (.if_icmp .eq 9, 3) := dk_159 0 9 (dk_at dksX3_rank_1 6 rfl rfl)
theorem dX3_rank_32 : decode cX3_rank 32 = .ok (.iinc 3 1, 3) := dk_132 3 1 (dk_at dksX3_rank_1 9 rfl rfl)
theorem dX3_rank_35 : decode cX3_rank 35 = .ok (.goto (-13), 3) := dk_167 255 243 (dk_at dksX3_rank_1 12 rfl rfl)
theorem dX3_rank_38 : decode cX3_rank 38 = .ok (.iload_n 3, 1) := dk_29 (dk_at dksX3_rank_1 15 rfl rfl)
theorem dX3_rank_39 : decode cX3_rank 39 = .ok (.ireturn, 1) := dk_172 (dk_at dksX3_rank_1 16 rfl rfl)
abbrev cX3_peaksFor : ByteArray := prog_11_method_76_code
def yX3_peaksFor : MethodName := ⟨RX3, "peaksFor", "(II)I"⟩
def dkwX3_peaksFor_1 : List UInt8 := [182, 0, 224, 167, 0, 4, 2, 172]
abbrev dktX3_peaksFor_1 : List UInt8 := dkwX3_peaksFor_1 ++ []
def dkwX3_peaksFor_0 : List UInt8 := [42, 42, 27, 182, 0, 54, 28, 3, 16, 100, 184, 0, 50, 182, 0, 187, 153, 0, 12, 42, 27, 28]
abbrev dktX3_peaksFor_0 : List UInt8 := dkwX3_peaksFor_0 ++ dktX3_peaksFor_1
theorem dksX3_peaksFor_0 : cX3_peaksFor.data.toList.drop 0 = dktX3_peaksFor_0 := by decide +kernel
theorem dksX3_peaksFor_1 : cX3_peaksFor.data.toList.drop 22 = dktX3_peaksFor_1 := dk_seg dksX3_peaksFor_0 22 rfl rfl
theorem dX3_peaksFor_0 : decode cX3_peaksFor 0 = .ok (.aload_n 0, 1) := dk_42 (dk_at dksX3_peaksFor_0 0 rfl rfl)
theorem dX3_peaksFor_1 : decode cX3_peaksFor 1 = .ok (.aload_n 0, 1) := dk_42 (dk_at dksX3_peaksFor_0 1 rfl rfl)
theorem dX3_peaksFor_2 : decode cX3_peaksFor 2 = .ok (.iload_n 1, 1) := dk_27 (dk_at dksX3_peaksFor_0 2 rfl rfl)
theorem dX3_peaksFor_3 : decode cX3_peaksFor 3 = .ok (.invokevirtual 54, 3) := dk_182 0 54 (dk_at dksX3_peaksFor_0 3 rfl rfl)
theorem dX3_peaksFor_6 : decode cX3_peaksFor 6 = .ok (.iload_n 2, 1) := dk_28 (dk_at dksX3_peaksFor_0 6 rfl rfl)
theorem dX3_peaksFor_7 : decode cX3_peaksFor 7 = .ok (.iconst 0, 1) := dk_3 (dk_at dksX3_peaksFor_0 7 rfl rfl)
theorem dX3_peaksFor_8 : decode cX3_peaksFor 8 = .ok (.bipush 100, 2) := dk_16 100 (dk_at dksX3_peaksFor_0 8 rfl rfl)
theorem dX3_peaksFor_10 : decode cX3_peaksFor 10 = .ok (.invokestatic 50, 3) := dk_184 0 50 (dk_at dksX3_peaksFor_0 10 rfl rfl)
theorem dX3_peaksFor_13 : decode cX3_peaksFor 13 = .ok (.invokevirtual 187, 3) := dk_182 0 187 (dk_at dksX3_peaksFor_0 13 rfl rfl)
theorem dX3_peaksFor_16 : decode cX3_peaksFor 16 = .ok (.ifCond .eq 12, 3) := dk_153 0 12 (dk_at dksX3_peaksFor_0 16 rfl rfl)
theorem dX3_peaksFor_19 : decode cX3_peaksFor 19 = .ok (.aload_n 0, 1) := dk_42 (dk_at dksX3_peaksFor_0 19 rfl rfl)
theorem dX3_peaksFor_20 : decode cX3_peaksFor 20 = .ok (.iload_n 1, 1) := dk_27 (dk_at dksX3_peaksFor_0 20 rfl rfl)
theorem dX3_peaksFor_21 : decode cX3_peaksFor 21 = .ok (.iload_n 2, 1) := dk_28 (dk_at dksX3_peaksFor_0 21 rfl rfl)
theorem dX3_peaksFor_22 : decode cX3_peaksFor 22 = .ok (.invokevirtual 224, 3) := dk_182 0 224 (dk_at dksX3_peaksFor_1 0 rfl rfl)
theorem dX3_peaksFor_25 : decode cX3_peaksFor 25 = .ok (.goto 4, 3) := dk_167 0 4 (dk_at dksX3_peaksFor_1 3 rfl rfl)
theorem dX3_peaksFor_28 : decode cX3_peaksFor 28 = .ok (.iconst (-1), 1) := dk_2 (dk_at dksX3_peaksFor_1 6 rfl rfl)
theorem dX3_peaksFor_29 : decode cX3_peaksFor 29 = .ok (.ireturn, 1) := dk_172 (dk_at dksX3_peaksFor_1 7 rfl rfl)
abbrev cX3_needed : ByteArray := prog_11_method_75_code
def yX3_needed : MethodName := ⟨RX3, "needed", "(II)I"⟩
def dkwX3_needed_2 : List UInt8 := [46, 184, 0, 88, 97, 55, 5, 132, 7, 1, 167, 255, 222, 21, 7, 172]
abbrev dktX3_needed_2 : List UInt8 := dkwX3_needed_2 ++ []
def dkwX3_needed_1 : List UInt8 := [20, 0, 222, 22, 5, 105, 33, 148, 156, 0, 29, 22, 5, 42, 180, 0, 28, 42, 180, 0, 34, 21, 7, 46]
abbrev dktX3_needed_1 : List UInt8 := dkwX3_needed_1 ++ dktX3_needed_2
def dkwX3_needed_0 : List UInt8 := [42, 27, 182, 0, 219, 28, 133, 42, 42, 27, 182, 0, 62, 182, 0, 216, 105, 66, 9, 55, 5, 3, 54, 7]
abbrev dktX3_needed_0 : List UInt8 := dkwX3_needed_0 ++ dktX3_needed_1
theorem dksX3_needed_0 : cX3_needed.data.toList.drop 0 = dktX3_needed_0 := by decide +kernel
theorem dksX3_needed_1 : cX3_needed.data.toList.drop 24 = dktX3_needed_1 := dk_seg dksX3_needed_0 24 rfl rfl
theorem dksX3_needed_2 : cX3_needed.data.toList.drop 48 = dktX3_needed_2 := dk_seg dksX3_needed_1 24 rfl rfl
theorem dX3_needed_0 : decode cX3_needed 0 = .ok (.aload_n 0, 1) := dk_42 (dk_at dksX3_needed_0 0 rfl rfl)
theorem dX3_needed_1 : decode cX3_needed 1 = .ok (.iload_n 1, 1) := dk_27 (dk_at dksX3_needed_0 1 rfl rfl)
theorem dX3_needed_2 : decode cX3_needed 2 = .ok (.invokevirtual 219, 3) := dk_182 0 219 (dk_at dksX3_needed_0 2 rfl rfl)
theorem dX3_needed_5 : decode cX3_needed 5 = .ok (.iload_n 2, 1) := dk_28 (dk_at dksX3_needed_0 5 rfl rfl)
theorem dX3_needed_6 : decode cX3_needed 6 = .ok (.i2l, 1) := dk_133 (dk_at dksX3_needed_0 6 rfl rfl)
theorem dX3_needed_7 : decode cX3_needed 7 = .ok (.aload_n 0, 1) := dk_42 (dk_at dksX3_needed_0 7 rfl rfl)
theorem dX3_needed_8 : decode cX3_needed 8 = .ok (.aload_n 0, 1) := dk_42 (dk_at dksX3_needed_0 8 rfl rfl)
theorem dX3_needed_9 : decode cX3_needed 9 = .ok (.iload_n 1, 1) := dk_27 (dk_at dksX3_needed_0 9 rfl rfl)
theorem dX3_needed_10 : decode cX3_needed 10 = .ok (.invokevirtual 62, 3) := dk_182 0 62 (dk_at dksX3_needed_0 10 rfl rfl)
theorem dX3_needed_13 : decode cX3_needed 13 = .ok (.invokevirtual 216, 3) := dk_182 0 216 (dk_at dksX3_needed_0 13 rfl rfl)
theorem dX3_needed_16 : decode cX3_needed 16 = .ok (.lmul, 1) := dk_105 (dk_at dksX3_needed_0 16 rfl rfl)
theorem dX3_needed_17 : decode cX3_needed 17 = .ok (.lstore_n 3, 1) := dk_66 (dk_at dksX3_needed_0 17 rfl rfl)
theorem dX3_needed_18 : decode cX3_needed 18 = .ok (.lconst 0, 1) := dk_9 (dk_at dksX3_needed_0 18 rfl rfl)
theorem dX3_needed_19 : decode cX3_needed 19 = .ok (.lstore 5, 2) := dk_55 5 (dk_at dksX3_needed_0 19 rfl rfl)
theorem dX3_needed_21 : decode cX3_needed 21 = .ok (.iconst 0, 1) := dk_3 (dk_at dksX3_needed_0 21 rfl rfl)
theorem dX3_needed_22 : decode cX3_needed 22 = .ok (.istore 7, 2) := dk_54 7 (dk_at dksX3_needed_0 22 rfl rfl)
theorem dX3_needed_24 : decode cX3_needed 24 = .ok (.ldc2_w 222, 3) := dk_20 0 222 (dk_at dksX3_needed_1 0 rfl rfl)
theorem dX3_needed_27 : decode cX3_needed 27 = .ok (.lload 5, 2) := dk_22 5 (dk_at dksX3_needed_1 3 rfl rfl)
theorem dX3_needed_29 : decode cX3_needed 29 = .ok (.lmul, 1) := dk_105 (dk_at dksX3_needed_1 5 rfl rfl)
theorem dX3_needed_30 : decode cX3_needed 30 = .ok (.lload_n 3, 1) := dk_33 (dk_at dksX3_needed_1 6 rfl rfl)
theorem dX3_needed_31 : decode cX3_needed 31 = .ok (.lcmp, 1) := dk_148 (dk_at dksX3_needed_1 7 rfl rfl)
theorem dX3_needed_32 : decode cX3_needed 32 = .ok (.ifCond .ge 29, 3) := dk_156 0 29 (dk_at dksX3_needed_1 8 rfl rfl)
theorem dX3_needed_35 : decode cX3_needed 35 = .ok (.lload 5, 2) := dk_22 5 (dk_at dksX3_needed_1 11 rfl rfl)
theorem dX3_needed_37 : decode cX3_needed 37 = .ok (.aload_n 0, 1) := dk_42 (dk_at dksX3_needed_1 13 rfl rfl)
theorem dX3_needed_38 : decode cX3_needed 38 = .ok (.getfield 28, 3) := dk_180 0 28 (dk_at dksX3_needed_1 14 rfl rfl)
theorem dX3_needed_41 : decode cX3_needed 41 = .ok (.aload_n 0, 1) := dk_42 (dk_at dksX3_needed_1 17 rfl rfl)
theorem dX3_needed_42 : decode cX3_needed 42 = .ok (.getfield 34, 3) := dk_180 0 34 (dk_at dksX3_needed_1 18 rfl rfl)
theorem dX3_needed_45 : decode cX3_needed 45 = .ok (.iload 7, 2) := dk_21 7 (dk_at dksX3_needed_1 21 rfl rfl)
theorem dX3_needed_47 : decode cX3_needed 47 = .ok (.iaload, 1) := dk_46 (dk_at dksX3_needed_1 23 rfl rfl)
theorem dX3_needed_48 : decode cX3_needed 48 = .ok (.iaload, 1) := dk_46 (dk_at dksX3_needed_2 0 rfl rfl)
theorem dX3_needed_49 : decode cX3_needed 49 = .ok (.invokestatic 88, 3) := dk_184 0 88 (dk_at dksX3_needed_2 1 rfl rfl)
theorem dX3_needed_52 : decode cX3_needed 52 = .ok (.ladd, 1) := dk_97 (dk_at dksX3_needed_2 4 rfl rfl)
theorem dX3_needed_53 : decode cX3_needed 53 = .ok (.lstore 5, 2) := dk_55 5 (dk_at dksX3_needed_2 5 rfl rfl)
theorem dX3_needed_55 : decode cX3_needed 55 = .ok (.iinc 7 1, 3) := dk_132 7 1 (dk_at dksX3_needed_2 7 rfl rfl)
theorem dX3_needed_58 : decode cX3_needed 58 = .ok (.goto (-34), 3) := dk_167 255 222 (dk_at dksX3_needed_2 10 rfl rfl)
theorem dX3_needed_61 : decode cX3_needed 61 = .ok (.iload 7, 2) := dk_21 7 (dk_at dksX3_needed_2 13 rfl rfl)
theorem dX3_needed_63 : decode cX3_needed 63 = .ok (.ireturn, 1) := dk_172 (dk_at dksX3_needed_2 15 rfl rfl)
abbrev cX3_purity : ByteArray := prog_11_method_77_code
def yX3_purity : MethodName := ⟨RX3, "purity", "(I)F"⟩
def dkwX3_purity_2 : List UInt8 := [180, 0, 34, 3, 46, 46, 184, 0, 88, 137, 32, 137, 110, 174]
abbrev dktX3_purity_2 : List UInt8 := dkwX3_purity_2 ++ []
def dkwX3_purity_1 : List UInt8 := [182, 0, 62, 182, 0, 216, 65, 32, 9, 148, 154, 0, 7, 11, 167, 0, 21, 42, 180, 0, 28, 42]
abbrev dktX3_purity_1 : List UInt8 := dkwX3_purity_1 ++ dktX3_purity_2
def dkwX3_purity_0 : List UInt8 := [42, 42, 27, 182, 0, 54, 182, 0, 112, 154, 0, 5, 11, 174, 42, 27, 182, 0, 219, 42, 42, 27]
abbrev dktX3_purity_0 : List UInt8 := dkwX3_purity_0 ++ dktX3_purity_1
theorem dksX3_purity_0 : cX3_purity.data.toList.drop 0 = dktX3_purity_0 := by decide +kernel
theorem dksX3_purity_1 : cX3_purity.data.toList.drop 22 = dktX3_purity_1 := dk_seg dksX3_purity_0 22 rfl rfl
theorem dksX3_purity_2 : cX3_purity.data.toList.drop 44 = dktX3_purity_2 := dk_seg dksX3_purity_1 22 rfl rfl
theorem dX3_purity_0 : decode cX3_purity 0 = .ok (.aload_n 0, 1) := dk_42 (dk_at dksX3_purity_0 0 rfl rfl)
theorem dX3_purity_1 : decode cX3_purity 1 = .ok (.aload_n 0, 1) := dk_42 (dk_at dksX3_purity_0 1 rfl rfl)
theorem dX3_purity_2 : decode cX3_purity 2 = .ok (.iload_n 1, 1) := dk_27 (dk_at dksX3_purity_0 2 rfl rfl)
theorem dX3_purity_3 : decode cX3_purity 3 = .ok (.invokevirtual 54, 3) := dk_182 0 54 (dk_at dksX3_purity_0 3 rfl rfl)
theorem dX3_purity_6 : decode cX3_purity 6 = .ok (.invokevirtual 112, 3) := dk_182 0 112 (dk_at dksX3_purity_0 6 rfl rfl)
theorem dX3_purity_9 : decode cX3_purity 9 = .ok (.ifCond .ne 5, 3) := dk_154 0 5 (dk_at dksX3_purity_0 9 rfl rfl)
theorem dX3_purity_12 : decode cX3_purity 12 = .ok (.fconst 0, 1) := dk_11 (dk_at dksX3_purity_0 12 rfl rfl)
theorem dX3_purity_13 : decode cX3_purity 13 = .ok (.freturn, 1) := dk_174 (dk_at dksX3_purity_0 13 rfl rfl)
theorem dX3_purity_14 : decode cX3_purity 14 = .ok (.aload_n 0, 1) := dk_42 (dk_at dksX3_purity_0 14 rfl rfl)
theorem dX3_purity_15 : decode cX3_purity 15 = .ok (.iload_n 1, 1) := dk_27 (dk_at dksX3_purity_0 15 rfl rfl)
theorem dX3_purity_16 : decode cX3_purity 16 = .ok (.invokevirtual 219, 3) := dk_182 0 219 (dk_at dksX3_purity_0 16 rfl rfl)
theorem dX3_purity_19 : decode cX3_purity 19 = .ok (.aload_n 0, 1) := dk_42 (dk_at dksX3_purity_0 19 rfl rfl)
theorem dX3_purity_20 : decode cX3_purity 20 = .ok (.aload_n 0, 1) := dk_42 (dk_at dksX3_purity_0 20 rfl rfl)
theorem dX3_purity_21 : decode cX3_purity 21 = .ok (.iload_n 1, 1) := dk_27 (dk_at dksX3_purity_0 21 rfl rfl)
theorem dX3_purity_22 : decode cX3_purity 22 = .ok (.invokevirtual 62, 3) := dk_182 0 62 (dk_at dksX3_purity_1 0 rfl rfl)
theorem dX3_purity_25 : decode cX3_purity 25 = .ok (.invokevirtual 216, 3) := dk_182 0 216 (dk_at dksX3_purity_1 3 rfl rfl)
theorem dX3_purity_28 : decode cX3_purity 28 = .ok (.lstore_n 2, 1) := dk_65 (dk_at dksX3_purity_1 6 rfl rfl)
theorem dX3_purity_29 : decode cX3_purity 29 = .ok (.lload_n 2, 1) := dk_32 (dk_at dksX3_purity_1 7 rfl rfl)
theorem dX3_purity_30 : decode cX3_purity 30 = .ok (.lconst 0, 1) := dk_9 (dk_at dksX3_purity_1 8 rfl rfl)
theorem dX3_purity_31 : decode cX3_purity 31 = .ok (.lcmp, 1) := dk_148 (dk_at dksX3_purity_1 9 rfl rfl)
theorem dX3_purity_32 : decode cX3_purity 32 = .ok (.ifCond .ne 7, 3) := dk_154 0 7 (dk_at dksX3_purity_1 10 rfl rfl)
theorem dX3_purity_35 : decode cX3_purity 35 = .ok (.fconst 0, 1) := dk_11 (dk_at dksX3_purity_1 13 rfl rfl)
theorem dX3_purity_36 : decode cX3_purity 36 = .ok (.goto 21, 3) := dk_167 0 21 (dk_at dksX3_purity_1 14 rfl rfl)
theorem dX3_purity_39 : decode cX3_purity 39 = .ok (.aload_n 0, 1) := dk_42 (dk_at dksX3_purity_1 17 rfl rfl)
theorem dX3_purity_40 : decode cX3_purity 40 = .ok (.getfield 28, 3) := dk_180 0 28 (dk_at dksX3_purity_1 18 rfl rfl)
theorem dX3_purity_43 : decode cX3_purity 43 = .ok (.aload_n 0, 1) := dk_42 (dk_at dksX3_purity_1 21 rfl rfl)
theorem dX3_purity_44 : decode cX3_purity 44 = .ok (.getfield 34, 3) := dk_180 0 34 (dk_at dksX3_purity_2 0 rfl rfl)
theorem dX3_purity_47 : decode cX3_purity 47 = .ok (.iconst 0, 1) := dk_3 (dk_at dksX3_purity_2 3 rfl rfl)
theorem dX3_purity_48 : decode cX3_purity 48 = .ok (.iaload, 1) := dk_46 (dk_at dksX3_purity_2 4 rfl rfl)
theorem dX3_purity_49 : decode cX3_purity 49 = .ok (.iaload, 1) := dk_46 (dk_at dksX3_purity_2 5 rfl rfl)
theorem dX3_purity_50 : decode cX3_purity 50 = .ok (.invokestatic 88, 3) := dk_184 0 88 (dk_at dksX3_purity_2 6 rfl rfl)
theorem dX3_purity_53 : decode cX3_purity 53 = .ok (.l2f, 1) := dk_137 (dk_at dksX3_purity_2 9 rfl rfl)
theorem dX3_purity_54 : decode cX3_purity 54 = .ok (.lload_n 2, 1) := dk_32 (dk_at dksX3_purity_2 10 rfl rfl)
theorem dX3_purity_55 : decode cX3_purity 55 = .ok (.l2f, 1) := dk_137 (dk_at dksX3_purity_2 11 rfl rfl)
theorem dX3_purity_56 : decode cX3_purity 56 = .ok (.fdiv, 1) := dk_110 (dk_at dksX3_purity_2 12 rfl rfl)
theorem dX3_purity_57 : decode cX3_purity 57 = .ok (.freturn, 1) := dk_174 (dk_at dksX3_purity_2 13 rfl rfl)
abbrev cX3_distance : ByteArray := prog_11_method_79_code
def yX3_distance : MethodName := ⟨RX3, "distance", "(II)I"⟩
def dkwX3_distance_1 : List UInt8 := [167, 0, 4, 3, 182, 0, 187, 153, 0, 12, 42, 27, 28, 182, 0, 233, 167, 0, 4, 2, 172]
abbrev dktX3_distance_1 : List UInt8 := dkwX3_distance_1 ++ []
def dkwX3_distance_0 : List UInt8 := [42, 27, 28, 182, 0, 227, 62, 42, 29, 29, 153, 0, 16, 42, 27, 28, 182, 0, 230, 153, 0, 7, 4]
abbrev dktX3_distance_0 : List UInt8 := dkwX3_distance_0 ++ dktX3_distance_1
theorem dksX3_distance_0 : cX3_distance.data.toList.drop 0 = dktX3_distance_0 := by decide +kernel
theorem dksX3_distance_1 : cX3_distance.data.toList.drop 23 = dktX3_distance_1 := dk_seg dksX3_distance_0 23 rfl rfl
theorem dX3_distance_0 : decode cX3_distance 0 = .ok (.aload_n 0, 1) := dk_42 (dk_at dksX3_distance_0 0 rfl rfl)
theorem dX3_distance_1 : decode cX3_distance 1 = .ok (.iload_n 1, 1) := dk_27 (dk_at dksX3_distance_0 1 rfl rfl)
theorem dX3_distance_2 : decode cX3_distance 2 = .ok (.iload_n 2, 1) := dk_28 (dk_at dksX3_distance_0 2 rfl rfl)
theorem dX3_distance_3 : decode cX3_distance 3 = .ok (.invokevirtual 227, 3) := dk_182 0 227 (dk_at dksX3_distance_0 3 rfl rfl)
theorem dX3_distance_6 : decode cX3_distance 6 = .ok (.istore_n 3, 1) := dk_62 (dk_at dksX3_distance_0 6 rfl rfl)
theorem dX3_distance_7 : decode cX3_distance 7 = .ok (.aload_n 0, 1) := dk_42 (dk_at dksX3_distance_0 7 rfl rfl)
theorem dX3_distance_8 : decode cX3_distance 8 = .ok (.iload_n 3, 1) := dk_29 (dk_at dksX3_distance_0 8 rfl rfl)
theorem dX3_distance_9 : decode cX3_distance 9 = .ok (.iload_n 3, 1) := dk_29 (dk_at dksX3_distance_0 9 rfl rfl)
theorem dX3_distance_10 : decode cX3_distance 10 = .ok (.ifCond .eq 16, 3) := dk_153 0 16 (dk_at dksX3_distance_0 10 rfl rfl)
theorem dX3_distance_13 : decode cX3_distance 13 = .ok (.aload_n 0, 1) := dk_42 (dk_at dksX3_distance_0 13 rfl rfl)
theorem dX3_distance_14 : decode cX3_distance 14 = .ok (.iload_n 1, 1) := dk_27 (dk_at dksX3_distance_0 14 rfl rfl)
theorem dX3_distance_15 : decode cX3_distance 15 = .ok (.iload_n 2, 1) := dk_28 (dk_at dksX3_distance_0 15 rfl rfl)
theorem dX3_distance_16 : decode cX3_distance 16 = .ok (.invokevirtual 230, 3) := dk_182 0 230 (dk_at dksX3_distance_0 16 rfl rfl)
theorem dX3_distance_19 : decode cX3_distance 19 = .ok (.ifCond .eq 7, 3) := dk_153 0 7 (dk_at dksX3_distance_0 19 rfl rfl)
theorem dX3_distance_22 : decode cX3_distance 22 = .ok (.iconst 1, 1) := dk_4 (dk_at dksX3_distance_0 22 rfl rfl)
theorem dX3_distance_23 : decode cX3_distance 23 = .ok (.goto 4, 3) := dk_167 0 4 (dk_at dksX3_distance_1 0 rfl rfl)
theorem dX3_distance_26 : decode cX3_distance 26 = .ok (.iconst 0, 1) := dk_3 (dk_at dksX3_distance_1 3 rfl rfl)
theorem dX3_distance_27 : decode cX3_distance 27 = .ok (.invokevirtual 187, 3) := dk_182 0 187 (dk_at dksX3_distance_1 4 rfl rfl)
theorem dX3_distance_30 : decode cX3_distance 30 = .ok (.ifCond .eq 12, 3) := dk_153 0 12 (dk_at dksX3_distance_1 7 rfl rfl)
theorem dX3_distance_33 : decode cX3_distance 33 = .ok (.aload_n 0, 1) := dk_42 (dk_at dksX3_distance_1 10 rfl rfl)
theorem dX3_distance_34 : decode cX3_distance 34 = .ok (.iload_n 1, 1) := dk_27 (dk_at dksX3_distance_1 11 rfl rfl)
theorem dX3_distance_35 : decode cX3_distance 35 = .ok (.iload_n 2, 1) := dk_28 (dk_at dksX3_distance_1 12 rfl rfl)
theorem dX3_distance_36 : decode cX3_distance 36 = .ok (.invokevirtual 233, 3) := dk_182 0 233 (dk_at dksX3_distance_1 13 rfl rfl)
theorem dX3_distance_39 : decode cX3_distance 39 = .ok (.goto 4, 3) := dk_167 0 4 (dk_at dksX3_distance_1 16 rfl rfl)
theorem dX3_distance_42 : decode cX3_distance 42 = .ok (.iconst (-1), 1) := dk_2 (dk_at dksX3_distance_1 19 rfl rfl)
theorem dX3_distance_43 : decode cX3_distance 43 = .ok (.ireturn, 1) := dk_172 (dk_at dksX3_distance_1 20 rfl rfl)
abbrev cX3_areRecordings : ByteArray := prog_11_method_11_code
def yX3_areRecordings : MethodName := ⟨RX3, "areRecordings", "(II)Z"⟩
def dkwX3_areRecordings_0 : List UInt8 := [42, 27, 182, 0, 54, 153, 0, 15, 42, 28, 182, 0, 54, 153, 0, 7, 4, 167, 0, 4, 3, 172]
abbrev dktX3_areRecordings_0 : List UInt8 := dkwX3_areRecordings_0 ++ []
theorem dksX3_areRecordings_0 : cX3_areRecordings.data.toList.drop 0 = dktX3_areRecordings_0 := by decide +kernel
theorem dX3_areRecordings_0 : decode cX3_areRecordings 0 = .ok (.aload_n 0, 1) := dk_42 (dk_at dksX3_areRecordings_0 0 rfl rfl)
theorem dX3_areRecordings_1 : decode cX3_areRecordings 1 = .ok (.iload_n 1, 1) := dk_27 (dk_at dksX3_areRecordings_0 1 rfl rfl)
theorem dX3_areRecordings_2 : decode cX3_areRecordings 2 = .ok (.invokevirtual 54, 3) := dk_182 0 54 (dk_at dksX3_areRecordings_0 2 rfl rfl)
theorem dX3_areRecordings_5 : decode cX3_areRecordings 5 = .ok (.ifCond .eq 15, 3) := dk_153 0 15 (dk_at dksX3_areRecordings_0 5 rfl rfl)
theorem dX3_areRecordings_8 : decode cX3_areRecordings 8 = .ok (.aload_n 0, 1) := dk_42 (dk_at dksX3_areRecordings_0 8 rfl rfl)
theorem dX3_areRecordings_9 : decode cX3_areRecordings 9 = .ok (.iload_n 2, 1) := dk_28 (dk_at dksX3_areRecordings_0 9 rfl rfl)
theorem dX3_areRecordings_10 : decode cX3_areRecordings 10 = .ok (.invokevirtual 54, 3) := dk_182 0 54 (dk_at dksX3_areRecordings_0 10 rfl rfl)
theorem dX3_areRecordings_13 : decode cX3_areRecordings 13 = .ok (.ifCond .eq 7, 3) := dk_153 0 7 (dk_at dksX3_areRecordings_0 13 rfl rfl)
theorem dX3_areRecordings_16 : decode cX3_areRecordings 16 = .ok (.iconst 1, 1) := dk_4 (dk_at dksX3_areRecordings_0 16 rfl rfl)
theorem dX3_areRecordings_17 : decode cX3_areRecordings 17 = .ok (.goto 4, 3) := dk_167 0 4 (dk_at dksX3_areRecordings_0 17 rfl rfl)
theorem dX3_areRecordings_20 : decode cX3_areRecordings 20 = .ok (.iconst 0, 1) := dk_3 (dk_at dksX3_areRecordings_0 20 rfl rfl)
theorem dX3_areRecordings_21 : decode cX3_areRecordings 21 = .ok (.ireturn, 1) := dk_172 (dk_at dksX3_areRecordings_0 21 rfl rfl)
abbrev cX3_areAlike : ByteArray := prog_11_method_16_code
def yX3_areAlike : MethodName := ⟨RX3, "areAlike", "(II)Z"⟩
def dkwX3_areAlike_0 : List UInt8 := [42, 27, 182, 0, 62, 42, 28, 182, 0, 62, 160, 0, 7, 4, 167, 0, 4, 3, 172]
abbrev dktX3_areAlike_0 : List UInt8 := dkwX3_areAlike_0 ++ []
theorem dksX3_areAlike_0 : cX3_areAlike.data.toList.drop 0 = dktX3_areAlike_0 := by decide +kernel
theorem dX3_areAlike_0 : decode cX3_areAlike 0 = .ok (.aload_n 0, 1) := dk_42 (dk_at dksX3_areAlike_0 0 rfl rfl)
theorem dX3_areAlike_1 : decode cX3_areAlike 1 = .ok (.iload_n 1, 1) := dk_27 (dk_at dksX3_areAlike_0 1 rfl rfl)
theorem dX3_areAlike_2 : decode cX3_areAlike 2 = .ok (.invokevirtual 62, 3) := dk_182 0 62 (dk_at dksX3_areAlike_0 2 rfl rfl)
theorem dX3_areAlike_5 : decode cX3_areAlike 5 = .ok (.aload_n 0, 1) := dk_42 (dk_at dksX3_areAlike_0 5 rfl rfl)
theorem dX3_areAlike_6 : decode cX3_areAlike 6 = .ok (.iload_n 2, 1) := dk_28 (dk_at dksX3_areAlike_0 6 rfl rfl)
theorem dX3_areAlike_7 : decode cX3_areAlike 7 = .ok (.invokevirtual 62, 3) := dk_182 0 62 (dk_at dksX3_areAlike_0 7 rfl rfl)
theorem dX3_areAlike_10 : decode cX3_areAlike 10 = .ok (.if_icmp .ne 7, 3) := dk_160 0 7 (dk_at dksX3_areAlike_0 10 rfl rfl)
theorem dX3_areAlike_13 : decode cX3_areAlike 13 = .ok (.iconst 1, 1) := dk_4 (dk_at dksX3_areAlike_0 13 rfl rfl)
theorem dX3_areAlike_14 : decode cX3_areAlike 14 = .ok (.goto 4, 3) := dk_167 0 4 (dk_at dksX3_areAlike_0 14 rfl rfl)
theorem dX3_areAlike_17 : decode cX3_areAlike 17 = .ok (.iconst 0, 1) := dk_3 (dk_at dksX3_areAlike_0 17 rfl rfl)
theorem dX3_areAlike_18 : decode cX3_areAlike 18 = .ok (.ireturn, 1) := dk_172 (dk_at dksX3_areAlike_0 18 rfl rfl)
abbrev cX3_apart : ByteArray := prog_11_method_78_code
def yX3_apart : MethodName := ⟨RX3, "apart", "(II)I"⟩
def dkwX3_apart_1 : List UInt8 := [28, 21, 4, 182, 0, 85, 100, 184, 0, 100, 96, 62, 132, 4, 1, 167, 255, 222, 29, 172]
abbrev dktX3_apart_1 : List UInt8 := dkwX3_apart_1 ++ []
def dkwX3_apart_0 : List UInt8 := [3, 62, 3, 54, 4, 21, 4, 42, 27, 182, 0, 62, 162, 0, 30, 29, 42, 27, 21, 4, 182, 0, 85, 42]
abbrev dktX3_apart_0 : List UInt8 := dkwX3_apart_0 ++ dktX3_apart_1
theorem dksX3_apart_0 : cX3_apart.data.toList.drop 0 = dktX3_apart_0 := by decide +kernel
theorem dksX3_apart_1 : cX3_apart.data.toList.drop 24 = dktX3_apart_1 := dk_seg dksX3_apart_0 24 rfl rfl
theorem dX3_apart_0 : decode cX3_apart 0 = .ok (.iconst 0, 1) := dk_3 (dk_at dksX3_apart_0 0 rfl rfl)
theorem dX3_apart_1 : decode cX3_apart 1 = .ok (.istore_n 3, 1) := dk_62 (dk_at dksX3_apart_0 1 rfl rfl)
theorem dX3_apart_2 : decode cX3_apart 2 = .ok (.iconst 0, 1) := dk_3 (dk_at dksX3_apart_0 2 rfl rfl)
theorem dX3_apart_3 : decode cX3_apart 3 = .ok (.istore 4, 2) := dk_54 4 (dk_at dksX3_apart_0 3 rfl rfl)
theorem dX3_apart_5 : decode cX3_apart 5 = .ok (.iload 4, 2) := dk_21 4 (dk_at dksX3_apart_0 5 rfl rfl)
theorem dX3_apart_7 : decode cX3_apart 7 = .ok (.aload_n 0, 1) := dk_42 (dk_at dksX3_apart_0 7 rfl rfl)
theorem dX3_apart_8 : decode cX3_apart 8 = .ok (.iload_n 1, 1) := dk_27 (dk_at dksX3_apart_0 8 rfl rfl)
theorem dX3_apart_9 : decode cX3_apart 9 = .ok (.invokevirtual 62, 3) := dk_182 0 62 (dk_at dksX3_apart_0 9 rfl rfl)
theorem dX3_apart_12 : decode cX3_apart 12 = .ok (.if_icmp .ge 30, 3) := dk_162 0 30 (dk_at dksX3_apart_0 12 rfl rfl)
theorem dX3_apart_15 : decode cX3_apart 15 = .ok (.iload_n 3, 1) := dk_29 (dk_at dksX3_apart_0 15 rfl rfl)
theorem dX3_apart_16 : decode cX3_apart 16 = .ok (.aload_n 0, 1) := dk_42 (dk_at dksX3_apart_0 16 rfl rfl)
theorem dX3_apart_17 : decode cX3_apart 17 = .ok (.iload_n 1, 1) := dk_27 (dk_at dksX3_apart_0 17 rfl rfl)
theorem dX3_apart_18 : decode cX3_apart 18 = .ok (.iload 4, 2) := dk_21 4 (dk_at dksX3_apart_0 18 rfl rfl)
theorem dX3_apart_20 : decode cX3_apart 20 = .ok (.invokevirtual 85, 3) := dk_182 0 85 (dk_at dksX3_apart_0 20 rfl rfl)
theorem dX3_apart_23 : decode cX3_apart 23 = .ok (.aload_n 0, 1) := dk_42 (dk_at dksX3_apart_0 23 rfl rfl)
theorem dX3_apart_24 : decode cX3_apart 24 = .ok (.iload_n 2, 1) := dk_28 (dk_at dksX3_apart_1 0 rfl rfl)
theorem dX3_apart_25 : decode cX3_apart 25 = .ok (.iload 4, 2) := dk_21 4 (dk_at dksX3_apart_1 1 rfl rfl)
theorem dX3_apart_27 : decode cX3_apart 27 = .ok (.invokevirtual 85, 3) := dk_182 0 85 (dk_at dksX3_apart_1 3 rfl rfl)
theorem dX3_apart_30 : decode cX3_apart 30 = .ok (.isub, 1) := dk_100 (dk_at dksX3_apart_1 6 rfl rfl)
theorem dX3_apart_31 : decode cX3_apart 31 = .ok (.invokestatic 100, 3) := dk_184 0 100 (dk_at dksX3_apart_1 7 rfl rfl)
theorem dX3_apart_34 : decode cX3_apart 34 = .ok (.iadd, 1) := dk_96 (dk_at dksX3_apart_1 10 rfl rfl)
theorem dX3_apart_35 : decode cX3_apart 35 = .ok (.istore_n 3, 1) := dk_62 (dk_at dksX3_apart_1 11 rfl rfl)
theorem dX3_apart_36 : decode cX3_apart 36 = .ok (.iinc 4 1, 3) := dk_132 4 1 (dk_at dksX3_apart_1 12 rfl rfl)
theorem dX3_apart_39 : decode cX3_apart 39 = .ok (.goto (-34), 3) := dk_167 255 222 (dk_at dksX3_apart_1 15 rfl rfl)
theorem dX3_apart_42 : decode cX3_apart 42 = .ok (.iload_n 3, 1) := dk_29 (dk_at dksX3_apart_1 18 rfl rfl)
theorem dX3_apart_43 : decode cX3_apart 43 = .ok (.ireturn, 1) := dk_172 (dk_at dksX3_apart_1 19 rfl rfl)
abbrev cX3_nearest : ByteArray := prog_11_method_81_code
def yX3_nearest : MethodName := ⟨RX3, "nearest", "(I)I"⟩
def dkwX3_nearest_1 : List UInt8 := [159, 0, 7, 4, 167, 0, 4, 3, 182, 0, 187, 153, 0, 7, 29, 167, 0, 4, 2, 172]
abbrev dktX3_nearest_1 : List UInt8 := dkwX3_nearest_1 ++ []
def dkwX3_nearest_0 : List UInt8 := [42, 27, 182, 0, 54, 61, 28, 153, 0, 11, 42, 27, 182, 0, 236, 167, 0, 4, 2, 62, 42, 28, 29, 2]
abbrev dktX3_nearest_0 : List UInt8 := dkwX3_nearest_0 ++ dktX3_nearest_1
theorem dksX3_nearest_0 : cX3_nearest.data.toList.drop 0 = dktX3_nearest_0 := by decide +kernel
theorem dksX3_nearest_1 : cX3_nearest.data.toList.drop 24 = dktX3_nearest_1 := dk_seg dksX3_nearest_0 24 rfl rfl
theorem dX3_nearest_0 : decode cX3_nearest 0 = .ok (.aload_n 0, 1) := dk_42 (dk_at dksX3_nearest_0 0 rfl rfl)
theorem dX3_nearest_1 : decode cX3_nearest 1 = .ok (.iload_n 1, 1) := dk_27 (dk_at dksX3_nearest_0 1 rfl rfl)
theorem dX3_nearest_2 : decode cX3_nearest 2 = .ok (.invokevirtual 54, 3) := dk_182 0 54 (dk_at dksX3_nearest_0 2 rfl rfl)
theorem dX3_nearest_5 : decode cX3_nearest 5 = .ok (.istore_n 2, 1) := dk_61 (dk_at dksX3_nearest_0 5 rfl rfl)
theorem dX3_nearest_6 : decode cX3_nearest 6 = .ok (.iload_n 2, 1) := dk_28 (dk_at dksX3_nearest_0 6 rfl rfl)
theorem dX3_nearest_7 : decode cX3_nearest 7 = .ok (.ifCond .eq 11, 3) := dk_153 0 11 (dk_at dksX3_nearest_0 7 rfl rfl)
theorem dX3_nearest_10 : decode cX3_nearest 10 = .ok (.aload_n 0, 1) := dk_42 (dk_at dksX3_nearest_0 10 rfl rfl)
theorem dX3_nearest_11 : decode cX3_nearest 11 = .ok (.iload_n 1, 1) := dk_27 (dk_at dksX3_nearest_0 11 rfl rfl)
theorem dX3_nearest_12 : decode cX3_nearest 12 = .ok (.invokevirtual 236, 3) := dk_182 0 236 (dk_at dksX3_nearest_0 12 rfl rfl)
theorem dX3_nearest_15 : decode cX3_nearest 15 = .ok (.goto 4, 3) := dk_167 0 4 (dk_at dksX3_nearest_0 15 rfl rfl)
theorem dX3_nearest_18 : decode cX3_nearest 18 = .ok (.iconst (-1), 1) := dk_2 (dk_at dksX3_nearest_0 18 rfl rfl)
theorem dX3_nearest_19 : decode cX3_nearest 19 = .ok (.istore_n 3, 1) := dk_62 (dk_at dksX3_nearest_0 19 rfl rfl)
theorem dX3_nearest_20 : decode cX3_nearest 20 = .ok (.aload_n 0, 1) := dk_42 (dk_at dksX3_nearest_0 20 rfl rfl)
theorem dX3_nearest_21 : decode cX3_nearest 21 = .ok (.iload_n 2, 1) := dk_28 (dk_at dksX3_nearest_0 21 rfl rfl)
theorem dX3_nearest_22 : decode cX3_nearest 22 = .ok (.iload_n 3, 1) := dk_29 (dk_at dksX3_nearest_0 22 rfl rfl)
theorem dX3_nearest_23 : decode cX3_nearest 23 = .ok (.iconst (-1), 1) := dk_2 (dk_at dksX3_nearest_0 23 rfl rfl)
theorem dX3_nearest_24 : decode cX3_nearest 24 = .ok (.if_icmp .eq 7, 3) := dk_159 0 7 (dk_at dksX3_nearest_1 0 rfl rfl)
theorem dX3_nearest_27 : decode cX3_nearest 27 = .ok (.iconst 1, 1) := dk_4 (dk_at dksX3_nearest_1 3 rfl rfl)
theorem dX3_nearest_28 : decode cX3_nearest 28 = .ok (.goto 4, 3) := dk_167 0 4 (dk_at dksX3_nearest_1 4 rfl rfl)
theorem dX3_nearest_31 : decode cX3_nearest 31 = .ok (.iconst 0, 1) := dk_3 (dk_at dksX3_nearest_1 7 rfl rfl)
theorem dX3_nearest_32 : decode cX3_nearest 32 = .ok (.invokevirtual 187, 3) := dk_182 0 187 (dk_at dksX3_nearest_1 8 rfl rfl)
theorem dX3_nearest_35 : decode cX3_nearest 35 = .ok (.ifCond .eq 7, 3) := dk_153 0 7 (dk_at dksX3_nearest_1 11 rfl rfl)
theorem dX3_nearest_38 : decode cX3_nearest 38 = .ok (.iload_n 3, 1) := dk_29 (dk_at dksX3_nearest_1 14 rfl rfl)
theorem dX3_nearest_39 : decode cX3_nearest 39 = .ok (.goto 4, 3) := dk_167 0 4 (dk_at dksX3_nearest_1 15 rfl rfl)
theorem dX3_nearest_42 : decode cX3_nearest 42 = .ok (.iconst (-1), 1) := dk_2 (dk_at dksX3_nearest_1 18 rfl rfl)
theorem dX3_nearest_43 : decode cX3_nearest 43 = .ok (.ireturn, 1) := dk_172 (dk_at dksX3_nearest_1 19 rfl rfl)
abbrev cX3_nearestOf : ByteArray := prog_11_method_80_code
def yX3_nearestOf : MethodName := ⟨RX3, "nearestOf", "(I)I"⟩
def dkwX3_nearestOf_3 : List UInt8 := [167, 255, 191, 28, 172]
abbrev dktX3_nearestOf_3 : List UInt8 := dkwX3_nearestOf_3 ++ []
def dkwX3_nearestOf_2 : List UInt8 := [27, 29, 182, 0, 233, 42, 27, 28, 182, 0, 233, 162, 0, 7, 29, 167, 0, 4, 28, 61, 132, 3, 1]
abbrev dktX3_nearestOf_2 : List UInt8 := dkwX3_nearestOf_2 ++ dktX3_nearestOf_3
def dkwX3_nearestOf_1 : List UInt8 := [182, 0, 230, 153, 0, 7, 4, 167, 0, 4, 3, 54, 4, 21, 4, 153, 0, 27, 28, 2, 159, 0, 18, 42]
abbrev dktX3_nearestOf_1 : List UInt8 := dkwX3_nearestOf_1 ++ dktX3_nearestOf_2
def dkwX3_nearestOf_0 : List UInt8 := [2, 61, 3, 62, 29, 42, 180, 0, 7, 3, 46, 162, 0, 61, 29, 27, 159, 0, 16, 42, 27, 29]
abbrev dktX3_nearestOf_0 : List UInt8 := dkwX3_nearestOf_0 ++ dktX3_nearestOf_1
theorem dksX3_nearestOf_0 : cX3_nearestOf.data.toList.drop 0 = dktX3_nearestOf_0 := by decide +kernel
theorem dksX3_nearestOf_1 : cX3_nearestOf.data.toList.drop 22 = dktX3_nearestOf_1 := dk_seg dksX3_nearestOf_0 22 rfl rfl
theorem dksX3_nearestOf_2 : cX3_nearestOf.data.toList.drop 46 = dktX3_nearestOf_2 := dk_seg dksX3_nearestOf_1 24 rfl rfl
theorem dksX3_nearestOf_3 : cX3_nearestOf.data.toList.drop 69 = dktX3_nearestOf_3 := dk_seg dksX3_nearestOf_2 23 rfl rfl
theorem dX3_nearestOf_0 : decode cX3_nearestOf 0 = .ok (.iconst (-1), 1) := dk_2 (dk_at dksX3_nearestOf_0 0 rfl rfl)
theorem dX3_nearestOf_1 : decode cX3_nearestOf 1 = .ok (.istore_n 2, 1) := dk_61 (dk_at dksX3_nearestOf_0 1 rfl rfl)
theorem dX3_nearestOf_2 : decode cX3_nearestOf 2 = .ok (.iconst 0, 1) := dk_3 (dk_at dksX3_nearestOf_0 2 rfl rfl)
theorem dX3_nearestOf_3 : decode cX3_nearestOf 3 = .ok (.istore_n 3, 1) := dk_62 (dk_at dksX3_nearestOf_0 3 rfl rfl)
theorem dX3_nearestOf_4 : decode cX3_nearestOf 4 = .ok (.iload_n 3, 1) := dk_29 (dk_at dksX3_nearestOf_0 4 rfl rfl)
theorem dX3_nearestOf_5 : decode cX3_nearestOf 5 = .ok (.aload_n 0, 1) := dk_42 (dk_at dksX3_nearestOf_0 5 rfl rfl)
theorem dX3_nearestOf_6 : decode cX3_nearestOf 6 = .ok (.getfield 7, 3) := dk_180 0 7 (dk_at dksX3_nearestOf_0 6 rfl rfl)
theorem dX3_nearestOf_9 : decode cX3_nearestOf 9 = .ok (.iconst 0, 1) := dk_3 (dk_at dksX3_nearestOf_0 9 rfl rfl)
theorem dX3_nearestOf_10 : decode cX3_nearestOf 10 = .ok (.iaload, 1) := dk_46 (dk_at dksX3_nearestOf_0 10 rfl rfl)
theorem dX3_nearestOf_11 : decode cX3_nearestOf 11 = .ok (.if_icmp .ge 61, 3) := dk_162 0 61 (dk_at dksX3_nearestOf_0 11 rfl rfl)
theorem dX3_nearestOf_14 : decode cX3_nearestOf 14 = .ok (.iload_n 3, 1) := dk_29 (dk_at dksX3_nearestOf_0 14 rfl rfl)
theorem dX3_nearestOf_15 : decode cX3_nearestOf 15 = .ok (.iload_n 1, 1) := dk_27 (dk_at dksX3_nearestOf_0 15 rfl rfl)
theorem dX3_nearestOf_16 : decode cX3_nearestOf 16 = .ok (.if_icmp .eq 16, 3) := dk_159 0 16 (dk_at dksX3_nearestOf_0 16 rfl rfl)
theorem dX3_nearestOf_19 : decode cX3_nearestOf 19 = .ok (.aload_n 0, 1) := dk_42 (dk_at dksX3_nearestOf_0 19 rfl rfl)
theorem dX3_nearestOf_20 : decode cX3_nearestOf 20 = .ok (.iload_n 1, 1) := dk_27 (dk_at dksX3_nearestOf_0 20 rfl rfl)
theorem dX3_nearestOf_21 : decode cX3_nearestOf 21 = .ok (.iload_n 3, 1) := dk_29 (dk_at dksX3_nearestOf_0 21 rfl rfl)
theorem dX3_nearestOf_22 : decode cX3_nearestOf 22 = .ok (.invokevirtual 230, 3) := dk_182 0 230 (dk_at dksX3_nearestOf_1 0 rfl rfl)
theorem dX3_nearestOf_25 : decode cX3_nearestOf 25 = .ok (.ifCond .eq 7, 3) := dk_153 0 7 (dk_at dksX3_nearestOf_1 3 rfl rfl)
theorem dX3_nearestOf_28 : decode cX3_nearestOf 28 = .ok (.iconst 1, 1) := dk_4 (dk_at dksX3_nearestOf_1 6 rfl rfl)
theorem dX3_nearestOf_29 : decode cX3_nearestOf 29 = .ok (.goto 4, 3) := dk_167 0 4 (dk_at dksX3_nearestOf_1 7 rfl rfl)
theorem dX3_nearestOf_32 : decode cX3_nearestOf 32 = .ok (.iconst 0, 1) := dk_3 (dk_at dksX3_nearestOf_1 10 rfl rfl)
theorem dX3_nearestOf_33 : decode cX3_nearestOf 33 = .ok (.istore 4, 2) := dk_54 4 (dk_at dksX3_nearestOf_1 11 rfl rfl)
theorem dX3_nearestOf_35 : decode cX3_nearestOf 35 = .ok (.iload 4, 2) := dk_21 4 (dk_at dksX3_nearestOf_1 13 rfl rfl)
theorem dX3_nearestOf_37 : decode cX3_nearestOf 37 = .ok (.ifCond .eq 27, 3) := dk_153 0 27 (dk_at dksX3_nearestOf_1 15 rfl rfl)
theorem dX3_nearestOf_40 : decode cX3_nearestOf 40 = .ok (.iload_n 2, 1) := dk_28 (dk_at dksX3_nearestOf_1 18 rfl rfl)
theorem dX3_nearestOf_41 : decode cX3_nearestOf 41 = .ok (.iconst (-1), 1) := dk_2 (dk_at dksX3_nearestOf_1 19 rfl rfl)
theorem dX3_nearestOf_42 : decode cX3_nearestOf 42 = .ok (.if_icmp .eq 18, 3) := dk_159 0 18 (dk_at dksX3_nearestOf_1 20 rfl rfl)
theorem dX3_nearestOf_45 : decode cX3_nearestOf 45 = .ok (.aload_n 0, 1) := dk_42 (dk_at dksX3_nearestOf_1 23 rfl rfl)
theorem dX3_nearestOf_46 : decode cX3_nearestOf 46 = .ok (.iload_n 1, 1) := dk_27 (dk_at dksX3_nearestOf_2 0 rfl rfl)
theorem dX3_nearestOf_47 : decode cX3_nearestOf 47 = .ok (.iload_n 3, 1) := dk_29 (dk_at dksX3_nearestOf_2 1 rfl rfl)
theorem dX3_nearestOf_48 : decode cX3_nearestOf 48 = .ok (.invokevirtual 233, 3) := dk_182 0 233 (dk_at dksX3_nearestOf_2 2 rfl rfl)
theorem dX3_nearestOf_51 : decode cX3_nearestOf 51 = .ok (.aload_n 0, 1) := dk_42 (dk_at dksX3_nearestOf_2 5 rfl rfl)
theorem dX3_nearestOf_52 : decode cX3_nearestOf 52 = .ok (.iload_n 1, 1) := dk_27 (dk_at dksX3_nearestOf_2 6 rfl rfl)
theorem dX3_nearestOf_53 : decode cX3_nearestOf 53 = .ok (.iload_n 2, 1) := dk_28 (dk_at dksX3_nearestOf_2 7 rfl rfl)
theorem dX3_nearestOf_54 : decode cX3_nearestOf 54 = .ok (.invokevirtual 233, 3) := dk_182 0 233 (dk_at dksX3_nearestOf_2 8 rfl rfl)
theorem dX3_nearestOf_57 : decode cX3_nearestOf 57 = .ok (.if_icmp .ge 7, 3) := dk_162 0 7 (dk_at dksX3_nearestOf_2 11 rfl rfl)
theorem dX3_nearestOf_60 : decode cX3_nearestOf 60 = .ok (.iload_n 3, 1) := dk_29 (dk_at dksX3_nearestOf_2 14 rfl rfl)
theorem dX3_nearestOf_61 : decode cX3_nearestOf 61 = .ok (.goto 4, 3) := dk_167 0 4 (dk_at dksX3_nearestOf_2 15 rfl rfl)
theorem dX3_nearestOf_64 : decode cX3_nearestOf 64 = .ok (.iload_n 2, 1) := dk_28 (dk_at dksX3_nearestOf_2 18 rfl rfl)
theorem dX3_nearestOf_65 : decode cX3_nearestOf 65 = .ok (.istore_n 2, 1) := dk_61 (dk_at dksX3_nearestOf_2 19 rfl rfl)
theorem dX3_nearestOf_66 : decode cX3_nearestOf 66 = .ok (.iinc 3 1, 3) := dk_132 3 1 (dk_at dksX3_nearestOf_2 20 rfl rfl)
theorem dX3_nearestOf_69 : decode cX3_nearestOf 69 = .ok (.goto (-65), 3) := dk_167 255 191 (dk_at dksX3_nearestOf_3 0 rfl rfl)
theorem dX3_nearestOf_72 : decode cX3_nearestOf 72 = .ok (.iload_n 2, 1) := dk_28 (dk_at dksX3_nearestOf_3 3 rfl rfl)
theorem dX3_nearestOf_73 : decode cX3_nearestOf 73 = .ok (.ireturn, 1) := dk_172 (dk_at dksX3_nearestOf_3 4 rfl rfl)
abbrev cX3_correlation : ByteArray := prog_11_method_83_code
def yX3_correlation : MethodName := ⟨RX3, "correlation", "(III)J"⟩
def dkwX3_correlation_2 : List UInt8 := [21, 5, 182, 0, 187, 153, 0, 13, 42, 27, 28, 29, 182, 0, 239, 167, 0, 6, 20, 0, 182, 173]
abbrev dktX3_correlation_2 : List UInt8 := dkwX3_correlation_2 ++ []
def dkwX3_correlation_1 : List UInt8 := [42, 27, 182, 0, 62, 4, 100, 184, 0, 50, 153, 0, 7, 4, 167, 0, 4, 3, 54, 5, 42, 21, 4]
abbrev dktX3_correlation_1 : List UInt8 := dkwX3_correlation_1 ++ dktX3_correlation_2
def dkwX3_correlation_0 : List UInt8 := [42, 27, 28, 182, 0, 227, 54, 4, 21, 4, 153, 0, 31, 42, 27, 28, 182, 0, 230, 153, 0, 22, 29, 3]
abbrev dktX3_correlation_0 : List UInt8 := dkwX3_correlation_0 ++ dktX3_correlation_1
theorem dksX3_correlation_0 : cX3_correlation.data.toList.drop 0 = dktX3_correlation_0 := by decide +kernel
theorem dksX3_correlation_1 : cX3_correlation.data.toList.drop 24 = dktX3_correlation_1 := dk_seg dksX3_correlation_0 24 rfl rfl
theorem dksX3_correlation_2 : cX3_correlation.data.toList.drop 47 = dktX3_correlation_2 := dk_seg dksX3_correlation_1 23 rfl rfl
theorem dX3_correlation_0 : decode cX3_correlation 0 = .ok (.aload_n 0, 1) := dk_42 (dk_at dksX3_correlation_0 0 rfl rfl)
theorem dX3_correlation_1 : decode cX3_correlation 1 = .ok (.iload_n 1, 1) := dk_27 (dk_at dksX3_correlation_0 1 rfl rfl)
theorem dX3_correlation_2 : decode cX3_correlation 2 = .ok (.iload_n 2, 1) := dk_28 (dk_at dksX3_correlation_0 2 rfl rfl)
theorem dX3_correlation_3 : decode cX3_correlation 3 = .ok (.invokevirtual 227, 3) := dk_182 0 227 (dk_at dksX3_correlation_0 3 rfl rfl)
theorem dX3_correlation_6 : decode cX3_correlation 6 = .ok (.istore 4, 2) := dk_54 4 (dk_at dksX3_correlation_0 6 rfl rfl)
theorem dX3_correlation_8 : decode cX3_correlation 8 = .ok (.iload 4, 2) := dk_21 4 (dk_at dksX3_correlation_0 8 rfl rfl)
theorem dX3_correlation_10 : decode cX3_correlation 10 = .ok (.ifCond .eq 31, 3) := dk_153 0 31 (dk_at dksX3_correlation_0 10 rfl rfl)
theorem dX3_correlation_13 : decode cX3_correlation 13 = .ok (.aload_n 0, 1) := dk_42 (dk_at dksX3_correlation_0 13 rfl rfl)
theorem dX3_correlation_14 : decode cX3_correlation 14 = .ok (.iload_n 1, 1) := dk_27 (dk_at dksX3_correlation_0 14 rfl rfl)
theorem dX3_correlation_15 : decode cX3_correlation 15 = .ok (.iload_n 2, 1) := dk_28 (dk_at dksX3_correlation_0 15 rfl rfl)
theorem dX3_correlation_16 : decode cX3_correlation 16 = .ok (.invokevirtual 230, 3) := dk_182 0 230 (dk_at dksX3_correlation_0 16 rfl rfl)
theorem dX3_correlation_19 : decode cX3_correlation 19 = .ok (.ifCond .eq 22, 3) := dk_153 0 22 (dk_at dksX3_correlation_0 19 rfl rfl)
theorem dX3_correlation_22 : decode cX3_correlation 22 = .ok (.iload_n 3, 1) := dk_29 (dk_at dksX3_correlation_0 22 rfl rfl)
theorem dX3_correlation_23 : decode cX3_correlation 23 = .ok (.iconst 0, 1) := dk_3 (dk_at dksX3_correlation_0 23 rfl rfl)
theorem dX3_correlation_24 : decode cX3_correlation 24 = .ok (.aload_n 0, 1) := dk_42 (dk_at dksX3_correlation_1 0 rfl rfl)
theorem dX3_correlation_25 : decode cX3_correlation 25 = .ok (.iload_n 1, 1) := dk_27 (dk_at dksX3_correlation_1 1 rfl rfl)
theorem dX3_correlation_26 : decode cX3_correlation 26 = .ok (.invokevirtual 62, 3) := dk_182 0 62 (dk_at dksX3_correlation_1 2 rfl rfl)
theorem dX3_correlation_29 : decode cX3_correlation 29 = .ok (.iconst 1, 1) := dk_4 (dk_at dksX3_correlation_1 5 rfl rfl)
theorem dX3_correlation_30 : decode cX3_correlation 30 = .ok (.isub, 1) := dk_100 (dk_at dksX3_correlation_1 6 rfl rfl)
theorem dX3_correlation_31 : decode cX3_correlation 31 = .ok (.invokestatic 50, 3) := dk_184 0 50 (dk_at dksX3_correlation_1 7 rfl rfl)
theorem dX3_correlation_34 : decode cX3_correlation 34 = .ok (.ifCond .eq 7, 3) := dk_153 0 7 (dk_at dksX3_correlation_1 10 rfl rfl)
theorem dX3_correlation_37 : decode cX3_correlation 37 = .ok (.iconst 1, 1) := dk_4 (dk_at dksX3_correlation_1 13 rfl rfl)
theorem dX3_correlation_38 : decode cX3_correlation 38 = .ok (.goto 4, 3) := dk_167 0 4 (dk_at dksX3_correlation_1 14 rfl rfl)
theorem dX3_correlation_41 : decode cX3_correlation 41 = .ok (.iconst 0, 1) := dk_3 (dk_at dksX3_correlation_1 17 rfl rfl)
theorem dX3_correlation_42 : decode cX3_correlation 42 = .ok (.istore 5, 2) := dk_54 5 (dk_at dksX3_correlation_1 18 rfl rfl)
theorem dX3_correlation_44 : decode cX3_correlation 44 = .ok (.aload_n 0, 1) := dk_42 (dk_at dksX3_correlation_1 20 rfl rfl)
theorem dX3_correlation_45 : decode cX3_correlation 45 = .ok (.iload 4, 2) := dk_21 4 (dk_at dksX3_correlation_1 21 rfl rfl)
theorem dX3_correlation_47 : decode cX3_correlation 47 = .ok (.iload 5, 2) := dk_21 5 (dk_at dksX3_correlation_2 0 rfl rfl)
theorem dX3_correlation_49 : decode cX3_correlation 49 = .ok (.invokevirtual 187, 3) := dk_182 0 187 (dk_at dksX3_correlation_2 2 rfl rfl)
theorem dX3_correlation_52 : decode cX3_correlation 52 = .ok (.ifCond .eq 13, 3) := dk_153 0 13 (dk_at dksX3_correlation_2 5 rfl rfl)
theorem dX3_correlation_55 : decode cX3_correlation 55 = .ok (.aload_n 0, 1) := dk_42 (dk_at dksX3_correlation_2 8 rfl rfl)
theorem dX3_correlation_56 : decode cX3_correlation 56 = .ok (.iload_n 1, 1) := dk_27 (dk_at dksX3_correlation_2 9 rfl rfl)
theorem dX3_correlation_57 : decode cX3_correlation 57 = .ok (.iload_n 2, 1) := dk_28 (dk_at dksX3_correlation_2 10 rfl rfl)
theorem dX3_correlation_58 : decode cX3_correlation 58 = .ok (.iload_n 3, 1) := dk_29 (dk_at dksX3_correlation_2 11 rfl rfl)
theorem dX3_correlation_59 : decode cX3_correlation 59 = .ok (.invokevirtual 239, 3) := dk_182 0 239 (dk_at dksX3_correlation_2 12 rfl rfl)
theorem dX3_correlation_62 : decode cX3_correlation 62 = .ok (.goto 6, 3) := dk_167 0 6 (dk_at dksX3_correlation_2 15 rfl rfl)
theorem dX3_correlation_65 : decode cX3_correlation 65 = .ok (.ldc2_w 182, 3) := dk_20 0 182 (dk_at dksX3_correlation_2 18 rfl rfl)
theorem dX3_correlation_68 : decode cX3_correlation 68 = .ok (.lreturn, 1) := dk_173 (dk_at dksX3_correlation_2 21 rfl rfl)
abbrev cX3_correlated : ByteArray := prog_11_method_82_code
def yX3_correlated : MethodName := ⟨RX3, "correlated", "(III)J"⟩
def dkwX3_correlated_2 : List UInt8 := [22, 4, 173]
abbrev dktX3_correlated_2 : List UInt8 := dkwX3_correlated_2 ++ []
def dkwX3_correlated_1 : List UInt8 := [182, 0, 82, 133, 42, 28, 21, 6, 29, 130, 182, 0, 82, 133, 105, 97, 55, 4, 132, 6, 1, 167, 255, 219]
abbrev dktX3_correlated_1 : List UInt8 := dkwX3_correlated_1 ++ dktX3_correlated_2
def dkwX3_correlated_0 : List UInt8 := [9, 55, 4, 3, 54, 6, 21, 6, 42, 27, 182, 0, 62, 162, 0, 33, 22, 4, 42, 27, 21, 6]
abbrev dktX3_correlated_0 : List UInt8 := dkwX3_correlated_0 ++ dktX3_correlated_1
theorem dksX3_correlated_0 : cX3_correlated.data.toList.drop 0 = dktX3_correlated_0 := by decide +kernel
theorem dksX3_correlated_1 : cX3_correlated.data.toList.drop 22 = dktX3_correlated_1 := dk_seg dksX3_correlated_0 22 rfl rfl
theorem dksX3_correlated_2 : cX3_correlated.data.toList.drop 46 = dktX3_correlated_2 := dk_seg dksX3_correlated_1 24 rfl rfl
theorem dX3_correlated_0 : decode cX3_correlated 0 = .ok (.lconst 0, 1) := dk_9 (dk_at dksX3_correlated_0 0 rfl rfl)
theorem dX3_correlated_1 : decode cX3_correlated 1 = .ok (.lstore 4, 2) := dk_55 4 (dk_at dksX3_correlated_0 1 rfl rfl)
theorem dX3_correlated_3 : decode cX3_correlated 3 = .ok (.iconst 0, 1) := dk_3 (dk_at dksX3_correlated_0 3 rfl rfl)
theorem dX3_correlated_4 : decode cX3_correlated 4 = .ok (.istore 6, 2) := dk_54 6 (dk_at dksX3_correlated_0 4 rfl rfl)
theorem dX3_correlated_6 : decode cX3_correlated 6 = .ok (.iload 6, 2) := dk_21 6 (dk_at dksX3_correlated_0 6 rfl rfl)
theorem dX3_correlated_8 : decode cX3_correlated 8 = .ok (.aload_n 0, 1) := dk_42 (dk_at dksX3_correlated_0 8 rfl rfl)
theorem dX3_correlated_9 : decode cX3_correlated 9 = .ok (.iload_n 1, 1) := dk_27 (dk_at dksX3_correlated_0 9 rfl rfl)
theorem dX3_correlated_10 : decode cX3_correlated 10 = .ok (.invokevirtual 62, 3) := dk_182 0 62 (dk_at dksX3_correlated_0 10 rfl rfl)
theorem dX3_correlated_13 : decode cX3_correlated 13 = .ok (.if_icmp .ge 33, 3) := dk_162 0 33 (dk_at dksX3_correlated_0 13 rfl rfl)
theorem dX3_correlated_16 : decode cX3_correlated 16 = .ok (.lload 4, 2) := dk_22 4 (dk_at dksX3_correlated_0 16 rfl rfl)
theorem dX3_correlated_18 : decode cX3_correlated 18 = .ok (.aload_n 0, 1) := dk_42 (dk_at dksX3_correlated_0 18 rfl rfl)
theorem dX3_correlated_19 : decode cX3_correlated 19 = .ok (.iload_n 1, 1) := dk_27 (dk_at dksX3_correlated_0 19 rfl rfl)
theorem dX3_correlated_20 : decode cX3_correlated 20 = .ok (.iload 6, 2) := dk_21 6 (dk_at dksX3_correlated_0 20 rfl rfl)
theorem dX3_correlated_22 : decode cX3_correlated 22 = .ok (.invokevirtual 82, 3) := dk_182 0 82 (dk_at dksX3_correlated_1 0 rfl rfl)
theorem dX3_correlated_25 : decode cX3_correlated 25 = .ok (.i2l, 1) := dk_133 (dk_at dksX3_correlated_1 3 rfl rfl)
theorem dX3_correlated_26 : decode cX3_correlated 26 = .ok (.aload_n 0, 1) := dk_42 (dk_at dksX3_correlated_1 4 rfl rfl)
theorem dX3_correlated_27 : decode cX3_correlated 27 = .ok (.iload_n 2, 1) := dk_28 (dk_at dksX3_correlated_1 5 rfl rfl)
theorem dX3_correlated_28 : decode cX3_correlated 28 = .ok (.iload 6, 2) := dk_21 6 (dk_at dksX3_correlated_1 6 rfl rfl)
theorem dX3_correlated_30 : decode cX3_correlated 30 = .ok (.iload_n 3, 1) := dk_29 (dk_at dksX3_correlated_1 8 rfl rfl)
theorem dX3_correlated_31 : decode cX3_correlated 31 = .ok (.ixor, 1) := dk_130 (dk_at dksX3_correlated_1 9 rfl rfl)
theorem dX3_correlated_32 : decode cX3_correlated 32 = .ok (.invokevirtual 82, 3) := dk_182 0 82 (dk_at dksX3_correlated_1 10 rfl rfl)
theorem dX3_correlated_35 : decode cX3_correlated 35 = .ok (.i2l, 1) := dk_133 (dk_at dksX3_correlated_1 13 rfl rfl)
theorem dX3_correlated_36 : decode cX3_correlated 36 = .ok (.lmul, 1) := dk_105 (dk_at dksX3_correlated_1 14 rfl rfl)
theorem dX3_correlated_37 : decode cX3_correlated 37 = .ok (.ladd, 1) := dk_97 (dk_at dksX3_correlated_1 15 rfl rfl)
theorem dX3_correlated_38 : decode cX3_correlated 38 = .ok (.lstore 4, 2) := dk_55 4 (dk_at dksX3_correlated_1 16 rfl rfl)
theorem dX3_correlated_40 : decode cX3_correlated 40 = .ok (.iinc 6 1, 3) := dk_132 6 1 (dk_at dksX3_correlated_1 18 rfl rfl)
theorem dX3_correlated_43 : decode cX3_correlated 43 = .ok (.goto (-37), 3) := dk_167 255 219 (dk_at dksX3_correlated_1 21 rfl rfl)
theorem dX3_correlated_46 : decode cX3_correlated 46 = .ok (.lload 4, 2) := dk_22 4 (dk_at dksX3_correlated_2 0 rfl rfl)
theorem dX3_correlated_48 : decode cX3_correlated 48 = .ok (.lreturn, 1) := dk_173 (dk_at dksX3_correlated_2 2 rfl rfl)
abbrev cX3_similarity : ByteArray := prog_11_method_84_code
def yX3_similarity : MethodName := ⟨RX3, "similarity", "(II)D"⟩
def dkwX3_similarity_3 : List UInt8 := [22, 4, 138, 111, 175]
abbrev dktX3_similarity_3 : List UInt8 := dkwX3_similarity_3 ++ []
def dkwX3_similarity_2 : List UInt8 := [184, 0, 242, 55, 4, 22, 4, 9, 148, 154, 0, 7, 14, 167, 0, 15, 42, 27, 28, 3, 182, 0, 239, 138]
abbrev dktX3_similarity_2 : List UInt8 := dkwX3_similarity_2 ++ dktX3_similarity_3
def dkwX3_similarity_1 : List UInt8 := [167, 0, 4, 3, 182, 0, 187, 154, 0, 5, 14, 175, 42, 27, 182, 0, 184, 42, 28, 182, 0, 184]
abbrev dktX3_similarity_1 : List UInt8 := dkwX3_similarity_1 ++ dktX3_similarity_2
def dkwX3_similarity_0 : List UInt8 := [42, 27, 28, 182, 0, 227, 62, 42, 29, 29, 153, 0, 16, 42, 27, 28, 182, 0, 230, 153, 0, 7, 4]
abbrev dktX3_similarity_0 : List UInt8 := dkwX3_similarity_0 ++ dktX3_similarity_1
theorem dksX3_similarity_0 : cX3_similarity.data.toList.drop 0 = dktX3_similarity_0 := by decide +kernel
theorem dksX3_similarity_1 : cX3_similarity.data.toList.drop 23 = dktX3_similarity_1 := dk_seg dksX3_similarity_0 23 rfl rfl
theorem dksX3_similarity_2 : cX3_similarity.data.toList.drop 45 = dktX3_similarity_2 := dk_seg dksX3_similarity_1 22 rfl rfl
theorem dksX3_similarity_3 : cX3_similarity.data.toList.drop 69 = dktX3_similarity_3 := dk_seg dksX3_similarity_2 24 rfl rfl
theorem dX3_similarity_0 : decode cX3_similarity 0 = .ok (.aload_n 0, 1) := dk_42 (dk_at dksX3_similarity_0 0 rfl rfl)
theorem dX3_similarity_1 : decode cX3_similarity 1 = .ok (.iload_n 1, 1) := dk_27 (dk_at dksX3_similarity_0 1 rfl rfl)
theorem dX3_similarity_2 : decode cX3_similarity 2 = .ok (.iload_n 2, 1) := dk_28 (dk_at dksX3_similarity_0 2 rfl rfl)
theorem dX3_similarity_3 : decode cX3_similarity 3 = .ok (.invokevirtual 227, 3) := dk_182 0 227 (dk_at dksX3_similarity_0 3 rfl rfl)
theorem dX3_similarity_6 : decode cX3_similarity 6 = .ok (.istore_n 3, 1) := dk_62 (dk_at dksX3_similarity_0 6 rfl rfl)
theorem dX3_similarity_7 : decode cX3_similarity 7 = .ok (.aload_n 0, 1) := dk_42 (dk_at dksX3_similarity_0 7 rfl rfl)
theorem dX3_similarity_8 : decode cX3_similarity 8 = .ok (.iload_n 3, 1) := dk_29 (dk_at dksX3_similarity_0 8 rfl rfl)
theorem dX3_similarity_9 : decode cX3_similarity 9 = .ok (.iload_n 3, 1) := dk_29 (dk_at dksX3_similarity_0 9 rfl rfl)
theorem dX3_similarity_10 : decode cX3_similarity 10 = .ok (.ifCond .eq 16, 3) := dk_153 0 16 (dk_at dksX3_similarity_0 10 rfl rfl)
theorem dX3_similarity_13 : decode cX3_similarity 13 = .ok (.aload_n 0, 1) := dk_42 (dk_at dksX3_similarity_0 13 rfl rfl)
theorem dX3_similarity_14 : decode cX3_similarity 14 = .ok (.iload_n 1, 1) := dk_27 (dk_at dksX3_similarity_0 14 rfl rfl)
theorem dX3_similarity_15 : decode cX3_similarity 15 = .ok (.iload_n 2, 1) := dk_28 (dk_at dksX3_similarity_0 15 rfl rfl)
theorem dX3_similarity_16 : decode cX3_similarity 16 = .ok (.invokevirtual 230, 3) := dk_182 0 230 (dk_at dksX3_similarity_0 16 rfl rfl)
theorem dX3_similarity_19 : decode cX3_similarity 19 = .ok (.ifCond .eq 7, 3) := dk_153 0 7 (dk_at dksX3_similarity_0 19 rfl rfl)
theorem dX3_similarity_22 : decode cX3_similarity 22 = .ok (.iconst 1, 1) := dk_4 (dk_at dksX3_similarity_0 22 rfl rfl)
theorem dX3_similarity_23 : decode cX3_similarity 23 = .ok (.goto 4, 3) := dk_167 0 4 (dk_at dksX3_similarity_1 0 rfl rfl)
theorem dX3_similarity_26 : decode cX3_similarity 26 = .ok (.iconst 0, 1) := dk_3 (dk_at dksX3_similarity_1 3 rfl rfl)
theorem dX3_similarity_27 : decode cX3_similarity 27 = .ok (.invokevirtual 187, 3) := dk_182 0 187 (dk_at dksX3_similarity_1 4 rfl rfl)
theorem dX3_similarity_30 : decode cX3_similarity 30 = .ok (.ifCond .ne 5, 3) := dk_154 0 5 (dk_at dksX3_similarity_1 7 rfl rfl)
theorem dX3_similarity_33 : decode cX3_similarity 33 = .ok (.dconst 0, 1) := dk_14 (dk_at dksX3_similarity_1 10 rfl rfl)
theorem dX3_similarity_34 : decode cX3_similarity 34 = .ok (.dreturn, 1) := dk_175 (dk_at dksX3_similarity_1 11 rfl rfl)
theorem dX3_similarity_35 : decode cX3_similarity 35 = .ok (.aload_n 0, 1) := dk_42 (dk_at dksX3_similarity_1 12 rfl rfl)
theorem dX3_similarity_36 : decode cX3_similarity 36 = .ok (.iload_n 1, 1) := dk_27 (dk_at dksX3_similarity_1 13 rfl rfl)
theorem dX3_similarity_37 : decode cX3_similarity 37 = .ok (.invokevirtual 184, 3) := dk_182 0 184 (dk_at dksX3_similarity_1 14 rfl rfl)
theorem dX3_similarity_40 : decode cX3_similarity 40 = .ok (.aload_n 0, 1) := dk_42 (dk_at dksX3_similarity_1 17 rfl rfl)
theorem dX3_similarity_41 : decode cX3_similarity 41 = .ok (.iload_n 2, 1) := dk_28 (dk_at dksX3_similarity_1 18 rfl rfl)
theorem dX3_similarity_42 : decode cX3_similarity 42 = .ok (.invokevirtual 184, 3) := dk_182 0 184 (dk_at dksX3_similarity_1 19 rfl rfl)
theorem dX3_similarity_45 : decode cX3_similarity 45 = .ok (.invokestatic 242, 3) := dk_184 0 242 (dk_at dksX3_similarity_2 0 rfl rfl)
theorem dX3_similarity_48 : decode cX3_similarity 48 = .ok (.lstore 4, 2) := dk_55 4 (dk_at dksX3_similarity_2 3 rfl rfl)
theorem dX3_similarity_50 : decode cX3_similarity 50 = .ok (.lload 4, 2) := dk_22 4 (dk_at dksX3_similarity_2 5 rfl rfl)
theorem dX3_similarity_52 : decode cX3_similarity 52 = .ok (.lconst 0, 1) := dk_9 (dk_at dksX3_similarity_2 7 rfl rfl)
theorem dX3_similarity_53 : decode cX3_similarity 53 = .ok (.lcmp, 1) := dk_148 (dk_at dksX3_similarity_2 8 rfl rfl)
theorem dX3_similarity_54 : decode cX3_similarity 54 = .ok (.ifCond .ne 7, 3) := dk_154 0 7 (dk_at dksX3_similarity_2 9 rfl rfl)
theorem dX3_similarity_57 : decode cX3_similarity 57 = .ok (.dconst 0, 1) := dk_14 (dk_at dksX3_similarity_2 12 rfl rfl)
theorem dX3_similarity_58 : decode cX3_similarity 58 = .ok (.goto 15, 3) := dk_167 0 15 (dk_at dksX3_similarity_2 13 rfl rfl)
theorem dX3_similarity_61 : decode cX3_similarity 61 = .ok (.aload_n 0, 1) := dk_42 (dk_at dksX3_similarity_2 16 rfl rfl)
theorem dX3_similarity_62 : decode cX3_similarity 62 = .ok (.iload_n 1, 1) := dk_27 (dk_at dksX3_similarity_2 17 rfl rfl)
theorem dX3_similarity_63 : decode cX3_similarity 63 = .ok (.iload_n 2, 1) := dk_28 (dk_at dksX3_similarity_2 18 rfl rfl)
theorem dX3_similarity_64 : decode cX3_similarity 64 = .ok (.iconst 0, 1) := dk_3 (dk_at dksX3_similarity_2 19 rfl rfl)
theorem dX3_similarity_65 : decode cX3_similarity 65 = .ok (.invokevirtual 239, 3) := dk_182 0 239 (dk_at dksX3_similarity_2 20 rfl rfl)
theorem dX3_similarity_68 : decode cX3_similarity 68 = .ok (.l2d, 1) := dk_138 (dk_at dksX3_similarity_2 23 rfl rfl)
theorem dX3_similarity_69 : decode cX3_similarity 69 = .ok (.lload 4, 2) := dk_22 4 (dk_at dksX3_similarity_3 0 rfl rfl)
theorem dX3_similarity_71 : decode cX3_similarity 71 = .ok (.l2d, 1) := dk_138 (dk_at dksX3_similarity_3 2 rfl rfl)
theorem dX3_similarity_72 : decode cX3_similarity 72 = .ok (.ddiv, 1) := dk_111 (dk_at dksX3_similarity_3 3 rfl rfl)
theorem dX3_similarity_73 : decode cX3_similarity 73 = .ok (.dreturn, 1) := dk_175 (dk_at dksX3_similarity_3 4 rfl rfl)
abbrev cX3_bestShift : ByteArray := prog_11_method_86_code
def yX3_bestShift : MethodName := ⟨RX3, "bestShift", "(II)I"⟩
def dkwX3_bestShift_1 : List UInt8 := [167, 0, 4, 3, 182, 0, 187, 153, 0, 12, 42, 27, 28, 182, 0, 245, 167, 0, 4, 2, 172]
abbrev dktX3_bestShift_1 : List UInt8 := dkwX3_bestShift_1 ++ []
def dkwX3_bestShift_0 : List UInt8 := [42, 27, 28, 182, 0, 227, 62, 42, 29, 29, 153, 0, 16, 42, 27, 28, 182, 0, 230, 153, 0, 7, 4]
abbrev dktX3_bestShift_0 : List UInt8 := dkwX3_bestShift_0 ++ dktX3_bestShift_1
theorem dksX3_bestShift_0 : cX3_bestShift.data.toList.drop 0 = dktX3_bestShift_0 := by decide +kernel
theorem dksX3_bestShift_1 : cX3_bestShift.data.toList.drop 23 = dktX3_bestShift_1 := dk_seg dksX3_bestShift_0 23 rfl rfl
theorem dX3_bestShift_0 : decode cX3_bestShift 0 = .ok (.aload_n 0, 1) := dk_42 (dk_at dksX3_bestShift_0 0 rfl rfl)
theorem dX3_bestShift_1 : decode cX3_bestShift 1 = .ok (.iload_n 1, 1) := dk_27 (dk_at dksX3_bestShift_0 1 rfl rfl)
theorem dX3_bestShift_2 : decode cX3_bestShift 2 = .ok (.iload_n 2, 1) := dk_28 (dk_at dksX3_bestShift_0 2 rfl rfl)
theorem dX3_bestShift_3 : decode cX3_bestShift 3 = .ok (.invokevirtual 227, 3) := dk_182 0 227 (dk_at dksX3_bestShift_0 3 rfl rfl)
theorem dX3_bestShift_6 : decode cX3_bestShift 6 = .ok (.istore_n 3, 1) := dk_62 (dk_at dksX3_bestShift_0 6 rfl rfl)
theorem dX3_bestShift_7 : decode cX3_bestShift 7 = .ok (.aload_n 0, 1) := dk_42 (dk_at dksX3_bestShift_0 7 rfl rfl)
theorem dX3_bestShift_8 : decode cX3_bestShift 8 = .ok (.iload_n 3, 1) := dk_29 (dk_at dksX3_bestShift_0 8 rfl rfl)
theorem dX3_bestShift_9 : decode cX3_bestShift 9 = .ok (.iload_n 3, 1) := dk_29 (dk_at dksX3_bestShift_0 9 rfl rfl)
theorem dX3_bestShift_10 : decode cX3_bestShift 10 = .ok (.ifCond .eq 16, 3) := dk_153 0 16 (dk_at dksX3_bestShift_0 10 rfl rfl)
theorem dX3_bestShift_13 : decode cX3_bestShift 13 = .ok (.aload_n 0, 1) := dk_42 (dk_at dksX3_bestShift_0 13 rfl rfl)
theorem dX3_bestShift_14 : decode cX3_bestShift 14 = .ok (.iload_n 1, 1) := dk_27 (dk_at dksX3_bestShift_0 14 rfl rfl)
theorem dX3_bestShift_15 : decode cX3_bestShift 15 = .ok (.iload_n 2, 1) := dk_28 (dk_at dksX3_bestShift_0 15 rfl rfl)
theorem dX3_bestShift_16 : decode cX3_bestShift 16 = .ok (.invokevirtual 230, 3) := dk_182 0 230 (dk_at dksX3_bestShift_0 16 rfl rfl)
theorem dX3_bestShift_19 : decode cX3_bestShift 19 = .ok (.ifCond .eq 7, 3) := dk_153 0 7 (dk_at dksX3_bestShift_0 19 rfl rfl)
theorem dX3_bestShift_22 : decode cX3_bestShift 22 = .ok (.iconst 1, 1) := dk_4 (dk_at dksX3_bestShift_0 22 rfl rfl)
theorem dX3_bestShift_23 : decode cX3_bestShift 23 = .ok (.goto 4, 3) := dk_167 0 4 (dk_at dksX3_bestShift_1 0 rfl rfl)
theorem dX3_bestShift_26 : decode cX3_bestShift 26 = .ok (.iconst 0, 1) := dk_3 (dk_at dksX3_bestShift_1 3 rfl rfl)
theorem dX3_bestShift_27 : decode cX3_bestShift 27 = .ok (.invokevirtual 187, 3) := dk_182 0 187 (dk_at dksX3_bestShift_1 4 rfl rfl)
theorem dX3_bestShift_30 : decode cX3_bestShift 30 = .ok (.ifCond .eq 12, 3) := dk_153 0 12 (dk_at dksX3_bestShift_1 7 rfl rfl)
theorem dX3_bestShift_33 : decode cX3_bestShift 33 = .ok (.aload_n 0, 1) := dk_42 (dk_at dksX3_bestShift_1 10 rfl rfl)
theorem dX3_bestShift_34 : decode cX3_bestShift 34 = .ok (.iload_n 1, 1) := dk_27 (dk_at dksX3_bestShift_1 11 rfl rfl)
theorem dX3_bestShift_35 : decode cX3_bestShift 35 = .ok (.iload_n 2, 1) := dk_28 (dk_at dksX3_bestShift_1 12 rfl rfl)
theorem dX3_bestShift_36 : decode cX3_bestShift 36 = .ok (.invokevirtual 245, 3) := dk_182 0 245 (dk_at dksX3_bestShift_1 13 rfl rfl)
theorem dX3_bestShift_39 : decode cX3_bestShift 39 = .ok (.goto 4, 3) := dk_167 0 4 (dk_at dksX3_bestShift_1 16 rfl rfl)
theorem dX3_bestShift_42 : decode cX3_bestShift 42 = .ok (.iconst (-1), 1) := dk_2 (dk_at dksX3_bestShift_1 19 rfl rfl)
theorem dX3_bestShift_43 : decode cX3_bestShift 43 = .ok (.ireturn, 1) := dk_172 (dk_at dksX3_bestShift_1 20 rfl rfl)
abbrev cX3_shiftOf : ByteArray := prog_11_method_85_code
def yX3_shiftOf : MethodName := ⟨RX3, "shiftOf", "(II)I"⟩
def dkwX3_shiftOf_2 : List UInt8 := [172]
abbrev dktX3_shiftOf_2 : List UInt8 := dkwX3_shiftOf_2 ++ []
def dkwX3_shiftOf_1 : List UInt8 := [27, 28, 29, 182, 0, 239, 148, 158, 0, 8, 21, 4, 167, 0, 4, 29, 62, 132, 4, 1, 167, 255, 217, 29]
abbrev dktX3_shiftOf_1 : List UInt8 := dkwX3_shiftOf_1 ++ dktX3_shiftOf_2
def dkwX3_shiftOf_0 : List UInt8 := [3, 62, 4, 54, 4, 21, 4, 42, 27, 182, 0, 62, 162, 0, 35, 42, 27, 28, 21, 4, 182, 0, 239, 42]
abbrev dktX3_shiftOf_0 : List UInt8 := dkwX3_shiftOf_0 ++ dktX3_shiftOf_1
theorem dksX3_shiftOf_0 : cX3_shiftOf.data.toList.drop 0 = dktX3_shiftOf_0 := by decide +kernel
theorem dksX3_shiftOf_1 : cX3_shiftOf.data.toList.drop 24 = dktX3_shiftOf_1 := dk_seg dksX3_shiftOf_0 24 rfl rfl
theorem dksX3_shiftOf_2 : cX3_shiftOf.data.toList.drop 48 = dktX3_shiftOf_2 := dk_seg dksX3_shiftOf_1 24 rfl rfl
theorem dX3_shiftOf_0 : decode cX3_shiftOf 0 = .ok (.iconst 0, 1) := dk_3 (dk_at dksX3_shiftOf_0 0 rfl rfl)
theorem dX3_shiftOf_1 : decode cX3_shiftOf 1 = .ok (.istore_n 3, 1) := dk_62 (dk_at dksX3_shiftOf_0 1 rfl rfl)
theorem dX3_shiftOf_2 : decode cX3_shiftOf 2 = .ok (.iconst 1, 1) := dk_4 (dk_at dksX3_shiftOf_0 2 rfl rfl)
theorem dX3_shiftOf_3 : decode cX3_shiftOf 3 = .ok (.istore 4, 2) := dk_54 4 (dk_at dksX3_shiftOf_0 3 rfl rfl)
theorem dX3_shiftOf_5 : decode cX3_shiftOf 5 = .ok (.iload 4, 2) := dk_21 4 (dk_at dksX3_shiftOf_0 5 rfl rfl)
theorem dX3_shiftOf_7 : decode cX3_shiftOf 7 = .ok (.aload_n 0, 1) := dk_42 (dk_at dksX3_shiftOf_0 7 rfl rfl)
theorem dX3_shiftOf_8 : decode cX3_shiftOf 8 = .ok (.iload_n 1, 1) := dk_27 (dk_at dksX3_shiftOf_0 8 rfl rfl)
theorem dX3_shiftOf_9 : decode cX3_shiftOf 9 = .ok (.invokevirtual 62, 3) := dk_182 0 62 (dk_at dksX3_shiftOf_0 9 rfl rfl)
theorem dX3_shiftOf_12 : decode cX3_shiftOf 12 = .ok (.if_icmp .ge 35, 3) := dk_162 0 35 (dk_at dksX3_shiftOf_0 12 rfl rfl)
theorem dX3_shiftOf_15 : decode cX3_shiftOf 15 = .ok (.aload_n 0, 1) := dk_42 (dk_at dksX3_shiftOf_0 15 rfl rfl)
theorem dX3_shiftOf_16 : decode cX3_shiftOf 16 = .ok (.iload_n 1, 1) := dk_27 (dk_at dksX3_shiftOf_0 16 rfl rfl)
theorem dX3_shiftOf_17 : decode cX3_shiftOf 17 = .ok (.iload_n 2, 1) := dk_28 (dk_at dksX3_shiftOf_0 17 rfl rfl)
theorem dX3_shiftOf_18 : decode cX3_shiftOf 18 = .ok (.iload 4, 2) := dk_21 4 (dk_at dksX3_shiftOf_0 18 rfl rfl)
theorem dX3_shiftOf_20 : decode cX3_shiftOf 20 = .ok (.invokevirtual 239, 3) := dk_182 0 239 (dk_at dksX3_shiftOf_0 20 rfl rfl)
theorem dX3_shiftOf_23 : decode cX3_shiftOf 23 = .ok (.aload_n 0, 1) := dk_42 (dk_at dksX3_shiftOf_0 23 rfl rfl)
theorem dX3_shiftOf_24 : decode cX3_shiftOf 24 = .ok (.iload_n 1, 1) := dk_27 (dk_at dksX3_shiftOf_1 0 rfl rfl)
theorem dX3_shiftOf_25 : decode cX3_shiftOf 25 = .ok (.iload_n 2, 1) := dk_28 (dk_at dksX3_shiftOf_1 1 rfl rfl)
theorem dX3_shiftOf_26 : decode cX3_shiftOf 26 = .ok (.iload_n 3, 1) := dk_29 (dk_at dksX3_shiftOf_1 2 rfl rfl)
theorem dX3_shiftOf_27 : decode cX3_shiftOf 27 = .ok (.invokevirtual 239, 3) := dk_182 0 239 (dk_at dksX3_shiftOf_1 3 rfl rfl)
theorem dX3_shiftOf_30 : decode cX3_shiftOf 30 = .ok (.lcmp, 1) := dk_148 (dk_at dksX3_shiftOf_1 6 rfl rfl)
theorem dX3_shiftOf_31 : decode cX3_shiftOf 31 = .ok (.ifCond .le 8, 3) := dk_158 0 8 (dk_at dksX3_shiftOf_1 7 rfl rfl)
theorem dX3_shiftOf_34 : decode cX3_shiftOf 34 = .ok (.iload 4, 2) := dk_21 4 (dk_at dksX3_shiftOf_1 10 rfl rfl)
theorem dX3_shiftOf_36 : decode cX3_shiftOf 36 = .ok (.goto 4, 3) := dk_167 0 4 (dk_at dksX3_shiftOf_1 12 rfl rfl)
theorem dX3_shiftOf_39 : decode cX3_shiftOf 39 = .ok (.iload_n 3, 1) := dk_29 (dk_at dksX3_shiftOf_1 15 rfl rfl)
theorem dX3_shiftOf_40 : decode cX3_shiftOf 40 = .ok (.istore_n 3, 1) := dk_62 (dk_at dksX3_shiftOf_1 16 rfl rfl)
theorem dX3_shiftOf_41 : decode cX3_shiftOf 41 = .ok (.iinc 4 1, 3) := dk_132 4 1 (dk_at dksX3_shiftOf_1 17 rfl rfl)
theorem dX3_shiftOf_44 : decode cX3_shiftOf 44 = .ok (.goto (-39), 3) := dk_167 255 217 (dk_at dksX3_shiftOf_1 20 rfl rfl)
theorem dX3_shiftOf_47 : decode cX3_shiftOf 47 = .ok (.iload_n 3, 1) := dk_29 (dk_at dksX3_shiftOf_1 23 rfl rfl)
theorem dX3_shiftOf_48 : decode cX3_shiftOf 48 = .ok (.ireturn, 1) := dk_172 (dk_at dksX3_shiftOf_2 0 rfl rfl)
abbrev cX3_commonPeaks : ByteArray := prog_11_method_88_code
def yX3_commonPeaks : MethodName := ⟨RX3, "commonPeaks", "(III)I"⟩
def dkwX3_commonPeaks_2 : List UInt8 := [182, 0, 187, 153, 0, 13, 42, 27, 28, 29, 182, 0, 248, 167, 0, 4, 2, 172]
abbrev dktX3_commonPeaks_2 : List UInt8 := dkwX3_commonPeaks_2 ++ []
def dkwX3_commonPeaks_1 : List UInt8 := [42, 27, 182, 0, 62, 184, 0, 50, 153, 0, 7, 4, 167, 0, 4, 3, 54, 5, 42, 21, 4, 21, 5]
abbrev dktX3_commonPeaks_1 : List UInt8 := dkwX3_commonPeaks_1 ++ dktX3_commonPeaks_2
def dkwX3_commonPeaks_0 : List UInt8 := [42, 27, 28, 182, 0, 227, 54, 4, 21, 4, 153, 0, 29, 42, 27, 28, 182, 0, 230, 153, 0, 20, 29, 3]
abbrev dktX3_commonPeaks_0 : List UInt8 := dkwX3_commonPeaks_0 ++ dktX3_commonPeaks_1
theorem dksX3_commonPeaks_0 : cX3_commonPeaks.data.toList.drop 0 = dktX3_commonPeaks_0 := by decide +kernel
theorem dksX3_commonPeaks_1 : cX3_commonPeaks.data.toList.drop 24 = dktX3_commonPeaks_1 := dk_seg dksX3_commonPeaks_0 24 rfl rfl
theorem dksX3_commonPeaks_2 : cX3_commonPeaks.data.toList.drop 47 = dktX3_commonPeaks_2 := dk_seg dksX3_commonPeaks_1 23 rfl rfl
theorem dX3_commonPeaks_0 : decode cX3_commonPeaks 0 = .ok (.aload_n 0, 1) := dk_42 (dk_at dksX3_commonPeaks_0 0 rfl rfl)
theorem dX3_commonPeaks_1 : decode cX3_commonPeaks 1 = .ok (.iload_n 1, 1) := dk_27 (dk_at dksX3_commonPeaks_0 1 rfl rfl)
theorem dX3_commonPeaks_2 : decode cX3_commonPeaks 2 = .ok (.iload_n 2, 1) := dk_28 (dk_at dksX3_commonPeaks_0 2 rfl rfl)
theorem dX3_commonPeaks_3 : decode cX3_commonPeaks 3 = .ok (.invokevirtual 227, 3) := dk_182 0 227 (dk_at dksX3_commonPeaks_0 3 rfl rfl)
theorem dX3_commonPeaks_6 : decode cX3_commonPeaks 6 = .ok (.istore 4, 2) := dk_54 4 (dk_at dksX3_commonPeaks_0 6 rfl rfl)
theorem dX3_commonPeaks_8 : decode cX3_commonPeaks 8 = .ok (.iload 4, 2) := dk_21 4 (dk_at dksX3_commonPeaks_0 8 rfl rfl)
theorem dX3_commonPeaks_10 : decode cX3_commonPeaks 10 = .ok (.ifCond .eq 29, 3) := dk_153 0 29 (dk_at dksX3_commonPeaks_0 10 rfl rfl)
theorem dX3_commonPeaks_13 : decode cX3_commonPeaks 13 = .ok (.aload_n 0, 1) := dk_42 (dk_at dksX3_commonPeaks_0 13 rfl rfl)
theorem dX3_commonPeaks_14 : decode cX3_commonPeaks 14 = .ok (.iload_n 1, 1) := dk_27 (dk_at dksX3_commonPeaks_0 14 rfl rfl)
theorem dX3_commonPeaks_15 : decode cX3_commonPeaks 15 = .ok (.iload_n 2, 1) := dk_28 (dk_at dksX3_commonPeaks_0 15 rfl rfl)
theorem dX3_commonPeaks_16 : decode cX3_commonPeaks 16 = .ok (.invokevirtual 230, 3) := dk_182 0 230 (dk_at dksX3_commonPeaks_0 16 rfl rfl)
theorem dX3_commonPeaks_19 : decode cX3_commonPeaks 19 = .ok (.ifCond .eq 20, 3) := dk_153 0 20 (dk_at dksX3_commonPeaks_0 19 rfl rfl)
theorem dX3_commonPeaks_22 : decode cX3_commonPeaks 22 = .ok (.iload_n 3, 1) := dk_29 (dk_at dksX3_commonPeaks_0 22 rfl rfl)
theorem dX3_commonPeaks_23 : decode cX3_commonPeaks 23 = .ok (.iconst 0, 1) := dk_3 (dk_at dksX3_commonPeaks_0 23 rfl rfl)
theorem dX3_commonPeaks_24 : decode cX3_commonPeaks 24 = .ok (.aload_n 0, 1) := dk_42 (dk_at dksX3_commonPeaks_1 0 rfl rfl)
theorem dX3_commonPeaks_25 : decode cX3_commonPeaks 25 = .ok (.iload_n 1, 1) := dk_27 (dk_at dksX3_commonPeaks_1 1 rfl rfl)
theorem dX3_commonPeaks_26 : decode cX3_commonPeaks 26 = .ok (.invokevirtual 62, 3) := dk_182 0 62 (dk_at dksX3_commonPeaks_1 2 rfl rfl)
theorem dX3_commonPeaks_29 : decode cX3_commonPeaks 29 = .ok (.invokestatic 50, 3) := dk_184 0 50 (dk_at dksX3_commonPeaks_1 5 rfl rfl)
theorem dX3_commonPeaks_32 : decode cX3_commonPeaks 32 = .ok (.ifCond .eq 7, 3) := dk_153 0 7 (dk_at dksX3_commonPeaks_1 8 rfl rfl)
theorem dX3_commonPeaks_35 : decode cX3_commonPeaks 35 = .ok (.iconst 1, 1) := dk_4 (dk_at dksX3_commonPeaks_1 11 rfl rfl)
theorem dX3_commonPeaks_36 : decode cX3_commonPeaks 36 = .ok (.goto 4, 3) := dk_167 0 4 (dk_at dksX3_commonPeaks_1 12 rfl rfl)
theorem dX3_commonPeaks_39 : decode cX3_commonPeaks 39 = .ok (.iconst 0, 1) := dk_3 (dk_at dksX3_commonPeaks_1 15 rfl rfl)
theorem dX3_commonPeaks_40 : decode cX3_commonPeaks 40 = .ok (.istore 5, 2) := dk_54 5 (dk_at dksX3_commonPeaks_1 16 rfl rfl)
theorem dX3_commonPeaks_42 : decode cX3_commonPeaks 42 = .ok (.aload_n 0, 1) := dk_42 (dk_at dksX3_commonPeaks_1 18 rfl rfl)
theorem dX3_commonPeaks_43 : decode cX3_commonPeaks 43 = .ok (.iload 4, 2) := dk_21 4 (dk_at dksX3_commonPeaks_1 19 rfl rfl)
theorem dX3_commonPeaks_45 : decode cX3_commonPeaks 45 = .ok (.iload 5, 2) := dk_21 5 (dk_at dksX3_commonPeaks_1 21 rfl rfl)
theorem dX3_commonPeaks_47 : decode cX3_commonPeaks 47 = .ok (.invokevirtual 187, 3) := dk_182 0 187 (dk_at dksX3_commonPeaks_2 0 rfl rfl)
theorem dX3_commonPeaks_50 : decode cX3_commonPeaks 50 = .ok (.ifCond .eq 13, 3) := dk_153 0 13 (dk_at dksX3_commonPeaks_2 3 rfl rfl)
theorem dX3_commonPeaks_53 : decode cX3_commonPeaks 53 = .ok (.aload_n 0, 1) := dk_42 (dk_at dksX3_commonPeaks_2 6 rfl rfl)
theorem dX3_commonPeaks_54 : decode cX3_commonPeaks 54 = .ok (.iload_n 1, 1) := dk_27 (dk_at dksX3_commonPeaks_2 7 rfl rfl)
theorem dX3_commonPeaks_55 : decode cX3_commonPeaks 55 = .ok (.iload_n 2, 1) := dk_28 (dk_at dksX3_commonPeaks_2 8 rfl rfl)
theorem dX3_commonPeaks_56 : decode cX3_commonPeaks 56 = .ok (.iload_n 3, 1) := dk_29 (dk_at dksX3_commonPeaks_2 9 rfl rfl)
theorem dX3_commonPeaks_57 : decode cX3_commonPeaks 57 = .ok (.invokevirtual 248, 3) := dk_182 0 248 (dk_at dksX3_commonPeaks_2 10 rfl rfl)
theorem dX3_commonPeaks_60 : decode cX3_commonPeaks 60 = .ok (.goto 4, 3) := dk_167 0 4 (dk_at dksX3_commonPeaks_2 13 rfl rfl)
theorem dX3_commonPeaks_63 : decode cX3_commonPeaks 63 = .ok (.iconst (-1), 1) := dk_2 (dk_at dksX3_commonPeaks_2 16 rfl rfl)
theorem dX3_commonPeaks_64 : decode cX3_commonPeaks 64 = .ok (.ireturn, 1) := dk_172 (dk_at dksX3_commonPeaks_2 17 rfl rfl)
abbrev cX3_common : ByteArray := prog_11_method_87_code
def yX3_common : MethodName := ⟨RX3, "common", "(III)I"⟩
def dkwX3_common_3 : List UInt8 := [3, 96, 54, 4, 132, 5, 1, 167, 255, 222, 21, 4, 172]
abbrev dktX3_common_3 : List UInt8 := dkwX3_common_3 ++ []
def dkwX3_common_2 : List UInt8 := [162, 0, 34, 21, 4, 42, 42, 180, 0, 31, 21, 5, 46, 29, 182, 0, 96, 153, 0, 7, 4, 167, 0, 4]
abbrev dktX3_common_2 : List UInt8 := dkwX3_common_2 ++ dktX3_common_3
def dkwX3_common_1 : List UInt8 := [21, 4, 46, 79, 132, 4, 1, 167, 255, 233, 42, 27, 182, 0, 219, 3, 54, 4, 3, 54, 5, 21, 5, 29]
abbrev dktX3_common_1 : List UInt8 := dkwX3_common_1 ++ dktX3_common_2
def dkwX3_common_0 : List UInt8 := [42, 28, 182, 0, 219, 3, 54, 4, 21, 4, 29, 162, 0, 23, 42, 180, 0, 31, 21, 4, 42, 180, 0, 34]
abbrev dktX3_common_0 : List UInt8 := dkwX3_common_0 ++ dktX3_common_1
theorem dksX3_common_0 : cX3_common.data.toList.drop 0 = dktX3_common_0 := by decide +kernel
theorem dksX3_common_1 : cX3_common.data.toList.drop 24 = dktX3_common_1 := dk_seg dksX3_common_0 24 rfl rfl
theorem dksX3_common_2 : cX3_common.data.toList.drop 48 = dktX3_common_2 := dk_seg dksX3_common_1 24 rfl rfl
theorem dksX3_common_3 : cX3_common.data.toList.drop 72 = dktX3_common_3 := dk_seg dksX3_common_2 24 rfl rfl
theorem dX3_common_0 : decode cX3_common 0 = .ok (.aload_n 0, 1) := dk_42 (dk_at dksX3_common_0 0 rfl rfl)
theorem dX3_common_1 : decode cX3_common 1 = .ok (.iload_n 2, 1) := dk_28 (dk_at dksX3_common_0 1 rfl rfl)
theorem dX3_common_2 : decode cX3_common 2 = .ok (.invokevirtual 219, 3) := dk_182 0 219 (dk_at dksX3_common_0 2 rfl rfl)
theorem dX3_common_5 : decode cX3_common 5 = .ok (.iconst 0, 1) := dk_3 (dk_at dksX3_common_0 5 rfl rfl)
theorem dX3_common_6 : decode cX3_common 6 = .ok (.istore 4, 2) := dk_54 4 (dk_at dksX3_common_0 6 rfl rfl)
theorem dX3_common_8 : decode cX3_common 8 = .ok (.iload 4, 2) := dk_21 4 (dk_at dksX3_common_0 8 rfl rfl)
theorem dX3_common_10 : decode cX3_common 10 = .ok (.iload_n 3, 1) := dk_29 (dk_at dksX3_common_0 10 rfl rfl)
theorem dX3_common_11 : decode cX3_common 11 = .ok (.if_icmp .ge 23, 3) := dk_162 0 23 (dk_at dksX3_common_0 11 rfl rfl)
theorem dX3_common_14 : decode cX3_common 14 = .ok (.aload_n 0, 1) := dk_42 (dk_at dksX3_common_0 14 rfl rfl)
theorem dX3_common_15 : decode cX3_common 15 = .ok (.getfield 31, 3) := dk_180 0 31 (dk_at dksX3_common_0 15 rfl rfl)
theorem dX3_common_18 : decode cX3_common 18 = .ok (.iload 4, 2) := dk_21 4 (dk_at dksX3_common_0 18 rfl rfl)
theorem dX3_common_20 : decode cX3_common 20 = .ok (.aload_n 0, 1) := dk_42 (dk_at dksX3_common_0 20 rfl rfl)
theorem dX3_common_21 : decode cX3_common 21 = .ok (.getfield 34, 3) := dk_180 0 34 (dk_at dksX3_common_0 21 rfl rfl)
theorem dX3_common_24 : decode cX3_common 24 = .ok (.iload 4, 2) := dk_21 4 (dk_at dksX3_common_1 0 rfl rfl)
theorem dX3_common_26 : decode cX3_common 26 = .ok (.iaload, 1) := dk_46 (dk_at dksX3_common_1 2 rfl rfl)
theorem dX3_common_27 : decode cX3_common 27 = .ok (.iastore, 1) := dk_79 (dk_at dksX3_common_1 3 rfl rfl)
theorem dX3_common_28 : decode cX3_common 28 = .ok (.iinc 4 1, 3) := dk_132 4 1 (dk_at dksX3_common_1 4 rfl rfl)
theorem dX3_common_31 : decode cX3_common 31 = .ok (.goto (-23), 3) := dk_167 255 233 (dk_at dksX3_common_1 7 rfl rfl)
theorem dX3_common_34 : decode cX3_common 34 = .ok (.aload_n 0, 1) := dk_42 (dk_at dksX3_common_1 10 rfl rfl)
theorem dX3_common_35 : decode cX3_common 35 = .ok (.iload_n 1, 1) := dk_27 (dk_at dksX3_common_1 11 rfl rfl)
theorem dX3_common_36 : decode cX3_common 36 = .ok (.invokevirtual 219, 3) := dk_182 0 219 (dk_at dksX3_common_1 12 rfl rfl)
theorem dX3_common_39 : decode cX3_common 39 = .ok (.iconst 0, 1) := dk_3 (dk_at dksX3_common_1 15 rfl rfl)
theorem dX3_common_40 : decode cX3_common 40 = .ok (.istore 4, 2) := dk_54 4 (dk_at dksX3_common_1 16 rfl rfl)
theorem dX3_common_42 : decode cX3_common 42 = .ok (.iconst 0, 1) := dk_3 (dk_at dksX3_common_1 18 rfl rfl)
theorem dX3_common_43 : decode cX3_common 43 = .ok (.istore 5, 2) := dk_54 5 (dk_at dksX3_common_1 19 rfl rfl)
theorem dX3_common_45 : decode cX3_common 45 = .ok (.iload 5, 2) := dk_21 5 (dk_at dksX3_common_1 21 rfl rfl)
theorem dX3_common_47 : decode cX3_common 47 = .ok (.iload_n 3, 1) := dk_29 (dk_at dksX3_common_1 23 rfl rfl)
theorem dX3_common_48 : decode cX3_common 48 = .ok (.if_icmp .ge 34, 3) := dk_162 0 34 (dk_at dksX3_common_2 0 rfl rfl)
theorem dX3_common_51 : decode cX3_common 51 = .ok (.iload 4, 2) := dk_21 4 (dk_at dksX3_common_2 3 rfl rfl)
theorem dX3_common_53 : decode cX3_common 53 = .ok (.aload_n 0, 1) := dk_42 (dk_at dksX3_common_2 5 rfl rfl)
theorem dX3_common_54 : decode cX3_common 54 = .ok (.aload_n 0, 1) := dk_42 (dk_at dksX3_common_2 6 rfl rfl)
theorem dX3_common_55 : decode cX3_common 55 = .ok (.getfield 31, 3) := dk_180 0 31 (dk_at dksX3_common_2 7 rfl rfl)
theorem dX3_common_58 : decode cX3_common 58 = .ok (.iload 5, 2) := dk_21 5 (dk_at dksX3_common_2 10 rfl rfl)
theorem dX3_common_60 : decode cX3_common 60 = .ok (.iaload, 1) := dk_46 (dk_at dksX3_common_2 12 rfl rfl)
theorem dX3_common_61 : decode cX3_common 61 = .ok (.iload_n 3, 1) := dk_29 (dk_at dksX3_common_2 13 rfl rfl)
theorem dX3_common_62 : decode cX3_common 62 = .ok (.invokevirtual 96, 3) := dk_182 0 96 (dk_at dksX3_common_2 14 rfl rfl)
theorem dX3_common_65 : decode cX3_common 65 = .ok (.ifCond .eq 7, 3) := dk_153 0 7 (dk_at dksX3_common_2 17 rfl rfl)
theorem dX3_common_68 : decode cX3_common 68 = .ok (.iconst 1, 1) := dk_4 (dk_at dksX3_common_2 20 rfl rfl)
theorem dX3_common_69 : decode cX3_common 69 = .ok (.goto 4, 3) := dk_167 0 4 (dk_at dksX3_common_2 21 rfl rfl)
theorem dX3_common_72 : decode cX3_common 72 = .ok (.iconst 0, 1) := dk_3 (dk_at dksX3_common_3 0 rfl rfl)
theorem dX3_common_73 : decode cX3_common 73 = .ok (.iadd, 1) := dk_96 (dk_at dksX3_common_3 1 rfl rfl)
theorem dX3_common_74 : decode cX3_common 74 = .ok (.istore 4, 2) := dk_54 4 (dk_at dksX3_common_3 2 rfl rfl)
theorem dX3_common_76 : decode cX3_common 76 = .ok (.iinc 5 1, 3) := dk_132 5 1 (dk_at dksX3_common_3 4 rfl rfl)
theorem dX3_common_79 : decode cX3_common 79 = .ok (.goto (-34), 3) := dk_167 255 222 (dk_at dksX3_common_3 7 rfl rfl)
theorem dX3_common_82 : decode cX3_common 82 = .ok (.iload 4, 2) := dk_21 4 (dk_at dksX3_common_3 10 rfl rfl)
theorem dX3_common_84 : decode cX3_common 84 = .ok (.ireturn, 1) := dk_172 (dk_at dksX3_common_3 12 rfl rfl)
abbrev cX3_errorOfPeaks : ByteArray := prog_11_method_92_code
def yX3_errorOfPeaks : MethodName := ⟨RX3, "errorOfPeaks", "(II)J"⟩
def dkwX3_errorOfPeaks_1 : List UInt8 := [167, 0, 4, 3, 182, 0, 187, 153, 0, 12, 42, 27, 28, 182, 1, 5, 167, 0, 6, 20, 0, 182, 173]
abbrev dktX3_errorOfPeaks_1 : List UInt8 := dkwX3_errorOfPeaks_1 ++ []
def dkwX3_errorOfPeaks_0 : List UInt8 := [42, 27, 182, 0, 54, 62, 42, 29, 29, 153, 0, 16, 42, 27, 28, 182, 1, 2, 153, 0, 7, 4]
abbrev dktX3_errorOfPeaks_0 : List UInt8 := dkwX3_errorOfPeaks_0 ++ dktX3_errorOfPeaks_1
theorem dksX3_errorOfPeaks_0 : cX3_errorOfPeaks.data.toList.drop 0 = dktX3_errorOfPeaks_0 := by decide +kernel
theorem dksX3_errorOfPeaks_1 : cX3_errorOfPeaks.data.toList.drop 22 = dktX3_errorOfPeaks_1 := dk_seg dksX3_errorOfPeaks_0 22 rfl rfl
theorem dX3_errorOfPeaks_0 : decode cX3_errorOfPeaks 0 = .ok (.aload_n 0, 1) := dk_42 (dk_at dksX3_errorOfPeaks_0 0 rfl rfl)
theorem dX3_errorOfPeaks_1 : decode cX3_errorOfPeaks 1 = .ok (.iload_n 1, 1) := dk_27 (dk_at dksX3_errorOfPeaks_0 1 rfl rfl)
theorem dX3_errorOfPeaks_2 : decode cX3_errorOfPeaks 2 = .ok (.invokevirtual 54, 3) := dk_182 0 54 (dk_at dksX3_errorOfPeaks_0 2 rfl rfl)
theorem dX3_errorOfPeaks_5 : decode cX3_errorOfPeaks 5 = .ok (.istore_n 3, 1) := dk_62 (dk_at dksX3_errorOfPeaks_0 5 rfl rfl)
theorem dX3_errorOfPeaks_6 : decode cX3_errorOfPeaks 6 = .ok (.aload_n 0, 1) := dk_42 (dk_at dksX3_errorOfPeaks_0 6 rfl rfl)
theorem dX3_errorOfPeaks_7 : decode cX3_errorOfPeaks 7 = .ok (.iload_n 3, 1) := dk_29 (dk_at dksX3_errorOfPeaks_0 7 rfl rfl)
theorem dX3_errorOfPeaks_8 : decode cX3_errorOfPeaks 8 = .ok (.iload_n 3, 1) := dk_29 (dk_at dksX3_errorOfPeaks_0 8 rfl rfl)
theorem dX3_errorOfPeaks_9 : decode cX3_errorOfPeaks 9 = .ok (.ifCond .eq 16, 3) := dk_153 0 16 (dk_at dksX3_errorOfPeaks_0 9 rfl rfl)
theorem dX3_errorOfPeaks_12 : decode cX3_errorOfPeaks 12 = .ok (.aload_n 0, 1) := dk_42 (dk_at dksX3_errorOfPeaks_0 12 rfl rfl)
theorem dX3_errorOfPeaks_13 : decode cX3_errorOfPeaks 13 = .ok (.iload_n 1, 1) := dk_27 (dk_at dksX3_errorOfPeaks_0 13 rfl rfl)
theorem dX3_errorOfPeaks_14 : decode cX3_errorOfPeaks 14 = .ok (.iload_n 2, 1) := dk_28 (dk_at dksX3_errorOfPeaks_0 14 rfl rfl)
theorem dX3_errorOfPeaks_15 : decode cX3_errorOfPeaks 15 = .ok (.invokevirtual 258, 3) := dk_182 1 2 (dk_at dksX3_errorOfPeaks_0 15 rfl rfl)
theorem dX3_errorOfPeaks_18 : decode cX3_errorOfPeaks 18 = .ok (.ifCond .eq 7, 3) := dk_153 0 7 (dk_at dksX3_errorOfPeaks_0 18 rfl rfl)
theorem dX3_errorOfPeaks_21 : decode cX3_errorOfPeaks 21 = .ok (.iconst 1, 1) := dk_4 (dk_at dksX3_errorOfPeaks_0 21 rfl rfl)
theorem dX3_errorOfPeaks_22 : decode cX3_errorOfPeaks 22 = .ok (.goto 4, 3) := dk_167 0 4 (dk_at dksX3_errorOfPeaks_1 0 rfl rfl)
theorem dX3_errorOfPeaks_25 : decode cX3_errorOfPeaks 25 = .ok (.iconst 0, 1) := dk_3 (dk_at dksX3_errorOfPeaks_1 3 rfl rfl)
theorem dX3_errorOfPeaks_26 : decode cX3_errorOfPeaks 26 = .ok (.invokevirtual 187, 3) := dk_182 0 187 (dk_at dksX3_errorOfPeaks_1 4 rfl rfl)
theorem dX3_errorOfPeaks_29 : decode cX3_errorOfPeaks 29 = .ok (.ifCond .eq 12, 3) := dk_153 0 12 (dk_at dksX3_errorOfPeaks_1 7 rfl rfl)
theorem dX3_errorOfPeaks_32 : decode cX3_errorOfPeaks 32 = .ok (.aload_n 0, 1) := dk_42 (dk_at dksX3_errorOfPeaks_1 10 rfl rfl)
theorem dX3_errorOfPeaks_33 : decode cX3_errorOfPeaks 33 = .ok (.iload_n 1, 1) := dk_27 (dk_at dksX3_errorOfPeaks_1 11 rfl rfl)
theorem dX3_errorOfPeaks_34 : decode cX3_errorOfPeaks 34 = .ok (.iload_n 2, 1) := dk_28 (dk_at dksX3_errorOfPeaks_1 12 rfl rfl)
theorem dX3_errorOfPeaks_35 : decode cX3_errorOfPeaks 35 = .ok (.invokevirtual 261, 3) := dk_182 1 5 (dk_at dksX3_errorOfPeaks_1 13 rfl rfl)
theorem dX3_errorOfPeaks_38 : decode cX3_errorOfPeaks 38 = .ok (.goto 6, 3) := dk_167 0 6 (dk_at dksX3_errorOfPeaks_1 16 rfl rfl)
theorem dX3_errorOfPeaks_41 : decode cX3_errorOfPeaks 41 = .ok (.ldc2_w 182, 3) := dk_20 0 182 (dk_at dksX3_errorOfPeaks_1 19 rfl rfl)
theorem dX3_errorOfPeaks_44 : decode cX3_errorOfPeaks 44 = .ok (.lreturn, 1) := dk_173 (dk_at dksX3_errorOfPeaks_1 22 rfl rfl)
abbrev cX3_isCount : ByteArray := prog_11_method_90_code
def yX3_isCount : MethodName := ⟨RX3, "isCount", "(II)Z"⟩
def dkwX3_isCount_0 : List UInt8 := [28, 3, 42, 27, 182, 0, 62, 184, 0, 50, 172]
abbrev dktX3_isCount_0 : List UInt8 := dkwX3_isCount_0 ++ []
theorem dksX3_isCount_0 : cX3_isCount.data.toList.drop 0 = dktX3_isCount_0 := by decide +kernel
theorem dX3_isCount_0 : decode cX3_isCount 0 = .ok (.iload_n 2, 1) := dk_28 (dk_at dksX3_isCount_0 0 rfl rfl)
theorem dX3_isCount_1 : decode cX3_isCount 1 = .ok (.iconst 0, 1) := dk_3 (dk_at dksX3_isCount_0 1 rfl rfl)
theorem dX3_isCount_2 : decode cX3_isCount 2 = .ok (.aload_n 0, 1) := dk_42 (dk_at dksX3_isCount_0 2 rfl rfl)
theorem dX3_isCount_3 : decode cX3_isCount 3 = .ok (.iload_n 1, 1) := dk_27 (dk_at dksX3_isCount_0 3 rfl rfl)
theorem dX3_isCount_4 : decode cX3_isCount 4 = .ok (.invokevirtual 62, 3) := dk_182 0 62 (dk_at dksX3_isCount_0 4 rfl rfl)
theorem dX3_isCount_7 : decode cX3_isCount 7 = .ok (.invokestatic 50, 3) := dk_184 0 50 (dk_at dksX3_isCount_0 7 rfl rfl)
theorem dX3_isCount_10 : decode cX3_isCount 10 = .ok (.ireturn, 1) := dk_172 (dk_at dksX3_isCount_0 10 rfl rfl)
abbrev cX3_wrong : ByteArray := prog_11_method_91_code
def yX3_wrong : MethodName := ⟨RX3, "wrong", "(II)J"⟩
def dkwX3_wrong_2 : List UInt8 := [33, 173]
abbrev dktX3_wrong_2 : List UInt8 := dkwX3_wrong_2 ++ []
def dkwX3_wrong_1 : List UInt8 := [21, 5, 182, 0, 82, 42, 180, 0, 37, 21, 5, 46, 100, 184, 0, 88, 97, 66, 132, 5, 1, 167, 255, 222]
abbrev dktX3_wrong_1 : List UInt8 := dkwX3_wrong_1 ++ dktX3_wrong_2
def dkwX3_wrong_0 : List UInt8 := [42, 27, 28, 182, 0, 255, 9, 66, 3, 54, 5, 21, 5, 42, 27, 182, 0, 62, 162, 0, 30, 33, 42, 27]
abbrev dktX3_wrong_0 : List UInt8 := dkwX3_wrong_0 ++ dktX3_wrong_1
theorem dksX3_wrong_0 : cX3_wrong.data.toList.drop 0 = dktX3_wrong_0 := by decide +kernel
theorem dksX3_wrong_1 : cX3_wrong.data.toList.drop 24 = dktX3_wrong_1 := dk_seg dksX3_wrong_0 24 rfl rfl
theorem dksX3_wrong_2 : cX3_wrong.data.toList.drop 48 = dktX3_wrong_2 := dk_seg dksX3_wrong_1 24 rfl rfl
theorem dX3_wrong_0 : decode cX3_wrong 0 = .ok (.aload_n 0, 1) := dk_42 (dk_at dksX3_wrong_0 0 rfl rfl)
theorem dX3_wrong_1 : decode cX3_wrong 1 = .ok (.iload_n 1, 1) := dk_27 (dk_at dksX3_wrong_0 1 rfl rfl)
theorem dX3_wrong_2 : decode cX3_wrong 2 = .ok (.iload_n 2, 1) := dk_28 (dk_at dksX3_wrong_0 2 rfl rfl)
theorem dX3_wrong_3 : decode cX3_wrong 3 = .ok (.invokevirtual 255, 3) := dk_182 0 255 (dk_at dksX3_wrong_0 3 rfl rfl)
theorem dX3_wrong_6 : decode cX3_wrong 6 = .ok (.lconst 0, 1) := dk_9 (dk_at dksX3_wrong_0 6 rfl rfl)
theorem dX3_wrong_7 : decode cX3_wrong 7 = .ok (.lstore_n 3, 1) := dk_66 (dk_at dksX3_wrong_0 7 rfl rfl)
theorem dX3_wrong_8 : decode cX3_wrong 8 = .ok (.iconst 0, 1) := dk_3 (dk_at dksX3_wrong_0 8 rfl rfl)
theorem dX3_wrong_9 : decode cX3_wrong 9 = .ok (.istore 5, 2) := dk_54 5 (dk_at dksX3_wrong_0 9 rfl rfl)
theorem dX3_wrong_11 : decode cX3_wrong 11 = .ok (.iload 5, 2) := dk_21 5 (dk_at dksX3_wrong_0 11 rfl rfl)
theorem dX3_wrong_13 : decode cX3_wrong 13 = .ok (.aload_n 0, 1) := dk_42 (dk_at dksX3_wrong_0 13 rfl rfl)
theorem dX3_wrong_14 : decode cX3_wrong 14 = .ok (.iload_n 1, 1) := dk_27 (dk_at dksX3_wrong_0 14 rfl rfl)
theorem dX3_wrong_15 : decode cX3_wrong 15 = .ok (.invokevirtual 62, 3) := dk_182 0 62 (dk_at dksX3_wrong_0 15 rfl rfl)
theorem dX3_wrong_18 : decode cX3_wrong 18 = .ok (.if_icmp .ge 30, 3) := dk_162 0 30 (dk_at dksX3_wrong_0 18 rfl rfl)
theorem dX3_wrong_21 : decode cX3_wrong 21 = .ok (.lload_n 3, 1) := dk_33 (dk_at dksX3_wrong_0 21 rfl rfl)
theorem dX3_wrong_22 : decode cX3_wrong 22 = .ok (.aload_n 0, 1) := dk_42 (dk_at dksX3_wrong_0 22 rfl rfl)
theorem dX3_wrong_23 : decode cX3_wrong 23 = .ok (.iload_n 1, 1) := dk_27 (dk_at dksX3_wrong_0 23 rfl rfl)
theorem dX3_wrong_24 : decode cX3_wrong 24 = .ok (.iload 5, 2) := dk_21 5 (dk_at dksX3_wrong_1 0 rfl rfl)
theorem dX3_wrong_26 : decode cX3_wrong 26 = .ok (.invokevirtual 82, 3) := dk_182 0 82 (dk_at dksX3_wrong_1 2 rfl rfl)
theorem dX3_wrong_29 : decode cX3_wrong 29 = .ok (.aload_n 0, 1) := dk_42 (dk_at dksX3_wrong_1 5 rfl rfl)
theorem dX3_wrong_30 : decode cX3_wrong 30 = .ok (.getfield 37, 3) := dk_180 0 37 (dk_at dksX3_wrong_1 6 rfl rfl)
theorem dX3_wrong_33 : decode cX3_wrong 33 = .ok (.iload 5, 2) := dk_21 5 (dk_at dksX3_wrong_1 9 rfl rfl)
theorem dX3_wrong_35 : decode cX3_wrong 35 = .ok (.iaload, 1) := dk_46 (dk_at dksX3_wrong_1 11 rfl rfl)
theorem dX3_wrong_36 : decode cX3_wrong 36 = .ok (.isub, 1) := dk_100 (dk_at dksX3_wrong_1 12 rfl rfl)
theorem dX3_wrong_37 : decode cX3_wrong 37 = .ok (.invokestatic 88, 3) := dk_184 0 88 (dk_at dksX3_wrong_1 13 rfl rfl)
theorem dX3_wrong_40 : decode cX3_wrong 40 = .ok (.ladd, 1) := dk_97 (dk_at dksX3_wrong_1 16 rfl rfl)
theorem dX3_wrong_41 : decode cX3_wrong 41 = .ok (.lstore_n 3, 1) := dk_66 (dk_at dksX3_wrong_1 17 rfl rfl)
theorem dX3_wrong_42 : decode cX3_wrong 42 = .ok (.iinc 5 1, 3) := dk_132 5 1 (dk_at dksX3_wrong_1 18 rfl rfl)
theorem dX3_wrong_45 : decode cX3_wrong 45 = .ok (.goto (-34), 3) := dk_167 255 222 (dk_at dksX3_wrong_1 21 rfl rfl)
theorem dX3_wrong_48 : decode cX3_wrong 48 = .ok (.lload_n 3, 1) := dk_33 (dk_at dksX3_wrong_2 0 rfl rfl)
theorem dX3_wrong_49 : decode cX3_wrong 49 = .ok (.lreturn, 1) := dk_173 (dk_at dksX3_wrong_2 1 rfl rfl)
abbrev cX3_makeOfPeaks : ByteArray := prog_11_method_89_code
def yX3_makeOfPeaks : MethodName := ⟨RX3, "makeOfPeaks", "(II)V"⟩
def dkwX3_makeOfPeaks_1 : List UInt8 := [29, 46, 3, 79, 132, 3, 1, 167, 255, 232, 42, 42, 27, 182, 0, 62, 182, 0, 252, 177]
abbrev dktX3_makeOfPeaks_1 : List UInt8 := dkwX3_makeOfPeaks_1 ++ []
def dkwX3_makeOfPeaks_0 : List UInt8 := [42, 27, 182, 0, 219, 28, 62, 29, 42, 27, 182, 0, 62, 162, 0, 21, 42, 180, 0, 28, 42, 180, 0, 34]
abbrev dktX3_makeOfPeaks_0 : List UInt8 := dkwX3_makeOfPeaks_0 ++ dktX3_makeOfPeaks_1
theorem dksX3_makeOfPeaks_0 : cX3_makeOfPeaks.data.toList.drop 0 = dktX3_makeOfPeaks_0 := by decide +kernel
theorem dksX3_makeOfPeaks_1 : cX3_makeOfPeaks.data.toList.drop 24 = dktX3_makeOfPeaks_1 := dk_seg dksX3_makeOfPeaks_0 24 rfl rfl
theorem dX3_makeOfPeaks_0 : decode cX3_makeOfPeaks 0 = .ok (.aload_n 0, 1) := dk_42 (dk_at dksX3_makeOfPeaks_0 0 rfl rfl)
theorem dX3_makeOfPeaks_1 : decode cX3_makeOfPeaks 1 = .ok (.iload_n 1, 1) := dk_27 (dk_at dksX3_makeOfPeaks_0 1 rfl rfl)
theorem dX3_makeOfPeaks_2 : decode cX3_makeOfPeaks 2 = .ok (.invokevirtual 219, 3) := dk_182 0 219 (dk_at dksX3_makeOfPeaks_0 2 rfl rfl)
theorem dX3_makeOfPeaks_5 : decode cX3_makeOfPeaks 5 = .ok (.iload_n 2, 1) := dk_28 (dk_at dksX3_makeOfPeaks_0 5 rfl rfl)
theorem dX3_makeOfPeaks_6 : decode cX3_makeOfPeaks 6 = .ok (.istore_n 3, 1) := dk_62 (dk_at dksX3_makeOfPeaks_0 6 rfl rfl)
theorem dX3_makeOfPeaks_7 : decode cX3_makeOfPeaks 7 = .ok (.iload_n 3, 1) := dk_29 (dk_at dksX3_makeOfPeaks_0 7 rfl rfl)
theorem dX3_makeOfPeaks_8 : decode cX3_makeOfPeaks 8 = .ok (.aload_n 0, 1) := dk_42 (dk_at dksX3_makeOfPeaks_0 8 rfl rfl)
theorem dX3_makeOfPeaks_9 : decode cX3_makeOfPeaks 9 = .ok (.iload_n 1, 1) := dk_27 (dk_at dksX3_makeOfPeaks_0 9 rfl rfl)
theorem dX3_makeOfPeaks_10 : decode cX3_makeOfPeaks 10 = .ok (.invokevirtual 62, 3) := dk_182 0 62 (dk_at dksX3_makeOfPeaks_0 10 rfl rfl)
theorem dX3_makeOfPeaks_13 : decode cX3_makeOfPeaks 13 = .ok (.if_icmp .ge 21, 3) := dk_162 0 21 (dk_at dksX3_makeOfPeaks_0 13 rfl rfl)
theorem dX3_makeOfPeaks_16 : decode cX3_makeOfPeaks 16 = .ok (.aload_n 0, 1) := dk_42 (dk_at dksX3_makeOfPeaks_0 16 rfl rfl)
theorem dX3_makeOfPeaks_17 : decode cX3_makeOfPeaks 17 = .ok (.getfield 28, 3) := dk_180 0 28 (dk_at dksX3_makeOfPeaks_0 17 rfl rfl)
theorem dX3_makeOfPeaks_20 : decode cX3_makeOfPeaks 20 = .ok (.aload_n 0, 1) := dk_42 (dk_at dksX3_makeOfPeaks_0 20 rfl rfl)
theorem dX3_makeOfPeaks_21 : decode cX3_makeOfPeaks 21 = .ok (.getfield 34, 3) := dk_180 0 34 (dk_at dksX3_makeOfPeaks_0 21 rfl rfl)
theorem dX3_makeOfPeaks_24 : decode cX3_makeOfPeaks 24 = .ok (.iload_n 3, 1) := dk_29 (dk_at dksX3_makeOfPeaks_1 0 rfl rfl)
theorem dX3_makeOfPeaks_25 : decode cX3_makeOfPeaks 25 = .ok (.iaload, 1) := dk_46 (dk_at dksX3_makeOfPeaks_1 1 rfl rfl)
theorem dX3_makeOfPeaks_26 : decode cX3_makeOfPeaks 26 = .ok (.iconst 0, 1) := dk_3 (dk_at dksX3_makeOfPeaks_1 2 rfl rfl)
theorem dX3_makeOfPeaks_27 : decode cX3_makeOfPeaks 27 = .ok (.iastore, 1) := dk_79 (dk_at dksX3_makeOfPeaks_1 3 rfl rfl)
theorem dX3_makeOfPeaks_28 : decode cX3_makeOfPeaks 28 = .ok (.iinc 3 1, 3) := dk_132 3 1 (dk_at dksX3_makeOfPeaks_1 4 rfl rfl)
theorem dX3_makeOfPeaks_31 : decode cX3_makeOfPeaks 31 = .ok (.goto (-24), 3) := dk_167 255 232 (dk_at dksX3_makeOfPeaks_1 7 rfl rfl)
theorem dX3_makeOfPeaks_34 : decode cX3_makeOfPeaks 34 = .ok (.aload_n 0, 1) := dk_42 (dk_at dksX3_makeOfPeaks_1 10 rfl rfl)
theorem dX3_makeOfPeaks_35 : decode cX3_makeOfPeaks 35 = .ok (.aload_n 0, 1) := dk_42 (dk_at dksX3_makeOfPeaks_1 11 rfl rfl)
theorem dX3_makeOfPeaks_36 : decode cX3_makeOfPeaks 36 = .ok (.iload_n 1, 1) := dk_27 (dk_at dksX3_makeOfPeaks_1 12 rfl rfl)
theorem dX3_makeOfPeaks_37 : decode cX3_makeOfPeaks 37 = .ok (.invokevirtual 62, 3) := dk_182 0 62 (dk_at dksX3_makeOfPeaks_1 13 rfl rfl)
theorem dX3_makeOfPeaks_40 : decode cX3_makeOfPeaks 40 = .ok (.invokevirtual 252, 3) := dk_182 0 252 (dk_at dksX3_makeOfPeaks_1 16 rfl rfl)
theorem dX3_makeOfPeaks_43 : decode cX3_makeOfPeaks 43 = .ok (.return_, 1) := dk_177 (dk_at dksX3_makeOfPeaks_1 19 rfl rfl)
abbrev cX3_synthesize : ByteArray := prog_11_method_26_code
def yX3_synthesize : MethodName := ⟨RX3, "synthesize", "(I)V"⟩
def dkwX3_synthesize_2 : List UInt8 := [27, 184, 0, 103, 184, 0, 106, 79, 132, 2, 1, 167, 255, 200, 177]
abbrev dktX3_synthesize_2 : List UInt8 := dkwX3_synthesize_2 ++ []
def dkwX3_synthesize_1 : List UInt8 := [21, 4, 46, 21, 4, 28, 184, 0, 79, 104, 96, 62, 132, 4, 1, 167, 255, 230, 42, 180, 0, 37, 28, 29]
abbrev dktX3_synthesize_1 : List UInt8 := dkwX3_synthesize_1 ++ dktX3_synthesize_2
def dkwX3_synthesize_0 : List UInt8 := [3, 61, 28, 27, 162, 0, 57, 3, 62, 3, 54, 4, 21, 4, 27, 162, 0, 26, 29, 42, 180, 0, 28]
abbrev dktX3_synthesize_0 : List UInt8 := dkwX3_synthesize_0 ++ dktX3_synthesize_1
theorem dksX3_synthesize_0 : cX3_synthesize.data.toList.drop 0 = dktX3_synthesize_0 := by decide +kernel
theorem dksX3_synthesize_1 : cX3_synthesize.data.toList.drop 23 = dktX3_synthesize_1 := dk_seg dksX3_synthesize_0 23 rfl rfl
theorem dksX3_synthesize_2 : cX3_synthesize.data.toList.drop 47 = dktX3_synthesize_2 := dk_seg dksX3_synthesize_1 24 rfl rfl
theorem dX3_synthesize_0 : decode cX3_synthesize 0 = .ok (.iconst 0, 1) := dk_3 (dk_at dksX3_synthesize_0 0 rfl rfl)
theorem dX3_synthesize_1 : decode cX3_synthesize 1 = .ok (.istore_n 2, 1) := dk_61 (dk_at dksX3_synthesize_0 1 rfl rfl)
theorem dX3_synthesize_2 : decode cX3_synthesize 2 = .ok (.iload_n 2, 1) := dk_28 (dk_at dksX3_synthesize_0 2 rfl rfl)
theorem dX3_synthesize_3 : decode cX3_synthesize 3 = .ok (.iload_n 1, 1) := dk_27 (dk_at dksX3_synthesize_0 3 rfl rfl)
theorem dX3_synthesize_4 : decode cX3_synthesize 4 = .ok (.if_icmp .ge 57, 3) := dk_162 0 57 (dk_at dksX3_synthesize_0 4 rfl rfl)
theorem dX3_synthesize_7 : decode cX3_synthesize 7 = .ok (.iconst 0, 1) := dk_3 (dk_at dksX3_synthesize_0 7 rfl rfl)
theorem dX3_synthesize_8 : decode cX3_synthesize 8 = .ok (.istore_n 3, 1) := dk_62 (dk_at dksX3_synthesize_0 8 rfl rfl)
theorem dX3_synthesize_9 : decode cX3_synthesize 9 = .ok (.iconst 0, 1) := dk_3 (dk_at dksX3_synthesize_0 9 rfl rfl)
theorem dX3_synthesize_10 : decode cX3_synthesize 10 = .ok (.istore 4, 2) := dk_54 4 (dk_at dksX3_synthesize_0 10 rfl rfl)
theorem dX3_synthesize_12 : decode cX3_synthesize 12 = .ok (.iload 4, 2) := dk_21 4 (dk_at dksX3_synthesize_0 12 rfl rfl)
theorem dX3_synthesize_14 : decode cX3_synthesize 14 = .ok (.iload_n 1, 1) := dk_27 (dk_at dksX3_synthesize_0 14 rfl rfl)
theorem dX3_synthesize_15 : decode cX3_synthesize 15 = .ok (.if_icmp .ge 26, 3) := dk_162 0 26 (dk_at dksX3_synthesize_0 15 rfl rfl)
theorem dX3_synthesize_18 : decode cX3_synthesize 18 = .ok (.iload_n 3, 1) := dk_29 (dk_at dksX3_synthesize_0 18 rfl rfl)
theorem dX3_synthesize_19 : decode cX3_synthesize 19 = .ok (.aload_n 0, 1) := dk_42 (dk_at dksX3_synthesize_0 19 rfl rfl)
theorem dX3_synthesize_20 : decode cX3_synthesize 20 = .ok (.getfield 28, 3) := dk_180 0 28 (dk_at dksX3_synthesize_0 20 rfl rfl)
theorem dX3_synthesize_23 : decode cX3_synthesize 23 = .ok (.iload 4, 2) := dk_21 4 (dk_at dksX3_synthesize_1 0 rfl rfl)
theorem dX3_synthesize_25 : decode cX3_synthesize 25 = .ok (.iaload, 1) := dk_46 (dk_at dksX3_synthesize_1 2 rfl rfl)
theorem dX3_synthesize_26 : decode cX3_synthesize 26 = .ok (.iload 4, 2) := dk_21 4 (dk_at dksX3_synthesize_1 3 rfl rfl)
theorem dX3_synthesize_28 : decode cX3_synthesize 28 = .ok (.iload_n 2, 1) := dk_28 (dk_at dksX3_synthesize_1 5 rfl rfl)
theorem dX3_synthesize_29 : decode cX3_synthesize 29 = .ok (.invokestatic 79, 3) := dk_184 0 79 (dk_at dksX3_synthesize_1 6 rfl rfl)
theorem dX3_synthesize_32 : decode cX3_synthesize 32 = .ok (.imul, 1) := dk_104 (dk_at dksX3_synthesize_1 9 rfl rfl)
theorem dX3_synthesize_33 : decode cX3_synthesize 33 = .ok (.iadd, 1) := dk_96 (dk_at dksX3_synthesize_1 10 rfl rfl)
theorem dX3_synthesize_34 : decode cX3_synthesize 34 = .ok (.istore_n 3, 1) := dk_62 (dk_at dksX3_synthesize_1 11 rfl rfl)
theorem dX3_synthesize_35 : decode cX3_synthesize 35 = .ok (.iinc 4 1, 3) := dk_132 4 1 (dk_at dksX3_synthesize_1 12 rfl rfl)
theorem dX3_synthesize_38 : decode cX3_synthesize 38 = .ok (.goto (-26), 3) := dk_167 255 230 (dk_at dksX3_synthesize_1 15 rfl rfl)
theorem dX3_synthesize_41 : decode cX3_synthesize 41 = .ok (.aload_n 0, 1) := dk_42 (dk_at dksX3_synthesize_1 18 rfl rfl)
theorem dX3_synthesize_42 : decode cX3_synthesize 42 = .ok (.getfield 37, 3) := dk_180 0 37 (dk_at dksX3_synthesize_1 19 rfl rfl)
theorem dX3_synthesize_45 : decode cX3_synthesize 45 = .ok (.iload_n 2, 1) := dk_28 (dk_at dksX3_synthesize_1 22 rfl rfl)
theorem dX3_synthesize_46 : decode cX3_synthesize 46 = .ok (.iload_n 3, 1) := dk_29 (dk_at dksX3_synthesize_1 23 rfl rfl)
theorem dX3_synthesize_47 : decode cX3_synthesize 47 = .ok (.iload_n 1, 1) := dk_27 (dk_at dksX3_synthesize_2 0 rfl rfl)
theorem dX3_synthesize_48 : decode cX3_synthesize 48 = .ok (.invokestatic 103, 3) := dk_184 0 103 (dk_at dksX3_synthesize_2 1 rfl rfl)
theorem dX3_synthesize_51 : decode cX3_synthesize 51 = .ok (.invokestatic 106, 3) := dk_184 0 106 (dk_at dksX3_synthesize_2 4 rfl rfl)
theorem dX3_synthesize_54 : decode cX3_synthesize 54 = .ok (.iastore, 1) := dk_79 (dk_at dksX3_synthesize_2 7 rfl rfl)
theorem dX3_synthesize_55 : decode cX3_synthesize 55 = .ok (.iinc 2 1, 3) := dk_132 2 1 (dk_at dksX3_synthesize_2 8 rfl rfl)
theorem dX3_synthesize_58 : decode cX3_synthesize 58 = .ok (.goto (-56), 3) := dk_167 255 200 (dk_at dksX3_synthesize_2 11 rfl rfl)
theorem dX3_synthesize_61 : decode cX3_synthesize 61 = .ok (.return_, 1) := dk_177 (dk_at dksX3_synthesize_2 14 rfl rfl)
abbrev cX3_clipped : ByteArray := prog_11_method_17_code
def yX3_clipped : MethodName := ⟨RX3, "clipped", "(I)I"⟩
def dkwX3_clipped_0 : List UInt8 := [17, 216, 241, 17, 39, 15, 26, 184, 0, 65, 184, 0, 71, 172]
abbrev dktX3_clipped_0 : List UInt8 := dkwX3_clipped_0 ++ []
theorem dksX3_clipped_0 : cX3_clipped.data.toList.drop 0 = dktX3_clipped_0 := by decide +kernel
theorem dX3_clipped_0 : decode cX3_clipped 0 = .ok (.sipush (-9999), 3) := dk_17 216 241 (dk_at dksX3_clipped_0 0 rfl rfl)
theorem dX3_clipped_3 : decode cX3_clipped 3 = .ok (.sipush 9999, 3) := dk_17 39 15 (dk_at dksX3_clipped_0 3 rfl rfl)
theorem dX3_clipped_6 : decode cX3_clipped 6 = .ok (.iload_n 0, 1) := dk_26 (dk_at dksX3_clipped_0 6 rfl rfl)
theorem dX3_clipped_7 : decode cX3_clipped 7 = .ok (.invokestatic 65, 3) := dk_184 0 65 (dk_at dksX3_clipped_0 7 rfl rfl)
theorem dX3_clipped_10 : decode cX3_clipped 10 = .ok (.invokestatic 71, 3) := dk_184 0 71 (dk_at dksX3_clipped_0 10 rfl rfl)
theorem dX3_clipped_13 : decode cX3_clipped 13 = .ok (.ireturn, 1) := dk_172 (dk_at dksX3_clipped_0 13 rfl rfl)
abbrev cX3_addSilence : ByteArray := prog_11_method_94_code
def yX3_addSilence : MethodName := ⟨RX3, "addSilence", "(I)I"⟩
def dkwX3_addSilence_4 : List UInt8 := [4, 100, 172]
abbrev dktX3_addSilence_4 : List UInt8 := dkwX3_addSilence_4 ++ []
def dkwX3_addSilence_3 : List UInt8 := [96, 27, 79, 42, 180, 0, 7, 3, 92, 46, 4, 96, 79, 42, 3, 181, 0, 109, 42, 180, 0, 7, 3, 46]
abbrev dktX3_addSilence_3 : List UInt8 := dkwX3_addSilence_3 ++ dktX3_addSilence_4
def dkwX3_addSilence_2 : List UInt8 := [42, 3, 42, 180, 0, 109, 182, 0, 154, 42, 180, 0, 7, 42, 180, 0, 7, 3, 46, 184, 0, 58, 16, 7]
abbrev dktX3_addSilence_2 : List UInt8 := dkwX3_addSilence_2 ++ dktX3_addSilence_3
def dkwX3_addSilence_1 : List UInt8 := [3, 46, 16, 6, 162, 0, 7, 4, 167, 0, 4, 3, 182, 0, 187, 154, 0, 5, 2, 172, 42, 182, 1, 12]
abbrev dktX3_addSilence_1 : List UInt8 := dkwX3_addSilence_1 ++ dktX3_addSilence_2
def dkwX3_addSilence_0 : List UInt8 := [42, 42, 182, 1, 9, 153, 0, 14, 27, 184, 0, 160, 153, 0, 7, 4, 167, 0, 4, 3, 42, 180, 0, 7]
abbrev dktX3_addSilence_0 : List UInt8 := dkwX3_addSilence_0 ++ dktX3_addSilence_1
theorem dksX3_addSilence_0 : cX3_addSilence.data.toList.drop 0 = dktX3_addSilence_0 := by decide +kernel
theorem dksX3_addSilence_1 : cX3_addSilence.data.toList.drop 24 = dktX3_addSilence_1 := dk_seg dksX3_addSilence_0 24 rfl rfl
theorem dksX3_addSilence_2 : cX3_addSilence.data.toList.drop 48 = dktX3_addSilence_2 := dk_seg dksX3_addSilence_1 24 rfl rfl
theorem dksX3_addSilence_3 : cX3_addSilence.data.toList.drop 72 = dktX3_addSilence_3 := dk_seg dksX3_addSilence_2 24 rfl rfl
theorem dksX3_addSilence_4 : cX3_addSilence.data.toList.drop 96 = dktX3_addSilence_4 := dk_seg dksX3_addSilence_3 24 rfl rfl
theorem dX3_addSilence_0 : decode cX3_addSilence 0 = .ok (.aload_n 0, 1) := dk_42 (dk_at dksX3_addSilence_0 0 rfl rfl)
theorem dX3_addSilence_1 : decode cX3_addSilence 1 = .ok (.aload_n 0, 1) := dk_42 (dk_at dksX3_addSilence_0 1 rfl rfl)
theorem dX3_addSilence_2 : decode cX3_addSilence 2 = .ok (.invokevirtual 265, 3) := dk_182 1 9 (dk_at dksX3_addSilence_0 2 rfl rfl)
theorem dX3_addSilence_5 : decode cX3_addSilence 5 = .ok (.ifCond .eq 14, 3) := dk_153 0 14 (dk_at dksX3_addSilence_0 5 rfl rfl)
theorem dX3_addSilence_8 : decode cX3_addSilence 8 = .ok (.iload_n 1, 1) := dk_27 (dk_at dksX3_addSilence_0 8 rfl rfl)
theorem dX3_addSilence_9 : decode cX3_addSilence 9 = .ok (.invokestatic 160, 3) := dk_184 0 160 (dk_at dksX3_addSilence_0 9 rfl rfl)
theorem dX3_addSilence_12 : decode cX3_addSilence 12 = .ok (.ifCond .eq 7, 3) := dk_153 0 7 (dk_at dksX3_addSilence_0 12 rfl rfl)
theorem dX3_addSilence_15 : decode cX3_addSilence 15 = .ok (.iconst 1, 1) := dk_4 (dk_at dksX3_addSilence_0 15 rfl rfl)
theorem dX3_addSilence_16 : decode cX3_addSilence 16 = .ok (.goto 4, 3) := dk_167 0 4 (dk_at dksX3_addSilence_0 16 rfl rfl)
theorem dX3_addSilence_19 : decode cX3_addSilence 19 = .ok (.iconst 0, 1) := dk_3 (dk_at dksX3_addSilence_0 19 rfl rfl)
theorem dX3_addSilence_20 : decode cX3_addSilence 20 = .ok (.aload_n 0, 1) := dk_42 (dk_at dksX3_addSilence_0 20 rfl rfl)
theorem dX3_addSilence_21 : decode cX3_addSilence 21 = .ok (.getfield 7, 3) := dk_180 0 7 (dk_at dksX3_addSilence_0 21 rfl rfl)
theorem dX3_addSilence_24 : decode cX3_addSilence 24 = .ok (.iconst 0, 1) := dk_3 (dk_at dksX3_addSilence_1 0 rfl rfl)
theorem dX3_addSilence_25 : decode cX3_addSilence 25 = .ok (.iaload, 1) := dk_46 (dk_at dksX3_addSilence_1 1 rfl rfl)
theorem dX3_addSilence_26 : decode cX3_addSilence 26 = .ok (.bipush 6, 2) := dk_16 6 (dk_at dksX3_addSilence_1 2 rfl rfl)
theorem dX3_addSilence_28 : decode cX3_addSilence 28 = .ok (.if_icmp .ge 7, 3) := dk_162 0 7 (dk_at dksX3_addSilence_1 4 rfl rfl)
theorem dX3_addSilence_31 : decode cX3_addSilence 31 = .ok (.iconst 1, 1) := dk_4 (dk_at dksX3_addSilence_1 7 rfl rfl)
theorem dX3_addSilence_32 : decode cX3_addSilence 32 = .ok (.goto 4, 3) := dk_167 0 4 (dk_at dksX3_addSilence_1 8 rfl rfl)
theorem dX3_addSilence_35 : decode cX3_addSilence 35 = .ok (.iconst 0, 1) := dk_3 (dk_at dksX3_addSilence_1 11 rfl rfl)
theorem dX3_addSilence_36 : decode cX3_addSilence 36 = .ok (.invokevirtual 187, 3) := dk_182 0 187 (dk_at dksX3_addSilence_1 12 rfl rfl)
theorem dX3_addSilence_39 : decode cX3_addSilence 39 = .ok (.ifCond .ne 5, 3) := dk_154 0 5 (dk_at dksX3_addSilence_1 15 rfl rfl)
theorem dX3_addSilence_42 : decode cX3_addSilence 42 = .ok (.iconst (-1), 1) := dk_2 (dk_at dksX3_addSilence_1 18 rfl rfl)
theorem dX3_addSilence_43 : decode cX3_addSilence 43 = .ok (.ireturn, 1) := dk_172 (dk_at dksX3_addSilence_1 19 rfl rfl)
theorem dX3_addSilence_44 : decode cX3_addSilence 44 = .ok (.aload_n 0, 1) := dk_42 (dk_at dksX3_addSilence_1 20 rfl rfl)
theorem dX3_addSilence_45 : decode cX3_addSilence 45 = .ok (.invokevirtual 268, 3) := dk_182 1 12 (dk_at dksX3_addSilence_1 21 rfl rfl)
theorem dX3_addSilence_48 : decode cX3_addSilence 48 = .ok (.aload_n 0, 1) := dk_42 (dk_at dksX3_addSilence_2 0 rfl rfl)
theorem dX3_addSilence_49 : decode cX3_addSilence 49 = .ok (.iconst 0, 1) := dk_3 (dk_at dksX3_addSilence_2 1 rfl rfl)
theorem dX3_addSilence_50 : decode cX3_addSilence 50 = .ok (.aload_n 0, 1) := dk_42 (dk_at dksX3_addSilence_2 2 rfl rfl)
theorem dX3_addSilence_51 : decode cX3_addSilence 51 = .ok (.getfield 109, 3) := dk_180 0 109 (dk_at dksX3_addSilence_2 3 rfl rfl)
theorem dX3_addSilence_54 : decode cX3_addSilence 54 = .ok (.invokevirtual 154, 3) := dk_182 0 154 (dk_at dksX3_addSilence_2 6 rfl rfl)
theorem dX3_addSilence_57 : decode cX3_addSilence 57 = .ok (.aload_n 0, 1) := dk_42 (dk_at dksX3_addSilence_2 9 rfl rfl)
theorem dX3_addSilence_58 : decode cX3_addSilence 58 = .ok (.getfield 7, 3) := dk_180 0 7 (dk_at dksX3_addSilence_2 10 rfl rfl)
theorem dX3_addSilence_61 : decode cX3_addSilence 61 = .ok (.aload_n 0, 1) := dk_42 (dk_at dksX3_addSilence_2 13 rfl rfl)
theorem dX3_addSilence_62 : decode cX3_addSilence 62 = .ok (.getfield 7, 3) := dk_180 0 7 (dk_at dksX3_addSilence_2 14 rfl rfl)
theorem dX3_addSilence_65 : decode cX3_addSilence 65 = .ok (.iconst 0, 1) := dk_3 (dk_at dksX3_addSilence_2 17 rfl rfl)
theorem dX3_addSilence_66 : decode cX3_addSilence 66 = .ok (.iaload, 1) := dk_46 (dk_at dksX3_addSilence_2 18 rfl rfl)
theorem dX3_addSilence_67 : decode cX3_addSilence 67 = .ok (.invokestatic 58, 3) := dk_184 0 58 (dk_at dksX3_addSilence_2 19 rfl rfl)
theorem dX3_addSilence_70 : decode cX3_addSilence 70 = .ok (.bipush 7, 2) := dk_16 7 (dk_at dksX3_addSilence_2 22 rfl rfl)
theorem dX3_addSilence_72 : decode cX3_addSilence 72 = .ok (.iadd, 1) := dk_96 (dk_at dksX3_addSilence_3 0 rfl rfl)
theorem dX3_addSilence_73 : decode cX3_addSilence 73 = .ok (.iload_n 1, 1) := dk_27 (dk_at dksX3_addSilence_3 1 rfl rfl)
theorem dX3_addSilence_74 : decode cX3_addSilence 74 = .ok (.iastore, 1) := dk_79 (dk_at dksX3_addSilence_3 2 rfl rfl)
theorem dX3_addSilence_75 : decode cX3_addSilence 75 = .ok (.aload_n 0, 1) := dk_42 (dk_at dksX3_addSilence_3 3 rfl rfl)
theorem dX3_addSilence_76 : decode cX3_addSilence 76 = .ok (.getfield 7, 3) := dk_180 0 7 (dk_at dksX3_addSilence_3 4 rfl rfl)
theorem dX3_addSilence_79 : decode cX3_addSilence 79 = .ok (.iconst 0, 1) := dk_3 (dk_at dksX3_addSilence_3 7 rfl rfl)
theorem dX3_addSilence_80 : decode cX3_addSilence 80 = .ok (.dup2, 1) := dk_92 (dk_at dksX3_addSilence_3 8 rfl rfl)
theorem dX3_addSilence_81 : decode cX3_addSilence 81 = .ok (.iaload, 1) := dk_46 (dk_at dksX3_addSilence_3 9 rfl rfl)
theorem dX3_addSilence_82 : decode cX3_addSilence 82 = .ok (.iconst 1, 1) := dk_4 (dk_at dksX3_addSilence_3 10 rfl rfl)
theorem dX3_addSilence_83 : decode cX3_addSilence 83 = .ok (.iadd, 1) := dk_96 (dk_at dksX3_addSilence_3 11 rfl rfl)
theorem dX3_addSilence_84 : decode cX3_addSilence 84 = .ok (.iastore, 1) := dk_79 (dk_at dksX3_addSilence_3 12 rfl rfl)
theorem dX3_addSilence_85 : decode cX3_addSilence 85 = .ok (.aload_n 0, 1) := dk_42 (dk_at dksX3_addSilence_3 13 rfl rfl)
theorem dX3_addSilence_86 : decode cX3_addSilence 86 = .ok (.iconst 0, 1) := dk_3 (dk_at dksX3_addSilence_3 14 rfl rfl)
theorem dX3_addSilence_87 : decode cX3_addSilence 87 = .ok (.putfield 109, 3) := dk_181 0 109 (dk_at dksX3_addSilence_3 15 rfl rfl)
theorem dX3_addSilence_90 : decode cX3_addSilence 90 = .ok (.aload_n 0, 1) := dk_42 (dk_at dksX3_addSilence_3 18 rfl rfl)
theorem dX3_addSilence_91 : decode cX3_addSilence 91 = .ok (.getfield 7, 3) := dk_180 0 7 (dk_at dksX3_addSilence_3 19 rfl rfl)
theorem dX3_addSilence_94 : decode cX3_addSilence 94 = .ok (.iconst 0, 1) := dk_3 (dk_at dksX3_addSilence_3 22 rfl rfl)
theorem dX3_addSilence_95 : decode cX3_addSilence 95 = .ok (.iaload, 1) := dk_46 (dk_at dksX3_addSilence_3 23 rfl rfl)
theorem dX3_addSilence_96 : decode cX3_addSilence 96 = .ok (.iconst 1, 1) := dk_4 (dk_at dksX3_addSilence_4 0 rfl rfl)
theorem dX3_addSilence_97 : decode cX3_addSilence 97 = .ok (.isub, 1) := dk_100 (dk_at dksX3_addSilence_4 1 rfl rfl)
theorem dX3_addSilence_98 : decode cX3_addSilence 98 = .ok (.ireturn, 1) := dk_172 (dk_at dksX3_addSilence_4 2 rfl rfl)
abbrev cX3_isNewName : ByteArray := prog_11_method_93_code
def yX3_isNewName : MethodName := ⟨RX3, "isNewName", "()Z"⟩
def dkwX3_isNewName_2 : List UInt8 := [153, 0, 20, 42, 3, 42, 180, 0, 109, 182, 0, 151, 2, 160, 0, 7, 4, 167, 0, 4, 3, 172]
abbrev dktX3_isNewName_2 : List UInt8 := dkwX3_isNewName_2 ++ []
def dkwX3_isNewName_1 : List UInt8 := [162, 0, 23, 42, 180, 0, 22, 28, 46, 16, 97, 16, 122, 184, 0, 50, 60, 132, 2, 1, 167, 255, 227, 27]
abbrev dktX3_isNewName_1 : List UInt8 := dkwX3_isNewName_1 ++ dktX3_isNewName_2
def dkwX3_isNewName_0 : List UInt8 := [42, 180, 0, 109, 4, 16, 6, 184, 0, 50, 60, 3, 61, 27, 153, 0, 31, 28, 42, 180, 0, 109]
abbrev dktX3_isNewName_0 : List UInt8 := dkwX3_isNewName_0 ++ dktX3_isNewName_1
theorem dksX3_isNewName_0 : cX3_isNewName.data.toList.drop 0 = dktX3_isNewName_0 := by decide +kernel
theorem dksX3_isNewName_1 : cX3_isNewName.data.toList.drop 22 = dktX3_isNewName_1 := dk_seg dksX3_isNewName_0 22 rfl rfl
theorem dksX3_isNewName_2 : cX3_isNewName.data.toList.drop 46 = dktX3_isNewName_2 := dk_seg dksX3_isNewName_1 24 rfl rfl
theorem dX3_isNewName_0 : decode cX3_isNewName 0 = .ok (.aload_n 0, 1) := dk_42 (dk_at dksX3_isNewName_0 0 rfl rfl)
theorem dX3_isNewName_1 : decode cX3_isNewName 1 = .ok (.getfield 109, 3) := dk_180 0 109 (dk_at dksX3_isNewName_0 1 rfl rfl)
theorem dX3_isNewName_4 : decode cX3_isNewName 4 = .ok (.iconst 1, 1) := dk_4 (dk_at dksX3_isNewName_0 4 rfl rfl)
theorem dX3_isNewName_5 : decode cX3_isNewName 5 = .ok (.bipush 6, 2) := dk_16 6 (dk_at dksX3_isNewName_0 5 rfl rfl)
theorem dX3_isNewName_7 : decode cX3_isNewName 7 = .ok (.invokestatic 50, 3) := dk_184 0 50 (dk_at dksX3_isNewName_0 7 rfl rfl)
theorem dX3_isNewName_10 : decode cX3_isNewName 10 = .ok (.istore_n 1, 1) := dk_60 (dk_at dksX3_isNewName_0 10 rfl rfl)
theorem dX3_isNewName_11 : decode cX3_isNewName 11 = .ok (.iconst 0, 1) := dk_3 (dk_at dksX3_isNewName_0 11 rfl rfl)
theorem dX3_isNewName_12 : decode cX3_isNewName 12 = .ok (.istore_n 2, 1) := dk_61 (dk_at dksX3_isNewName_0 12 rfl rfl)
theorem dX3_isNewName_13 : decode cX3_isNewName 13 = .ok (.iload_n 1, 1) := dk_27 (dk_at dksX3_isNewName_0 13 rfl rfl)
theorem dX3_isNewName_14 : decode cX3_isNewName 14 = .ok (.ifCond .eq 31, 3) := dk_153 0 31 (dk_at dksX3_isNewName_0 14 rfl rfl)
theorem dX3_isNewName_17 : decode cX3_isNewName 17 = .ok (.iload_n 2, 1) := dk_28 (dk_at dksX3_isNewName_0 17 rfl rfl)
theorem dX3_isNewName_18 : decode cX3_isNewName 18 = .ok (.aload_n 0, 1) := dk_42 (dk_at dksX3_isNewName_0 18 rfl rfl)
theorem dX3_isNewName_19 : decode cX3_isNewName 19 = .ok (.getfield 109, 3) := dk_180 0 109 (dk_at dksX3_isNewName_0 19 rfl rfl)
theorem dX3_isNewName_22 : decode cX3_isNewName 22 = .ok (.if_icmp .ge 23, 3) := dk_162 0 23 (dk_at dksX3_isNewName_1 0 rfl rfl)
theorem dX3_isNewName_25 : decode cX3_isNewName 25 = .ok (.aload_n 0, 1) := dk_42 (dk_at dksX3_isNewName_1 3 rfl rfl)
theorem dX3_isNewName_26 : decode cX3_isNewName 26 = .ok (.getfield 22, 3) := dk_180 0 22 (dk_at dksX3_isNewName_1 4 rfl rfl)
theorem dX3_isNewName_29 : decode cX3_isNewName 29 = .ok (.iload_n 2, 1) := dk_28 (dk_at dksX3_isNewName_1 7 rfl rfl)
theorem dX3_isNewName_30 : decode cX3_isNewName 30 = .ok (.iaload, 1) := dk_46 (dk_at dksX3_isNewName_1 8 rfl rfl)
theorem dX3_isNewName_31 : decode cX3_isNewName 31 = .ok (.bipush 97, 2) := dk_16 97 (dk_at dksX3_isNewName_1 9 rfl rfl)
theorem dX3_isNewName_33 : decode cX3_isNewName 33 = .ok (.bipush 122, 2) := dk_16 122 (dk_at dksX3_isNewName_1 11 rfl rfl)
theorem dX3_isNewName_35 : decode cX3_isNewName 35 = .ok (.invokestatic 50, 3) := dk_184 0 50 (dk_at dksX3_isNewName_1 13 rfl rfl)
theorem dX3_isNewName_38 : decode cX3_isNewName 38 = .ok (.istore_n 1, 1) := dk_60 (dk_at dksX3_isNewName_1 16 rfl rfl)
theorem dX3_isNewName_39 : decode cX3_isNewName 39 = .ok (.iinc 2 1, 3) := dk_132 2 1 (dk_at dksX3_isNewName_1 17 rfl rfl)
theorem dX3_isNewName_42 : decode cX3_isNewName 42 = .ok (.goto (-29), 3) := dk_167 255 227 (dk_at dksX3_isNewName_1 20 rfl rfl)
theorem dX3_isNewName_45 : decode cX3_isNewName 45 = .ok (.iload_n 1, 1) := dk_27 (dk_at dksX3_isNewName_1 23 rfl rfl)
theorem dX3_isNewName_46 : decode cX3_isNewName 46 = .ok (.ifCond .eq 20, 3) := dk_153 0 20 (dk_at dksX3_isNewName_2 0 rfl rfl)
theorem dX3_isNewName_49 : decode cX3_isNewName 49 = .ok (.aload_n 0, 1) := dk_42 (dk_at dksX3_isNewName_2 3 rfl rfl)
theorem dX3_isNewName_50 : decode cX3_isNewName 50 = .ok (.iconst 0, 1) := dk_3 (dk_at dksX3_isNewName_2 4 rfl rfl)
theorem dX3_isNewName_51 : decode cX3_isNewName 51 = .ok (.aload_n 0, 1) := dk_42 (dk_at dksX3_isNewName_2 5 rfl rfl)
theorem dX3_isNewName_52 : decode cX3_isNewName 52 = .ok (.getfield 109, 3) := dk_180 0 109 (dk_at dksX3_isNewName_2 6 rfl rfl)
theorem dX3_isNewName_55 : decode cX3_isNewName 55 = .ok (.invokevirtual 151, 3) := dk_182 0 151 (dk_at dksX3_isNewName_2 9 rfl rfl)
theorem dX3_isNewName_58 : decode cX3_isNewName 58 = .ok (.iconst (-1), 1) := dk_2 (dk_at dksX3_isNewName_2 12 rfl rfl)
theorem dX3_isNewName_59 : decode cX3_isNewName 59 = .ok (.if_icmp .ne 7, 3) := dk_160 0 7 (dk_at dksX3_isNewName_2 13 rfl rfl)
theorem dX3_isNewName_62 : decode cX3_isNewName 62 = .ok (.iconst 1, 1) := dk_4 (dk_at dksX3_isNewName_2 16 rfl rfl)
theorem dX3_isNewName_63 : decode cX3_isNewName 63 = .ok (.goto 4, 3) := dk_167 0 4 (dk_at dksX3_isNewName_2 17 rfl rfl)
theorem dX3_isNewName_66 : decode cX3_isNewName 66 = .ok (.iconst 0, 1) := dk_3 (dk_at dksX3_isNewName_2 20 rfl rfl)
theorem dX3_isNewName_67 : decode cX3_isNewName 67 = .ok (.ireturn, 1) := dk_172 (dk_at dksX3_isNewName_2 21 rfl rfl)
abbrev cX3_remember : ByteArray := prog_11_method_8_code
def yX3_remember : MethodName := ⟨RX3, "remember", "()V"⟩
def dkwX3_remember_4 : List UInt8 := [181, 0, 47, 177]
abbrev dktX3_remember_4 : List UInt8 := dkwX3_remember_4 ++ []
def dkwX3_remember_3 : List UInt8 := [104, 27, 96, 42, 180, 0, 7, 27, 46, 79, 132, 1, 1, 167, 255, 225, 42, 89, 180, 0, 47, 4, 96]
abbrev dktX3_remember_3 : List UInt8 := dkwX3_remember_3 ++ dktX3_remember_4
def dkwX3_remember_2 : List UInt8 := [100, 181, 0, 47, 3, 60, 27, 17, 1, 177, 162, 0, 30, 42, 180, 0, 16, 17, 1, 177, 42, 180, 0, 47]
abbrev dktX3_remember_2 : List UInt8 := dkwX3_remember_2 ++ dktX3_remember_3
def dkwX3_remember_1 : List UInt8 := [27, 17, 1, 177, 100, 42, 180, 0, 16, 27, 46, 79, 132, 1, 1, 167, 255, 230, 42, 89, 180, 0, 47, 4]
abbrev dktX3_remember_1 : List UInt8 := dkwX3_remember_1 ++ dktX3_remember_2
def dkwX3_remember_0 : List UInt8 := [42, 180, 0, 47, 16, 8, 160, 0, 46, 17, 1, 177, 60, 27, 17, 13, 136, 162, 0, 25, 42, 180, 0, 16]
abbrev dktX3_remember_0 : List UInt8 := dkwX3_remember_0 ++ dktX3_remember_1
theorem dksX3_remember_0 : cX3_remember.data.toList.drop 0 = dktX3_remember_0 := by decide +kernel
theorem dksX3_remember_1 : cX3_remember.data.toList.drop 24 = dktX3_remember_1 := dk_seg dksX3_remember_0 24 rfl rfl
theorem dksX3_remember_2 : cX3_remember.data.toList.drop 48 = dktX3_remember_2 := dk_seg dksX3_remember_1 24 rfl rfl
theorem dksX3_remember_3 : cX3_remember.data.toList.drop 72 = dktX3_remember_3 := dk_seg dksX3_remember_2 24 rfl rfl
theorem dksX3_remember_4 : cX3_remember.data.toList.drop 95 = dktX3_remember_4 := dk_seg dksX3_remember_3 23 rfl rfl
theorem dX3_remember_0 : decode cX3_remember 0 = .ok (.aload_n 0, 1) := dk_42 (dk_at dksX3_remember_0 0 rfl rfl)
theorem dX3_remember_1 : decode cX3_remember 1 = .ok (.getfield 47, 3) := dk_180 0 47 (dk_at dksX3_remember_0 1 rfl rfl)
theorem dX3_remember_4 : decode cX3_remember 4 = .ok (.bipush 8, 2) := dk_16 8 (dk_at dksX3_remember_0 4 rfl rfl)
theorem dX3_remember_6 : decode cX3_remember 6 = .ok (.if_icmp .ne 46, 3) := dk_160 0 46 (dk_at dksX3_remember_0 6 rfl rfl)
theorem dX3_remember_9 : decode cX3_remember 9 = .ok (.sipush 433, 3) := dk_17 1 177 (dk_at dksX3_remember_0 9 rfl rfl)
theorem dX3_remember_12 : decode cX3_remember 12 = .ok (.istore_n 1, 1) := dk_60 (dk_at dksX3_remember_0 12 rfl rfl)
theorem dX3_remember_13 : decode cX3_remember 13 = .ok (.iload_n 1, 1) := dk_27 (dk_at dksX3_remember_0 13 rfl rfl)
theorem dX3_remember_14 : decode cX3_remember 14 = .ok (.sipush 3464, 3) := dk_17 13 136 (dk_at dksX3_remember_0 14 rfl rfl)
theorem dX3_remember_17 : decode cX3_remember 17 = .ok (.if_icmp .ge 25, 3) := dk_162 0 25 (dk_at dksX3_remember_0 17 rfl rfl)
theorem dX3_remember_20 : decode cX3_remember 20 = .ok (.aload_n 0, 1) := dk_42 (dk_at dksX3_remember_0 20 rfl rfl)
theorem dX3_remember_21 : decode cX3_remember 21 = .ok (.getfield 16, 3) := dk_180 0 16 (dk_at dksX3_remember_0 21 rfl rfl)
theorem dX3_remember_24 : decode cX3_remember 24 = .ok (.iload_n 1, 1) := dk_27 (dk_at dksX3_remember_1 0 rfl rfl)
theorem dX3_remember_25 : decode cX3_remember 25 = .ok (.sipush 433, 3) := dk_17 1 177 (dk_at dksX3_remember_1 1 rfl rfl)
theorem dX3_remember_28 : decode cX3_remember 28 = .ok (.isub, 1) := dk_100 (dk_at dksX3_remember_1 4 rfl rfl)
theorem dX3_remember_29 : decode cX3_remember 29 = .ok (.aload_n 0, 1) := dk_42 (dk_at dksX3_remember_1 5 rfl rfl)
theorem dX3_remember_30 : decode cX3_remember 30 = .ok (.getfield 16, 3) := dk_180 0 16 (dk_at dksX3_remember_1 6 rfl rfl)
theorem dX3_remember_33 : decode cX3_remember 33 = .ok (.iload_n 1, 1) := dk_27 (dk_at dksX3_remember_1 9 rfl rfl)
theorem dX3_remember_34 : decode cX3_remember 34 = .ok (.iaload, 1) := dk_46 (dk_at dksX3_remember_1 10 rfl rfl)
theorem dX3_remember_35 : decode cX3_remember 35 = .ok (.iastore, 1) := dk_79 (dk_at dksX3_remember_1 11 rfl rfl)
theorem dX3_remember_36 : decode cX3_remember 36 = .ok (.iinc 1 1, 3) := dk_132 1 1 (dk_at dksX3_remember_1 12 rfl rfl)
theorem dX3_remember_39 : decode cX3_remember 39 = .ok (.goto (-26), 3) := dk_167 255 230 (dk_at dksX3_remember_1 15 rfl rfl)
theorem dX3_remember_42 : decode cX3_remember 42 = .ok (.aload_n 0, 1) := dk_42 (dk_at dksX3_remember_1 18 rfl rfl)
theorem dX3_remember_43 : decode cX3_remember 43 = .ok (.dup, 1) := dk_89 (dk_at dksX3_remember_1 19 rfl rfl)
theorem dX3_remember_44 : decode cX3_remember 44 = .ok (.getfield 47, 3) := dk_180 0 47 (dk_at dksX3_remember_1 20 rfl rfl)
theorem dX3_remember_47 : decode cX3_remember 47 = .ok (.iconst 1, 1) := dk_4 (dk_at dksX3_remember_1 23 rfl rfl)
theorem dX3_remember_48 : decode cX3_remember 48 = .ok (.isub, 1) := dk_100 (dk_at dksX3_remember_2 0 rfl rfl)
theorem dX3_remember_49 : decode cX3_remember 49 = .ok (.putfield 47, 3) := dk_181 0 47 (dk_at dksX3_remember_2 1 rfl rfl)
theorem dX3_remember_52 : decode cX3_remember 52 = .ok (.iconst 0, 1) := dk_3 (dk_at dksX3_remember_2 4 rfl rfl)
theorem dX3_remember_53 : decode cX3_remember 53 = .ok (.istore_n 1, 1) := dk_60 (dk_at dksX3_remember_2 5 rfl rfl)
theorem dX3_remember_54 : decode cX3_remember 54 = .ok (.iload_n 1, 1) := dk_27 (dk_at dksX3_remember_2 6 rfl rfl)
theorem dX3_remember_55 : decode cX3_remember 55 = .ok (.sipush 433, 3) := dk_17 1 177 (dk_at dksX3_remember_2 7 rfl rfl)
theorem dX3_remember_58 : decode cX3_remember 58 = .ok (.if_icmp .ge 30, 3) := dk_162 0 30 (dk_at dksX3_remember_2 10 rfl rfl)
theorem dX3_remember_61 : decode cX3_remember 61 = .ok (.aload_n 0, 1) := dk_42 (dk_at dksX3_remember_2 13 rfl rfl)
theorem dX3_remember_62 : decode cX3_remember 62 = .ok (.getfield 16, 3) := dk_180 0 16 (dk_at dksX3_remember_2 14 rfl rfl)
theorem dX3_remember_65 : decode cX3_remember 65 = .ok (.sipush 433, 3) := dk_17 1 177 (dk_at dksX3_remember_2 17 rfl rfl)
theorem dX3_remember_68 : decode cX3_remember 68 = .ok (.aload_n 0, 1) := dk_42 (dk_at dksX3_remember_2 20 rfl rfl)
theorem dX3_remember_69 : decode cX3_remember 69 = .ok (.getfield 47, 3) := dk_180 0 47 (dk_at dksX3_remember_2 21 rfl rfl)
theorem dX3_remember_72 : decode cX3_remember 72 = .ok (.imul, 1) := dk_104 (dk_at dksX3_remember_3 0 rfl rfl)
theorem dX3_remember_73 : decode cX3_remember 73 = .ok (.iload_n 1, 1) := dk_27 (dk_at dksX3_remember_3 1 rfl rfl)
theorem dX3_remember_74 : decode cX3_remember 74 = .ok (.iadd, 1) := dk_96 (dk_at dksX3_remember_3 2 rfl rfl)
theorem dX3_remember_75 : decode cX3_remember 75 = .ok (.aload_n 0, 1) := dk_42 (dk_at dksX3_remember_3 3 rfl rfl)
theorem dX3_remember_76 : decode cX3_remember 76 = .ok (.getfield 7, 3) := dk_180 0 7 (dk_at dksX3_remember_3 4 rfl rfl)
theorem dX3_remember_79 : decode cX3_remember 79 = .ok (.iload_n 1, 1) := dk_27 (dk_at dksX3_remember_3 7 rfl rfl)
theorem dX3_remember_80 : decode cX3_remember 80 = .ok (.iaload, 1) := dk_46 (dk_at dksX3_remember_3 8 rfl rfl)
theorem dX3_remember_81 : decode cX3_remember 81 = .ok (.iastore, 1) := dk_79 (dk_at dksX3_remember_3 9 rfl rfl)
theorem dX3_remember_82 : decode cX3_remember 82 = .ok (.iinc 1 1, 3) := dk_132 1 1 (dk_at dksX3_remember_3 10 rfl rfl)
theorem dX3_remember_85 : decode cX3_remember 85 = .ok (.goto (-31), 3) := dk_167 255 225 (dk_at dksX3_remember_3 13 rfl rfl)
theorem dX3_remember_88 : decode cX3_remember 88 = .ok (.aload_n 0, 1) := dk_42 (dk_at dksX3_remember_3 16 rfl rfl)
theorem dX3_remember_89 : decode cX3_remember 89 = .ok (.dup, 1) := dk_89 (dk_at dksX3_remember_3 17 rfl rfl)
theorem dX3_remember_90 : decode cX3_remember 90 = .ok (.getfield 47, 3) := dk_180 0 47 (dk_at dksX3_remember_3 18 rfl rfl)
theorem dX3_remember_93 : decode cX3_remember 93 = .ok (.iconst 1, 1) := dk_4 (dk_at dksX3_remember_3 21 rfl rfl)
theorem dX3_remember_94 : decode cX3_remember 94 = .ok (.iadd, 1) := dk_96 (dk_at dksX3_remember_3 22 rfl rfl)
theorem dX3_remember_95 : decode cX3_remember 95 = .ok (.putfield 47, 3) := dk_181 0 47 (dk_at dksX3_remember_4 0 rfl rfl)
theorem dX3_remember_98 : decode cX3_remember 98 = .ok (.return_, 1) := dk_177 (dk_at dksX3_remember_4 3 rfl rfl)
abbrev cX3_copyRecording : ByteArray := prog_11_method_96_code
def yX3_copyRecording : MethodName := ⟨RX3, "copyRecording", "(I)I"⟩
def dkwX3_copyRecording_4 : List UInt8 := [180, 0, 7, 3, 92, 46, 4, 96, 79, 42, 3, 181, 0, 109, 42, 180, 0, 7, 3, 46, 4, 100, 172]
abbrev dktX3_copyRecording_4 : List UInt8 := dkwX3_copyRecording_4 ++ []
def dkwX3_copyRecording_3 : List UInt8 := [184, 0, 58, 28, 96, 42, 180, 0, 7, 27, 184, 0, 58, 28, 96, 46, 79, 132, 2, 1, 167, 255, 220, 42]
abbrev dktX3_copyRecording_3 : List UInt8 := dkwX3_copyRecording_3 ++ dktX3_copyRecording_4
def dkwX3_copyRecording_2 : List UInt8 := [182, 0, 154, 16, 7, 61, 28, 16, 72, 162, 0, 36, 42, 180, 0, 7, 42, 180, 0, 7, 3, 46]
abbrev dktX3_copyRecording_2 : List UInt8 := dkwX3_copyRecording_2 ++ dktX3_copyRecording_3
def dkwX3_copyRecording_1 : List UInt8 := [167, 0, 4, 3, 182, 1, 15, 154, 0, 5, 2, 172, 42, 182, 1, 12, 42, 3, 42, 180, 0, 109]
abbrev dktX3_copyRecording_1 : List UInt8 := dkwX3_copyRecording_1 ++ dktX3_copyRecording_2
def dkwX3_copyRecording_0 : List UInt8 := [42, 42, 27, 182, 0, 54, 42, 182, 1, 9, 42, 180, 0, 7, 3, 46, 16, 6, 162, 0, 7, 4]
abbrev dktX3_copyRecording_0 : List UInt8 := dkwX3_copyRecording_0 ++ dktX3_copyRecording_1
theorem dksX3_copyRecording_0 : cX3_copyRecording.data.toList.drop 0 = dktX3_copyRecording_0 := by decide +kernel
theorem dksX3_copyRecording_1 : cX3_copyRecording.data.toList.drop 22 = dktX3_copyRecording_1 := dk_seg dksX3_copyRecording_0 22 rfl rfl
theorem dksX3_copyRecording_2 : cX3_copyRecording.data.toList.drop 44 = dktX3_copyRecording_2 := dk_seg dksX3_copyRecording_1 22 rfl rfl
theorem dksX3_copyRecording_3 : cX3_copyRecording.data.toList.drop 66 = dktX3_copyRecording_3 := dk_seg dksX3_copyRecording_2 22 rfl rfl
theorem dksX3_copyRecording_4 : cX3_copyRecording.data.toList.drop 90 = dktX3_copyRecording_4 := dk_seg dksX3_copyRecording_3 24 rfl rfl
theorem dX3_copyRecording_0 : decode cX3_copyRecording 0 = .ok (.aload_n 0, 1) := dk_42 (dk_at dksX3_copyRecording_0 0 rfl rfl)
theorem dX3_copyRecording_1 : decode cX3_copyRecording 1 = .ok (.aload_n 0, 1) := dk_42 (dk_at dksX3_copyRecording_0 1 rfl rfl)
theorem dX3_copyRecording_2 : decode cX3_copyRecording 2 = .ok (.iload_n 1, 1) := dk_27 (dk_at dksX3_copyRecording_0 2 rfl rfl)
theorem dX3_copyRecording_3 : decode cX3_copyRecording 3 = .ok (.invokevirtual 54, 3) := dk_182 0 54 (dk_at dksX3_copyRecording_0 3 rfl rfl)
theorem dX3_copyRecording_6 : decode cX3_copyRecording 6 = .ok (.aload_n 0, 1) := dk_42 (dk_at dksX3_copyRecording_0 6 rfl rfl)
theorem dX3_copyRecording_7 : decode cX3_copyRecording 7 = .ok (.invokevirtual 265, 3) := dk_182 1 9 (dk_at dksX3_copyRecording_0 7 rfl rfl)
theorem dX3_copyRecording_10 : decode cX3_copyRecording 10 = .ok (.aload_n 0, 1) := dk_42 (dk_at dksX3_copyRecording_0 10 rfl rfl)
theorem dX3_copyRecording_11 : decode cX3_copyRecording 11 = .ok (.getfield 7, 3) := dk_180 0 7 (dk_at dksX3_copyRecording_0 11 rfl rfl)
theorem dX3_copyRecording_14 : decode cX3_copyRecording 14 = .ok (.iconst 0, 1) := dk_3 (dk_at dksX3_copyRecording_0 14 rfl rfl)
theorem dX3_copyRecording_15 : decode cX3_copyRecording 15 = .ok (.iaload, 1) := dk_46 (dk_at dksX3_copyRecording_0 15 rfl rfl)
theorem dX3_copyRecording_16 : decode cX3_copyRecording 16 = .ok (.bipush 6, 2) := dk_16 6 (dk_at dksX3_copyRecording_0 16 rfl rfl)
theorem dX3_copyRecording_18 : decode cX3_copyRecording 18 = .ok (.if_icmp .ge 7, 3) := dk_162 0 7 (dk_at dksX3_copyRecording_0 18 rfl rfl)
theorem dX3_copyRecording_21 : decode cX3_copyRecording 21 = .ok (.iconst 1, 1) := dk_4 (dk_at dksX3_copyRecording_0 21 rfl rfl)
theorem dX3_copyRecording_22 : decode cX3_copyRecording 22 = .ok (.goto 4, 3) := dk_167 0 4 (dk_at dksX3_copyRecording_1 0 rfl rfl)
theorem dX3_copyRecording_25 : decode cX3_copyRecording 25 = .ok (.iconst 0, 1) := dk_3 (dk_at dksX3_copyRecording_1 3 rfl rfl)
theorem dX3_copyRecording_26 : decode cX3_copyRecording 26 = .ok (.invokevirtual 271, 3) := dk_182 1 15 (dk_at dksX3_copyRecording_1 4 rfl rfl)
theorem dX3_copyRecording_29 : decode cX3_copyRecording 29 = .ok (.ifCond .ne 5, 3) := dk_154 0 5 (dk_at dksX3_copyRecording_1 7 rfl rfl)
theorem dX3_copyRecording_32 : decode cX3_copyRecording 32 = .ok (.iconst (-1), 1) := dk_2 (dk_at dksX3_copyRecording_1 10 rfl rfl)
theorem dX3_copyRecording_33 : decode cX3_copyRecording 33 = .ok (.ireturn, 1) := dk_172 (dk_at dksX3_copyRecording_1 11 rfl rfl)
theorem dX3_copyRecording_34 : decode cX3_copyRecording 34 = .ok (.aload_n 0, 1) := dk_42 (dk_at dksX3_copyRecording_1 12 rfl rfl)
theorem dX3_copyRecording_35 : decode cX3_copyRecording 35 = .ok (.invokevirtual 268, 3) := dk_182 1 12 (dk_at dksX3_copyRecording_1 13 rfl rfl)
theorem dX3_copyRecording_38 : decode cX3_copyRecording 38 = .ok (.aload_n 0, 1) := dk_42 (dk_at dksX3_copyRecording_1 16 rfl rfl)
theorem dX3_copyRecording_39 : decode cX3_copyRecording 39 = .ok (.iconst 0, 1) := dk_3 (dk_at dksX3_copyRecording_1 17 rfl rfl)
theorem dX3_copyRecording_40 : decode cX3_copyRecording 40 = .ok (.aload_n 0, 1) := dk_42 (dk_at dksX3_copyRecording_1 18 rfl rfl)
theorem dX3_copyRecording_41 : decode cX3_copyRecording 41 = .ok (.getfield 109, 3) := dk_180 0 109 (dk_at dksX3_copyRecording_1 19 rfl rfl)
theorem dX3_copyRecording_44 : decode cX3_copyRecording 44 = .ok (.invokevirtual 154, 3) := dk_182 0 154 (dk_at dksX3_copyRecording_2 0 rfl rfl)
theorem dX3_copyRecording_47 : decode cX3_copyRecording 47 = .ok (.bipush 7, 2) := dk_16 7 (dk_at dksX3_copyRecording_2 3 rfl rfl)
theorem dX3_copyRecording_49 : decode cX3_copyRecording 49 = .ok (.istore_n 2, 1) := dk_61 (dk_at dksX3_copyRecording_2 5 rfl rfl)
theorem dX3_copyRecording_50 : decode cX3_copyRecording 50 = .ok (.iload_n 2, 1) := dk_28 (dk_at dksX3_copyRecording_2 6 rfl rfl)
theorem dX3_copyRecording_51 : decode cX3_copyRecording 51 = .ok (.bipush 72, 2) := dk_16 72 (dk_at dksX3_copyRecording_2 7 rfl rfl)
theorem dX3_copyRecording_53 : decode cX3_copyRecording 53 = .ok (.if_icmp .ge 36, 3) := dk_162 0 36 (dk_at dksX3_copyRecording_2 9 rfl rfl)
theorem dX3_copyRecording_56 : decode cX3_copyRecording 56 = .ok (.aload_n 0, 1) := dk_42 (dk_at dksX3_copyRecording_2 12 rfl rfl)
theorem dX3_copyRecording_57 : decode cX3_copyRecording 57 = .ok (.getfield 7, 3) := dk_180 0 7 (dk_at dksX3_copyRecording_2 13 rfl rfl)
theorem dX3_copyRecording_60 : decode cX3_copyRecording 60 = .ok (.aload_n 0, 1) := dk_42 (dk_at dksX3_copyRecording_2 16 rfl rfl)
theorem dX3_copyRecording_61 : decode cX3_copyRecording 61 = .ok (.getfield 7, 3) := dk_180 0 7 (dk_at dksX3_copyRecording_2 17 rfl rfl)
theorem dX3_copyRecording_64 : decode cX3_copyRecording 64 = .ok (.iconst 0, 1) := dk_3 (dk_at dksX3_copyRecording_2 20 rfl rfl)
theorem dX3_copyRecording_65 : decode cX3_copyRecording 65 = .ok (.iaload, 1) := dk_46 (dk_at dksX3_copyRecording_2 21 rfl rfl)
theorem dX3_copyRecording_66 : decode cX3_copyRecording 66 = .ok (.invokestatic 58, 3) := dk_184 0 58 (dk_at dksX3_copyRecording_3 0 rfl rfl)
theorem dX3_copyRecording_69 : decode cX3_copyRecording 69 = .ok (.iload_n 2, 1) := dk_28 (dk_at dksX3_copyRecording_3 3 rfl rfl)
theorem dX3_copyRecording_70 : decode cX3_copyRecording 70 = .ok (.iadd, 1) := dk_96 (dk_at dksX3_copyRecording_3 4 rfl rfl)
theorem dX3_copyRecording_71 : decode cX3_copyRecording 71 = .ok (.aload_n 0, 1) := dk_42 (dk_at dksX3_copyRecording_3 5 rfl rfl)
theorem dX3_copyRecording_72 : decode cX3_copyRecording 72 = .ok (.getfield 7, 3) := dk_180 0 7 (dk_at dksX3_copyRecording_3 6 rfl rfl)
theorem dX3_copyRecording_75 : decode cX3_copyRecording 75 = .ok (.iload_n 1, 1) := dk_27 (dk_at dksX3_copyRecording_3 9 rfl rfl)
theorem dX3_copyRecording_76 : decode cX3_copyRecording 76 = .ok (.invokestatic 58, 3) := dk_184 0 58 (dk_at dksX3_copyRecording_3 10 rfl rfl)
theorem dX3_copyRecording_79 : decode cX3_copyRecording 79 = .ok (.iload_n 2, 1) := dk_28 (dk_at dksX3_copyRecording_3 13 rfl rfl)
theorem dX3_copyRecording_80 : decode cX3_copyRecording 80 = .ok (.iadd, 1) := dk_96 (dk_at dksX3_copyRecording_3 14 rfl rfl)
theorem dX3_copyRecording_81 : decode cX3_copyRecording 81 = .ok (.iaload, 1) := dk_46 (dk_at dksX3_copyRecording_3 15 rfl rfl)
theorem dX3_copyRecording_82 : decode cX3_copyRecording 82 = .ok (.iastore, 1) := dk_79 (dk_at dksX3_copyRecording_3 16 rfl rfl)
theorem dX3_copyRecording_83 : decode cX3_copyRecording 83 = .ok (.iinc 2 1, 3) := dk_132 2 1 (dk_at dksX3_copyRecording_3 17 rfl rfl)
theorem dX3_copyRecording_86 : decode cX3_copyRecording 86 = .ok (.goto (-36), 3) := dk_167 255 220 (dk_at dksX3_copyRecording_3 20 rfl rfl)
theorem dX3_copyRecording_89 : decode cX3_copyRecording 89 = .ok (.aload_n 0, 1) := dk_42 (dk_at dksX3_copyRecording_3 23 rfl rfl)
theorem dX3_copyRecording_90 : decode cX3_copyRecording 90 = .ok (.getfield 7, 3) := dk_180 0 7 (dk_at dksX3_copyRecording_4 0 rfl rfl)
theorem dX3_copyRecording_93 : decode cX3_copyRecording 93 = .ok (.iconst 0, 1) := dk_3 (dk_at dksX3_copyRecording_4 3 rfl rfl)
theorem dX3_copyRecording_94 : decode cX3_copyRecording 94 = .ok (.dup2, 1) := dk_92 (dk_at dksX3_copyRecording_4 4 rfl rfl)
theorem dX3_copyRecording_95 : decode cX3_copyRecording 95 = .ok (.iaload, 1) := dk_46 (dk_at dksX3_copyRecording_4 5 rfl rfl)
theorem dX3_copyRecording_96 : decode cX3_copyRecording 96 = .ok (.iconst 1, 1) := dk_4 (dk_at dksX3_copyRecording_4 6 rfl rfl)
theorem dX3_copyRecording_97 : decode cX3_copyRecording 97 = .ok (.iadd, 1) := dk_96 (dk_at dksX3_copyRecording_4 7 rfl rfl)
theorem dX3_copyRecording_98 : decode cX3_copyRecording 98 = .ok (.iastore, 1) := dk_79 (dk_at dksX3_copyRecording_4 8 rfl rfl)
theorem dX3_copyRecording_99 : decode cX3_copyRecording 99 = .ok (.aload_n 0, 1) := dk_42 (dk_at dksX3_copyRecording_4 9 rfl rfl)
theorem dX3_copyRecording_100 : decode cX3_copyRecording 100 = .ok (.iconst 0, 1) := dk_3 (dk_at dksX3_copyRecording_4 10 rfl rfl)
theorem dX3_copyRecording_101 : decode cX3_copyRecording 101 = .ok (.putfield 109, 3) := dk_181 0 109 (dk_at dksX3_copyRecording_4 11 rfl rfl)
theorem dX3_copyRecording_104 : decode cX3_copyRecording 104 = .ok (.aload_n 0, 1) := dk_42 (dk_at dksX3_copyRecording_4 14 rfl rfl)
theorem dX3_copyRecording_105 : decode cX3_copyRecording 105 = .ok (.getfield 7, 3) := dk_180 0 7 (dk_at dksX3_copyRecording_4 15 rfl rfl)
theorem dX3_copyRecording_108 : decode cX3_copyRecording 108 = .ok (.iconst 0, 1) := dk_3 (dk_at dksX3_copyRecording_4 18 rfl rfl)
theorem dX3_copyRecording_109 : decode cX3_copyRecording 109 = .ok (.iaload, 1) := dk_46 (dk_at dksX3_copyRecording_4 19 rfl rfl)
theorem dX3_copyRecording_110 : decode cX3_copyRecording 110 = .ok (.iconst 1, 1) := dk_4 (dk_at dksX3_copyRecording_4 20 rfl rfl)
theorem dX3_copyRecording_111 : decode cX3_copyRecording 111 = .ok (.isub, 1) := dk_100 (dk_at dksX3_copyRecording_4 21 rfl rfl)
theorem dX3_copyRecording_112 : decode cX3_copyRecording 112 = .ok (.ireturn, 1) := dk_172 (dk_at dksX3_copyRecording_4 22 rfl rfl)
abbrev cX3_good_3 : ByteArray := prog_11_method_95_code
def yX3_good_3 : MethodName := ⟨RX3, "good", "(ZZZ)Z"⟩
def dkwX3_good_3_1 : List UInt8 := [167, 0, 4, 6, 181, 0, 44, 42, 180, 0, 44, 154, 0, 7, 4, 167, 0, 4, 3, 172]
abbrev dktX3_good_3_1 : List UInt8 := dkwX3_good_3_1 ++ []
def dkwX3_good_3_0 : List UInt8 := [42, 27, 154, 0, 7, 4, 167, 0, 20, 28, 154, 0, 7, 5, 167, 0, 12, 29, 153, 0, 7, 3]
abbrev dktX3_good_3_0 : List UInt8 := dkwX3_good_3_0 ++ dktX3_good_3_1
theorem dksX3_good_3_0 : cX3_good_3.data.toList.drop 0 = dktX3_good_3_0 := by decide +kernel
theorem dksX3_good_3_1 : cX3_good_3.data.toList.drop 22 = dktX3_good_3_1 := dk_seg dksX3_good_3_0 22 rfl rfl
theorem dX3_good_3_0 : decode cX3_good_3 0 = .ok (.aload_n 0, 1) := dk_42 (dk_at dksX3_good_3_0 0 rfl rfl)
theorem dX3_good_3_1 : decode cX3_good_3 1 = .ok (.iload_n 1, 1) := dk_27 (dk_at dksX3_good_3_0 1 rfl rfl)
theorem dX3_good_3_2 : decode cX3_good_3 2 = .ok (.ifCond .ne 7, 3) := dk_154 0 7 (dk_at dksX3_good_3_0 2 rfl rfl)
theorem dX3_good_3_5 : decode cX3_good_3 5 = .ok (.iconst 1, 1) := dk_4 (dk_at dksX3_good_3_0 5 rfl rfl)
theorem dX3_good_3_6 : decode cX3_good_3 6 = .ok (.goto 20, 3) := dk_167 0 20 (dk_at dksX3_good_3_0 6 rfl rfl)
theorem dX3_good_3_9 : decode cX3_good_3 9 = .ok (.iload_n 2, 1) := dk_28 (dk_at dksX3_good_3_0 9 rfl rfl)
theorem dX3_good_3_10 : decode cX3_good_3 10 = .ok (.ifCond .ne 7, 3) := dk_154 0 7 (dk_at dksX3_good_3_0 10 rfl rfl)
theorem dX3_good_3_13 : decode cX3_good_3 13 = .ok (.iconst 2, 1) := dk_5 (dk_at dksX3_good_3_0 13 rfl rfl)
theorem dX3_good_3_14 : decode cX3_good_3 14 = .ok (.goto 12, 3) := dk_167 0 12 (dk_at dksX3_good_3_0 14 rfl rfl)
theorem dX3_good_3_17 : decode cX3_good_3 17 = .ok (.iload_n 3, 1) := dk_29 (dk_at dksX3_good_3_0 17 rfl rfl)
theorem dX3_good_3_18 : decode cX3_good_3 18 = .ok (.ifCond .eq 7, 3) := dk_153 0 7 (dk_at dksX3_good_3_0 18 rfl rfl)
theorem dX3_good_3_21 : decode cX3_good_3 21 = .ok (.iconst 0, 1) := dk_3 (dk_at dksX3_good_3_0 21 rfl rfl)
theorem dX3_good_3_22 : decode cX3_good_3 22 = .ok (.goto 4, 3) := dk_167 0 4 (dk_at dksX3_good_3_1 0 rfl rfl)
theorem dX3_good_3_25 : decode cX3_good_3 25 = .ok (.iconst 3, 1) := dk_6 (dk_at dksX3_good_3_1 3 rfl rfl)
theorem dX3_good_3_26 : decode cX3_good_3 26 = .ok (.putfield 44, 3) := dk_181 0 44 (dk_at dksX3_good_3_1 4 rfl rfl)
theorem dX3_good_3_29 : decode cX3_good_3 29 = .ok (.aload_n 0, 1) := dk_42 (dk_at dksX3_good_3_1 7 rfl rfl)
theorem dX3_good_3_30 : decode cX3_good_3 30 = .ok (.getfield 44, 3) := dk_180 0 44 (dk_at dksX3_good_3_1 8 rfl rfl)
theorem dX3_good_3_33 : decode cX3_good_3 33 = .ok (.ifCond .ne 7, 3) := dk_154 0 7 (dk_at dksX3_good_3_1 11 rfl rfl)
theorem dX3_good_3_36 : decode cX3_good_3 36 = .ok (.iconst 1, 1) := dk_4 (dk_at dksX3_good_3_1 14 rfl rfl)
theorem dX3_good_3_37 : decode cX3_good_3 37 = .ok (.goto 4, 3) := dk_167 0 4 (dk_at dksX3_good_3_1 15 rfl rfl)
theorem dX3_good_3_40 : decode cX3_good_3 40 = .ok (.iconst 0, 1) := dk_3 (dk_at dksX3_good_3_1 18 rfl rfl)
theorem dX3_good_3_41 : decode cX3_good_3 41 = .ok (.ireturn, 1) := dk_172 (dk_at dksX3_good_3_1 19 rfl rfl)
abbrev cX3_rename : ByteArray := prog_11_method_97_code
def yX3_rename : MethodName := ⟨RX3, "rename", "(I)I"⟩
def dkwX3_rename_3 : List UInt8 := [167, 0, 4, 3, 79, 132, 3, 1, 167, 255, 219, 42, 3, 181, 0, 109, 28, 172]
abbrev dktX3_rename_3 : List UInt8 := dkwX3_rename_3 ++ []
def dkwX3_rename_2 : List UInt8 := [180, 0, 7, 27, 184, 0, 58, 4, 96, 29, 96, 29, 28, 162, 0, 12, 42, 180, 0, 22, 29, 46]
abbrev dktX3_rename_2 : List UInt8 := dkwX3_rename_2 ++ dktX3_rename_3
def dkwX3_rename_1 : List UInt8 := [180, 0, 109, 61, 42, 180, 0, 7, 27, 184, 0, 58, 28, 79, 3, 62, 29, 16, 6, 162, 0, 37, 42]
abbrev dktX3_rename_1 : List UInt8 := dkwX3_rename_1 ++ dktX3_rename_2
def dkwX3_rename_0 : List UInt8 := [42, 42, 27, 182, 0, 54, 42, 182, 1, 9, 182, 0, 187, 154, 0, 5, 2, 172, 42, 182, 1, 12, 42]
abbrev dktX3_rename_0 : List UInt8 := dkwX3_rename_0 ++ dktX3_rename_1
theorem dksX3_rename_0 : cX3_rename.data.toList.drop 0 = dktX3_rename_0 := by decide +kernel
theorem dksX3_rename_1 : cX3_rename.data.toList.drop 23 = dktX3_rename_1 := dk_seg dksX3_rename_0 23 rfl rfl
theorem dksX3_rename_2 : cX3_rename.data.toList.drop 46 = dktX3_rename_2 := dk_seg dksX3_rename_1 23 rfl rfl
theorem dksX3_rename_3 : cX3_rename.data.toList.drop 68 = dktX3_rename_3 := dk_seg dksX3_rename_2 22 rfl rfl
theorem dX3_rename_0 : decode cX3_rename 0 = .ok (.aload_n 0, 1) := dk_42 (dk_at dksX3_rename_0 0 rfl rfl)
theorem dX3_rename_1 : decode cX3_rename 1 = .ok (.aload_n 0, 1) := dk_42 (dk_at dksX3_rename_0 1 rfl rfl)
theorem dX3_rename_2 : decode cX3_rename 2 = .ok (.iload_n 1, 1) := dk_27 (dk_at dksX3_rename_0 2 rfl rfl)
theorem dX3_rename_3 : decode cX3_rename 3 = .ok (.invokevirtual 54, 3) := dk_182 0 54 (dk_at dksX3_rename_0 3 rfl rfl)
theorem dX3_rename_6 : decode cX3_rename 6 = .ok (.aload_n 0, 1) := dk_42 (dk_at dksX3_rename_0 6 rfl rfl)
theorem dX3_rename_7 : decode cX3_rename 7 = .ok (.invokevirtual 265, 3) := dk_182 1 9 (dk_at dksX3_rename_0 7 rfl rfl)
theorem dX3_rename_10 : decode cX3_rename 10 = .ok (.invokevirtual 187, 3) := dk_182 0 187 (dk_at dksX3_rename_0 10 rfl rfl)
theorem dX3_rename_13 : decode cX3_rename 13 = .ok (.ifCond .ne 5, 3) := dk_154 0 5 (dk_at dksX3_rename_0 13 rfl rfl)
theorem dX3_rename_16 : decode cX3_rename 16 = .ok (.iconst (-1), 1) := dk_2 (dk_at dksX3_rename_0 16 rfl rfl)
theorem dX3_rename_17 : decode cX3_rename 17 = .ok (.ireturn, 1) := dk_172 (dk_at dksX3_rename_0 17 rfl rfl)
theorem dX3_rename_18 : decode cX3_rename 18 = .ok (.aload_n 0, 1) := dk_42 (dk_at dksX3_rename_0 18 rfl rfl)
theorem dX3_rename_19 : decode cX3_rename 19 = .ok (.invokevirtual 268, 3) := dk_182 1 12 (dk_at dksX3_rename_0 19 rfl rfl)
theorem dX3_rename_22 : decode cX3_rename 22 = .ok (.aload_n 0, 1) := dk_42 (dk_at dksX3_rename_0 22 rfl rfl)
theorem dX3_rename_23 : decode cX3_rename 23 = .ok (.getfield 109, 3) := dk_180 0 109 (dk_at dksX3_rename_1 0 rfl rfl)
theorem dX3_rename_26 : decode cX3_rename 26 = .ok (.istore_n 2, 1) := dk_61 (dk_at dksX3_rename_1 3 rfl rfl)
theorem dX3_rename_27 : decode cX3_rename 27 = .ok (.aload_n 0, 1) := dk_42 (dk_at dksX3_rename_1 4 rfl rfl)
theorem dX3_rename_28 : decode cX3_rename 28 = .ok (.getfield 7, 3) := dk_180 0 7 (dk_at dksX3_rename_1 5 rfl rfl)
theorem dX3_rename_31 : decode cX3_rename 31 = .ok (.iload_n 1, 1) := dk_27 (dk_at dksX3_rename_1 8 rfl rfl)
theorem dX3_rename_32 : decode cX3_rename 32 = .ok (.invokestatic 58, 3) := dk_184 0 58 (dk_at dksX3_rename_1 9 rfl rfl)
theorem dX3_rename_35 : decode cX3_rename 35 = .ok (.iload_n 2, 1) := dk_28 (dk_at dksX3_rename_1 12 rfl rfl)
theorem dX3_rename_36 : decode cX3_rename 36 = .ok (.iastore, 1) := dk_79 (dk_at dksX3_rename_1 13 rfl rfl)
theorem dX3_rename_37 : decode cX3_rename 37 = .ok (.iconst 0, 1) := dk_3 (dk_at dksX3_rename_1 14 rfl rfl)
theorem dX3_rename_38 : decode cX3_rename 38 = .ok (.istore_n 3, 1) := dk_62 (dk_at dksX3_rename_1 15 rfl rfl)
theorem dX3_rename_39 : decode cX3_rename 39 = .ok (.iload_n 3, 1) := dk_29 (dk_at dksX3_rename_1 16 rfl rfl)
theorem dX3_rename_40 : decode cX3_rename 40 = .ok (.bipush 6, 2) := dk_16 6 (dk_at dksX3_rename_1 17 rfl rfl)
theorem dX3_rename_42 : decode cX3_rename 42 = .ok (.if_icmp .ge 37, 3) := dk_162 0 37 (dk_at dksX3_rename_1 19 rfl rfl)
theorem dX3_rename_45 : decode cX3_rename 45 = .ok (.aload_n 0, 1) := dk_42 (dk_at dksX3_rename_1 22 rfl rfl)
theorem dX3_rename_46 : decode cX3_rename 46 = .ok (.getfield 7, 3) := dk_180 0 7 (dk_at dksX3_rename_2 0 rfl rfl)
theorem dX3_rename_49 : decode cX3_rename 49 = .ok (.iload_n 1, 1) := dk_27 (dk_at dksX3_rename_2 3 rfl rfl)
theorem dX3_rename_50 : decode cX3_rename 50 = .ok (.invokestatic 58, 3) := dk_184 0 58 (dk_at dksX3_rename_2 4 rfl rfl)
theorem dX3_rename_53 : decode cX3_rename 53 = .ok (.iconst 1, 1) := dk_4 (dk_at dksX3_rename_2 7 rfl rfl)
theorem dX3_rename_54 : decode cX3_rename 54 = .ok (.iadd, 1) := dk_96 (dk_at dksX3_rename_2 8 rfl rfl)
theorem dX3_rename_55 : decode cX3_rename 55 = .ok (.iload_n 3, 1) := dk_29 (dk_at dksX3_rename_2 9 rfl rfl)
theorem dX3_rename_56 : decode cX3_rename 56 = .ok (.iadd, 1) := dk_96 (dk_at dksX3_rename_2 10 rfl rfl)
theorem dX3_rename_57 : decode cX3_rename 57 = .ok (.iload_n 3, 1) := dk_29 (dk_at dksX3_rename_2 11 rfl rfl)
theorem dX3_rename_58 : decode cX3_rename 58 = .ok (.iload_n 2, 1) := dk_28 (dk_at dksX3_rename_2 12 rfl rfl)
theorem dX3_rename_59 : decode cX3_rename 59 = .ok (.if_icmp .ge 12, 3) := dk_162 0 12 (dk_at dksX3_rename_2 13 rfl rfl)
theorem dX3_rename_62 : decode cX3_rename 62 = .ok (.aload_n 0, 1) := dk_42 (dk_at dksX3_rename_2 16 rfl rfl)
theorem dX3_rename_63 : decode cX3_rename 63 = .ok (.getfield 22, 3) := dk_180 0 22 (dk_at dksX3_rename_2 17 rfl rfl)
theorem dX3_rename_66 : decode cX3_rename 66 = .ok (.iload_n 3, 1) := dk_29 (dk_at dksX3_rename_2 20 rfl rfl)
theorem dX3_rename_67 : decode cX3_rename 67 = .ok (.iaload, 1) := dk_46 (dk_at dksX3_rename_2 21 rfl rfl)
theorem dX3_rename_68 : decode cX3_rename 68 = .ok (.goto 4, 3) := dk_167 0 4 (dk_at dksX3_rename_3 0 rfl rfl)
theorem dX3_rename_71 : decode cX3_rename 71 = .ok (.iconst 0, 1) := dk_3 (dk_at dksX3_rename_3 3 rfl rfl)
theorem dX3_rename_72 : decode cX3_rename 72 = .ok (.iastore, 1) := dk_79 (dk_at dksX3_rename_3 4 rfl rfl)
theorem dX3_rename_73 : decode cX3_rename 73 = .ok (.iinc 3 1, 3) := dk_132 3 1 (dk_at dksX3_rename_3 5 rfl rfl)
theorem dX3_rename_76 : decode cX3_rename 76 = .ok (.goto (-37), 3) := dk_167 255 219 (dk_at dksX3_rename_3 8 rfl rfl)
theorem dX3_rename_79 : decode cX3_rename 79 = .ok (.aload_n 0, 1) := dk_42 (dk_at dksX3_rename_3 11 rfl rfl)
theorem dX3_rename_80 : decode cX3_rename 80 = .ok (.iconst 0, 1) := dk_3 (dk_at dksX3_rename_3 12 rfl rfl)
theorem dX3_rename_81 : decode cX3_rename 81 = .ok (.putfield 109, 3) := dk_181 0 109 (dk_at dksX3_rename_3 13 rfl rfl)
theorem dX3_rename_84 : decode cX3_rename 84 = .ok (.iload_n 2, 1) := dk_28 (dk_at dksX3_rename_3 16 rfl rfl)
theorem dX3_rename_85 : decode cX3_rename 85 = .ok (.ireturn, 1) := dk_172 (dk_at dksX3_rename_3 17 rfl rfl)
abbrev cX3_appendRecording : ByteArray := prog_11_method_98_code
def yX3_appendRecording : MethodName := ⟨RX3, "appendRecording", "(II)I"⟩
def dkwX3_appendRecording_5 : List UInt8 := [184, 0, 58, 16, 7, 96, 5, 21, 5, 104, 79, 5, 21, 5, 104, 172]
abbrev dktX3_appendRecording_5 : List UInt8 := dkwX3_appendRecording_5 ++ []
def dkwX3_appendRecording_4 : List UInt8 := [21, 6, 96, 42, 28, 21, 6, 182, 0, 82, 79, 132, 6, 1, 167, 255, 221, 42, 180, 0, 7, 27]
abbrev dktX3_appendRecording_4 : List UInt8 := dkwX3_appendRecording_4 ++ dktX3_appendRecording_5
def dkwX3_appendRecording_3 : List UInt8 := [54, 6, 21, 6, 21, 5, 162, 0, 34, 42, 180, 0, 7, 27, 184, 0, 58, 16, 8, 96, 21, 5, 96]
abbrev dktX3_appendRecording_3 : List UInt8 := dkwX3_appendRecording_3 ++ dktX3_appendRecording_4
def dkwX3_appendRecording_2 : List UInt8 := [167, 0, 4, 3, 182, 1, 15, 154, 0, 5, 2, 172, 42, 182, 1, 12, 42, 27, 182, 0, 62, 54, 5, 3]
abbrev dktX3_appendRecording_2 : List UInt8 := dkwX3_appendRecording_2 ++ dktX3_appendRecording_3
def dkwX3_appendRecording_1 : List UInt8 := [3, 54, 4, 42, 29, 21, 4, 21, 4, 153, 0, 17, 42, 27, 182, 0, 62, 16, 64, 162, 0, 7, 4]
abbrev dktX3_appendRecording_1 : List UInt8 := dkwX3_appendRecording_1 ++ dktX3_appendRecording_2
def dkwX3_appendRecording_0 : List UInt8 := [42, 27, 28, 182, 0, 227, 62, 29, 153, 0, 16, 42, 27, 28, 182, 0, 230, 153, 0, 7, 4, 167, 0, 4]
abbrev dktX3_appendRecording_0 : List UInt8 := dkwX3_appendRecording_0 ++ dktX3_appendRecording_1
theorem dksX3_appendRecording_0 : cX3_appendRecording.data.toList.drop 0 = dktX3_appendRecording_0 := by decide +kernel
theorem dksX3_appendRecording_1 : cX3_appendRecording.data.toList.drop 24 = dktX3_appendRecording_1 := dk_seg dksX3_appendRecording_0 24 rfl rfl
theorem dksX3_appendRecording_2 : cX3_appendRecording.data.toList.drop 47 = dktX3_appendRecording_2 := dk_seg dksX3_appendRecording_1 23 rfl rfl
theorem dksX3_appendRecording_3 : cX3_appendRecording.data.toList.drop 71 = dktX3_appendRecording_3 := dk_seg dksX3_appendRecording_2 24 rfl rfl
theorem dksX3_appendRecording_4 : cX3_appendRecording.data.toList.drop 94 = dktX3_appendRecording_4 := dk_seg dksX3_appendRecording_3 23 rfl rfl
theorem dksX3_appendRecording_5 : cX3_appendRecording.data.toList.drop 116 = dktX3_appendRecording_5 := dk_seg dksX3_appendRecording_4 22 rfl rfl
theorem dX3_appendRecording_0 : decode cX3_appendRecording 0 = .ok (.aload_n 0, 1) := dk_42 (dk_at dksX3_appendRecording_0 0 rfl rfl)
theorem dX3_appendRecording_1 : decode cX3_appendRecording 1 = .ok (.iload_n 1, 1) := dk_27 (dk_at dksX3_appendRecording_0 1 rfl rfl)
theorem dX3_appendRecording_2 : decode cX3_appendRecording 2 = .ok (.iload_n 2, 1) := dk_28 (dk_at dksX3_appendRecording_0 2 rfl rfl)
theorem dX3_appendRecording_3 : decode cX3_appendRecording 3 = .ok (.invokevirtual 227, 3) := dk_182 0 227 (dk_at dksX3_appendRecording_0 3 rfl rfl)
theorem dX3_appendRecording_6 : decode cX3_appendRecording 6 = .ok (.istore_n 3, 1) := dk_62 (dk_at dksX3_appendRecording_0 6 rfl rfl)
theorem dX3_appendRecording_7 : decode cX3_appendRecording 7 = .ok (.iload_n 3, 1) := dk_29 (dk_at dksX3_appendRecording_0 7 rfl rfl)
theorem dX3_appendRecording_8 : decode cX3_appendRecording 8 = .ok (.ifCond .eq 16, 3) := dk_153 0 16 (dk_at dksX3_appendRecording_0 8 rfl rfl)
theorem dX3_appendRecording_11 : decode cX3_appendRecording 11 = .ok (.aload_n 0, 1) := dk_42 (dk_at dksX3_appendRecording_0 11 rfl rfl)
theorem dX3_appendRecording_12 : decode cX3_appendRecording 12 = .ok (.iload_n 1, 1) := dk_27 (dk_at dksX3_appendRecording_0 12 rfl rfl)
theorem dX3_appendRecording_13 : decode cX3_appendRecording 13 = .ok (.iload_n 2, 1) := dk_28 (dk_at dksX3_appendRecording_0 13 rfl rfl)
theorem dX3_appendRecording_14 : decode cX3_appendRecording 14 = .ok (.invokevirtual 230, 3) := dk_182 0 230 (dk_at dksX3_appendRecording_0 14 rfl rfl)
theorem dX3_appendRecording_17 : decode cX3_appendRecording 17 = .ok (.ifCond .eq 7, 3) := dk_153 0 7 (dk_at dksX3_appendRecording_0 17 rfl rfl)
theorem dX3_appendRecording_20 : decode cX3_appendRecording 20 = .ok (.iconst 1, 1) := dk_4 (dk_at dksX3_appendRecording_0 20 rfl rfl)
theorem dX3_appendRecording_21 : decode cX3_appendRecording 21 = .ok (.goto 4, 3) := dk_167 0 4 (dk_at dksX3_appendRecording_0 21 rfl rfl)
theorem dX3_appendRecording_24 : decode cX3_appendRecording 24 = .ok (.iconst 0, 1) := dk_3 (dk_at dksX3_appendRecording_1 0 rfl rfl)
theorem dX3_appendRecording_25 : decode cX3_appendRecording 25 = .ok (.istore 4, 2) := dk_54 4 (dk_at dksX3_appendRecording_1 1 rfl rfl)
theorem dX3_appendRecording_27 : decode cX3_appendRecording 27 = .ok (.aload_n 0, 1) := dk_42 (dk_at dksX3_appendRecording_1 3 rfl rfl)
theorem dX3_appendRecording_28 : decode cX3_appendRecording 28 = .ok (.iload_n 3, 1) := dk_29 (dk_at dksX3_appendRecording_1 4 rfl rfl)
theorem dX3_appendRecording_29 : decode cX3_appendRecording 29 = .ok (.iload 4, 2) := dk_21 4 (dk_at dksX3_appendRecording_1 5 rfl rfl)
theorem dX3_appendRecording_31 : decode cX3_appendRecording 31 = .ok (.iload 4, 2) := dk_21 4 (dk_at dksX3_appendRecording_1 7 rfl rfl)
theorem dX3_appendRecording_33 : decode cX3_appendRecording 33 = .ok (.ifCond .eq 17, 3) := dk_153 0 17 (dk_at dksX3_appendRecording_1 9 rfl rfl)
theorem dX3_appendRecording_36 : decode cX3_appendRecording 36 = .ok (.aload_n 0, 1) := dk_42 (dk_at dksX3_appendRecording_1 12 rfl rfl)
theorem dX3_appendRecording_37 : decode cX3_appendRecording 37 = .ok (.iload_n 1, 1) := dk_27 (dk_at dksX3_appendRecording_1 13 rfl rfl)
theorem dX3_appendRecording_38 : decode cX3_appendRecording 38 = .ok (.invokevirtual 62, 3) := dk_182 0 62 (dk_at dksX3_appendRecording_1 14 rfl rfl)
theorem dX3_appendRecording_41 : decode cX3_appendRecording 41 = .ok (.bipush 64, 2) := dk_16 64 (dk_at dksX3_appendRecording_1 17 rfl rfl)
theorem dX3_appendRecording_43 : decode cX3_appendRecording 43 = .ok (.if_icmp .ge 7, 3) := dk_162 0 7 (dk_at dksX3_appendRecording_1 19 rfl rfl)
theorem dX3_appendRecording_46 : decode cX3_appendRecording 46 = .ok (.iconst 1, 1) := dk_4 (dk_at dksX3_appendRecording_1 22 rfl rfl)
theorem dX3_appendRecording_47 : decode cX3_appendRecording 47 = .ok (.goto 4, 3) := dk_167 0 4 (dk_at dksX3_appendRecording_2 0 rfl rfl)
theorem dX3_appendRecording_50 : decode cX3_appendRecording 50 = .ok (.iconst 0, 1) := dk_3 (dk_at dksX3_appendRecording_2 3 rfl rfl)
theorem dX3_appendRecording_51 : decode cX3_appendRecording 51 = .ok (.invokevirtual 271, 3) := dk_182 1 15 (dk_at dksX3_appendRecording_2 4 rfl rfl)
theorem dX3_appendRecording_54 : decode cX3_appendRecording 54 = .ok (.ifCond .ne 5, 3) := dk_154 0 5 (dk_at dksX3_appendRecording_2 7 rfl rfl)
theorem dX3_appendRecording_57 : decode cX3_appendRecording 57 = .ok (.iconst (-1), 1) := dk_2 (dk_at dksX3_appendRecording_2 10 rfl rfl)
theorem dX3_appendRecording_58 : decode cX3_appendRecording 58 = .ok (.ireturn, 1) := dk_172 (dk_at dksX3_appendRecording_2 11 rfl rfl)
theorem dX3_appendRecording_59 : decode cX3_appendRecording 59 = .ok (.aload_n 0, 1) := dk_42 (dk_at dksX3_appendRecording_2 12 rfl rfl)
theorem dX3_appendRecording_60 : decode cX3_appendRecording 60 = .ok (.invokevirtual 268, 3) := dk_182 1 12 (dk_at dksX3_appendRecording_2 13 rfl rfl)
theorem dX3_appendRecording_63 : decode cX3_appendRecording 63 = .ok (.aload_n 0, 1) := dk_42 (dk_at dksX3_appendRecording_2 16 rfl rfl)
theorem dX3_appendRecording_64 : decode cX3_appendRecording 64 = .ok (.iload_n 1, 1) := dk_27 (dk_at dksX3_appendRecording_2 17 rfl rfl)
theorem dX3_appendRecording_65 : decode cX3_appendRecording 65 = .ok (.invokevirtual 62, 3) := dk_182 0 62 (dk_at dksX3_appendRecording_2 18 rfl rfl)
theorem dX3_appendRecording_68 : decode cX3_appendRecording 68 = .ok (.istore 5, 2) := dk_54 5 (dk_at dksX3_appendRecording_2 21 rfl rfl)
theorem dX3_appendRecording_70 : decode cX3_appendRecording 70 = .ok (.iconst 0, 1) := dk_3 (dk_at dksX3_appendRecording_2 23 rfl rfl)
theorem dX3_appendRecording_71 : decode cX3_appendRecording 71 = .ok (.istore 6, 2) := dk_54 6 (dk_at dksX3_appendRecording_3 0 rfl rfl)
theorem dX3_appendRecording_73 : decode cX3_appendRecording 73 = .ok (.iload 6, 2) := dk_21 6 (dk_at dksX3_appendRecording_3 2 rfl rfl)
theorem dX3_appendRecording_75 : decode cX3_appendRecording 75 = .ok (.iload 5, 2) := dk_21 5 (dk_at dksX3_appendRecording_3 4 rfl rfl)
theorem dX3_appendRecording_77 : decode cX3_appendRecording 77 = .ok (.if_icmp .ge 34, 3) := dk_162 0 34 (dk_at dksX3_appendRecording_3 6 rfl rfl)
theorem dX3_appendRecording_80 : decode cX3_appendRecording 80 = .ok (.aload_n 0, 1) := dk_42 (dk_at dksX3_appendRecording_3 9 rfl rfl)
theorem dX3_appendRecording_81 : decode cX3_appendRecording 81 = .ok (.getfield 7, 3) := dk_180 0 7 (dk_at dksX3_appendRecording_3 10 rfl rfl)
theorem dX3_appendRecording_84 : decode cX3_appendRecording 84 = .ok (.iload_n 1, 1) := dk_27 (dk_at dksX3_appendRecording_3 13 rfl rfl)
theorem dX3_appendRecording_85 : decode cX3_appendRecording 85 = .ok (.invokestatic 58, 3) := dk_184 0 58 (dk_at dksX3_appendRecording_3 14 rfl rfl)
theorem dX3_appendRecording_88 : decode cX3_appendRecording 88 = .ok (.bipush 8, 2) := dk_16 8 (dk_at dksX3_appendRecording_3 17 rfl rfl)
theorem dX3_appendRecording_90 : decode cX3_appendRecording 90 = .ok (.iadd, 1) := dk_96 (dk_at dksX3_appendRecording_3 19 rfl rfl)
theorem dX3_appendRecording_91 : decode cX3_appendRecording 91 = .ok (.iload 5, 2) := dk_21 5 (dk_at dksX3_appendRecording_3 20 rfl rfl)
theorem dX3_appendRecording_93 : decode cX3_appendRecording 93 = .ok (.iadd, 1) := dk_96 (dk_at dksX3_appendRecording_3 22 rfl rfl)
theorem dX3_appendRecording_94 : decode cX3_appendRecording 94 = .ok (.iload 6, 2) := dk_21 6 (dk_at dksX3_appendRecording_4 0 rfl rfl)
theorem dX3_appendRecording_96 : decode cX3_appendRecording 96 = .ok (.iadd, 1) := dk_96 (dk_at dksX3_appendRecording_4 2 rfl rfl)
theorem dX3_appendRecording_97 : decode cX3_appendRecording 97 = .ok (.aload_n 0, 1) := dk_42 (dk_at dksX3_appendRecording_4 3 rfl rfl)
theorem dX3_appendRecording_98 : decode cX3_appendRecording 98 = .ok (.iload_n 2, 1) := dk_28 (dk_at dksX3_appendRecording_4 4 rfl rfl)
theorem dX3_appendRecording_99 : decode cX3_appendRecording 99 = .ok (.iload 6, 2) := dk_21 6 (dk_at dksX3_appendRecording_4 5 rfl rfl)
theorem dX3_appendRecording_101 : decode cX3_appendRecording 101 = .ok (.invokevirtual 82, 3) := dk_182 0 82 (dk_at dksX3_appendRecording_4 7 rfl rfl)
theorem dX3_appendRecording_104 : decode cX3_appendRecording 104 = .ok (.iastore, 1) := dk_79 (dk_at dksX3_appendRecording_4 10 rfl rfl)
theorem dX3_appendRecording_105 : decode cX3_appendRecording 105 = .ok (.iinc 6 1, 3) := dk_132 6 1 (dk_at dksX3_appendRecording_4 11 rfl rfl)
theorem dX3_appendRecording_108 : decode cX3_appendRecording 108 = .ok (.goto (-35), 3) := dk_167 255 221 (dk_at dksX3_appendRecording_4 14 rfl rfl)
theorem dX3_appendRecording_111 : decode cX3_appendRecording 111 = .ok (.aload_n 0, 1) := dk_42 (dk_at dksX3_appendRecording_4 17 rfl rfl)
theorem dX3_appendRecording_112 : decode cX3_appendRecording 112 = .ok (.getfield 7, 3) := dk_180 0 7 (dk_at dksX3_appendRecording_4 18 rfl rfl)
theorem dX3_appendRecording_115 : decode cX3_appendRecording 115 = .ok (.iload_n 1, 1) := dk_27 (dk_at dksX3_appendRecording_4 21 rfl rfl)
theorem dX3_appendRecording_116 : decode cX3_appendRecording 116 = .ok (.invokestatic 58, 3) := dk_184 0 58 (dk_at dksX3_appendRecording_5 0 rfl rfl)
theorem dX3_appendRecording_119 : decode cX3_appendRecording 119 = .ok (.bipush 7, 2) := dk_16 7 (dk_at dksX3_appendRecording_5 3 rfl rfl)
theorem dX3_appendRecording_121 : decode cX3_appendRecording 121 = .ok (.iadd, 1) := dk_96 (dk_at dksX3_appendRecording_5 5 rfl rfl)
theorem dX3_appendRecording_122 : decode cX3_appendRecording 122 = .ok (.iconst 2, 1) := dk_5 (dk_at dksX3_appendRecording_5 6 rfl rfl)
theorem dX3_appendRecording_123 : decode cX3_appendRecording 123 = .ok (.iload 5, 2) := dk_21 5 (dk_at dksX3_appendRecording_5 7 rfl rfl)
theorem dX3_appendRecording_125 : decode cX3_appendRecording 125 = .ok (.imul, 1) := dk_104 (dk_at dksX3_appendRecording_5 9 rfl rfl)
theorem dX3_appendRecording_126 : decode cX3_appendRecording 126 = .ok (.iastore, 1) := dk_79 (dk_at dksX3_appendRecording_5 10 rfl rfl)
theorem dX3_appendRecording_127 : decode cX3_appendRecording 127 = .ok (.iconst 2, 1) := dk_5 (dk_at dksX3_appendRecording_5 11 rfl rfl)
theorem dX3_appendRecording_128 : decode cX3_appendRecording 128 = .ok (.iload 5, 2) := dk_21 5 (dk_at dksX3_appendRecording_5 12 rfl rfl)
theorem dX3_appendRecording_130 : decode cX3_appendRecording 130 = .ok (.imul, 1) := dk_104 (dk_at dksX3_appendRecording_5 14 rfl rfl)
theorem dX3_appendRecording_131 : decode cX3_appendRecording 131 = .ok (.ireturn, 1) := dk_172 (dk_at dksX3_appendRecording_5 15 rfl rfl)
abbrev cX3_removeRecording : ByteArray := prog_11_method_99_code
def yX3_removeRecording : MethodName := ⟨RX3, "removeRecording", "(I)I"⟩
def dkwX3_removeRecording_3 : List UInt8 := [180, 0, 7, 3, 46, 184, 0, 58, 16, 72, 182, 0, 137, 42, 180, 0, 7, 3, 46, 172]
abbrev dktX3_removeRecording_3 : List UInt8 := dkwX3_removeRecording_3 ++ []
def dkwX3_removeRecording_2 : List UInt8 := [180, 0, 7, 28, 42, 180, 0, 7, 28, 16, 72, 96, 46, 79, 132, 2, 1, 167, 255, 225, 42, 42]
abbrev dktX3_removeRecording_2 : List UInt8 := dkwX3_removeRecording_2 ++ dktX3_removeRecording_3
def dkwX3_removeRecording_1 : List UInt8 := [46, 4, 100, 79, 27, 184, 0, 58, 61, 28, 42, 180, 0, 7, 3, 46, 184, 0, 58, 162, 0, 24, 42]
abbrev dktX3_removeRecording_1 : List UInt8 := dkwX3_removeRecording_1 ++ dktX3_removeRecording_2
def dkwX3_removeRecording_0 : List UInt8 := [42, 42, 27, 182, 0, 54, 182, 0, 112, 154, 0, 5, 2, 172, 42, 182, 1, 12, 42, 180, 0, 7, 3, 92]
abbrev dktX3_removeRecording_0 : List UInt8 := dkwX3_removeRecording_0 ++ dktX3_removeRecording_1
theorem dksX3_removeRecording_0 : cX3_removeRecording.data.toList.drop 0 = dktX3_removeRecording_0 := by decide +kernel
theorem dksX3_removeRecording_1 : cX3_removeRecording.data.toList.drop 24 = dktX3_removeRecording_1 := dk_seg dksX3_removeRecording_0 24 rfl rfl
theorem dksX3_removeRecording_2 : cX3_removeRecording.data.toList.drop 47 = dktX3_removeRecording_2 := dk_seg dksX3_removeRecording_1 23 rfl rfl
theorem dksX3_removeRecording_3 : cX3_removeRecording.data.toList.drop 69 = dktX3_removeRecording_3 := dk_seg dksX3_removeRecording_2 22 rfl rfl
theorem dX3_removeRecording_0 : decode cX3_removeRecording 0 = .ok (.aload_n 0, 1) := dk_42 (dk_at dksX3_removeRecording_0 0 rfl rfl)
theorem dX3_removeRecording_1 : decode cX3_removeRecording 1 = .ok (.aload_n 0, 1) := dk_42 (dk_at dksX3_removeRecording_0 1 rfl rfl)
theorem dX3_removeRecording_2 : decode cX3_removeRecording 2 = .ok (.iload_n 1, 1) := dk_27 (dk_at dksX3_removeRecording_0 2 rfl rfl)
theorem dX3_removeRecording_3 : decode cX3_removeRecording 3 = .ok (.invokevirtual 54, 3) := dk_182 0 54 (dk_at dksX3_removeRecording_0 3 rfl rfl)
theorem dX3_removeRecording_6 : decode cX3_removeRecording 6 = .ok (.invokevirtual 112, 3) := dk_182 0 112 (dk_at dksX3_removeRecording_0 6 rfl rfl)
theorem dX3_removeRecording_9 : decode cX3_removeRecording 9 = .ok (.ifCond .ne 5, 3) := dk_154 0 5 (dk_at dksX3_removeRecording_0 9 rfl rfl)
theorem dX3_removeRecording_12 : decode cX3_removeRecording 12 = .ok (.iconst (-1), 1) := dk_2 (dk_at dksX3_removeRecording_0 12 rfl rfl)
theorem dX3_removeRecording_13 : decode cX3_removeRecording 13 = .ok (.ireturn, 1) := dk_172 (dk_at dksX3_removeRecording_0 13 rfl rfl)
theorem dX3_removeRecording_14 : decode cX3_removeRecording 14 = .ok (.aload_n 0, 1) := dk_42 (dk_at dksX3_removeRecording_0 14 rfl rfl)
theorem dX3_removeRecording_15 : decode cX3_removeRecording 15 = .ok (.invokevirtual 268, 3) := dk_182 1 12 (dk_at dksX3_removeRecording_0 15 rfl rfl)
theorem dX3_removeRecording_18 : decode cX3_removeRecording 18 = .ok (.aload_n 0, 1) := dk_42 (dk_at dksX3_removeRecording_0 18 rfl rfl)
theorem dX3_removeRecording_19 : decode cX3_removeRecording 19 = .ok (.getfield 7, 3) := dk_180 0 7 (dk_at dksX3_removeRecording_0 19 rfl rfl)
theorem dX3_removeRecording_22 : decode cX3_removeRecording 22 = .ok (.iconst 0, 1) := dk_3 (dk_at dksX3_removeRecording_0 22 rfl rfl)
theorem dX3_removeRecording_23 : decode cX3_removeRecording 23 = .ok (.dup2, 1) := dk_92 (dk_at dksX3_removeRecording_0 23 rfl rfl)
theorem dX3_removeRecording_24 : decode cX3_removeRecording 24 = .ok (.iaload, 1) := dk_46 (dk_at dksX3_removeRecording_1 0 rfl rfl)
theorem dX3_removeRecording_25 : decode cX3_removeRecording 25 = .ok (.iconst 1, 1) := dk_4 (dk_at dksX3_removeRecording_1 1 rfl rfl)
theorem dX3_removeRecording_26 : decode cX3_removeRecording 26 = .ok (.isub, 1) := dk_100 (dk_at dksX3_removeRecording_1 2 rfl rfl)
theorem dX3_removeRecording_27 : decode cX3_removeRecording 27 = .ok (.iastore, 1) := dk_79 (dk_at dksX3_removeRecording_1 3 rfl rfl)
theorem dX3_removeRecording_28 : decode cX3_removeRecording 28 = .ok (.iload_n 1, 1) := dk_27 (dk_at dksX3_removeRecording_1 4 rfl rfl)
theorem dX3_removeRecording_29 : decode cX3_removeRecording 29 = .ok (.invokestatic 58, 3) := dk_184 0 58 (dk_at dksX3_removeRecording_1 5 rfl rfl)
theorem dX3_removeRecording_32 : decode cX3_removeRecording 32 = .ok (.istore_n 2, 1) := dk_61 (dk_at dksX3_removeRecording_1 8 rfl rfl)
theorem dX3_removeRecording_33 : decode cX3_removeRecording 33 = .ok (.iload_n 2, 1) := dk_28 (dk_at dksX3_removeRecording_1 9 rfl rfl)
theorem dX3_removeRecording_34 : decode cX3_removeRecording 34 = .ok (.aload_n 0, 1) := dk_42 (dk_at dksX3_removeRecording_1 10 rfl rfl)
theorem dX3_removeRecording_35 : decode cX3_removeRecording 35 = .ok (.getfield 7, 3) := dk_180 0 7 (dk_at dksX3_removeRecording_1 11 rfl rfl)
theorem dX3_removeRecording_38 : decode cX3_removeRecording 38 = .ok (.iconst 0, 1) := dk_3 (dk_at dksX3_removeRecording_1 14 rfl rfl)
theorem dX3_removeRecording_39 : decode cX3_removeRecording 39 = .ok (.iaload, 1) := dk_46 (dk_at dksX3_removeRecording_1 15 rfl rfl)
theorem dX3_removeRecording_40 : decode cX3_removeRecording 40 = .ok (.invokestatic 58, 3) := dk_184 0 58 (dk_at dksX3_removeRecording_1 16 rfl rfl)
theorem dX3_removeRecording_43 : decode cX3_removeRecording 43 = .ok (.if_icmp .ge 24, 3) := dk_162 0 24 (dk_at dksX3_removeRecording_1 19 rfl rfl)
theorem dX3_removeRecording_46 : decode cX3_removeRecording 46 = .ok (.aload_n 0, 1) := dk_42 (dk_at dksX3_removeRecording_1 22 rfl rfl)
theorem dX3_removeRecording_47 : decode cX3_removeRecording 47 = .ok (.getfield 7, 3) := dk_180 0 7 (dk_at dksX3_removeRecording_2 0 rfl rfl)
theorem dX3_removeRecording_50 : decode cX3_removeRecording 50 = .ok (.iload_n 2, 1) := dk_28 (dk_at dksX3_removeRecording_2 3 rfl rfl)
theorem dX3_removeRecording_51 : decode cX3_removeRecording 51 = .ok (.aload_n 0, 1) := dk_42 (dk_at dksX3_removeRecording_2 4 rfl rfl)
theorem dX3_removeRecording_52 : decode cX3_removeRecording 52 = .ok (.getfield 7, 3) := dk_180 0 7 (dk_at dksX3_removeRecording_2 5 rfl rfl)
theorem dX3_removeRecording_55 : decode cX3_removeRecording 55 = .ok (.iload_n 2, 1) := dk_28 (dk_at dksX3_removeRecording_2 8 rfl rfl)
theorem dX3_removeRecording_56 : decode cX3_removeRecording 56 = .ok (.bipush 72, 2) := dk_16 72 (dk_at dksX3_removeRecording_2 9 rfl rfl)
theorem dX3_removeRecording_58 : decode cX3_removeRecording 58 = .ok (.iadd, 1) := dk_96 (dk_at dksX3_removeRecording_2 11 rfl rfl)
theorem dX3_removeRecording_59 : decode cX3_removeRecording 59 = .ok (.iaload, 1) := dk_46 (dk_at dksX3_removeRecording_2 12 rfl rfl)
theorem dX3_removeRecording_60 : decode cX3_removeRecording 60 = .ok (.iastore, 1) := dk_79 (dk_at dksX3_removeRecording_2 13 rfl rfl)
theorem dX3_removeRecording_61 : decode cX3_removeRecording 61 = .ok (.iinc 2 1, 3) := dk_132 2 1 (dk_at dksX3_removeRecording_2 14 rfl rfl)
theorem dX3_removeRecording_64 : decode cX3_removeRecording 64 = .ok (.goto (-31), 3) := dk_167 255 225 (dk_at dksX3_removeRecording_2 17 rfl rfl)
theorem dX3_removeRecording_67 : decode cX3_removeRecording 67 = .ok (.aload_n 0, 1) := dk_42 (dk_at dksX3_removeRecording_2 20 rfl rfl)
theorem dX3_removeRecording_68 : decode cX3_removeRecording 68 = .ok (.aload_n 0, 1) := dk_42 (dk_at dksX3_removeRecording_2 21 rfl rfl)
theorem dX3_removeRecording_69 : decode cX3_removeRecording 69 = .ok (.getfield 7, 3) := dk_180 0 7 (dk_at dksX3_removeRecording_3 0 rfl rfl)
theorem dX3_removeRecording_72 : decode cX3_removeRecording 72 = .ok (.iconst 0, 1) := dk_3 (dk_at dksX3_removeRecording_3 3 rfl rfl)
theorem dX3_removeRecording_73 : decode cX3_removeRecording 73 = .ok (.iaload, 1) := dk_46 (dk_at dksX3_removeRecording_3 4 rfl rfl)
theorem dX3_removeRecording_74 : decode cX3_removeRecording 74 = .ok (.invokestatic 58, 3) := dk_184 0 58 (dk_at dksX3_removeRecording_3 5 rfl rfl)
theorem dX3_removeRecording_77 : decode cX3_removeRecording 77 = .ok (.bipush 72, 2) := dk_16 72 (dk_at dksX3_removeRecording_3 8 rfl rfl)
theorem dX3_removeRecording_79 : decode cX3_removeRecording 79 = .ok (.invokevirtual 137, 3) := dk_182 0 137 (dk_at dksX3_removeRecording_3 10 rfl rfl)
theorem dX3_removeRecording_82 : decode cX3_removeRecording 82 = .ok (.aload_n 0, 1) := dk_42 (dk_at dksX3_removeRecording_3 13 rfl rfl)
theorem dX3_removeRecording_83 : decode cX3_removeRecording 83 = .ok (.getfield 7, 3) := dk_180 0 7 (dk_at dksX3_removeRecording_3 14 rfl rfl)
theorem dX3_removeRecording_86 : decode cX3_removeRecording 86 = .ok (.iconst 0, 1) := dk_3 (dk_at dksX3_removeRecording_3 17 rfl rfl)
theorem dX3_removeRecording_87 : decode cX3_removeRecording 87 = .ok (.iaload, 1) := dk_46 (dk_at dksX3_removeRecording_3 18 rfl rfl)
theorem dX3_removeRecording_88 : decode cX3_removeRecording 88 = .ok (.ireturn, 1) := dk_172 (dk_at dksX3_removeRecording_3 19 rfl rfl)
abbrev cX3_setSample : ByteArray := prog_11_method_100_code
def yX3_setSample : MethodName := ⟨RX3, "setSample", "(III)I"⟩
def dkwX3_setSample_2 : List UInt8 := [54, 5, 42, 180, 0, 7, 21, 4, 29, 79, 21, 5, 172]
abbrev dktX3_setSample_2 : List UInt8 := dkwX3_setSample_2 ++ []
def dkwX3_setSample_1 : List UInt8 := [172, 42, 182, 1, 12, 27, 184, 0, 58, 16, 8, 96, 28, 96, 54, 4, 42, 180, 0, 7, 21, 4, 46]
abbrev dktX3_setSample_1 : List UInt8 := dkwX3_setSample_1 ++ dktX3_setSample_2
def dkwX3_setSample_0 : List UInt8 := [42, 42, 27, 28, 182, 0, 179, 29, 17, 216, 241, 17, 39, 15, 184, 0, 50, 182, 0, 187, 154, 0, 5, 2]
abbrev dktX3_setSample_0 : List UInt8 := dkwX3_setSample_0 ++ dktX3_setSample_1
theorem dksX3_setSample_0 : cX3_setSample.data.toList.drop 0 = dktX3_setSample_0 := by decide +kernel
theorem dksX3_setSample_1 : cX3_setSample.data.toList.drop 24 = dktX3_setSample_1 := dk_seg dksX3_setSample_0 24 rfl rfl
theorem dksX3_setSample_2 : cX3_setSample.data.toList.drop 47 = dktX3_setSample_2 := dk_seg dksX3_setSample_1 23 rfl rfl
theorem dX3_setSample_0 : decode cX3_setSample 0 = .ok (.aload_n 0, 1) := dk_42 (dk_at dksX3_setSample_0 0 rfl rfl)
theorem dX3_setSample_1 : decode cX3_setSample 1 = .ok (.aload_n 0, 1) := dk_42 (dk_at dksX3_setSample_0 1 rfl rfl)
theorem dX3_setSample_2 : decode cX3_setSample 2 = .ok (.iload_n 1, 1) := dk_27 (dk_at dksX3_setSample_0 2 rfl rfl)
theorem dX3_setSample_3 : decode cX3_setSample 3 = .ok (.iload_n 2, 1) := dk_28 (dk_at dksX3_setSample_0 3 rfl rfl)
theorem dX3_setSample_4 : decode cX3_setSample 4 = .ok (.invokevirtual 179, 3) := dk_182 0 179 (dk_at dksX3_setSample_0 4 rfl rfl)
theorem dX3_setSample_7 : decode cX3_setSample 7 = .ok (.iload_n 3, 1) := dk_29 (dk_at dksX3_setSample_0 7 rfl rfl)
theorem dX3_setSample_8 : decode cX3_setSample 8 = .ok (.sipush (-9999), 3) := dk_17 216 241 (dk_at dksX3_setSample_0 8 rfl rfl)
theorem dX3_setSample_11 : decode cX3_setSample 11 = .ok (.sipush 9999, 3) := dk_17 39 15 (dk_at dksX3_setSample_0 11 rfl rfl)
theorem dX3_setSample_14 : decode cX3_setSample 14 = .ok (.invokestatic 50, 3) := dk_184 0 50 (dk_at dksX3_setSample_0 14 rfl rfl)
theorem dX3_setSample_17 : decode cX3_setSample 17 = .ok (.invokevirtual 187, 3) := dk_182 0 187 (dk_at dksX3_setSample_0 17 rfl rfl)
theorem dX3_setSample_20 : decode cX3_setSample 20 = .ok (.ifCond .ne 5, 3) := dk_154 0 5 (dk_at dksX3_setSample_0 20 rfl rfl)
theorem dX3_setSample_23 : decode cX3_setSample 23 = .ok (.iconst (-1), 1) := dk_2 (dk_at dksX3_setSample_0 23 rfl rfl)
theorem dX3_setSample_24 : decode cX3_setSample 24 = .ok (.ireturn, 1) := dk_172 (dk_at dksX3_setSample_1 0 rfl rfl)
theorem dX3_setSample_25 : decode cX3_setSample 25 = .ok (.aload_n 0, 1) := dk_42 (dk_at dksX3_setSample_1 1 rfl rfl)
theorem dX3_setSample_26 : decode cX3_setSample 26 = .ok (.invokevirtual 268, 3) := dk_182 1 12 (dk_at dksX3_setSample_1 2 rfl rfl)
theorem dX3_setSample_29 : decode cX3_setSample 29 = .ok (.iload_n 1, 1) := dk_27 (dk_at dksX3_setSample_1 5 rfl rfl)
theorem dX3_setSample_30 : decode cX3_setSample 30 = .ok (.invokestatic 58, 3) := dk_184 0 58 (dk_at dksX3_setSample_1 6 rfl rfl)
theorem dX3_setSample_33 : decode cX3_setSample 33 = .ok (.bipush 8, 2) := dk_16 8 (dk_at dksX3_setSample_1 9 rfl rfl)
theorem dX3_setSample_35 : decode cX3_setSample 35 = .ok (.iadd, 1) := dk_96 (dk_at dksX3_setSample_1 11 rfl rfl)
theorem dX3_setSample_36 : decode cX3_setSample 36 = .ok (.iload_n 2, 1) := dk_28 (dk_at dksX3_setSample_1 12 rfl rfl)
theorem dX3_setSample_37 : decode cX3_setSample 37 = .ok (.iadd, 1) := dk_96 (dk_at dksX3_setSample_1 13 rfl rfl)
theorem dX3_setSample_38 : decode cX3_setSample 38 = .ok (.istore 4, 2) := dk_54 4 (dk_at dksX3_setSample_1 14 rfl rfl)
theorem dX3_setSample_40 : decode cX3_setSample 40 = .ok (.aload_n 0, 1) := dk_42 (dk_at dksX3_setSample_1 16 rfl rfl)
theorem dX3_setSample_41 : decode cX3_setSample 41 = .ok (.getfield 7, 3) := dk_180 0 7 (dk_at dksX3_setSample_1 17 rfl rfl)
theorem dX3_setSample_44 : decode cX3_setSample 44 = .ok (.iload 4, 2) := dk_21 4 (dk_at dksX3_setSample_1 20 rfl rfl)
theorem dX3_setSample_46 : decode cX3_setSample 46 = .ok (.iaload, 1) := dk_46 (dk_at dksX3_setSample_1 22 rfl rfl)
theorem dX3_setSample_47 : decode cX3_setSample 47 = .ok (.istore 5, 2) := dk_54 5 (dk_at dksX3_setSample_2 0 rfl rfl)
theorem dX3_setSample_49 : decode cX3_setSample 49 = .ok (.aload_n 0, 1) := dk_42 (dk_at dksX3_setSample_2 2 rfl rfl)
theorem dX3_setSample_50 : decode cX3_setSample 50 = .ok (.getfield 7, 3) := dk_180 0 7 (dk_at dksX3_setSample_2 3 rfl rfl)
theorem dX3_setSample_53 : decode cX3_setSample 53 = .ok (.iload 4, 2) := dk_21 4 (dk_at dksX3_setSample_2 6 rfl rfl)
theorem dX3_setSample_55 : decode cX3_setSample 55 = .ok (.iload_n 3, 1) := dk_29 (dk_at dksX3_setSample_2 8 rfl rfl)
theorem dX3_setSample_56 : decode cX3_setSample 56 = .ok (.iastore, 1) := dk_79 (dk_at dksX3_setSample_2 9 rfl rfl)
theorem dX3_setSample_57 : decode cX3_setSample 57 = .ok (.iload 5, 2) := dk_21 5 (dk_at dksX3_setSample_2 10 rfl rfl)
theorem dX3_setSample_59 : decode cX3_setSample 59 = .ok (.ireturn, 1) := dk_172 (dk_at dksX3_setSample_2 12 rfl rfl)
abbrev cX3_addRecording : ByteArray := prog_11_method_101_code
def yX3_addRecording : MethodName := ⟨RX3, "addRecording", "(III)I"⟩
def dkwX3_addRecording_6 : List UInt8 := [167, 255, 184, 21, 6, 172]
abbrev dktX3_addRecording_6 : List UInt8 := dkwX3_addRecording_6 ++ []
def dkwX3_addRecording_5 : List UInt8 := [180, 0, 7, 27, 184, 0, 58, 16, 8, 96, 21, 7, 96, 21, 8, 184, 0, 106, 79, 132, 7, 1]
abbrev dktX3_addRecording_5 : List UInt8 := dkwX3_addRecording_5 ++ dktX3_addRecording_6
def dkwX3_addRecording_4 : List UInt8 := [54, 8, 21, 6, 21, 8, 21, 8, 184, 0, 106, 160, 0, 7, 3, 167, 0, 4, 4, 96, 54, 6, 42]
abbrev dktX3_addRecording_4 : List UInt8 := dkwX3_addRecording_4 ++ dktX3_addRecording_5
def dkwX3_addRecording_3 : List UInt8 := [182, 0, 62, 162, 0, 68, 42, 27, 21, 7, 182, 0, 82, 29, 42, 28, 21, 7, 182, 0, 82, 104, 96]
abbrev dktX3_addRecording_3 : List UInt8 := dkwX3_addRecording_3 ++ dktX3_addRecording_4
def dkwX3_addRecording_2 : List UInt8 := [182, 0, 187, 154, 0, 5, 2, 172, 42, 182, 1, 12, 3, 54, 6, 3, 54, 7, 21, 7, 42, 27]
abbrev dktX3_addRecording_2 : List UInt8 := dkwX3_addRecording_2 ++ dktX3_addRecording_3
def dkwX3_addRecording_1 : List UInt8 := [16, 247, 16, 9, 184, 0, 50, 153, 0, 7, 4, 167, 0, 4, 3, 54, 5, 42, 21, 4, 21, 5]
abbrev dktX3_addRecording_1 : List UInt8 := dkwX3_addRecording_1 ++ dktX3_addRecording_2
def dkwX3_addRecording_0 : List UInt8 := [42, 27, 28, 182, 0, 227, 54, 4, 21, 4, 153, 0, 27, 42, 27, 28, 182, 0, 230, 153, 0, 18, 29]
abbrev dktX3_addRecording_0 : List UInt8 := dkwX3_addRecording_0 ++ dktX3_addRecording_1
theorem dksX3_addRecording_0 : cX3_addRecording.data.toList.drop 0 = dktX3_addRecording_0 := by decide +kernel
theorem dksX3_addRecording_1 : cX3_addRecording.data.toList.drop 23 = dktX3_addRecording_1 := dk_seg dksX3_addRecording_0 23 rfl rfl
theorem dksX3_addRecording_2 : cX3_addRecording.data.toList.drop 45 = dktX3_addRecording_2 := dk_seg dksX3_addRecording_1 22 rfl rfl
theorem dksX3_addRecording_3 : cX3_addRecording.data.toList.drop 67 = dktX3_addRecording_3 := dk_seg dksX3_addRecording_2 22 rfl rfl
theorem dksX3_addRecording_4 : cX3_addRecording.data.toList.drop 90 = dktX3_addRecording_4 := dk_seg dksX3_addRecording_3 23 rfl rfl
theorem dksX3_addRecording_5 : cX3_addRecording.data.toList.drop 113 = dktX3_addRecording_5 := dk_seg dksX3_addRecording_4 23 rfl rfl
theorem dksX3_addRecording_6 : cX3_addRecording.data.toList.drop 135 = dktX3_addRecording_6 := dk_seg dksX3_addRecording_5 22 rfl rfl
theorem dX3_addRecording_0 : decode cX3_addRecording 0 = .ok (.aload_n 0, 1) := dk_42 (dk_at dksX3_addRecording_0 0 rfl rfl)
theorem dX3_addRecording_1 : decode cX3_addRecording 1 = .ok (.iload_n 1, 1) := dk_27 (dk_at dksX3_addRecording_0 1 rfl rfl)
theorem dX3_addRecording_2 : decode cX3_addRecording 2 = .ok (.iload_n 2, 1) := dk_28 (dk_at dksX3_addRecording_0 2 rfl rfl)
theorem dX3_addRecording_3 : decode cX3_addRecording 3 = .ok (.invokevirtual 227, 3) := dk_182 0 227 (dk_at dksX3_addRecording_0 3 rfl rfl)
theorem dX3_addRecording_6 : decode cX3_addRecording 6 = .ok (.istore 4, 2) := dk_54 4 (dk_at dksX3_addRecording_0 6 rfl rfl)
theorem dX3_addRecording_8 : decode cX3_addRecording 8 = .ok (.iload 4, 2) := dk_21 4 (dk_at dksX3_addRecording_0 8 rfl rfl)
theorem dX3_addRecording_10 : decode cX3_addRecording 10 = .ok (.ifCond .eq 27, 3) := dk_153 0 27 (dk_at dksX3_addRecording_0 10 rfl rfl)
theorem dX3_addRecording_13 : decode cX3_addRecording 13 = .ok (.aload_n 0, 1) := dk_42 (dk_at dksX3_addRecording_0 13 rfl rfl)
theorem dX3_addRecording_14 : decode cX3_addRecording 14 = .ok (.iload_n 1, 1) := dk_27 (dk_at dksX3_addRecording_0 14 rfl rfl)
theorem dX3_addRecording_15 : decode cX3_addRecording 15 = .ok (.iload_n 2, 1) := dk_28 (dk_at dksX3_addRecording_0 15 rfl rfl)
theorem dX3_addRecording_16 : decode cX3_addRecording 16 = .ok (.invokevirtual 230, 3) := dk_182 0 230 (dk_at dksX3_addRecording_0 16 rfl rfl)
theorem dX3_addRecording_19 : decode cX3_addRecording 19 = .ok (.ifCond .eq 18, 3) := dk_153 0 18 (dk_at dksX3_addRecording_0 19 rfl rfl)
theorem dX3_addRecording_22 : decode cX3_addRecording 22 = .ok (.iload_n 3, 1) := dk_29 (dk_at dksX3_addRecording_0 22 rfl rfl)
theorem dX3_addRecording_23 : decode cX3_addRecording 23 = .ok (.bipush (-9), 2) := dk_16 247 (dk_at dksX3_addRecording_1 0 rfl rfl)
theorem dX3_addRecording_25 : decode cX3_addRecording 25 = .ok (.bipush 9, 2) := dk_16 9 (dk_at dksX3_addRecording_1 2 rfl rfl)
theorem dX3_addRecording_27 : decode cX3_addRecording 27 = .ok (.invokestatic 50, 3) := dk_184 0 50 (dk_at dksX3_addRecording_1 4 rfl rfl)
theorem dX3_addRecording_30 : decode cX3_addRecording 30 = .ok (.ifCond .eq 7, 3) := dk_153 0 7 (dk_at dksX3_addRecording_1 7 rfl rfl)
theorem dX3_addRecording_33 : decode cX3_addRecording 33 = .ok (.iconst 1, 1) := dk_4 (dk_at dksX3_addRecording_1 10 rfl rfl)
theorem dX3_addRecording_34 : decode cX3_addRecording 34 = .ok (.goto 4, 3) := dk_167 0 4 (dk_at dksX3_addRecording_1 11 rfl rfl)
theorem dX3_addRecording_37 : decode cX3_addRecording 37 = .ok (.iconst 0, 1) := dk_3 (dk_at dksX3_addRecording_1 14 rfl rfl)
theorem dX3_addRecording_38 : decode cX3_addRecording 38 = .ok (.istore 5, 2) := dk_54 5 (dk_at dksX3_addRecording_1 15 rfl rfl)
theorem dX3_addRecording_40 : decode cX3_addRecording 40 = .ok (.aload_n 0, 1) := dk_42 (dk_at dksX3_addRecording_1 17 rfl rfl)
theorem dX3_addRecording_41 : decode cX3_addRecording 41 = .ok (.iload 4, 2) := dk_21 4 (dk_at dksX3_addRecording_1 18 rfl rfl)
theorem dX3_addRecording_43 : decode cX3_addRecording 43 = .ok (.iload 5, 2) := dk_21 5 (dk_at dksX3_addRecording_1 20 rfl rfl)
theorem dX3_addRecording_45 : decode cX3_addRecording 45 = .ok (.invokevirtual 187, 3) := dk_182 0 187 (dk_at dksX3_addRecording_2 0 rfl rfl)
theorem dX3_addRecording_48 : decode cX3_addRecording 48 = .ok (.ifCond .ne 5, 3) := dk_154 0 5 (dk_at dksX3_addRecording_2 3 rfl rfl)
theorem dX3_addRecording_51 : decode cX3_addRecording 51 = .ok (.iconst (-1), 1) := dk_2 (dk_at dksX3_addRecording_2 6 rfl rfl)
theorem dX3_addRecording_52 : decode cX3_addRecording 52 = .ok (.ireturn, 1) := dk_172 (dk_at dksX3_addRecording_2 7 rfl rfl)
theorem dX3_addRecording_53 : decode cX3_addRecording 53 = .ok (.aload_n 0, 1) := dk_42 (dk_at dksX3_addRecording_2 8 rfl rfl)
theorem dX3_addRecording_54 : decode cX3_addRecording 54 = .ok (.invokevirtual 268, 3) := dk_182 1 12 (dk_at dksX3_addRecording_2 9 rfl rfl)
theorem dX3_addRecording_57 : decode cX3_addRecording 57 = .ok (.iconst 0, 1) := dk_3 (dk_at dksX3_addRecording_2 12 rfl rfl)
theorem dX3_addRecording_58 : decode cX3_addRecording 58 = .ok (.istore 6, 2) := dk_54 6 (dk_at dksX3_addRecording_2 13 rfl rfl)
theorem dX3_addRecording_60 : decode cX3_addRecording 60 = .ok (.iconst 0, 1) := dk_3 (dk_at dksX3_addRecording_2 15 rfl rfl)
theorem dX3_addRecording_61 : decode cX3_addRecording 61 = .ok (.istore 7, 2) := dk_54 7 (dk_at dksX3_addRecording_2 16 rfl rfl)
theorem dX3_addRecording_63 : decode cX3_addRecording 63 = .ok (.iload 7, 2) := dk_21 7 (dk_at dksX3_addRecording_2 18 rfl rfl)
theorem dX3_addRecording_65 : decode cX3_addRecording 65 = .ok (.aload_n 0, 1) := dk_42 (dk_at dksX3_addRecording_2 20 rfl rfl)
theorem dX3_addRecording_66 : decode cX3_addRecording 66 = .ok (.iload_n 1, 1) := dk_27 (dk_at dksX3_addRecording_2 21 rfl rfl)
theorem dX3_addRecording_67 : decode cX3_addRecording 67 = .ok (.invokevirtual 62, 3) := dk_182 0 62 (dk_at dksX3_addRecording_3 0 rfl rfl)
theorem dX3_addRecording_70 : decode cX3_addRecording 70 = .ok (.if_icmp .ge 68, 3) := dk_162 0 68 (dk_at dksX3_addRecording_3 3 rfl rfl)
theorem dX3_addRecording_73 : decode cX3_addRecording 73 = .ok (.aload_n 0, 1) := dk_42 (dk_at dksX3_addRecording_3 6 rfl rfl)
theorem dX3_addRecording_74 : decode cX3_addRecording 74 = .ok (.iload_n 1, 1) := dk_27 (dk_at dksX3_addRecording_3 7 rfl rfl)
theorem dX3_addRecording_75 : decode cX3_addRecording 75 = .ok (.iload 7, 2) := dk_21 7 (dk_at dksX3_addRecording_3 8 rfl rfl)
theorem dX3_addRecording_77 : decode cX3_addRecording 77 = .ok (.invokevirtual 82, 3) := dk_182 0 82 (dk_at dksX3_addRecording_3 10 rfl rfl)
theorem dX3_addRecording_80 : decode cX3_addRecording 80 = .ok (.iload_n 3, 1) := dk_29 (dk_at dksX3_addRecording_3 13 rfl rfl)
theorem dX3_addRecording_81 : decode cX3_addRecording 81 = .ok (.aload_n 0, 1) := dk_42 (dk_at dksX3_addRecording_3 14 rfl rfl)
theorem dX3_addRecording_82 : decode cX3_addRecording 82 = .ok (.iload_n 2, 1) := dk_28 (dk_at dksX3_addRecording_3 15 rfl rfl)
theorem dX3_addRecording_83 : decode cX3_addRecording 83 = .ok (.iload 7, 2) := dk_21 7 (dk_at dksX3_addRecording_3 16 rfl rfl)
theorem dX3_addRecording_85 : decode cX3_addRecording 85 = .ok (.invokevirtual 82, 3) := dk_182 0 82 (dk_at dksX3_addRecording_3 18 rfl rfl)
theorem dX3_addRecording_88 : decode cX3_addRecording 88 = .ok (.imul, 1) := dk_104 (dk_at dksX3_addRecording_3 21 rfl rfl)
theorem dX3_addRecording_89 : decode cX3_addRecording 89 = .ok (.iadd, 1) := dk_96 (dk_at dksX3_addRecording_3 22 rfl rfl)
theorem dX3_addRecording_90 : decode cX3_addRecording 90 = .ok (.istore 8, 2) := dk_54 8 (dk_at dksX3_addRecording_4 0 rfl rfl)
theorem dX3_addRecording_92 : decode cX3_addRecording 92 = .ok (.iload 6, 2) := dk_21 6 (dk_at dksX3_addRecording_4 2 rfl rfl)
theorem dX3_addRecording_94 : decode cX3_addRecording 94 = .ok (.iload 8, 2) := dk_21 8 (dk_at dksX3_addRecording_4 4 rfl rfl)
theorem dX3_addRecording_96 : decode cX3_addRecording 96 = .ok (.iload 8, 2) := dk_21 8 (dk_at dksX3_addRecording_4 6 rfl rfl)
theorem dX3_addRecording_98 : decode cX3_addRecording 98 = .ok (.invokestatic 106, 3) := dk_184 0 106 (dk_at dksX3_addRecording_4 8 rfl rfl)
theorem dX3_addRecording_101 : decode cX3_addRecording 101 = .ok (.if_icmp .ne 7, 3) := dk_160 0 7 (dk_at dksX3_addRecording_4 11 rfl rfl)
theorem dX3_addRecording_104 : decode cX3_addRecording 104 = .ok (.iconst 0, 1) := dk_3 (dk_at dksX3_addRecording_4 14 rfl rfl)
theorem dX3_addRecording_105 : decode cX3_addRecording 105 = .ok (.goto 4, 3) := dk_167 0 4 (dk_at dksX3_addRecording_4 15 rfl rfl)
theorem dX3_addRecording_108 : decode cX3_addRecording 108 = .ok (.iconst 1, 1) := dk_4 (dk_at dksX3_addRecording_4 18 rfl rfl)
theorem dX3_addRecording_109 : decode cX3_addRecording 109 = .ok (.iadd, 1) := dk_96 (dk_at dksX3_addRecording_4 19 rfl rfl)
theorem dX3_addRecording_110 : decode cX3_addRecording 110 = .ok (.istore 6, 2) := dk_54 6 (dk_at dksX3_addRecording_4 20 rfl rfl)
theorem dX3_addRecording_112 : decode cX3_addRecording 112 = .ok (.aload_n 0, 1) := dk_42 (dk_at dksX3_addRecording_4 22 rfl rfl)
theorem dX3_addRecording_113 : decode cX3_addRecording 113 = .ok (.getfield 7, 3) := dk_180 0 7 (dk_at dksX3_addRecording_5 0 rfl rfl)
theorem dX3_addRecording_116 : decode cX3_addRecording 116 = .ok (.iload_n 1, 1) := dk_27 (dk_at dksX3_addRecording_5 3 rfl rfl)
theorem dX3_addRecording_117 : decode cX3_addRecording 117 = .ok (.invokestatic 58, 3) := dk_184 0 58 (dk_at dksX3_addRecording_5 4 rfl rfl)
theorem dX3_addRecording_120 : decode cX3_addRecording 120 = .ok (.bipush 8, 2) := dk_16 8 (dk_at dksX3_addRecording_5 7 rfl rfl)
theorem dX3_addRecording_122 : decode cX3_addRecording 122 = .ok (.iadd, 1) := dk_96 (dk_at dksX3_addRecording_5 9 rfl rfl)
theorem dX3_addRecording_123 : decode cX3_addRecording 123 = .ok (.iload 7, 2) := dk_21 7 (dk_at dksX3_addRecording_5 10 rfl rfl)
theorem dX3_addRecording_125 : decode cX3_addRecording 125 = .ok (.iadd, 1) := dk_96 (dk_at dksX3_addRecording_5 12 rfl rfl)
theorem dX3_addRecording_126 : decode cX3_addRecording 126 = .ok (.iload 8, 2) := dk_21 8 (dk_at dksX3_addRecording_5 13 rfl rfl)
theorem dX3_addRecording_128 : decode cX3_addRecording 128 = .ok (.invokestatic 106, 3) := dk_184 0 106 (dk_at dksX3_addRecording_5 15 rfl rfl)
theorem dX3_addRecording_131 : decode cX3_addRecording 131 = .ok (.iastore, 1) := dk_79 (dk_at dksX3_addRecording_5 18 rfl rfl)
theorem dX3_addRecording_132 : decode cX3_addRecording 132 = .ok (.iinc 7 1, 3) := dk_132 7 1 (dk_at dksX3_addRecording_5 19 rfl rfl)
theorem dX3_addRecording_135 : decode cX3_addRecording 135 = .ok (.goto (-72), 3) := dk_167 255 184 (dk_at dksX3_addRecording_6 0 rfl rfl)
theorem dX3_addRecording_138 : decode cX3_addRecording 138 = .ok (.iload 6, 2) := dk_21 6 (dk_at dksX3_addRecording_6 3 rfl rfl)
theorem dX3_addRecording_140 : decode cX3_addRecording 140 = .ok (.ireturn, 1) := dk_172 (dk_at dksX3_addRecording_6 5 rfl rfl)
abbrev cX3_keepPeaks : ByteArray := prog_11_method_102_code
def yX3_keepPeaks : MethodName := ⟨RX3, "keepPeaks", "(II)I"⟩
def dkwX3_keepPeaks_2 : List UInt8 := [182, 1, 18, 172]
abbrev dktX3_keepPeaks_2 : List UInt8 := dkwX3_keepPeaks_2 ++ []
def dkwX3_keepPeaks_1 : List UInt8 := [167, 0, 4, 3, 182, 0, 187, 154, 0, 5, 2, 172, 42, 182, 1, 12, 42, 27, 28, 182, 0, 255, 42, 27]
abbrev dktX3_keepPeaks_1 : List UInt8 := dkwX3_keepPeaks_1 ++ dktX3_keepPeaks_2
def dkwX3_keepPeaks_0 : List UInt8 := [42, 27, 182, 0, 54, 62, 42, 29, 29, 153, 0, 16, 42, 27, 28, 182, 1, 2, 153, 0, 7, 4]
abbrev dktX3_keepPeaks_0 : List UInt8 := dkwX3_keepPeaks_0 ++ dktX3_keepPeaks_1
theorem dksX3_keepPeaks_0 : cX3_keepPeaks.data.toList.drop 0 = dktX3_keepPeaks_0 := by decide +kernel
theorem dksX3_keepPeaks_1 : cX3_keepPeaks.data.toList.drop 22 = dktX3_keepPeaks_1 := dk_seg dksX3_keepPeaks_0 22 rfl rfl
theorem dksX3_keepPeaks_2 : cX3_keepPeaks.data.toList.drop 46 = dktX3_keepPeaks_2 := dk_seg dksX3_keepPeaks_1 24 rfl rfl
theorem dX3_keepPeaks_0 : decode cX3_keepPeaks 0 = .ok (.aload_n 0, 1) := dk_42 (dk_at dksX3_keepPeaks_0 0 rfl rfl)
theorem dX3_keepPeaks_1 : decode cX3_keepPeaks 1 = .ok (.iload_n 1, 1) := dk_27 (dk_at dksX3_keepPeaks_0 1 rfl rfl)
theorem dX3_keepPeaks_2 : decode cX3_keepPeaks 2 = .ok (.invokevirtual 54, 3) := dk_182 0 54 (dk_at dksX3_keepPeaks_0 2 rfl rfl)
theorem dX3_keepPeaks_5 : decode cX3_keepPeaks 5 = .ok (.istore_n 3, 1) := dk_62 (dk_at dksX3_keepPeaks_0 5 rfl rfl)
theorem dX3_keepPeaks_6 : decode cX3_keepPeaks 6 = .ok (.aload_n 0, 1) := dk_42 (dk_at dksX3_keepPeaks_0 6 rfl rfl)
theorem dX3_keepPeaks_7 : decode cX3_keepPeaks 7 = .ok (.iload_n 3, 1) := dk_29 (dk_at dksX3_keepPeaks_0 7 rfl rfl)
theorem dX3_keepPeaks_8 : decode cX3_keepPeaks 8 = .ok (.iload_n 3, 1) := dk_29 (dk_at dksX3_keepPeaks_0 8 rfl rfl)
theorem dX3_keepPeaks_9 : decode cX3_keepPeaks 9 = .ok (.ifCond .eq 16, 3) := dk_153 0 16 (dk_at dksX3_keepPeaks_0 9 rfl rfl)
theorem dX3_keepPeaks_12 : decode cX3_keepPeaks 12 = .ok (.aload_n 0, 1) := dk_42 (dk_at dksX3_keepPeaks_0 12 rfl rfl)
theorem dX3_keepPeaks_13 : decode cX3_keepPeaks 13 = .ok (.iload_n 1, 1) := dk_27 (dk_at dksX3_keepPeaks_0 13 rfl rfl)
theorem dX3_keepPeaks_14 : decode cX3_keepPeaks 14 = .ok (.iload_n 2, 1) := dk_28 (dk_at dksX3_keepPeaks_0 14 rfl rfl)
theorem dX3_keepPeaks_15 : decode cX3_keepPeaks 15 = .ok (.invokevirtual 258, 3) := dk_182 1 2 (dk_at dksX3_keepPeaks_0 15 rfl rfl)
theorem dX3_keepPeaks_18 : decode cX3_keepPeaks 18 = .ok (.ifCond .eq 7, 3) := dk_153 0 7 (dk_at dksX3_keepPeaks_0 18 rfl rfl)
theorem dX3_keepPeaks_21 : decode cX3_keepPeaks 21 = .ok (.iconst 1, 1) := dk_4 (dk_at dksX3_keepPeaks_0 21 rfl rfl)
theorem dX3_keepPeaks_22 : decode cX3_keepPeaks 22 = .ok (.goto 4, 3) := dk_167 0 4 (dk_at dksX3_keepPeaks_1 0 rfl rfl)
theorem dX3_keepPeaks_25 : decode cX3_keepPeaks 25 = .ok (.iconst 0, 1) := dk_3 (dk_at dksX3_keepPeaks_1 3 rfl rfl)
theorem dX3_keepPeaks_26 : decode cX3_keepPeaks 26 = .ok (.invokevirtual 187, 3) := dk_182 0 187 (dk_at dksX3_keepPeaks_1 4 rfl rfl)
theorem dX3_keepPeaks_29 : decode cX3_keepPeaks 29 = .ok (.ifCond .ne 5, 3) := dk_154 0 5 (dk_at dksX3_keepPeaks_1 7 rfl rfl)
theorem dX3_keepPeaks_32 : decode cX3_keepPeaks 32 = .ok (.iconst (-1), 1) := dk_2 (dk_at dksX3_keepPeaks_1 10 rfl rfl)
theorem dX3_keepPeaks_33 : decode cX3_keepPeaks 33 = .ok (.ireturn, 1) := dk_172 (dk_at dksX3_keepPeaks_1 11 rfl rfl)
theorem dX3_keepPeaks_34 : decode cX3_keepPeaks 34 = .ok (.aload_n 0, 1) := dk_42 (dk_at dksX3_keepPeaks_1 12 rfl rfl)
theorem dX3_keepPeaks_35 : decode cX3_keepPeaks 35 = .ok (.invokevirtual 268, 3) := dk_182 1 12 (dk_at dksX3_keepPeaks_1 13 rfl rfl)
theorem dX3_keepPeaks_38 : decode cX3_keepPeaks 38 = .ok (.aload_n 0, 1) := dk_42 (dk_at dksX3_keepPeaks_1 16 rfl rfl)
theorem dX3_keepPeaks_39 : decode cX3_keepPeaks 39 = .ok (.iload_n 1, 1) := dk_27 (dk_at dksX3_keepPeaks_1 17 rfl rfl)
theorem dX3_keepPeaks_40 : decode cX3_keepPeaks 40 = .ok (.iload_n 2, 1) := dk_28 (dk_at dksX3_keepPeaks_1 18 rfl rfl)
theorem dX3_keepPeaks_41 : decode cX3_keepPeaks 41 = .ok (.invokevirtual 255, 3) := dk_182 0 255 (dk_at dksX3_keepPeaks_1 19 rfl rfl)
theorem dX3_keepPeaks_44 : decode cX3_keepPeaks 44 = .ok (.aload_n 0, 1) := dk_42 (dk_at dksX3_keepPeaks_1 22 rfl rfl)
theorem dX3_keepPeaks_45 : decode cX3_keepPeaks 45 = .ok (.iload_n 1, 1) := dk_27 (dk_at dksX3_keepPeaks_1 23 rfl rfl)
theorem dX3_keepPeaks_46 : decode cX3_keepPeaks 46 = .ok (.invokevirtual 274, 3) := dk_182 1 18 (dk_at dksX3_keepPeaks_2 0 rfl rfl)
theorem dX3_keepPeaks_49 : decode cX3_keepPeaks 49 = .ok (.ireturn, 1) := dk_172 (dk_at dksX3_keepPeaks_2 3 rfl rfl)
abbrev cX3_replace : ByteArray := prog_11_method_27_code
def yX3_replace : MethodName := ⟨RX3, "replace", "(I)I"⟩
def dkwX3_replace_2 : List UInt8 := [96, 42, 180, 0, 37, 29, 46, 79, 132, 3, 1, 167, 255, 201, 28, 172]
abbrev dktX3_replace_2 : List UInt8 := dkwX3_replace_2 ++ []
def dkwX3_replace_1 : List UInt8 := [29, 46, 160, 0, 7, 3, 167, 0, 4, 4, 96, 61, 42, 180, 0, 7, 27, 184, 0, 58, 16, 8, 96, 29]
abbrev dktX3_replace_1 : List UInt8 := dkwX3_replace_1 ++ dktX3_replace_2
def dkwX3_replace_0 : List UInt8 := [3, 61, 3, 62, 29, 42, 27, 182, 0, 62, 162, 0, 52, 28, 42, 27, 29, 182, 0, 82, 42, 180, 0, 37]
abbrev dktX3_replace_0 : List UInt8 := dkwX3_replace_0 ++ dktX3_replace_1
theorem dksX3_replace_0 : cX3_replace.data.toList.drop 0 = dktX3_replace_0 := by decide +kernel
theorem dksX3_replace_1 : cX3_replace.data.toList.drop 24 = dktX3_replace_1 := dk_seg dksX3_replace_0 24 rfl rfl
theorem dksX3_replace_2 : cX3_replace.data.toList.drop 48 = dktX3_replace_2 := dk_seg dksX3_replace_1 24 rfl rfl
theorem dX3_replace_0 : decode cX3_replace 0 = .ok (.iconst 0, 1) := dk_3 (dk_at dksX3_replace_0 0 rfl rfl)
theorem dX3_replace_1 : decode cX3_replace 1 = .ok (.istore_n 2, 1) := dk_61 (dk_at dksX3_replace_0 1 rfl rfl)
theorem dX3_replace_2 : decode cX3_replace 2 = .ok (.iconst 0, 1) := dk_3 (dk_at dksX3_replace_0 2 rfl rfl)
theorem dX3_replace_3 : decode cX3_replace 3 = .ok (.istore_n 3, 1) := dk_62 (dk_at dksX3_replace_0 3 rfl rfl)
theorem dX3_replace_4 : decode cX3_replace 4 = .ok (.iload_n 3, 1) := dk_29 (dk_at dksX3_replace_0 4 rfl rfl)
theorem dX3_replace_5 : decode cX3_replace 5 = .ok (.aload_n 0, 1) := dk_42 (dk_at dksX3_replace_0 5 rfl rfl)
theorem dX3_replace_6 : decode cX3_replace 6 = .ok (.iload_n 1, 1) := dk_27 (dk_at dksX3_replace_0 6 rfl rfl)
theorem dX3_replace_7 : decode cX3_replace 7 = .ok (.invokevirtual 62, 3) := dk_182 0 62 (dk_at dksX3_replace_0 7 rfl rfl)
theorem dX3_replace_10 : decode cX3_replace 10 = .ok (.if_icmp .ge 52, 3) := dk_162 0 52 (dk_at dksX3_replace_0 10 rfl rfl)
theorem dX3_replace_13 : decode cX3_replace 13 = .ok (.iload_n 2, 1) := dk_28 (dk_at dksX3_replace_0 13 rfl rfl)
theorem dX3_replace_14 : decode cX3_replace 14 = .ok (.aload_n 0, 1) := dk_42 (dk_at dksX3_replace_0 14 rfl rfl)
theorem dX3_replace_15 : decode cX3_replace 15 = .ok (.iload_n 1, 1) := dk_27 (dk_at dksX3_replace_0 15 rfl rfl)
theorem dX3_replace_16 : decode cX3_replace 16 = .ok (.iload_n 3, 1) := dk_29 (dk_at dksX3_replace_0 16 rfl rfl)
theorem dX3_replace_17 : decode cX3_replace 17 = .ok (.invokevirtual 82, 3) := dk_182 0 82 (dk_at dksX3_replace_0 17 rfl rfl)
theorem dX3_replace_20 : decode cX3_replace 20 = .ok (.aload_n 0, 1) := dk_42 (dk_at dksX3_replace_0 20 rfl rfl)
theorem dX3_replace_21 : decode cX3_replace 21 = .ok (.getfield 37, 3) := dk_180 0 37 (dk_at dksX3_replace_0 21 rfl rfl)
theorem dX3_replace_24 : decode cX3_replace 24 = .ok (.iload_n 3, 1) := dk_29 (dk_at dksX3_replace_1 0 rfl rfl)
theorem dX3_replace_25 : decode cX3_replace 25 = .ok (.iaload, 1) := dk_46 (dk_at dksX3_replace_1 1 rfl rfl)
theorem dX3_replace_26 : decode cX3_replace 26 = .ok (.if_icmp .ne 7, 3) := dk_160 0 7 (dk_at dksX3_replace_1 2 rfl rfl)
theorem dX3_replace_29 : decode cX3_replace 29 = .ok (.iconst 0, 1) := dk_3 (dk_at dksX3_replace_1 5 rfl rfl)
theorem dX3_replace_30 : decode cX3_replace 30 = .ok (.goto 4, 3) := dk_167 0 4 (dk_at dksX3_replace_1 6 rfl rfl)
theorem dX3_replace_33 : decode cX3_replace 33 = .ok (.iconst 1, 1) := dk_4 (dk_at dksX3_replace_1 9 rfl rfl)
theorem dX3_replace_34 : decode cX3_replace 34 = .ok (.iadd, 1) := dk_96 (dk_at dksX3_replace_1 10 rfl rfl)
theorem dX3_replace_35 : decode cX3_replace 35 = .ok (.istore_n 2, 1) := dk_61 (dk_at dksX3_replace_1 11 rfl rfl)
theorem dX3_replace_36 : decode cX3_replace 36 = .ok (.aload_n 0, 1) := dk_42 (dk_at dksX3_replace_1 12 rfl rfl)
theorem dX3_replace_37 : decode cX3_replace 37 = .ok (.getfield 7, 3) := dk_180 0 7 (dk_at dksX3_replace_1 13 rfl rfl)
theorem dX3_replace_40 : decode cX3_replace 40 = .ok (.iload_n 1, 1) := dk_27 (dk_at dksX3_replace_1 16 rfl rfl)
theorem dX3_replace_41 : decode cX3_replace 41 = .ok (.invokestatic 58, 3) := dk_184 0 58 (dk_at dksX3_replace_1 17 rfl rfl)
theorem dX3_replace_44 : decode cX3_replace 44 = .ok (.bipush 8, 2) := dk_16 8 (dk_at dksX3_replace_1 20 rfl rfl)
theorem dX3_replace_46 : decode cX3_replace 46 = .ok (.iadd, 1) := dk_96 (dk_at dksX3_replace_1 22 rfl rfl)
theorem dX3_replace_47 : decode cX3_replace 47 = .ok (.iload_n 3, 1) := dk_29 (dk_at dksX3_replace_1 23 rfl rfl)
theorem dX3_replace_48 : decode cX3_replace 48 = .ok (.iadd, 1) := dk_96 (dk_at dksX3_replace_2 0 rfl rfl)
theorem dX3_replace_49 : decode cX3_replace 49 = .ok (.aload_n 0, 1) := dk_42 (dk_at dksX3_replace_2 1 rfl rfl)
theorem dX3_replace_50 : decode cX3_replace 50 = .ok (.getfield 37, 3) := dk_180 0 37 (dk_at dksX3_replace_2 2 rfl rfl)
theorem dX3_replace_53 : decode cX3_replace 53 = .ok (.iload_n 3, 1) := dk_29 (dk_at dksX3_replace_2 5 rfl rfl)
theorem dX3_replace_54 : decode cX3_replace 54 = .ok (.iaload, 1) := dk_46 (dk_at dksX3_replace_2 6 rfl rfl)
theorem dX3_replace_55 : decode cX3_replace 55 = .ok (.iastore, 1) := dk_79 (dk_at dksX3_replace_2 7 rfl rfl)
theorem dX3_replace_56 : decode cX3_replace 56 = .ok (.iinc 3 1, 3) := dk_132 3 1 (dk_at dksX3_replace_2 8 rfl rfl)
theorem dX3_replace_59 : decode cX3_replace 59 = .ok (.goto (-55), 3) := dk_167 255 201 (dk_at dksX3_replace_2 11 rfl rfl)
theorem dX3_replace_62 : decode cX3_replace 62 = .ok (.iload_n 2, 1) := dk_28 (dk_at dksX3_replace_2 14 rfl rfl)
theorem dX3_replace_63 : decode cX3_replace 63 = .ok (.ireturn, 1) := dk_172 (dk_at dksX3_replace_2 15 rfl rfl)
abbrev cX3_keepAbove : ByteArray := prog_11_method_103_code
def yX3_keepAbove : MethodName := ⟨RX3, "keepAbove", "(II)I"⟩
def dkwX3_keepAbove_3 : List UInt8 := [167, 255, 215, 42, 42, 27, 182, 0, 62, 182, 0, 252, 42, 27, 182, 1, 18, 172]
abbrev dktX3_keepAbove_3 : List UInt8 := dkwX3_keepAbove_3 ++ []
def dkwX3_keepAbove_2 : List UInt8 := [46, 184, 0, 100, 28, 162, 0, 7, 3, 167, 0, 9, 42, 180, 0, 28, 29, 46, 79, 132, 3, 1]
abbrev dktX3_keepAbove_2 : List UInt8 := dkwX3_keepAbove_2 ++ dktX3_keepAbove_3
def dkwX3_keepAbove_1 : List UInt8 := [182, 0, 92, 3, 62, 29, 42, 27, 182, 0, 62, 162, 0, 38, 42, 180, 0, 28, 29, 42, 180, 0, 28, 29]
abbrev dktX3_keepAbove_1 : List UInt8 := dkwX3_keepAbove_1 ++ dktX3_keepAbove_2
def dkwX3_keepAbove_0 : List UInt8 := [42, 42, 27, 182, 0, 54, 28, 184, 0, 210, 182, 0, 187, 154, 0, 5, 2, 172, 42, 182, 1, 12, 42, 27]
abbrev dktX3_keepAbove_0 : List UInt8 := dkwX3_keepAbove_0 ++ dktX3_keepAbove_1
theorem dksX3_keepAbove_0 : cX3_keepAbove.data.toList.drop 0 = dktX3_keepAbove_0 := by decide +kernel
theorem dksX3_keepAbove_1 : cX3_keepAbove.data.toList.drop 24 = dktX3_keepAbove_1 := dk_seg dksX3_keepAbove_0 24 rfl rfl
theorem dksX3_keepAbove_2 : cX3_keepAbove.data.toList.drop 48 = dktX3_keepAbove_2 := dk_seg dksX3_keepAbove_1 24 rfl rfl
theorem dksX3_keepAbove_3 : cX3_keepAbove.data.toList.drop 70 = dktX3_keepAbove_3 := dk_seg dksX3_keepAbove_2 22 rfl rfl
theorem dX3_keepAbove_0 : decode cX3_keepAbove 0 = .ok (.aload_n 0, 1) := dk_42 (dk_at dksX3_keepAbove_0 0 rfl rfl)
theorem dX3_keepAbove_1 : decode cX3_keepAbove 1 = .ok (.aload_n 0, 1) := dk_42 (dk_at dksX3_keepAbove_0 1 rfl rfl)
theorem dX3_keepAbove_2 : decode cX3_keepAbove 2 = .ok (.iload_n 1, 1) := dk_27 (dk_at dksX3_keepAbove_0 2 rfl rfl)
theorem dX3_keepAbove_3 : decode cX3_keepAbove 3 = .ok (.invokevirtual 54, 3) := dk_182 0 54 (dk_at dksX3_keepAbove_0 3 rfl rfl)
theorem dX3_keepAbove_6 : decode cX3_keepAbove 6 = .ok (.iload_n 2, 1) := dk_28 (dk_at dksX3_keepAbove_0 6 rfl rfl)
theorem dX3_keepAbove_7 : decode cX3_keepAbove 7 = .ok (.invokestatic 210, 3) := dk_184 0 210 (dk_at dksX3_keepAbove_0 7 rfl rfl)
theorem dX3_keepAbove_10 : decode cX3_keepAbove 10 = .ok (.invokevirtual 187, 3) := dk_182 0 187 (dk_at dksX3_keepAbove_0 10 rfl rfl)
theorem dX3_keepAbove_13 : decode cX3_keepAbove 13 = .ok (.ifCond .ne 5, 3) := dk_154 0 5 (dk_at dksX3_keepAbove_0 13 rfl rfl)
theorem dX3_keepAbove_16 : decode cX3_keepAbove 16 = .ok (.iconst (-1), 1) := dk_2 (dk_at dksX3_keepAbove_0 16 rfl rfl)
theorem dX3_keepAbove_17 : decode cX3_keepAbove 17 = .ok (.ireturn, 1) := dk_172 (dk_at dksX3_keepAbove_0 17 rfl rfl)
theorem dX3_keepAbove_18 : decode cX3_keepAbove 18 = .ok (.aload_n 0, 1) := dk_42 (dk_at dksX3_keepAbove_0 18 rfl rfl)
theorem dX3_keepAbove_19 : decode cX3_keepAbove 19 = .ok (.invokevirtual 268, 3) := dk_182 1 12 (dk_at dksX3_keepAbove_0 19 rfl rfl)
theorem dX3_keepAbove_22 : decode cX3_keepAbove 22 = .ok (.aload_n 0, 1) := dk_42 (dk_at dksX3_keepAbove_0 22 rfl rfl)
theorem dX3_keepAbove_23 : decode cX3_keepAbove 23 = .ok (.iload_n 1, 1) := dk_27 (dk_at dksX3_keepAbove_0 23 rfl rfl)
theorem dX3_keepAbove_24 : decode cX3_keepAbove 24 = .ok (.invokevirtual 92, 3) := dk_182 0 92 (dk_at dksX3_keepAbove_1 0 rfl rfl)
theorem dX3_keepAbove_27 : decode cX3_keepAbove 27 = .ok (.iconst 0, 1) := dk_3 (dk_at dksX3_keepAbove_1 3 rfl rfl)
theorem dX3_keepAbove_28 : decode cX3_keepAbove 28 = .ok (.istore_n 3, 1) := dk_62 (dk_at dksX3_keepAbove_1 4 rfl rfl)
theorem dX3_keepAbove_29 : decode cX3_keepAbove 29 = .ok (.iload_n 3, 1) := dk_29 (dk_at dksX3_keepAbove_1 5 rfl rfl)
theorem dX3_keepAbove_30 : decode cX3_keepAbove 30 = .ok (.aload_n 0, 1) := dk_42 (dk_at dksX3_keepAbove_1 6 rfl rfl)
theorem dX3_keepAbove_31 : decode cX3_keepAbove 31 = .ok (.iload_n 1, 1) := dk_27 (dk_at dksX3_keepAbove_1 7 rfl rfl)
theorem dX3_keepAbove_32 : decode cX3_keepAbove 32 = .ok (.invokevirtual 62, 3) := dk_182 0 62 (dk_at dksX3_keepAbove_1 8 rfl rfl)
theorem dX3_keepAbove_35 : decode cX3_keepAbove 35 = .ok (.if_icmp .ge 38, 3) := dk_162 0 38 (dk_at dksX3_keepAbove_1 11 rfl rfl)
theorem dX3_keepAbove_38 : decode cX3_keepAbove 38 = .ok (.aload_n 0, 1) := dk_42 (dk_at dksX3_keepAbove_1 14 rfl rfl)
theorem dX3_keepAbove_39 : decode cX3_keepAbove 39 = .ok (.getfield 28, 3) := dk_180 0 28 (dk_at dksX3_keepAbove_1 15 rfl rfl)
theorem dX3_keepAbove_42 : decode cX3_keepAbove 42 = .ok (.iload_n 3, 1) := dk_29 (dk_at dksX3_keepAbove_1 18 rfl rfl)
theorem dX3_keepAbove_43 : decode cX3_keepAbove 43 = .ok (.aload_n 0, 1) := dk_42 (dk_at dksX3_keepAbove_1 19 rfl rfl)
theorem dX3_keepAbove_44 : decode cX3_keepAbove 44 = .ok (.getfield 28, 3) := dk_180 0 28 (dk_at dksX3_keepAbove_1 20 rfl rfl)
theorem dX3_keepAbove_47 : decode cX3_keepAbove 47 = .ok (.iload_n 3, 1) := dk_29 (dk_at dksX3_keepAbove_1 23 rfl rfl)
theorem dX3_keepAbove_48 : decode cX3_keepAbove 48 = .ok (.iaload, 1) := dk_46 (dk_at dksX3_keepAbove_2 0 rfl rfl)
theorem dX3_keepAbove_49 : decode cX3_keepAbove 49 = .ok (.invokestatic 100, 3) := dk_184 0 100 (dk_at dksX3_keepAbove_2 1 rfl rfl)
theorem dX3_keepAbove_52 : decode cX3_keepAbove 52 = .ok (.iload_n 2, 1) := dk_28 (dk_at dksX3_keepAbove_2 4 rfl rfl)
theorem dX3_keepAbove_53 : decode cX3_keepAbove 53 = .ok (.if_icmp .ge 7, 3) := dk_162 0 7 (dk_at dksX3_keepAbove_2 5 rfl rfl)
theorem dX3_keepAbove_56 : decode cX3_keepAbove 56 = .ok (.iconst 0, 1) := dk_3 (dk_at dksX3_keepAbove_2 8 rfl rfl)
theorem dX3_keepAbove_57 : decode cX3_keepAbove 57 = .ok (.goto 9, 3) := dk_167 0 9 (dk_at dksX3_keepAbove_2 9 rfl rfl)
theorem dX3_keepAbove_60 : decode cX3_keepAbove 60 = .ok (.aload_n 0, 1) := dk_42 (dk_at dksX3_keepAbove_2 12 rfl rfl)
theorem dX3_keepAbove_61 : decode cX3_keepAbove 61 = .ok (.getfield 28, 3) := dk_180 0 28 (dk_at dksX3_keepAbove_2 13 rfl rfl)
theorem dX3_keepAbove_64 : decode cX3_keepAbove 64 = .ok (.iload_n 3, 1) := dk_29 (dk_at dksX3_keepAbove_2 16 rfl rfl)
theorem dX3_keepAbove_65 : decode cX3_keepAbove 65 = .ok (.iaload, 1) := dk_46 (dk_at dksX3_keepAbove_2 17 rfl rfl)
theorem dX3_keepAbove_66 : decode cX3_keepAbove 66 = .ok (.iastore, 1) := dk_79 (dk_at dksX3_keepAbove_2 18 rfl rfl)
theorem dX3_keepAbove_67 : decode cX3_keepAbove 67 = .ok (.iinc 3 1, 3) := dk_132 3 1 (dk_at dksX3_keepAbove_2 19 rfl rfl)
theorem dX3_keepAbove_70 : decode cX3_keepAbove 70 = .ok (.goto (-41), 3) := dk_167 255 215 (dk_at dksX3_keepAbove_3 0 rfl rfl)
theorem dX3_keepAbove_73 : decode cX3_keepAbove 73 = .ok (.aload_n 0, 1) := dk_42 (dk_at dksX3_keepAbove_3 3 rfl rfl)
theorem dX3_keepAbove_74 : decode cX3_keepAbove 74 = .ok (.aload_n 0, 1) := dk_42 (dk_at dksX3_keepAbove_3 4 rfl rfl)
theorem dX3_keepAbove_75 : decode cX3_keepAbove 75 = .ok (.iload_n 1, 1) := dk_27 (dk_at dksX3_keepAbove_3 5 rfl rfl)
theorem dX3_keepAbove_76 : decode cX3_keepAbove 76 = .ok (.invokevirtual 62, 3) := dk_182 0 62 (dk_at dksX3_keepAbove_3 6 rfl rfl)
theorem dX3_keepAbove_79 : decode cX3_keepAbove 79 = .ok (.invokevirtual 252, 3) := dk_182 0 252 (dk_at dksX3_keepAbove_3 9 rfl rfl)
theorem dX3_keepAbove_82 : decode cX3_keepAbove 82 = .ok (.aload_n 0, 1) := dk_42 (dk_at dksX3_keepAbove_3 12 rfl rfl)
theorem dX3_keepAbove_83 : decode cX3_keepAbove 83 = .ok (.iload_n 1, 1) := dk_27 (dk_at dksX3_keepAbove_3 13 rfl rfl)
theorem dX3_keepAbove_84 : decode cX3_keepAbove 84 = .ok (.invokevirtual 274, 3) := dk_182 1 18 (dk_at dksX3_keepAbove_3 14 rfl rfl)
theorem dX3_keepAbove_87 : decode cX3_keepAbove 87 = .ok (.ireturn, 1) := dk_172 (dk_at dksX3_keepAbove_3 17 rfl rfl)
abbrev cX3_scaleBand : ByteArray := prog_11_method_104_code
def yX3_scaleBand : MethodName := ⟨RX3, "scaleBand", "(IIII)I"⟩
def dkwX3_scaleBand_5 : List UInt8 := [182, 0, 62, 182, 0, 252, 42, 27, 182, 1, 18, 172]
abbrev dktX3_scaleBand_5 : List UInt8 := dkwX3_scaleBand_5 ++ []
def dkwX3_scaleBand_4 : List UInt8 := [184, 0, 50, 153, 0, 8, 21, 4, 167, 0, 4, 4, 104, 79, 132, 6, 1, 167, 255, 209, 42, 42, 27]
abbrev dktX3_scaleBand_4 : List UInt8 := dkwX3_scaleBand_4 ++ dktX3_scaleBand_5
def dkwX3_scaleBand_3 : List UInt8 := [162, 0, 43, 42, 180, 0, 28, 21, 6, 92, 46, 42, 27, 182, 0, 62, 21, 6, 184, 0, 196, 28, 29]
abbrev dktX3_scaleBand_3 : List UInt8 := dkwX3_scaleBand_3 ++ dktX3_scaleBand_4
def dkwX3_scaleBand_2 : List UInt8 := [154, 0, 5, 2, 172, 42, 182, 1, 12, 42, 27, 182, 0, 92, 3, 54, 6, 21, 6, 42, 27, 182, 0, 62]
abbrev dktX3_scaleBand_2 : List UInt8 := dkwX3_scaleBand_2 ++ dktX3_scaleBand_3
def dkwX3_scaleBand_1 : List UInt8 := [153, 0, 19, 21, 4, 16, 247, 16, 9, 184, 0, 50, 153, 0, 7, 4, 167, 0, 4, 3, 182, 0, 187]
abbrev dktX3_scaleBand_1 : List UInt8 := dkwX3_scaleBand_1 ++ dktX3_scaleBand_2
def dkwX3_scaleBand_0 : List UInt8 := [42, 27, 182, 0, 54, 54, 5, 42, 21, 5, 21, 5, 153, 0, 29, 42, 27, 28, 29, 182, 0, 199]
abbrev dktX3_scaleBand_0 : List UInt8 := dkwX3_scaleBand_0 ++ dktX3_scaleBand_1
theorem dksX3_scaleBand_0 : cX3_scaleBand.data.toList.drop 0 = dktX3_scaleBand_0 := by decide +kernel
theorem dksX3_scaleBand_1 : cX3_scaleBand.data.toList.drop 22 = dktX3_scaleBand_1 := dk_seg dksX3_scaleBand_0 22 rfl rfl
theorem dksX3_scaleBand_2 : cX3_scaleBand.data.toList.drop 45 = dktX3_scaleBand_2 := dk_seg dksX3_scaleBand_1 23 rfl rfl
theorem dksX3_scaleBand_3 : cX3_scaleBand.data.toList.drop 69 = dktX3_scaleBand_3 := dk_seg dksX3_scaleBand_2 24 rfl rfl
theorem dksX3_scaleBand_4 : cX3_scaleBand.data.toList.drop 92 = dktX3_scaleBand_4 := dk_seg dksX3_scaleBand_3 23 rfl rfl
theorem dksX3_scaleBand_5 : cX3_scaleBand.data.toList.drop 115 = dktX3_scaleBand_5 := dk_seg dksX3_scaleBand_4 23 rfl rfl
theorem dX3_scaleBand_0 : decode cX3_scaleBand 0 = .ok (.aload_n 0, 1) := dk_42 (dk_at dksX3_scaleBand_0 0 rfl rfl)
theorem dX3_scaleBand_1 : decode cX3_scaleBand 1 = .ok (.iload_n 1, 1) := dk_27 (dk_at dksX3_scaleBand_0 1 rfl rfl)
theorem dX3_scaleBand_2 : decode cX3_scaleBand 2 = .ok (.invokevirtual 54, 3) := dk_182 0 54 (dk_at dksX3_scaleBand_0 2 rfl rfl)
theorem dX3_scaleBand_5 : decode cX3_scaleBand 5 = .ok (.istore 5, 2) := dk_54 5 (dk_at dksX3_scaleBand_0 5 rfl rfl)
theorem dX3_scaleBand_7 : decode cX3_scaleBand 7 = .ok (.aload_n 0, 1) := dk_42 (dk_at dksX3_scaleBand_0 7 rfl rfl)
theorem dX3_scaleBand_8 : decode cX3_scaleBand 8 = .ok (.iload 5, 2) := dk_21 5 (dk_at dksX3_scaleBand_0 8 rfl rfl)
theorem dX3_scaleBand_10 : decode cX3_scaleBand 10 = .ok (.iload 5, 2) := dk_21 5 (dk_at dksX3_scaleBand_0 10 rfl rfl)
theorem dX3_scaleBand_12 : decode cX3_scaleBand 12 = .ok (.ifCond .eq 29, 3) := dk_153 0 29 (dk_at dksX3_scaleBand_0 12 rfl rfl)
theorem dX3_scaleBand_15 : decode cX3_scaleBand 15 = .ok (.aload_n 0, 1) := dk_42 (dk_at dksX3_scaleBand_0 15 rfl rfl)
theorem dX3_scaleBand_16 : decode cX3_scaleBand 16 = .ok (.iload_n 1, 1) := dk_27 (dk_at dksX3_scaleBand_0 16 rfl rfl)
theorem dX3_scaleBand_17 : decode cX3_scaleBand 17 = .ok (.iload_n 2, 1) := dk_28 (dk_at dksX3_scaleBand_0 17 rfl rfl)
theorem dX3_scaleBand_18 : decode cX3_scaleBand 18 = .ok (.iload_n 3, 1) := dk_29 (dk_at dksX3_scaleBand_0 18 rfl rfl)
theorem dX3_scaleBand_19 : decode cX3_scaleBand 19 = .ok (.invokevirtual 199, 3) := dk_182 0 199 (dk_at dksX3_scaleBand_0 19 rfl rfl)
theorem dX3_scaleBand_22 : decode cX3_scaleBand 22 = .ok (.ifCond .eq 19, 3) := dk_153 0 19 (dk_at dksX3_scaleBand_1 0 rfl rfl)
theorem dX3_scaleBand_25 : decode cX3_scaleBand 25 = .ok (.iload 4, 2) := dk_21 4 (dk_at dksX3_scaleBand_1 3 rfl rfl)
theorem dX3_scaleBand_27 : decode cX3_scaleBand 27 = .ok (.bipush (-9), 2) := dk_16 247 (dk_at dksX3_scaleBand_1 5 rfl rfl)
theorem dX3_scaleBand_29 : decode cX3_scaleBand 29 = .ok (.bipush 9, 2) := dk_16 9 (dk_at dksX3_scaleBand_1 7 rfl rfl)
theorem dX3_scaleBand_31 : decode cX3_scaleBand 31 = .ok (.invokestatic 50, 3) := dk_184 0 50 (dk_at dksX3_scaleBand_1 9 rfl rfl)
theorem dX3_scaleBand_34 : decode cX3_scaleBand 34 = .ok (.ifCond .eq 7, 3) := dk_153 0 7 (dk_at dksX3_scaleBand_1 12 rfl rfl)
theorem dX3_scaleBand_37 : decode cX3_scaleBand 37 = .ok (.iconst 1, 1) := dk_4 (dk_at dksX3_scaleBand_1 15 rfl rfl)
theorem dX3_scaleBand_38 : decode cX3_scaleBand 38 = .ok (.goto 4, 3) := dk_167 0 4 (dk_at dksX3_scaleBand_1 16 rfl rfl)
theorem dX3_scaleBand_41 : decode cX3_scaleBand 41 = .ok (.iconst 0, 1) := dk_3 (dk_at dksX3_scaleBand_1 19 rfl rfl)
theorem dX3_scaleBand_42 : decode cX3_scaleBand 42 = .ok (.invokevirtual 187, 3) := dk_182 0 187 (dk_at dksX3_scaleBand_1 20 rfl rfl)
theorem dX3_scaleBand_45 : decode cX3_scaleBand 45 = .ok (.ifCond .ne 5, 3) := dk_154 0 5 (dk_at dksX3_scaleBand_2 0 rfl rfl)
theorem dX3_scaleBand_48 : decode cX3_scaleBand 48 = .ok (.iconst (-1), 1) := dk_2 (dk_at dksX3_scaleBand_2 3 rfl rfl)
theorem dX3_scaleBand_49 : decode cX3_scaleBand 49 = .ok (.ireturn, 1) := dk_172 (dk_at dksX3_scaleBand_2 4 rfl rfl)
theorem dX3_scaleBand_50 : decode cX3_scaleBand 50 = .ok (.aload_n 0, 1) := dk_42 (dk_at dksX3_scaleBand_2 5 rfl rfl)
theorem dX3_scaleBand_51 : decode cX3_scaleBand 51 = .ok (.invokevirtual 268, 3) := dk_182 1 12 (dk_at dksX3_scaleBand_2 6 rfl rfl)
theorem dX3_scaleBand_54 : decode cX3_scaleBand 54 = .ok (.aload_n 0, 1) := dk_42 (dk_at dksX3_scaleBand_2 9 rfl rfl)
theorem dX3_scaleBand_55 : decode cX3_scaleBand 55 = .ok (.iload_n 1, 1) := dk_27 (dk_at dksX3_scaleBand_2 10 rfl rfl)
theorem dX3_scaleBand_56 : decode cX3_scaleBand 56 = .ok (.invokevirtual 92, 3) := dk_182 0 92 (dk_at dksX3_scaleBand_2 11 rfl rfl)
theorem dX3_scaleBand_59 : decode cX3_scaleBand 59 = .ok (.iconst 0, 1) := dk_3 (dk_at dksX3_scaleBand_2 14 rfl rfl)
theorem dX3_scaleBand_60 : decode cX3_scaleBand 60 = .ok (.istore 6, 2) := dk_54 6 (dk_at dksX3_scaleBand_2 15 rfl rfl)
theorem dX3_scaleBand_62 : decode cX3_scaleBand 62 = .ok (.iload 6, 2) := dk_21 6 (dk_at dksX3_scaleBand_2 17 rfl rfl)
theorem dX3_scaleBand_64 : decode cX3_scaleBand 64 = .ok (.aload_n 0, 1) := dk_42 (dk_at dksX3_scaleBand_2 19 rfl rfl)
theorem dX3_scaleBand_65 : decode cX3_scaleBand 65 = .ok (.iload_n 1, 1) := dk_27 (dk_at dksX3_scaleBand_2 20 rfl rfl)
theorem dX3_scaleBand_66 : decode cX3_scaleBand 66 = .ok (.invokevirtual 62, 3) := dk_182 0 62 (dk_at dksX3_scaleBand_2 21 rfl rfl)
theorem dX3_scaleBand_69 : decode cX3_scaleBand 69 = .ok (.if_icmp .ge 43, 3) := dk_162 0 43 (dk_at dksX3_scaleBand_3 0 rfl rfl)
theorem dX3_scaleBand_72 : decode cX3_scaleBand 72 = .ok (.aload_n 0, 1) := dk_42 (dk_at dksX3_scaleBand_3 3 rfl rfl)
theorem dX3_scaleBand_73 : decode cX3_scaleBand 73 = .ok (.getfield 28, 3) := dk_180 0 28 (dk_at dksX3_scaleBand_3 4 rfl rfl)
theorem dX3_scaleBand_76 : decode cX3_scaleBand 76 = .ok (.iload 6, 2) := dk_21 6 (dk_at dksX3_scaleBand_3 7 rfl rfl)
theorem dX3_scaleBand_78 : decode cX3_scaleBand 78 = .ok (.dup2, 1) := dk_92 (dk_at dksX3_scaleBand_3 9 rfl rfl)
theorem dX3_scaleBand_79 : decode cX3_scaleBand 79 = .ok (.iaload, 1) := dk_46 (dk_at dksX3_scaleBand_3 10 rfl rfl)
theorem dX3_scaleBand_80 : decode cX3_scaleBand 80 = .ok (.aload_n 0, 1) := dk_42 (dk_at dksX3_scaleBand_3 11 rfl rfl)
theorem dX3_scaleBand_81 : decode cX3_scaleBand 81 = .ok (.iload_n 1, 1) := dk_27 (dk_at dksX3_scaleBand_3 12 rfl rfl)
theorem dX3_scaleBand_82 : decode cX3_scaleBand 82 = .ok (.invokevirtual 62, 3) := dk_182 0 62 (dk_at dksX3_scaleBand_3 13 rfl rfl)
theorem dX3_scaleBand_85 : decode cX3_scaleBand 85 = .ok (.iload 6, 2) := dk_21 6 (dk_at dksX3_scaleBand_3 16 rfl rfl)
theorem dX3_scaleBand_87 : decode cX3_scaleBand 87 = .ok (.invokestatic 196, 3) := dk_184 0 196 (dk_at dksX3_scaleBand_3 18 rfl rfl)
theorem dX3_scaleBand_90 : decode cX3_scaleBand 90 = .ok (.iload_n 2, 1) := dk_28 (dk_at dksX3_scaleBand_3 21 rfl rfl)
theorem dX3_scaleBand_91 : decode cX3_scaleBand 91 = .ok (.iload_n 3, 1) := dk_29 (dk_at dksX3_scaleBand_3 22 rfl rfl)
theorem dX3_scaleBand_92 : decode cX3_scaleBand 92 = .ok (.invokestatic 50, 3) := dk_184 0 50 (dk_at dksX3_scaleBand_4 0 rfl rfl)
theorem dX3_scaleBand_95 : decode cX3_scaleBand 95 = .ok (.ifCond .eq 8, 3) := dk_153 0 8 (dk_at dksX3_scaleBand_4 3 rfl rfl)
theorem dX3_scaleBand_98 : decode cX3_scaleBand 98 = .ok (.iload 4, 2) := dk_21 4 (dk_at dksX3_scaleBand_4 6 rfl rfl)
theorem dX3_scaleBand_100 : decode cX3_scaleBand 100 = .ok (.goto 4, 3) := dk_167 0 4 (dk_at dksX3_scaleBand_4 8 rfl rfl)
theorem dX3_scaleBand_103 : decode cX3_scaleBand 103 = .ok (.iconst 1, 1) := dk_4 (dk_at dksX3_scaleBand_4 11 rfl rfl)
theorem dX3_scaleBand_104 : decode cX3_scaleBand 104 = .ok (.imul, 1) := dk_104 (dk_at dksX3_scaleBand_4 12 rfl rfl)
theorem dX3_scaleBand_105 : decode cX3_scaleBand 105 = .ok (.iastore, 1) := dk_79 (dk_at dksX3_scaleBand_4 13 rfl rfl)
theorem dX3_scaleBand_106 : decode cX3_scaleBand 106 = .ok (.iinc 6 1, 3) := dk_132 6 1 (dk_at dksX3_scaleBand_4 14 rfl rfl)
theorem dX3_scaleBand_109 : decode cX3_scaleBand 109 = .ok (.goto (-47), 3) := dk_167 255 209 (dk_at dksX3_scaleBand_4 17 rfl rfl)
theorem dX3_scaleBand_112 : decode cX3_scaleBand 112 = .ok (.aload_n 0, 1) := dk_42 (dk_at dksX3_scaleBand_4 20 rfl rfl)
theorem dX3_scaleBand_113 : decode cX3_scaleBand 113 = .ok (.aload_n 0, 1) := dk_42 (dk_at dksX3_scaleBand_4 21 rfl rfl)
theorem dX3_scaleBand_114 : decode cX3_scaleBand 114 = .ok (.iload_n 1, 1) := dk_27 (dk_at dksX3_scaleBand_4 22 rfl rfl)
theorem dX3_scaleBand_115 : decode cX3_scaleBand 115 = .ok (.invokevirtual 62, 3) := dk_182 0 62 (dk_at dksX3_scaleBand_5 0 rfl rfl)
theorem dX3_scaleBand_118 : decode cX3_scaleBand 118 = .ok (.invokevirtual 252, 3) := dk_182 0 252 (dk_at dksX3_scaleBand_5 3 rfl rfl)
theorem dX3_scaleBand_121 : decode cX3_scaleBand 121 = .ok (.aload_n 0, 1) := dk_42 (dk_at dksX3_scaleBand_5 6 rfl rfl)
theorem dX3_scaleBand_122 : decode cX3_scaleBand 122 = .ok (.iload_n 1, 1) := dk_27 (dk_at dksX3_scaleBand_5 7 rfl rfl)
theorem dX3_scaleBand_123 : decode cX3_scaleBand 123 = .ok (.invokevirtual 274, 3) := dk_182 1 18 (dk_at dksX3_scaleBand_5 8 rfl rfl)
theorem dX3_scaleBand_126 : decode cX3_scaleBand 126 = .ok (.ireturn, 1) := dk_172 (dk_at dksX3_scaleBand_5 11 rfl rfl)
abbrev cX3_reverse : ByteArray := prog_11_method_105_code
def yX3_reverse : MethodName := ⟨RX3, "reverse", "(I)I"⟩
def dkwX3_reverse_2 : List UInt8 := [182, 0, 82, 79, 132, 2, 1, 167, 255, 224, 42, 27, 182, 1, 18, 172]
abbrev dktX3_reverse_2 : List UInt8 := dkwX3_reverse_2 ++ []
def dkwX3_reverse_1 : List UInt8 := [182, 0, 62, 162, 0, 29, 42, 180, 0, 37, 42, 27, 182, 0, 62, 4, 100, 28, 100, 42, 27, 28]
abbrev dktX3_reverse_1 : List UInt8 := dkwX3_reverse_1 ++ dktX3_reverse_2
def dkwX3_reverse_0 : List UInt8 := [42, 42, 27, 182, 0, 54, 182, 0, 112, 154, 0, 5, 2, 172, 42, 182, 1, 12, 3, 61, 28, 42, 27]
abbrev dktX3_reverse_0 : List UInt8 := dkwX3_reverse_0 ++ dktX3_reverse_1
theorem dksX3_reverse_0 : cX3_reverse.data.toList.drop 0 = dktX3_reverse_0 := by decide +kernel
theorem dksX3_reverse_1 : cX3_reverse.data.toList.drop 23 = dktX3_reverse_1 := dk_seg dksX3_reverse_0 23 rfl rfl
theorem dksX3_reverse_2 : cX3_reverse.data.toList.drop 45 = dktX3_reverse_2 := dk_seg dksX3_reverse_1 22 rfl rfl
theorem dX3_reverse_0 : decode cX3_reverse 0 = .ok (.aload_n 0, 1) := dk_42 (dk_at dksX3_reverse_0 0 rfl rfl)
theorem dX3_reverse_1 : decode cX3_reverse 1 = .ok (.aload_n 0, 1) := dk_42 (dk_at dksX3_reverse_0 1 rfl rfl)
theorem dX3_reverse_2 : decode cX3_reverse 2 = .ok (.iload_n 1, 1) := dk_27 (dk_at dksX3_reverse_0 2 rfl rfl)
theorem dX3_reverse_3 : decode cX3_reverse 3 = .ok (.invokevirtual 54, 3) := dk_182 0 54 (dk_at dksX3_reverse_0 3 rfl rfl)
theorem dX3_reverse_6 : decode cX3_reverse 6 = .ok (.invokevirtual 112, 3) := dk_182 0 112 (dk_at dksX3_reverse_0 6 rfl rfl)
theorem dX3_reverse_9 : decode cX3_reverse 9 = .ok (.ifCond .ne 5, 3) := dk_154 0 5 (dk_at dksX3_reverse_0 9 rfl rfl)
theorem dX3_reverse_12 : decode cX3_reverse 12 = .ok (.iconst (-1), 1) := dk_2 (dk_at dksX3_reverse_0 12 rfl rfl)
theorem dX3_reverse_13 : decode cX3_reverse 13 = .ok (.ireturn, 1) := dk_172 (dk_at dksX3_reverse_0 13 rfl rfl)
theorem dX3_reverse_14 : decode cX3_reverse 14 = .ok (.aload_n 0, 1) := dk_42 (dk_at dksX3_reverse_0 14 rfl rfl)
theorem dX3_reverse_15 : decode cX3_reverse 15 = .ok (.invokevirtual 268, 3) := dk_182 1 12 (dk_at dksX3_reverse_0 15 rfl rfl)
theorem dX3_reverse_18 : decode cX3_reverse 18 = .ok (.iconst 0, 1) := dk_3 (dk_at dksX3_reverse_0 18 rfl rfl)
theorem dX3_reverse_19 : decode cX3_reverse 19 = .ok (.istore_n 2, 1) := dk_61 (dk_at dksX3_reverse_0 19 rfl rfl)
theorem dX3_reverse_20 : decode cX3_reverse 20 = .ok (.iload_n 2, 1) := dk_28 (dk_at dksX3_reverse_0 20 rfl rfl)
theorem dX3_reverse_21 : decode cX3_reverse 21 = .ok (.aload_n 0, 1) := dk_42 (dk_at dksX3_reverse_0 21 rfl rfl)
theorem dX3_reverse_22 : decode cX3_reverse 22 = .ok (.iload_n 1, 1) := dk_27 (dk_at dksX3_reverse_0 22 rfl rfl)
theorem dX3_reverse_23 : decode cX3_reverse 23 = .ok (.invokevirtual 62, 3) := dk_182 0 62 (dk_at dksX3_reverse_1 0 rfl rfl)
theorem dX3_reverse_26 : decode cX3_reverse 26 = .ok (.if_icmp .ge 29, 3) := dk_162 0 29 (dk_at dksX3_reverse_1 3 rfl rfl)
theorem dX3_reverse_29 : decode cX3_reverse 29 = .ok (.aload_n 0, 1) := dk_42 (dk_at dksX3_reverse_1 6 rfl rfl)
theorem dX3_reverse_30 : decode cX3_reverse 30 = .ok (.getfield 37, 3) := dk_180 0 37 (dk_at dksX3_reverse_1 7 rfl rfl)
theorem dX3_reverse_33 : decode cX3_reverse 33 = .ok (.aload_n 0, 1) := dk_42 (dk_at dksX3_reverse_1 10 rfl rfl)
theorem dX3_reverse_34 : decode cX3_reverse 34 = .ok (.iload_n 1, 1) := dk_27 (dk_at dksX3_reverse_1 11 rfl rfl)
theorem dX3_reverse_35 : decode cX3_reverse 35 = .ok (.invokevirtual 62, 3) := dk_182 0 62 (dk_at dksX3_reverse_1 12 rfl rfl)
theorem dX3_reverse_38 : decode cX3_reverse 38 = .ok (.iconst 1, 1) := dk_4 (dk_at dksX3_reverse_1 15 rfl rfl)
theorem dX3_reverse_39 : decode cX3_reverse 39 = .ok (.isub, 1) := dk_100 (dk_at dksX3_reverse_1 16 rfl rfl)
theorem dX3_reverse_40 : decode cX3_reverse 40 = .ok (.iload_n 2, 1) := dk_28 (dk_at dksX3_reverse_1 17 rfl rfl)
theorem dX3_reverse_41 : decode cX3_reverse 41 = .ok (.isub, 1) := dk_100 (dk_at dksX3_reverse_1 18 rfl rfl)
theorem dX3_reverse_42 : decode cX3_reverse 42 = .ok (.aload_n 0, 1) := dk_42 (dk_at dksX3_reverse_1 19 rfl rfl)
theorem dX3_reverse_43 : decode cX3_reverse 43 = .ok (.iload_n 1, 1) := dk_27 (dk_at dksX3_reverse_1 20 rfl rfl)
theorem dX3_reverse_44 : decode cX3_reverse 44 = .ok (.iload_n 2, 1) := dk_28 (dk_at dksX3_reverse_1 21 rfl rfl)
theorem dX3_reverse_45 : decode cX3_reverse 45 = .ok (.invokevirtual 82, 3) := dk_182 0 82 (dk_at dksX3_reverse_2 0 rfl rfl)
theorem dX3_reverse_48 : decode cX3_reverse 48 = .ok (.iastore, 1) := dk_79 (dk_at dksX3_reverse_2 3 rfl rfl)
theorem dX3_reverse_49 : decode cX3_reverse 49 = .ok (.iinc 2 1, 3) := dk_132 2 1 (dk_at dksX3_reverse_2 4 rfl rfl)
theorem dX3_reverse_52 : decode cX3_reverse 52 = .ok (.goto (-32), 3) := dk_167 255 224 (dk_at dksX3_reverse_2 7 rfl rfl)
theorem dX3_reverse_55 : decode cX3_reverse 55 = .ok (.aload_n 0, 1) := dk_42 (dk_at dksX3_reverse_2 10 rfl rfl)
theorem dX3_reverse_56 : decode cX3_reverse 56 = .ok (.iload_n 1, 1) := dk_27 (dk_at dksX3_reverse_2 11 rfl rfl)
theorem dX3_reverse_57 : decode cX3_reverse 57 = .ok (.invokevirtual 274, 3) := dk_182 1 18 (dk_at dksX3_reverse_2 12 rfl rfl)
theorem dX3_reverse_60 : decode cX3_reverse 60 = .ok (.ireturn, 1) := dk_172 (dk_at dksX3_reverse_2 15 rfl rfl)
abbrev cX3_quantize : ByteArray := prog_11_method_106_code
def yX3_quantize : MethodName := ⟨RX3, "quantize", "(II)I"⟩
def dkwX3_quantize_2 : List UInt8 := [182, 0, 82, 28, 184, 0, 103, 104, 184, 0, 106, 79, 132, 3, 1, 167, 255, 223, 42, 27, 182, 1, 18, 172]
abbrev dktX3_quantize_2 : List UInt8 := dkwX3_quantize_2 ++ []
def dkwX3_quantize_1 : List UInt8 := [182, 1, 12, 3, 62, 29, 42, 27, 182, 0, 62, 162, 0, 30, 42, 180, 0, 37, 29, 28, 42, 27, 29]
abbrev dktX3_quantize_1 : List UInt8 := dkwX3_quantize_1 ++ dktX3_quantize_2
def dkwX3_quantize_0 : List UInt8 := [42, 42, 27, 182, 0, 54, 28, 4, 17, 3, 231, 184, 0, 50, 182, 0, 187, 154, 0, 5, 2, 172, 42]
abbrev dktX3_quantize_0 : List UInt8 := dkwX3_quantize_0 ++ dktX3_quantize_1
theorem dksX3_quantize_0 : cX3_quantize.data.toList.drop 0 = dktX3_quantize_0 := by decide +kernel
theorem dksX3_quantize_1 : cX3_quantize.data.toList.drop 23 = dktX3_quantize_1 := dk_seg dksX3_quantize_0 23 rfl rfl
theorem dksX3_quantize_2 : cX3_quantize.data.toList.drop 46 = dktX3_quantize_2 := dk_seg dksX3_quantize_1 23 rfl rfl
theorem dX3_quantize_0 : decode cX3_quantize 0 = .ok (.aload_n 0, 1) := dk_42 (dk_at dksX3_quantize_0 0 rfl rfl)
theorem dX3_quantize_1 : decode cX3_quantize 1 = .ok (.aload_n 0, 1) := dk_42 (dk_at dksX3_quantize_0 1 rfl rfl)
theorem dX3_quantize_2 : decode cX3_quantize 2 = .ok (.iload_n 1, 1) := dk_27 (dk_at dksX3_quantize_0 2 rfl rfl)
theorem dX3_quantize_3 : decode cX3_quantize 3 = .ok (.invokevirtual 54, 3) := dk_182 0 54 (dk_at dksX3_quantize_0 3 rfl rfl)
theorem dX3_quantize_6 : decode cX3_quantize 6 = .ok (.iload_n 2, 1) := dk_28 (dk_at dksX3_quantize_0 6 rfl rfl)
theorem dX3_quantize_7 : decode cX3_quantize 7 = .ok (.iconst 1, 1) := dk_4 (dk_at dksX3_quantize_0 7 rfl rfl)
theorem dX3_quantize_8 : decode cX3_quantize 8 = .ok (.sipush 999, 3) := dk_17 3 231 (dk_at dksX3_quantize_0 8 rfl rfl)
theorem dX3_quantize_11 : decode cX3_quantize 11 = .ok (.invokestatic 50, 3) := dk_184 0 50 (dk_at dksX3_quantize_0 11 rfl rfl)
theorem dX3_quantize_14 : decode cX3_quantize 14 = .ok (.invokevirtual 187, 3) := dk_182 0 187 (dk_at dksX3_quantize_0 14 rfl rfl)
theorem dX3_quantize_17 : decode cX3_quantize 17 = .ok (.ifCond .ne 5, 3) := dk_154 0 5 (dk_at dksX3_quantize_0 17 rfl rfl)
theorem dX3_quantize_20 : decode cX3_quantize 20 = .ok (.iconst (-1), 1) := dk_2 (dk_at dksX3_quantize_0 20 rfl rfl)
theorem dX3_quantize_21 : decode cX3_quantize 21 = .ok (.ireturn, 1) := dk_172 (dk_at dksX3_quantize_0 21 rfl rfl)
theorem dX3_quantize_22 : decode cX3_quantize 22 = .ok (.aload_n 0, 1) := dk_42 (dk_at dksX3_quantize_0 22 rfl rfl)
theorem dX3_quantize_23 : decode cX3_quantize 23 = .ok (.invokevirtual 268, 3) := dk_182 1 12 (dk_at dksX3_quantize_1 0 rfl rfl)
theorem dX3_quantize_26 : decode cX3_quantize 26 = .ok (.iconst 0, 1) := dk_3 (dk_at dksX3_quantize_1 3 rfl rfl)
theorem dX3_quantize_27 : decode cX3_quantize 27 = .ok (.istore_n 3, 1) := dk_62 (dk_at dksX3_quantize_1 4 rfl rfl)
theorem dX3_quantize_28 : decode cX3_quantize 28 = .ok (.iload_n 3, 1) := dk_29 (dk_at dksX3_quantize_1 5 rfl rfl)
theorem dX3_quantize_29 : decode cX3_quantize 29 = .ok (.aload_n 0, 1) := dk_42 (dk_at dksX3_quantize_1 6 rfl rfl)
theorem dX3_quantize_30 : decode cX3_quantize 30 = .ok (.iload_n 1, 1) := dk_27 (dk_at dksX3_quantize_1 7 rfl rfl)
theorem dX3_quantize_31 : decode cX3_quantize 31 = .ok (.invokevirtual 62, 3) := dk_182 0 62 (dk_at dksX3_quantize_1 8 rfl rfl)
theorem dX3_quantize_34 : decode cX3_quantize 34 = .ok (.if_icmp .ge 30, 3) := dk_162 0 30 (dk_at dksX3_quantize_1 11 rfl rfl)
theorem dX3_quantize_37 : decode cX3_quantize 37 = .ok (.aload_n 0, 1) := dk_42 (dk_at dksX3_quantize_1 14 rfl rfl)
theorem dX3_quantize_38 : decode cX3_quantize 38 = .ok (.getfield 37, 3) := dk_180 0 37 (dk_at dksX3_quantize_1 15 rfl rfl)
theorem dX3_quantize_41 : decode cX3_quantize 41 = .ok (.iload_n 3, 1) := dk_29 (dk_at dksX3_quantize_1 18 rfl rfl)
theorem dX3_quantize_42 : decode cX3_quantize 42 = .ok (.iload_n 2, 1) := dk_28 (dk_at dksX3_quantize_1 19 rfl rfl)
theorem dX3_quantize_43 : decode cX3_quantize 43 = .ok (.aload_n 0, 1) := dk_42 (dk_at dksX3_quantize_1 20 rfl rfl)
theorem dX3_quantize_44 : decode cX3_quantize 44 = .ok (.iload_n 1, 1) := dk_27 (dk_at dksX3_quantize_1 21 rfl rfl)
theorem dX3_quantize_45 : decode cX3_quantize 45 = .ok (.iload_n 3, 1) := dk_29 (dk_at dksX3_quantize_1 22 rfl rfl)
theorem dX3_quantize_46 : decode cX3_quantize 46 = .ok (.invokevirtual 82, 3) := dk_182 0 82 (dk_at dksX3_quantize_2 0 rfl rfl)
theorem dX3_quantize_49 : decode cX3_quantize 49 = .ok (.iload_n 2, 1) := dk_28 (dk_at dksX3_quantize_2 3 rfl rfl)
theorem dX3_quantize_50 : decode cX3_quantize 50 = .ok (.invokestatic 103, 3) := dk_184 0 103 (dk_at dksX3_quantize_2 4 rfl rfl)
theorem dX3_quantize_53 : decode cX3_quantize 53 = .ok (.imul, 1) := dk_104 (dk_at dksX3_quantize_2 7 rfl rfl)
theorem dX3_quantize_54 : decode cX3_quantize 54 = .ok (.invokestatic 106, 3) := dk_184 0 106 (dk_at dksX3_quantize_2 8 rfl rfl)
theorem dX3_quantize_57 : decode cX3_quantize 57 = .ok (.iastore, 1) := dk_79 (dk_at dksX3_quantize_2 11 rfl rfl)
theorem dX3_quantize_58 : decode cX3_quantize 58 = .ok (.iinc 3 1, 3) := dk_132 3 1 (dk_at dksX3_quantize_2 12 rfl rfl)
theorem dX3_quantize_61 : decode cX3_quantize 61 = .ok (.goto (-33), 3) := dk_167 255 223 (dk_at dksX3_quantize_2 15 rfl rfl)
theorem dX3_quantize_64 : decode cX3_quantize 64 = .ok (.aload_n 0, 1) := dk_42 (dk_at dksX3_quantize_2 18 rfl rfl)
theorem dX3_quantize_65 : decode cX3_quantize 65 = .ok (.iload_n 1, 1) := dk_27 (dk_at dksX3_quantize_2 19 rfl rfl)
theorem dX3_quantize_66 : decode cX3_quantize 66 = .ok (.invokevirtual 274, 3) := dk_182 1 18 (dk_at dksX3_quantize_2 20 rfl rfl)
theorem dX3_quantize_69 : decode cX3_quantize 69 = .ok (.ireturn, 1) := dk_172 (dk_at dksX3_quantize_2 23 rfl rfl)
abbrev cX3_normalize : ByteArray := prog_11_method_108_code
def yX3_normalize : MethodName := ⟨RX3, "normalize", "(II)I"⟩
def dkwX3_normalize_4 : List UInt8 := [182, 1, 18, 87, 21, 4, 172]
abbrev dktX3_normalize_4 : List UInt8 := dkwX3_normalize_4 ++ []
def dkwX3_normalize_3 : List UInt8 := [28, 42, 27, 21, 5, 182, 0, 82, 104, 21, 4, 184, 0, 103, 79, 132, 5, 1, 167, 255, 222, 42, 27]
abbrev dktX3_normalize_3 : List UInt8 := dkwX3_normalize_3 ++ dktX3_normalize_4
def dkwX3_normalize_2 : List UInt8 := [172, 42, 182, 1, 12, 3, 54, 5, 21, 5, 42, 27, 182, 0, 62, 162, 0, 30, 42, 180, 0, 37, 21, 5]
abbrev dktX3_normalize_2 : List UInt8 := dkwX3_normalize_2 ++ dktX3_normalize_3
def dkwX3_normalize_1 : List UInt8 := [4, 17, 39, 15, 184, 0, 50, 21, 4, 158, 0, 7, 4, 167, 0, 4, 3, 182, 1, 15, 154, 0, 5, 2]
abbrev dktX3_normalize_1 : List UInt8 := dkwX3_normalize_1 ++ dktX3_normalize_2
def dkwX3_normalize_0 : List UInt8 := [42, 27, 182, 0, 54, 62, 29, 153, 0, 11, 42, 27, 182, 1, 21, 167, 0, 4, 3, 54, 4, 42, 29, 28]
abbrev dktX3_normalize_0 : List UInt8 := dkwX3_normalize_0 ++ dktX3_normalize_1
theorem dksX3_normalize_0 : cX3_normalize.data.toList.drop 0 = dktX3_normalize_0 := by decide +kernel
theorem dksX3_normalize_1 : cX3_normalize.data.toList.drop 24 = dktX3_normalize_1 := dk_seg dksX3_normalize_0 24 rfl rfl
theorem dksX3_normalize_2 : cX3_normalize.data.toList.drop 48 = dktX3_normalize_2 := dk_seg dksX3_normalize_1 24 rfl rfl
theorem dksX3_normalize_3 : cX3_normalize.data.toList.drop 72 = dktX3_normalize_3 := dk_seg dksX3_normalize_2 24 rfl rfl
theorem dksX3_normalize_4 : cX3_normalize.data.toList.drop 95 = dktX3_normalize_4 := dk_seg dksX3_normalize_3 23 rfl rfl
theorem dX3_normalize_0 : decode cX3_normalize 0 = .ok (.aload_n 0, 1) := dk_42 (dk_at dksX3_normalize_0 0 rfl rfl)
theorem dX3_normalize_1 : decode cX3_normalize 1 = .ok (.iload_n 1, 1) := dk_27 (dk_at dksX3_normalize_0 1 rfl rfl)
theorem dX3_normalize_2 : decode cX3_normalize 2 = .ok (.invokevirtual 54, 3) := dk_182 0 54 (dk_at dksX3_normalize_0 2 rfl rfl)
theorem dX3_normalize_5 : decode cX3_normalize 5 = .ok (.istore_n 3, 1) := dk_62 (dk_at dksX3_normalize_0 5 rfl rfl)
theorem dX3_normalize_6 : decode cX3_normalize 6 = .ok (.iload_n 3, 1) := dk_29 (dk_at dksX3_normalize_0 6 rfl rfl)
theorem dX3_normalize_7 : decode cX3_normalize 7 = .ok (.ifCond .eq 11, 3) := dk_153 0 11 (dk_at dksX3_normalize_0 7 rfl rfl)
theorem dX3_normalize_10 : decode cX3_normalize 10 = .ok (.aload_n 0, 1) := dk_42 (dk_at dksX3_normalize_0 10 rfl rfl)
theorem dX3_normalize_11 : decode cX3_normalize 11 = .ok (.iload_n 1, 1) := dk_27 (dk_at dksX3_normalize_0 11 rfl rfl)
theorem dX3_normalize_12 : decode cX3_normalize 12 = .ok (.invokevirtual 277, 3) := dk_182 1 21 (dk_at dksX3_normalize_0 12 rfl rfl)
theorem dX3_normalize_15 : decode cX3_normalize 15 = .ok (.goto 4, 3) := dk_167 0 4 (dk_at dksX3_normalize_0 15 rfl rfl)
theorem dX3_normalize_18 : decode cX3_normalize 18 = .ok (.iconst 0, 1) := dk_3 (dk_at dksX3_normalize_0 18 rfl rfl)
theorem dX3_normalize_19 : decode cX3_normalize 19 = .ok (.istore 4, 2) := dk_54 4 (dk_at dksX3_normalize_0 19 rfl rfl)
theorem dX3_normalize_21 : decode cX3_normalize 21 = .ok (.aload_n 0, 1) := dk_42 (dk_at dksX3_normalize_0 21 rfl rfl)
theorem dX3_normalize_22 : decode cX3_normalize 22 = .ok (.iload_n 3, 1) := dk_29 (dk_at dksX3_normalize_0 22 rfl rfl)
theorem dX3_normalize_23 : decode cX3_normalize 23 = .ok (.iload_n 2, 1) := dk_28 (dk_at dksX3_normalize_0 23 rfl rfl)
theorem dX3_normalize_24 : decode cX3_normalize 24 = .ok (.iconst 1, 1) := dk_4 (dk_at dksX3_normalize_1 0 rfl rfl)
theorem dX3_normalize_25 : decode cX3_normalize 25 = .ok (.sipush 9999, 3) := dk_17 39 15 (dk_at dksX3_normalize_1 1 rfl rfl)
theorem dX3_normalize_28 : decode cX3_normalize 28 = .ok (.invokestatic 50, 3) := dk_184 0 50 (dk_at dksX3_normalize_1 4 rfl rfl)
theorem dX3_normalize_31 : decode cX3_normalize 31 = .ok (.iload 4, 2) := dk_21 4 (dk_at dksX3_normalize_1 7 rfl rfl)
theorem dX3_normalize_33 : decode cX3_normalize 33 = .ok (.ifCond .le 7, 3) := dk_158 0 7 (dk_at dksX3_normalize_1 9 rfl rfl)
theorem dX3_normalize_36 : decode cX3_normalize 36 = .ok (.iconst 1, 1) := dk_4 (dk_at dksX3_normalize_1 12 rfl rfl)
theorem dX3_normalize_37 : decode cX3_normalize 37 = .ok (.goto 4, 3) := dk_167 0 4 (dk_at dksX3_normalize_1 13 rfl rfl)
theorem dX3_normalize_40 : decode cX3_normalize 40 = .ok (.iconst 0, 1) := dk_3 (dk_at dksX3_normalize_1 16 rfl rfl)
theorem dX3_normalize_41 : decode cX3_normalize 41 = .ok (.invokevirtual 271, 3) := dk_182 1 15 (dk_at dksX3_normalize_1 17 rfl rfl)
theorem dX3_normalize_44 : decode cX3_normalize 44 = .ok (.ifCond .ne 5, 3) := dk_154 0 5 (dk_at dksX3_normalize_1 20 rfl rfl)
theorem dX3_normalize_47 : decode cX3_normalize 47 = .ok (.iconst (-1), 1) := dk_2 (dk_at dksX3_normalize_1 23 rfl rfl)
theorem dX3_normalize_48 : decode cX3_normalize 48 = .ok (.ireturn, 1) := dk_172 (dk_at dksX3_normalize_2 0 rfl rfl)
theorem dX3_normalize_49 : decode cX3_normalize 49 = .ok (.aload_n 0, 1) := dk_42 (dk_at dksX3_normalize_2 1 rfl rfl)
theorem dX3_normalize_50 : decode cX3_normalize 50 = .ok (.invokevirtual 268, 3) := dk_182 1 12 (dk_at dksX3_normalize_2 2 rfl rfl)
theorem dX3_normalize_53 : decode cX3_normalize 53 = .ok (.iconst 0, 1) := dk_3 (dk_at dksX3_normalize_2 5 rfl rfl)
theorem dX3_normalize_54 : decode cX3_normalize 54 = .ok (.istore 5, 2) := dk_54 5 (dk_at dksX3_normalize_2 6 rfl rfl)
theorem dX3_normalize_56 : decode cX3_normalize 56 = .ok (.iload 5, 2) := dk_21 5 (dk_at dksX3_normalize_2 8 rfl rfl)
theorem dX3_normalize_58 : decode cX3_normalize 58 = .ok (.aload_n 0, 1) := dk_42 (dk_at dksX3_normalize_2 10 rfl rfl)
theorem dX3_normalize_59 : decode cX3_normalize 59 = .ok (.iload_n 1, 1) := dk_27 (dk_at dksX3_normalize_2 11 rfl rfl)
theorem dX3_normalize_60 : decode cX3_normalize 60 = .ok (.invokevirtual 62, 3) := dk_182 0 62 (dk_at dksX3_normalize_2 12 rfl rfl)
theorem dX3_normalize_63 : decode cX3_normalize 63 = .ok (.if_icmp .ge 30, 3) := dk_162 0 30 (dk_at dksX3_normalize_2 15 rfl rfl)
theorem dX3_normalize_66 : decode cX3_normalize 66 = .ok (.aload_n 0, 1) := dk_42 (dk_at dksX3_normalize_2 18 rfl rfl)
theorem dX3_normalize_67 : decode cX3_normalize 67 = .ok (.getfield 37, 3) := dk_180 0 37 (dk_at dksX3_normalize_2 19 rfl rfl)
theorem dX3_normalize_70 : decode cX3_normalize 70 = .ok (.iload 5, 2) := dk_21 5 (dk_at dksX3_normalize_2 22 rfl rfl)
theorem dX3_normalize_72 : decode cX3_normalize 72 = .ok (.iload_n 2, 1) := dk_28 (dk_at dksX3_normalize_3 0 rfl rfl)
theorem dX3_normalize_73 : decode cX3_normalize 73 = .ok (.aload_n 0, 1) := dk_42 (dk_at dksX3_normalize_3 1 rfl rfl)
theorem dX3_normalize_74 : decode cX3_normalize 74 = .ok (.iload_n 1, 1) := dk_27 (dk_at dksX3_normalize_3 2 rfl rfl)
theorem dX3_normalize_75 : decode cX3_normalize 75 = .ok (.iload 5, 2) := dk_21 5 (dk_at dksX3_normalize_3 3 rfl rfl)
theorem dX3_normalize_77 : decode cX3_normalize 77 = .ok (.invokevirtual 82, 3) := dk_182 0 82 (dk_at dksX3_normalize_3 5 rfl rfl)
theorem dX3_normalize_80 : decode cX3_normalize 80 = .ok (.imul, 1) := dk_104 (dk_at dksX3_normalize_3 8 rfl rfl)
theorem dX3_normalize_81 : decode cX3_normalize 81 = .ok (.iload 4, 2) := dk_21 4 (dk_at dksX3_normalize_3 9 rfl rfl)
theorem dX3_normalize_83 : decode cX3_normalize 83 = .ok (.invokestatic 103, 3) := dk_184 0 103 (dk_at dksX3_normalize_3 11 rfl rfl)
theorem dX3_normalize_86 : decode cX3_normalize 86 = .ok (.iastore, 1) := dk_79 (dk_at dksX3_normalize_3 14 rfl rfl)
theorem dX3_normalize_87 : decode cX3_normalize 87 = .ok (.iinc 5 1, 3) := dk_132 5 1 (dk_at dksX3_normalize_3 15 rfl rfl)
theorem dX3_normalize_90 : decode cX3_normalize 90 = .ok (.goto (-34), 3) := dk_167 255 222 (dk_at dksX3_normalize_3 18 rfl rfl)
theorem dX3_normalize_93 : decode cX3_normalize 93 = .ok (.aload_n 0, 1) := dk_42 (dk_at dksX3_normalize_3 21 rfl rfl)
theorem dX3_normalize_94 : decode cX3_normalize 94 = .ok (.iload_n 1, 1) := dk_27 (dk_at dksX3_normalize_3 22 rfl rfl)
theorem dX3_normalize_95 : decode cX3_normalize 95 = .ok (.invokevirtual 274, 3) := dk_182 1 18 (dk_at dksX3_normalize_4 0 rfl rfl)
theorem dX3_normalize_98 : decode cX3_normalize 98 = .ok (.pop, 1) := dk_87 (dk_at dksX3_normalize_4 3 rfl rfl)
theorem dX3_normalize_99 : decode cX3_normalize 99 = .ok (.iload 4, 2) := dk_21 4 (dk_at dksX3_normalize_4 4 rfl rfl)
theorem dX3_normalize_101 : decode cX3_normalize 101 = .ok (.ireturn, 1) := dk_172 (dk_at dksX3_normalize_4 6 rfl rfl)
abbrev cX3_loudness : ByteArray := prog_11_method_107_code
def yX3_loudness : MethodName := ⟨RX3, "loudness", "(I)I"⟩
def dkwX3_loudness_1 : List UInt8 := [184, 0, 71, 61, 132, 3, 1, 167, 255, 230, 28, 172]
abbrev dktX3_loudness_1 : List UInt8 := dkwX3_loudness_1 ++ []
def dkwX3_loudness_0 : List UInt8 := [3, 61, 3, 62, 29, 42, 27, 182, 0, 62, 162, 0, 23, 28, 42, 27, 29, 182, 0, 82, 184, 0, 100]
abbrev dktX3_loudness_0 : List UInt8 := dkwX3_loudness_0 ++ dktX3_loudness_1
theorem dksX3_loudness_0 : cX3_loudness.data.toList.drop 0 = dktX3_loudness_0 := by decide +kernel
theorem dksX3_loudness_1 : cX3_loudness.data.toList.drop 23 = dktX3_loudness_1 := dk_seg dksX3_loudness_0 23 rfl rfl
theorem dX3_loudness_0 : decode cX3_loudness 0 = .ok (.iconst 0, 1) := dk_3 (dk_at dksX3_loudness_0 0 rfl rfl)
theorem dX3_loudness_1 : decode cX3_loudness 1 = .ok (.istore_n 2, 1) := dk_61 (dk_at dksX3_loudness_0 1 rfl rfl)
theorem dX3_loudness_2 : decode cX3_loudness 2 = .ok (.iconst 0, 1) := dk_3 (dk_at dksX3_loudness_0 2 rfl rfl)
theorem dX3_loudness_3 : decode cX3_loudness 3 = .ok (.istore_n 3, 1) := dk_62 (dk_at dksX3_loudness_0 3 rfl rfl)
theorem dX3_loudness_4 : decode cX3_loudness 4 = .ok (.iload_n 3, 1) := dk_29 (dk_at dksX3_loudness_0 4 rfl rfl)
theorem dX3_loudness_5 : decode cX3_loudness 5 = .ok (.aload_n 0, 1) := dk_42 (dk_at dksX3_loudness_0 5 rfl rfl)
theorem dX3_loudness_6 : decode cX3_loudness 6 = .ok (.iload_n 1, 1) := dk_27 (dk_at dksX3_loudness_0 6 rfl rfl)
theorem dX3_loudness_7 : decode cX3_loudness 7 = .ok (.invokevirtual 62, 3) := dk_182 0 62 (dk_at dksX3_loudness_0 7 rfl rfl)
theorem dX3_loudness_10 : decode cX3_loudness 10 = .ok (.if_icmp .ge 23, 3) := dk_162 0 23 (dk_at dksX3_loudness_0 10 rfl rfl)
theorem dX3_loudness_13 : decode cX3_loudness 13 = .ok (.iload_n 2, 1) := dk_28 (dk_at dksX3_loudness_0 13 rfl rfl)
theorem dX3_loudness_14 : decode cX3_loudness 14 = .ok (.aload_n 0, 1) := dk_42 (dk_at dksX3_loudness_0 14 rfl rfl)
theorem dX3_loudness_15 : decode cX3_loudness 15 = .ok (.iload_n 1, 1) := dk_27 (dk_at dksX3_loudness_0 15 rfl rfl)
theorem dX3_loudness_16 : decode cX3_loudness 16 = .ok (.iload_n 3, 1) := dk_29 (dk_at dksX3_loudness_0 16 rfl rfl)
theorem dX3_loudness_17 : decode cX3_loudness 17 = .ok (.invokevirtual 82, 3) := dk_182 0 82 (dk_at dksX3_loudness_0 17 rfl rfl)
theorem dX3_loudness_20 : decode cX3_loudness 20 = .ok (.invokestatic 100, 3) := dk_184 0 100 (dk_at dksX3_loudness_0 20 rfl rfl)
theorem dX3_loudness_23 : decode cX3_loudness 23 = .ok (.invokestatic 71, 3) := dk_184 0 71 (dk_at dksX3_loudness_1 0 rfl rfl)
theorem dX3_loudness_26 : decode cX3_loudness 26 = .ok (.istore_n 2, 1) := dk_61 (dk_at dksX3_loudness_1 3 rfl rfl)
theorem dX3_loudness_27 : decode cX3_loudness 27 = .ok (.iinc 3 1, 3) := dk_132 3 1 (dk_at dksX3_loudness_1 4 rfl rfl)
theorem dX3_loudness_30 : decode cX3_loudness 30 = .ok (.goto (-26), 3) := dk_167 255 230 (dk_at dksX3_loudness_1 7 rfl rfl)
theorem dX3_loudness_33 : decode cX3_loudness 33 = .ok (.iload_n 2, 1) := dk_28 (dk_at dksX3_loudness_1 10 rfl rfl)
theorem dX3_loudness_34 : decode cX3_loudness 34 = .ok (.ireturn, 1) := dk_172 (dk_at dksX3_loudness_1 11 rfl rfl)
abbrev cX3_interleave : ByteArray := prog_11_method_109_code
def yX3_interleave : MethodName := ⟨RX3, "interleave", "(II)I"⟩
def dkwX3_interleave_7 : List UInt8 := [21, 5, 104, 172]
abbrev dktX3_interleave_7 : List UInt8 := dkwX3_interleave_7 ++ []
def dkwX3_interleave_6 : List UInt8 := [132, 6, 255, 167, 255, 190, 42, 180, 0, 7, 27, 184, 0, 58, 16, 7, 96, 5, 21, 5, 104, 79, 5]
abbrev dktX3_interleave_6 : List UInt8 := dkwX3_interleave_6 ++ dktX3_interleave_7
def dkwX3_interleave_5 : List UInt8 := [21, 8, 79, 42, 180, 0, 7, 27, 184, 0, 58, 16, 8, 96, 5, 21, 6, 104, 96, 21, 7, 79]
abbrev dktX3_interleave_5 : List UInt8 := dkwX3_interleave_5 ++ dktX3_interleave_6
def dkwX3_interleave_4 : List UInt8 := [182, 0, 82, 54, 8, 42, 180, 0, 7, 27, 184, 0, 58, 16, 8, 96, 5, 21, 6, 104, 96, 4, 96]
abbrev dktX3_interleave_4 : List UInt8 := dkwX3_interleave_4 ++ dktX3_interleave_5
def dkwX3_interleave_3 : List UInt8 := [21, 5, 4, 100, 54, 6, 21, 6, 155, 0, 67, 42, 27, 21, 6, 182, 0, 82, 54, 7, 42, 28, 21, 6]
abbrev dktX3_interleave_3 : List UInt8 := dkwX3_interleave_3 ++ dktX3_interleave_4
def dkwX3_interleave_2 : List UInt8 := [167, 0, 4, 3, 182, 1, 15, 154, 0, 5, 2, 172, 42, 182, 1, 12, 42, 27, 182, 0, 62, 54, 5]
abbrev dktX3_interleave_2 : List UInt8 := dkwX3_interleave_2 ++ dktX3_interleave_3
def dkwX3_interleave_1 : List UInt8 := [3, 54, 4, 42, 29, 21, 4, 21, 4, 153, 0, 17, 42, 27, 182, 0, 62, 16, 64, 162, 0, 7, 4]
abbrev dktX3_interleave_1 : List UInt8 := dkwX3_interleave_1 ++ dktX3_interleave_2
def dkwX3_interleave_0 : List UInt8 := [42, 27, 28, 182, 0, 227, 62, 29, 153, 0, 16, 42, 27, 28, 182, 0, 230, 153, 0, 7, 4, 167, 0, 4]
abbrev dktX3_interleave_0 : List UInt8 := dkwX3_interleave_0 ++ dktX3_interleave_1
theorem dksX3_interleave_0 : cX3_interleave.data.toList.drop 0 = dktX3_interleave_0 := by decide +kernel
theorem dksX3_interleave_1 : cX3_interleave.data.toList.drop 24 = dktX3_interleave_1 := dk_seg dksX3_interleave_0 24 rfl rfl
theorem dksX3_interleave_2 : cX3_interleave.data.toList.drop 47 = dktX3_interleave_2 := dk_seg dksX3_interleave_1 23 rfl rfl
theorem dksX3_interleave_3 : cX3_interleave.data.toList.drop 70 = dktX3_interleave_3 := dk_seg dksX3_interleave_2 23 rfl rfl
theorem dksX3_interleave_4 : cX3_interleave.data.toList.drop 94 = dktX3_interleave_4 := dk_seg dksX3_interleave_3 24 rfl rfl
theorem dksX3_interleave_5 : cX3_interleave.data.toList.drop 117 = dktX3_interleave_5 := dk_seg dksX3_interleave_4 23 rfl rfl
theorem dksX3_interleave_6 : cX3_interleave.data.toList.drop 139 = dktX3_interleave_6 := dk_seg dksX3_interleave_5 22 rfl rfl
theorem dksX3_interleave_7 : cX3_interleave.data.toList.drop 162 = dktX3_interleave_7 := dk_seg dksX3_interleave_6 23 rfl rfl
theorem dX3_interleave_0 : decode cX3_interleave 0 = .ok (.aload_n 0, 1) := dk_42 (dk_at dksX3_interleave_0 0 rfl rfl)
theorem dX3_interleave_1 : decode cX3_interleave 1 = .ok (.iload_n 1, 1) := dk_27 (dk_at dksX3_interleave_0 1 rfl rfl)
theorem dX3_interleave_2 : decode cX3_interleave 2 = .ok (.iload_n 2, 1) := dk_28 (dk_at dksX3_interleave_0 2 rfl rfl)
theorem dX3_interleave_3 : decode cX3_interleave 3 = .ok (.invokevirtual 227, 3) := dk_182 0 227 (dk_at dksX3_interleave_0 3 rfl rfl)
theorem dX3_interleave_6 : decode cX3_interleave 6 = .ok (.istore_n 3, 1) := dk_62 (dk_at dksX3_interleave_0 6 rfl rfl)
theorem dX3_interleave_7 : decode cX3_interleave 7 = .ok (.iload_n 3, 1) := dk_29 (dk_at dksX3_interleave_0 7 rfl rfl)
theorem dX3_interleave_8 : decode cX3_interleave 8 = .ok (.ifCond .eq 16, 3) := dk_153 0 16 (dk_at dksX3_interleave_0 8 rfl rfl)
theorem dX3_interleave_11 : decode cX3_interleave 11 = .ok (.aload_n 0, 1) := dk_42 (dk_at dksX3_interleave_0 11 rfl rfl)
theorem dX3_interleave_12 : decode cX3_interleave 12 = .ok (.iload_n 1, 1) := dk_27 (dk_at dksX3_interleave_0 12 rfl rfl)
theorem dX3_interleave_13 : decode cX3_interleave 13 = .ok (.iload_n 2, 1) := dk_28 (dk_at dksX3_interleave_0 13 rfl rfl)
theorem dX3_interleave_14 : decode cX3_interleave 14 = .ok (.invokevirtual 230, 3) := dk_182 0 230 (dk_at dksX3_interleave_0 14 rfl rfl)
theorem dX3_interleave_17 : decode cX3_interleave 17 = .ok (.ifCond .eq 7, 3) := dk_153 0 7 (dk_at dksX3_interleave_0 17 rfl rfl)
theorem dX3_interleave_20 : decode cX3_interleave 20 = .ok (.iconst 1, 1) := dk_4 (dk_at dksX3_interleave_0 20 rfl rfl)
theorem dX3_interleave_21 : decode cX3_interleave 21 = .ok (.goto 4, 3) := dk_167 0 4 (dk_at dksX3_interleave_0 21 rfl rfl)
theorem dX3_interleave_24 : decode cX3_interleave 24 = .ok (.iconst 0, 1) := dk_3 (dk_at dksX3_interleave_1 0 rfl rfl)
theorem dX3_interleave_25 : decode cX3_interleave 25 = .ok (.istore 4, 2) := dk_54 4 (dk_at dksX3_interleave_1 1 rfl rfl)
theorem dX3_interleave_27 : decode cX3_interleave 27 = .ok (.aload_n 0, 1) := dk_42 (dk_at dksX3_interleave_1 3 rfl rfl)
theorem dX3_interleave_28 : decode cX3_interleave 28 = .ok (.iload_n 3, 1) := dk_29 (dk_at dksX3_interleave_1 4 rfl rfl)
theorem dX3_interleave_29 : decode cX3_interleave 29 = .ok (.iload 4, 2) := dk_21 4 (dk_at dksX3_interleave_1 5 rfl rfl)
theorem dX3_interleave_31 : decode cX3_interleave 31 = .ok (.iload 4, 2) := dk_21 4 (dk_at dksX3_interleave_1 7 rfl rfl)
theorem dX3_interleave_33 : decode cX3_interleave 33 = .ok (.ifCond .eq 17, 3) := dk_153 0 17 (dk_at dksX3_interleave_1 9 rfl rfl)
theorem dX3_interleave_36 : decode cX3_interleave 36 = .ok (.aload_n 0, 1) := dk_42 (dk_at dksX3_interleave_1 12 rfl rfl)
theorem dX3_interleave_37 : decode cX3_interleave 37 = .ok (.iload_n 1, 1) := dk_27 (dk_at dksX3_interleave_1 13 rfl rfl)
theorem dX3_interleave_38 : decode cX3_interleave 38 = .ok (.invokevirtual 62, 3) := dk_182 0 62 (dk_at dksX3_interleave_1 14 rfl rfl)
theorem dX3_interleave_41 : decode cX3_interleave 41 = .ok (.bipush 64, 2) := dk_16 64 (dk_at dksX3_interleave_1 17 rfl rfl)
theorem dX3_interleave_43 : decode cX3_interleave 43 = .ok (.if_icmp .ge 7, 3) := dk_162 0 7 (dk_at dksX3_interleave_1 19 rfl rfl)
theorem dX3_interleave_46 : decode cX3_interleave 46 = .ok (.iconst 1, 1) := dk_4 (dk_at dksX3_interleave_1 22 rfl rfl)
theorem dX3_interleave_47 : decode cX3_interleave 47 = .ok (.goto 4, 3) := dk_167 0 4 (dk_at dksX3_interleave_2 0 rfl rfl)
theorem dX3_interleave_50 : decode cX3_interleave 50 = .ok (.iconst 0, 1) := dk_3 (dk_at dksX3_interleave_2 3 rfl rfl)
theorem dX3_interleave_51 : decode cX3_interleave 51 = .ok (.invokevirtual 271, 3) := dk_182 1 15 (dk_at dksX3_interleave_2 4 rfl rfl)
theorem dX3_interleave_54 : decode cX3_interleave 54 = .ok (.ifCond .ne 5, 3) := dk_154 0 5 (dk_at dksX3_interleave_2 7 rfl rfl)
theorem dX3_interleave_57 : decode cX3_interleave 57 = .ok (.iconst (-1), 1) := dk_2 (dk_at dksX3_interleave_2 10 rfl rfl)
theorem dX3_interleave_58 : decode cX3_interleave 58 = .ok (.ireturn, 1) := dk_172 (dk_at dksX3_interleave_2 11 rfl rfl)
theorem dX3_interleave_59 : decode cX3_interleave 59 = .ok (.aload_n 0, 1) := dk_42 (dk_at dksX3_interleave_2 12 rfl rfl)
theorem dX3_interleave_60 : decode cX3_interleave 60 = .ok (.invokevirtual 268, 3) := dk_182 1 12 (dk_at dksX3_interleave_2 13 rfl rfl)
theorem dX3_interleave_63 : decode cX3_interleave 63 = .ok (.aload_n 0, 1) := dk_42 (dk_at dksX3_interleave_2 16 rfl rfl)
theorem dX3_interleave_64 : decode cX3_interleave 64 = .ok (.iload_n 1, 1) := dk_27 (dk_at dksX3_interleave_2 17 rfl rfl)
theorem dX3_interleave_65 : decode cX3_interleave 65 = .ok (.invokevirtual 62, 3) := dk_182 0 62 (dk_at dksX3_interleave_2 18 rfl rfl)
theorem dX3_interleave_68 : decode cX3_interleave 68 = .ok (.istore 5, 2) := dk_54 5 (dk_at dksX3_interleave_2 21 rfl rfl)
theorem dX3_interleave_70 : decode cX3_interleave 70 = .ok (.iload 5, 2) := dk_21 5 (dk_at dksX3_interleave_3 0 rfl rfl)
theorem dX3_interleave_72 : decode cX3_interleave 72 = .ok (.iconst 1, 1) := dk_4 (dk_at dksX3_interleave_3 2 rfl rfl)
theorem dX3_interleave_73 : decode cX3_interleave 73 = .ok (.isub, 1) := dk_100 (dk_at dksX3_interleave_3 3 rfl rfl)
theorem dX3_interleave_74 : decode cX3_interleave 74 = .ok (.istore 6, 2) := dk_54 6 (dk_at dksX3_interleave_3 4 rfl rfl)
theorem dX3_interleave_76 : decode cX3_interleave 76 = .ok (.iload 6, 2) := dk_21 6 (dk_at dksX3_interleave_3 6 rfl rfl)
theorem dX3_interleave_78 : decode cX3_interleave 78 = .ok (.ifCond .lt 67, 3) := dk_155 0 67 (dk_at dksX3_interleave_3 8 rfl rfl)
theorem dX3_interleave_81 : decode cX3_interleave 81 = .ok (.aload_n 0, 1) := dk_42 (dk_at dksX3_interleave_3 11 rfl rfl)
theorem dX3_interleave_82 : decode cX3_interleave 82 = .ok (.iload_n 1, 1) := dk_27 (dk_at dksX3_interleave_3 12 rfl rfl)
theorem dX3_interleave_83 : decode cX3_interleave 83 = .ok (.iload 6, 2) := dk_21 6 (dk_at dksX3_interleave_3 13 rfl rfl)
theorem dX3_interleave_85 : decode cX3_interleave 85 = .ok (.invokevirtual 82, 3) := dk_182 0 82 (dk_at dksX3_interleave_3 15 rfl rfl)
theorem dX3_interleave_88 : decode cX3_interleave 88 = .ok (.istore 7, 2) := dk_54 7 (dk_at dksX3_interleave_3 18 rfl rfl)
theorem dX3_interleave_90 : decode cX3_interleave 90 = .ok (.aload_n 0, 1) := dk_42 (dk_at dksX3_interleave_3 20 rfl rfl)
theorem dX3_interleave_91 : decode cX3_interleave 91 = .ok (.iload_n 2, 1) := dk_28 (dk_at dksX3_interleave_3 21 rfl rfl)
theorem dX3_interleave_92 : decode cX3_interleave 92 = .ok (.iload 6, 2) := dk_21 6 (dk_at dksX3_interleave_3 22 rfl rfl)
theorem dX3_interleave_94 : decode cX3_interleave 94 = .ok (.invokevirtual 82, 3) := dk_182 0 82 (dk_at dksX3_interleave_4 0 rfl rfl)
theorem dX3_interleave_97 : decode cX3_interleave 97 = .ok (.istore 8, 2) := dk_54 8 (dk_at dksX3_interleave_4 3 rfl rfl)
theorem dX3_interleave_99 : decode cX3_interleave 99 = .ok (.aload_n 0, 1) := dk_42 (dk_at dksX3_interleave_4 5 rfl rfl)
theorem dX3_interleave_100 : decode cX3_interleave 100 = .ok (.getfield 7, 3) := dk_180 0 7 (dk_at dksX3_interleave_4 6 rfl rfl)
theorem dX3_interleave_103 : decode cX3_interleave 103 = .ok (.iload_n 1, 1) := dk_27 (dk_at dksX3_interleave_4 9 rfl rfl)
theorem dX3_interleave_104 : decode cX3_interleave 104 = .ok (.invokestatic 58, 3) := dk_184 0 58 (dk_at dksX3_interleave_4 10 rfl rfl)
theorem dX3_interleave_107 : decode cX3_interleave 107 = .ok (.bipush 8, 2) := dk_16 8 (dk_at dksX3_interleave_4 13 rfl rfl)
theorem dX3_interleave_109 : decode cX3_interleave 109 = .ok (.iadd, 1) := dk_96 (dk_at dksX3_interleave_4 15 rfl rfl)
theorem dX3_interleave_110 : decode cX3_interleave 110 = .ok (.iconst 2, 1) := dk_5 (dk_at dksX3_interleave_4 16 rfl rfl)
theorem dX3_interleave_111 : decode cX3_interleave 111 = .ok (.iload 6, 2) := dk_21 6 (dk_at dksX3_interleave_4 17 rfl rfl)
theorem dX3_interleave_113 : decode cX3_interleave 113 = .ok (.imul, 1) := dk_104 (dk_at dksX3_interleave_4 19 rfl rfl)
theorem dX3_interleave_114 : decode cX3_interleave 114 = .ok (.iadd, 1) := dk_96 (dk_at dksX3_interleave_4 20 rfl rfl)
theorem dX3_interleave_115 : decode cX3_interleave 115 = .ok (.iconst 1, 1) := dk_4 (dk_at dksX3_interleave_4 21 rfl rfl)
theorem dX3_interleave_116 : decode cX3_interleave 116 = .ok (.iadd, 1) := dk_96 (dk_at dksX3_interleave_4 22 rfl rfl)
theorem dX3_interleave_117 : decode cX3_interleave 117 = .ok (.iload 8, 2) := dk_21 8 (dk_at dksX3_interleave_5 0 rfl rfl)
theorem dX3_interleave_119 : decode cX3_interleave 119 = .ok (.iastore, 1) := dk_79 (dk_at dksX3_interleave_5 2 rfl rfl)
theorem dX3_interleave_120 : decode cX3_interleave 120 = .ok (.aload_n 0, 1) := dk_42 (dk_at dksX3_interleave_5 3 rfl rfl)
theorem dX3_interleave_121 : decode cX3_interleave 121 = .ok (.getfield 7, 3) := dk_180 0 7 (dk_at dksX3_interleave_5 4 rfl rfl)
theorem dX3_interleave_124 : decode cX3_interleave 124 = .ok (.iload_n 1, 1) := dk_27 (dk_at dksX3_interleave_5 7 rfl rfl)
theorem dX3_interleave_125 : decode cX3_interleave 125 = .ok (.invokestatic 58, 3) := dk_184 0 58 (dk_at dksX3_interleave_5 8 rfl rfl)
theorem dX3_interleave_128 : decode cX3_interleave 128 = .ok (.bipush 8, 2) := dk_16 8 (dk_at dksX3_interleave_5 11 rfl rfl)
theorem dX3_interleave_130 : decode cX3_interleave 130 = .ok (.iadd, 1) := dk_96 (dk_at dksX3_interleave_5 13 rfl rfl)
theorem dX3_interleave_131 : decode cX3_interleave 131 = .ok (.iconst 2, 1) := dk_5 (dk_at dksX3_interleave_5 14 rfl rfl)
theorem dX3_interleave_132 : decode cX3_interleave 132 = .ok (.iload 6, 2) := dk_21 6 (dk_at dksX3_interleave_5 15 rfl rfl)
theorem dX3_interleave_134 : decode cX3_interleave 134 = .ok (.imul, 1) := dk_104 (dk_at dksX3_interleave_5 17 rfl rfl)
theorem dX3_interleave_135 : decode cX3_interleave 135 = .ok (.iadd, 1) := dk_96 (dk_at dksX3_interleave_5 18 rfl rfl)
theorem dX3_interleave_136 : decode cX3_interleave 136 = .ok (.iload 7, 2) := dk_21 7 (dk_at dksX3_interleave_5 19 rfl rfl)
theorem dX3_interleave_138 : decode cX3_interleave 138 = .ok (.iastore, 1) := dk_79 (dk_at dksX3_interleave_5 21 rfl rfl)
theorem dX3_interleave_139 : decode cX3_interleave 139 = .ok (.iinc 6 (-1), 3) := dk_132 6 255 (dk_at dksX3_interleave_6 0 rfl rfl)
theorem dX3_interleave_142 : decode cX3_interleave 142 = .ok (.goto (-66), 3) := dk_167 255 190 (dk_at dksX3_interleave_6 3 rfl rfl)
theorem dX3_interleave_145 : decode cX3_interleave 145 = .ok (.aload_n 0, 1) := dk_42 (dk_at dksX3_interleave_6 6 rfl rfl)
theorem dX3_interleave_146 : decode cX3_interleave 146 = .ok (.getfield 7, 3) := dk_180 0 7 (dk_at dksX3_interleave_6 7 rfl rfl)
theorem dX3_interleave_149 : decode cX3_interleave 149 = .ok (.iload_n 1, 1) := dk_27 (dk_at dksX3_interleave_6 10 rfl rfl)
theorem dX3_interleave_150 : decode cX3_interleave 150 = .ok (.invokestatic 58, 3) := dk_184 0 58 (dk_at dksX3_interleave_6 11 rfl rfl)
theorem dX3_interleave_153 : decode cX3_interleave 153 = .ok (.bipush 7, 2) := dk_16 7 (dk_at dksX3_interleave_6 14 rfl rfl)
theorem dX3_interleave_155 : decode cX3_interleave 155 = .ok (.iadd, 1) := dk_96 (dk_at dksX3_interleave_6 16 rfl rfl)
theorem dX3_interleave_156 : decode cX3_interleave 156 = .ok (.iconst 2, 1) := dk_5 (dk_at dksX3_interleave_6 17 rfl rfl)
theorem dX3_interleave_157 : decode cX3_interleave 157 = .ok (.iload 5, 2) := dk_21 5 (dk_at dksX3_interleave_6 18 rfl rfl)
theorem dX3_interleave_159 : decode cX3_interleave 159 = .ok (.imul, 1) := dk_104 (dk_at dksX3_interleave_6 20 rfl rfl)
theorem dX3_interleave_160 : decode cX3_interleave 160 = .ok (.iastore, 1) := dk_79 (dk_at dksX3_interleave_6 21 rfl rfl)
theorem dX3_interleave_161 : decode cX3_interleave 161 = .ok (.iconst 2, 1) := dk_5 (dk_at dksX3_interleave_6 22 rfl rfl)
theorem dX3_interleave_162 : decode cX3_interleave 162 = .ok (.iload 5, 2) := dk_21 5 (dk_at dksX3_interleave_7 0 rfl rfl)
theorem dX3_interleave_164 : decode cX3_interleave 164 = .ok (.imul, 1) := dk_104 (dk_at dksX3_interleave_7 2 rfl rfl)
theorem dX3_interleave_165 : decode cX3_interleave 165 = .ok (.ireturn, 1) := dk_172 (dk_at dksX3_interleave_7 3 rfl rfl)
abbrev cX3_stretch : ByteArray := prog_11_method_110_code
def yX3_stretch : MethodName := ⟨RX3, "stretch", "(I)I"⟩
def dkwX3_stretch_5 : List UInt8 := [184, 0, 58, 16, 7, 96, 5, 29, 104, 79, 5, 29, 104, 172]
abbrev dktX3_stretch_5 : List UInt8 := dkwX3_stretch_5 ++ []
def dkwX3_stretch_4 : List UInt8 := [21, 4, 5, 21, 5, 104, 96, 4, 96, 21, 6, 79, 132, 5, 255, 167, 255, 206, 42, 180, 0, 7, 27]
abbrev dktX3_stretch_4 : List UInt8 := dkwX3_stretch_4 ++ dktX3_stretch_5
def dkwX3_stretch_3 : List UInt8 := [21, 5, 96, 46, 54, 6, 42, 180, 0, 7, 21, 4, 5, 21, 5, 104, 96, 21, 6, 79, 42, 180, 0, 7]
abbrev dktX3_stretch_3 : List UInt8 := dkwX3_stretch_3 ++ dktX3_stretch_4
def dkwX3_stretch_2 : List UInt8 := [184, 0, 58, 16, 8, 96, 54, 4, 29, 4, 100, 54, 5, 21, 5, 155, 0, 51, 42, 180, 0, 7, 21, 4]
abbrev dktX3_stretch_2 : List UInt8 := dkwX3_stretch_2 ++ dktX3_stretch_3
def dkwX3_stretch_1 : List UInt8 := [167, 0, 4, 3, 182, 0, 187, 154, 0, 5, 2, 172, 42, 182, 1, 12, 42, 27, 182, 0, 62, 62, 27]
abbrev dktX3_stretch_1 : List UInt8 := dkwX3_stretch_1 ++ dktX3_stretch_2
def dkwX3_stretch_0 : List UInt8 := [42, 27, 182, 0, 54, 61, 42, 28, 28, 153, 0, 17, 42, 27, 182, 0, 62, 16, 64, 162, 0, 7, 4]
abbrev dktX3_stretch_0 : List UInt8 := dkwX3_stretch_0 ++ dktX3_stretch_1
theorem dksX3_stretch_0 : cX3_stretch.data.toList.drop 0 = dktX3_stretch_0 := by decide +kernel
theorem dksX3_stretch_1 : cX3_stretch.data.toList.drop 23 = dktX3_stretch_1 := dk_seg dksX3_stretch_0 23 rfl rfl
theorem dksX3_stretch_2 : cX3_stretch.data.toList.drop 46 = dktX3_stretch_2 := dk_seg dksX3_stretch_1 23 rfl rfl
theorem dksX3_stretch_3 : cX3_stretch.data.toList.drop 70 = dktX3_stretch_3 := dk_seg dksX3_stretch_2 24 rfl rfl
theorem dksX3_stretch_4 : cX3_stretch.data.toList.drop 94 = dktX3_stretch_4 := dk_seg dksX3_stretch_3 24 rfl rfl
theorem dksX3_stretch_5 : cX3_stretch.data.toList.drop 117 = dktX3_stretch_5 := dk_seg dksX3_stretch_4 23 rfl rfl
theorem dX3_stretch_0 : decode cX3_stretch 0 = .ok (.aload_n 0, 1) := dk_42 (dk_at dksX3_stretch_0 0 rfl rfl)
theorem dX3_stretch_1 : decode cX3_stretch 1 = .ok (.iload_n 1, 1) := dk_27 (dk_at dksX3_stretch_0 1 rfl rfl)
theorem dX3_stretch_2 : decode cX3_stretch 2 = .ok (.invokevirtual 54, 3) := dk_182 0 54 (dk_at dksX3_stretch_0 2 rfl rfl)
theorem dX3_stretch_5 : decode cX3_stretch 5 = .ok (.istore_n 2, 1) := dk_61 (dk_at dksX3_stretch_0 5 rfl rfl)
theorem dX3_stretch_6 : decode cX3_stretch 6 = .ok (.aload_n 0, 1) := dk_42 (dk_at dksX3_stretch_0 6 rfl rfl)
theorem dX3_stretch_7 : decode cX3_stretch 7 = .ok (.iload_n 2, 1) := dk_28 (dk_at dksX3_stretch_0 7 rfl rfl)
theorem dX3_stretch_8 : decode cX3_stretch 8 = .ok (.iload_n 2, 1) := dk_28 (dk_at dksX3_stretch_0 8 rfl rfl)
theorem dX3_stretch_9 : decode cX3_stretch 9 = .ok (.ifCond .eq 17, 3) := dk_153 0 17 (dk_at dksX3_stretch_0 9 rfl rfl)
theorem dX3_stretch_12 : decode cX3_stretch 12 = .ok (.aload_n 0, 1) := dk_42 (dk_at dksX3_stretch_0 12 rfl rfl)
theorem dX3_stretch_13 : decode cX3_stretch 13 = .ok (.iload_n 1, 1) := dk_27 (dk_at dksX3_stretch_0 13 rfl rfl)
theorem dX3_stretch_14 : decode cX3_stretch 14 = .ok (.invokevirtual 62, 3) := dk_182 0 62 (dk_at dksX3_stretch_0 14 rfl rfl)
theorem dX3_stretch_17 : decode cX3_stretch 17 = .ok (.bipush 64, 2) := dk_16 64 (dk_at dksX3_stretch_0 17 rfl rfl)
theorem dX3_stretch_19 : decode cX3_stretch 19 = .ok (.if_icmp .ge 7, 3) := dk_162 0 7 (dk_at dksX3_stretch_0 19 rfl rfl)
theorem dX3_stretch_22 : decode cX3_stretch 22 = .ok (.iconst 1, 1) := dk_4 (dk_at dksX3_stretch_0 22 rfl rfl)
theorem dX3_stretch_23 : decode cX3_stretch 23 = .ok (.goto 4, 3) := dk_167 0 4 (dk_at dksX3_stretch_1 0 rfl rfl)
theorem dX3_stretch_26 : decode cX3_stretch 26 = .ok (.iconst 0, 1) := dk_3 (dk_at dksX3_stretch_1 3 rfl rfl)
theorem dX3_stretch_27 : decode cX3_stretch 27 = .ok (.invokevirtual 187, 3) := dk_182 0 187 (dk_at dksX3_stretch_1 4 rfl rfl)
theorem dX3_stretch_30 : decode cX3_stretch 30 = .ok (.ifCond .ne 5, 3) := dk_154 0 5 (dk_at dksX3_stretch_1 7 rfl rfl)
theorem dX3_stretch_33 : decode cX3_stretch 33 = .ok (.iconst (-1), 1) := dk_2 (dk_at dksX3_stretch_1 10 rfl rfl)
theorem dX3_stretch_34 : decode cX3_stretch 34 = .ok (.ireturn, 1) := dk_172 (dk_at dksX3_stretch_1 11 rfl rfl)
theorem dX3_stretch_35 : decode cX3_stretch 35 = .ok (.aload_n 0, 1) := dk_42 (dk_at dksX3_stretch_1 12 rfl rfl)
theorem dX3_stretch_36 : decode cX3_stretch 36 = .ok (.invokevirtual 268, 3) := dk_182 1 12 (dk_at dksX3_stretch_1 13 rfl rfl)
theorem dX3_stretch_39 : decode cX3_stretch 39 = .ok (.aload_n 0, 1) := dk_42 (dk_at dksX3_stretch_1 16 rfl rfl)
theorem dX3_stretch_40 : decode cX3_stretch 40 = .ok (.iload_n 1, 1) := dk_27 (dk_at dksX3_stretch_1 17 rfl rfl)
theorem dX3_stretch_41 : decode cX3_stretch 41 = .ok (.invokevirtual 62, 3) := dk_182 0 62 (dk_at dksX3_stretch_1 18 rfl rfl)
theorem dX3_stretch_44 : decode cX3_stretch 44 = .ok (.istore_n 3, 1) := dk_62 (dk_at dksX3_stretch_1 21 rfl rfl)
theorem dX3_stretch_45 : decode cX3_stretch 45 = .ok (.iload_n 1, 1) := dk_27 (dk_at dksX3_stretch_1 22 rfl rfl)
theorem dX3_stretch_46 : decode cX3_stretch 46 = .ok (.invokestatic 58, 3) := dk_184 0 58 (dk_at dksX3_stretch_2 0 rfl rfl)
theorem dX3_stretch_49 : decode cX3_stretch 49 = .ok (.bipush 8, 2) := dk_16 8 (dk_at dksX3_stretch_2 3 rfl rfl)
theorem dX3_stretch_51 : decode cX3_stretch 51 = .ok (.iadd, 1) := dk_96 (dk_at dksX3_stretch_2 5 rfl rfl)
theorem dX3_stretch_52 : decode cX3_stretch 52 = .ok (.istore 4, 2) := dk_54 4 (dk_at dksX3_stretch_2 6 rfl rfl)
theorem dX3_stretch_54 : decode cX3_stretch 54 = .ok (.iload_n 3, 1) := dk_29 (dk_at dksX3_stretch_2 8 rfl rfl)
theorem dX3_stretch_55 : decode cX3_stretch 55 = .ok (.iconst 1, 1) := dk_4 (dk_at dksX3_stretch_2 9 rfl rfl)
theorem dX3_stretch_56 : decode cX3_stretch 56 = .ok (.isub, 1) := dk_100 (dk_at dksX3_stretch_2 10 rfl rfl)
theorem dX3_stretch_57 : decode cX3_stretch 57 = .ok (.istore 5, 2) := dk_54 5 (dk_at dksX3_stretch_2 11 rfl rfl)
theorem dX3_stretch_59 : decode cX3_stretch 59 = .ok (.iload 5, 2) := dk_21 5 (dk_at dksX3_stretch_2 13 rfl rfl)
theorem dX3_stretch_61 : decode cX3_stretch 61 = .ok (.ifCond .lt 51, 3) := dk_155 0 51 (dk_at dksX3_stretch_2 15 rfl rfl)
theorem dX3_stretch_64 : decode cX3_stretch 64 = .ok (.aload_n 0, 1) := dk_42 (dk_at dksX3_stretch_2 18 rfl rfl)
theorem dX3_stretch_65 : decode cX3_stretch 65 = .ok (.getfield 7, 3) := dk_180 0 7 (dk_at dksX3_stretch_2 19 rfl rfl)
theorem dX3_stretch_68 : decode cX3_stretch 68 = .ok (.iload 4, 2) := dk_21 4 (dk_at dksX3_stretch_2 22 rfl rfl)
theorem dX3_stretch_70 : decode cX3_stretch 70 = .ok (.iload 5, 2) := dk_21 5 (dk_at dksX3_stretch_3 0 rfl rfl)
theorem dX3_stretch_72 : decode cX3_stretch 72 = .ok (.iadd, 1) := dk_96 (dk_at dksX3_stretch_3 2 rfl rfl)
theorem dX3_stretch_73 : decode cX3_stretch 73 = .ok (.iaload, 1) := dk_46 (dk_at dksX3_stretch_3 3 rfl rfl)
theorem dX3_stretch_74 : decode cX3_stretch 74 = .ok (.istore 6, 2) := dk_54 6 (dk_at dksX3_stretch_3 4 rfl rfl)
theorem dX3_stretch_76 : decode cX3_stretch 76 = .ok (.aload_n 0, 1) := dk_42 (dk_at dksX3_stretch_3 6 rfl rfl)
theorem dX3_stretch_77 : decode cX3_stretch 77 = .ok (.getfield 7, 3) := dk_180 0 7 (dk_at dksX3_stretch_3 7 rfl rfl)
theorem dX3_stretch_80 : decode cX3_stretch 80 = .ok (.iload 4, 2) := dk_21 4 (dk_at dksX3_stretch_3 10 rfl rfl)
theorem dX3_stretch_82 : decode cX3_stretch 82 = .ok (.iconst 2, 1) := dk_5 (dk_at dksX3_stretch_3 12 rfl rfl)
theorem dX3_stretch_83 : decode cX3_stretch 83 = .ok (.iload 5, 2) := dk_21 5 (dk_at dksX3_stretch_3 13 rfl rfl)
theorem dX3_stretch_85 : decode cX3_stretch 85 = .ok (.imul, 1) := dk_104 (dk_at dksX3_stretch_3 15 rfl rfl)
theorem dX3_stretch_86 : decode cX3_stretch 86 = .ok (.iadd, 1) := dk_96 (dk_at dksX3_stretch_3 16 rfl rfl)
theorem dX3_stretch_87 : decode cX3_stretch 87 = .ok (.iload 6, 2) := dk_21 6 (dk_at dksX3_stretch_3 17 rfl rfl)
theorem dX3_stretch_89 : decode cX3_stretch 89 = .ok (.iastore, 1) := dk_79 (dk_at dksX3_stretch_3 19 rfl rfl)
theorem dX3_stretch_90 : decode cX3_stretch 90 = .ok (.aload_n 0, 1) := dk_42 (dk_at dksX3_stretch_3 20 rfl rfl)
theorem dX3_stretch_91 : decode cX3_stretch 91 = .ok (.getfield 7, 3) := dk_180 0 7 (dk_at dksX3_stretch_3 21 rfl rfl)
theorem dX3_stretch_94 : decode cX3_stretch 94 = .ok (.iload 4, 2) := dk_21 4 (dk_at dksX3_stretch_4 0 rfl rfl)
theorem dX3_stretch_96 : decode cX3_stretch 96 = .ok (.iconst 2, 1) := dk_5 (dk_at dksX3_stretch_4 2 rfl rfl)
theorem dX3_stretch_97 : decode cX3_stretch 97 = .ok (.iload 5, 2) := dk_21 5 (dk_at dksX3_stretch_4 3 rfl rfl)
theorem dX3_stretch_99 : decode cX3_stretch 99 = .ok (.imul, 1) := dk_104 (dk_at dksX3_stretch_4 5 rfl rfl)
theorem dX3_stretch_100 : decode cX3_stretch 100 = .ok (.iadd, 1) := dk_96 (dk_at dksX3_stretch_4 6 rfl rfl)
theorem dX3_stretch_101 : decode cX3_stretch 101 = .ok (.iconst 1, 1) := dk_4 (dk_at dksX3_stretch_4 7 rfl rfl)
theorem dX3_stretch_102 : decode cX3_stretch 102 = .ok (.iadd, 1) := dk_96 (dk_at dksX3_stretch_4 8 rfl rfl)
theorem dX3_stretch_103 : decode cX3_stretch 103 = .ok (.iload 6, 2) := dk_21 6 (dk_at dksX3_stretch_4 9 rfl rfl)
theorem dX3_stretch_105 : decode cX3_stretch 105 = .ok (.iastore, 1) := dk_79 (dk_at dksX3_stretch_4 11 rfl rfl)
theorem dX3_stretch_106 : decode cX3_stretch 106 = .ok (.iinc 5 (-1), 3) := dk_132 5 255 (dk_at dksX3_stretch_4 12 rfl rfl)
theorem dX3_stretch_109 : decode cX3_stretch 109 = .ok (.goto (-50), 3) := dk_167 255 206 (dk_at dksX3_stretch_4 15 rfl rfl)
theorem dX3_stretch_112 : decode cX3_stretch 112 = .ok (.aload_n 0, 1) := dk_42 (dk_at dksX3_stretch_4 18 rfl rfl)
theorem dX3_stretch_113 : decode cX3_stretch 113 = .ok (.getfield 7, 3) := dk_180 0 7 (dk_at dksX3_stretch_4 19 rfl rfl)
theorem dX3_stretch_116 : decode cX3_stretch 116 = .ok (.iload_n 1, 1) := dk_27 (dk_at dksX3_stretch_4 22 rfl rfl)
theorem dX3_stretch_117 : decode cX3_stretch 117 = .ok (.invokestatic 58, 3) := dk_184 0 58 (dk_at dksX3_stretch_5 0 rfl rfl)
theorem dX3_stretch_120 : decode cX3_stretch 120 = .ok (.bipush 7, 2) := dk_16 7 (dk_at dksX3_stretch_5 3 rfl rfl)
theorem dX3_stretch_122 : decode cX3_stretch 122 = .ok (.iadd, 1) := dk_96 (dk_at dksX3_stretch_5 5 rfl rfl)
theorem dX3_stretch_123 : decode cX3_stretch 123 = .ok (.iconst 2, 1) := dk_5 (dk_at dksX3_stretch_5 6 rfl rfl)
theorem dX3_stretch_124 : decode cX3_stretch 124 = .ok (.iload_n 3, 1) := dk_29 (dk_at dksX3_stretch_5 7 rfl rfl)
theorem dX3_stretch_125 : decode cX3_stretch 125 = .ok (.imul, 1) := dk_104 (dk_at dksX3_stretch_5 8 rfl rfl)
theorem dX3_stretch_126 : decode cX3_stretch 126 = .ok (.iastore, 1) := dk_79 (dk_at dksX3_stretch_5 9 rfl rfl)
theorem dX3_stretch_127 : decode cX3_stretch 127 = .ok (.iconst 2, 1) := dk_5 (dk_at dksX3_stretch_5 10 rfl rfl)
theorem dX3_stretch_128 : decode cX3_stretch 128 = .ok (.iload_n 3, 1) := dk_29 (dk_at dksX3_stretch_5 11 rfl rfl)
theorem dX3_stretch_129 : decode cX3_stretch 129 = .ok (.imul, 1) := dk_104 (dk_at dksX3_stretch_5 12 rfl rfl)
theorem dX3_stretch_130 : decode cX3_stretch 130 = .ok (.ireturn, 1) := dk_172 (dk_at dksX3_stretch_5 13 rfl rfl)
abbrev cX3_removeBand : ByteArray := prog_11_method_111_code
def yX3_removeBand : MethodName := ⟨RX3, "removeBand", "(III)I"⟩
def dkwX3_removeBand_5 : List UInt8 := [172]
abbrev dktX3_removeBand_5 : List UInt8 := dkwX3_removeBand_5 ++ []
def dkwX3_removeBand_4 : List UInt8 := [21, 5, 46, 79, 132, 5, 1, 167, 255, 207, 42, 42, 27, 182, 0, 62, 182, 0, 252, 42, 27, 182, 1, 18]
abbrev dktX3_removeBand_4 : List UInt8 := dkwX3_removeBand_4 ++ dktX3_removeBand_5
def dkwX3_removeBand_3 : List UInt8 := [182, 0, 62, 21, 5, 184, 0, 196, 28, 29, 184, 0, 50, 153, 0, 7, 3, 167, 0, 10, 42, 180, 0, 28]
abbrev dktX3_removeBand_3 : List UInt8 := dkwX3_removeBand_3 ++ dktX3_removeBand_4
def dkwX3_removeBand_2 : List UInt8 := [182, 0, 92, 3, 54, 5, 21, 5, 42, 27, 182, 0, 62, 162, 0, 45, 42, 180, 0, 28, 21, 5, 42, 27]
abbrev dktX3_removeBand_2 : List UInt8 := dkwX3_removeBand_2 ++ dktX3_removeBand_3
def dkwX3_removeBand_1 : List UInt8 := [153, 0, 7, 4, 167, 0, 4, 3, 182, 0, 187, 154, 0, 5, 2, 172, 42, 182, 1, 12, 42, 27]
abbrev dktX3_removeBand_1 : List UInt8 := dkwX3_removeBand_1 ++ dktX3_removeBand_2
def dkwX3_removeBand_0 : List UInt8 := [42, 27, 182, 0, 54, 54, 4, 42, 21, 4, 21, 4, 153, 0, 17, 42, 27, 28, 29, 182, 0, 199]
abbrev dktX3_removeBand_0 : List UInt8 := dkwX3_removeBand_0 ++ dktX3_removeBand_1
theorem dksX3_removeBand_0 : cX3_removeBand.data.toList.drop 0 = dktX3_removeBand_0 := by decide +kernel
theorem dksX3_removeBand_1 : cX3_removeBand.data.toList.drop 22 = dktX3_removeBand_1 := dk_seg dksX3_removeBand_0 22 rfl rfl
theorem dksX3_removeBand_2 : cX3_removeBand.data.toList.drop 44 = dktX3_removeBand_2 := dk_seg dksX3_removeBand_1 22 rfl rfl
theorem dksX3_removeBand_3 : cX3_removeBand.data.toList.drop 68 = dktX3_removeBand_3 := dk_seg dksX3_removeBand_2 24 rfl rfl
theorem dksX3_removeBand_4 : cX3_removeBand.data.toList.drop 92 = dktX3_removeBand_4 := dk_seg dksX3_removeBand_3 24 rfl rfl
theorem dksX3_removeBand_5 : cX3_removeBand.data.toList.drop 116 = dktX3_removeBand_5 := dk_seg dksX3_removeBand_4 24 rfl rfl
theorem dX3_removeBand_0 : decode cX3_removeBand 0 = .ok (.aload_n 0, 1) := dk_42 (dk_at dksX3_removeBand_0 0 rfl rfl)
theorem dX3_removeBand_1 : decode cX3_removeBand 1 = .ok (.iload_n 1, 1) := dk_27 (dk_at dksX3_removeBand_0 1 rfl rfl)
theorem dX3_removeBand_2 : decode cX3_removeBand 2 = .ok (.invokevirtual 54, 3) := dk_182 0 54 (dk_at dksX3_removeBand_0 2 rfl rfl)
theorem dX3_removeBand_5 : decode cX3_removeBand 5 = .ok (.istore 4, 2) := dk_54 4 (dk_at dksX3_removeBand_0 5 rfl rfl)
theorem dX3_removeBand_7 : decode cX3_removeBand 7 = .ok (.aload_n 0, 1) := dk_42 (dk_at dksX3_removeBand_0 7 rfl rfl)
theorem dX3_removeBand_8 : decode cX3_removeBand 8 = .ok (.iload 4, 2) := dk_21 4 (dk_at dksX3_removeBand_0 8 rfl rfl)
theorem dX3_removeBand_10 : decode cX3_removeBand 10 = .ok (.iload 4, 2) := dk_21 4 (dk_at dksX3_removeBand_0 10 rfl rfl)
theorem dX3_removeBand_12 : decode cX3_removeBand 12 = .ok (.ifCond .eq 17, 3) := dk_153 0 17 (dk_at dksX3_removeBand_0 12 rfl rfl)
theorem dX3_removeBand_15 : decode cX3_removeBand 15 = .ok (.aload_n 0, 1) := dk_42 (dk_at dksX3_removeBand_0 15 rfl rfl)
theorem dX3_removeBand_16 : decode cX3_removeBand 16 = .ok (.iload_n 1, 1) := dk_27 (dk_at dksX3_removeBand_0 16 rfl rfl)
theorem dX3_removeBand_17 : decode cX3_removeBand 17 = .ok (.iload_n 2, 1) := dk_28 (dk_at dksX3_removeBand_0 17 rfl rfl)
theorem dX3_removeBand_18 : decode cX3_removeBand 18 = .ok (.iload_n 3, 1) := dk_29 (dk_at dksX3_removeBand_0 18 rfl rfl)
theorem dX3_removeBand_19 : decode cX3_removeBand 19 = .ok (.invokevirtual 199, 3) := dk_182 0 199 (dk_at dksX3_removeBand_0 19 rfl rfl)
theorem dX3_removeBand_22 : decode cX3_removeBand 22 = .ok (.ifCond .eq 7, 3) := dk_153 0 7 (dk_at dksX3_removeBand_1 0 rfl rfl)
theorem dX3_removeBand_25 : decode cX3_removeBand 25 = .ok (.iconst 1, 1) := dk_4 (dk_at dksX3_removeBand_1 3 rfl rfl)
theorem dX3_removeBand_26 : decode cX3_removeBand 26 = .ok (.goto 4, 3) := dk_167 0 4 (dk_at dksX3_removeBand_1 4 rfl rfl)
theorem dX3_removeBand_29 : decode cX3_removeBand 29 = .ok (.iconst 0, 1) := dk_3 (dk_at dksX3_removeBand_1 7 rfl rfl)
theorem dX3_removeBand_30 : decode cX3_removeBand 30 = .ok (.invokevirtual 187, 3) := dk_182 0 187 (dk_at dksX3_removeBand_1 8 rfl rfl)
theorem dX3_removeBand_33 : decode cX3_removeBand 33 = .ok (.ifCond .ne 5, 3) := dk_154 0 5 (dk_at dksX3_removeBand_1 11 rfl rfl)
theorem dX3_removeBand_36 : decode cX3_removeBand 36 = .ok (.iconst (-1), 1) := dk_2 (dk_at dksX3_removeBand_1 14 rfl rfl)
theorem dX3_removeBand_37 : decode cX3_removeBand 37 = .ok (.ireturn, 1) := dk_172 (dk_at dksX3_removeBand_1 15 rfl rfl)
theorem dX3_removeBand_38 : decode cX3_removeBand 38 = .ok (.aload_n 0, 1) := dk_42 (dk_at dksX3_removeBand_1 16 rfl rfl)
theorem dX3_removeBand_39 : decode cX3_removeBand 39 = .ok (.invokevirtual 268, 3) := dk_182 1 12 (dk_at dksX3_removeBand_1 17 rfl rfl)
theorem dX3_removeBand_42 : decode cX3_removeBand 42 = .ok (.aload_n 0, 1) := dk_42 (dk_at dksX3_removeBand_1 20 rfl rfl)
theorem dX3_removeBand_43 : decode cX3_removeBand 43 = .ok (.iload_n 1, 1) := dk_27 (dk_at dksX3_removeBand_1 21 rfl rfl)
theorem dX3_removeBand_44 : decode cX3_removeBand 44 = .ok (.invokevirtual 92, 3) := dk_182 0 92 (dk_at dksX3_removeBand_2 0 rfl rfl)
theorem dX3_removeBand_47 : decode cX3_removeBand 47 = .ok (.iconst 0, 1) := dk_3 (dk_at dksX3_removeBand_2 3 rfl rfl)
theorem dX3_removeBand_48 : decode cX3_removeBand 48 = .ok (.istore 5, 2) := dk_54 5 (dk_at dksX3_removeBand_2 4 rfl rfl)
theorem dX3_removeBand_50 : decode cX3_removeBand 50 = .ok (.iload 5, 2) := dk_21 5 (dk_at dksX3_removeBand_2 6 rfl rfl)
theorem dX3_removeBand_52 : decode cX3_removeBand 52 = .ok (.aload_n 0, 1) := dk_42 (dk_at dksX3_removeBand_2 8 rfl rfl)
theorem dX3_removeBand_53 : decode cX3_removeBand 53 = .ok (.iload_n 1, 1) := dk_27 (dk_at dksX3_removeBand_2 9 rfl rfl)
theorem dX3_removeBand_54 : decode cX3_removeBand 54 = .ok (.invokevirtual 62, 3) := dk_182 0 62 (dk_at dksX3_removeBand_2 10 rfl rfl)
theorem dX3_removeBand_57 : decode cX3_removeBand 57 = .ok (.if_icmp .ge 45, 3) := dk_162 0 45 (dk_at dksX3_removeBand_2 13 rfl rfl)
theorem dX3_removeBand_60 : decode cX3_removeBand 60 = .ok (.aload_n 0, 1) := dk_42 (dk_at dksX3_removeBand_2 16 rfl rfl)
theorem dX3_removeBand_61 : decode cX3_removeBand 61 = .ok (.getfield 28, 3) := dk_180 0 28 (dk_at dksX3_removeBand_2 17 rfl rfl)
theorem dX3_removeBand_64 : decode cX3_removeBand 64 = .ok (.iload 5, 2) := dk_21 5 (dk_at dksX3_removeBand_2 20 rfl rfl)
theorem dX3_removeBand_66 : decode cX3_removeBand 66 = .ok (.aload_n 0, 1) := dk_42 (dk_at dksX3_removeBand_2 22 rfl rfl)
theorem dX3_removeBand_67 : decode cX3_removeBand 67 = .ok (.iload_n 1, 1) := dk_27 (dk_at dksX3_removeBand_2 23 rfl rfl)
theorem dX3_removeBand_68 : decode cX3_removeBand 68 = .ok (.invokevirtual 62, 3) := dk_182 0 62 (dk_at dksX3_removeBand_3 0 rfl rfl)
theorem dX3_removeBand_71 : decode cX3_removeBand 71 = .ok (.iload 5, 2) := dk_21 5 (dk_at dksX3_removeBand_3 3 rfl rfl)
theorem dX3_removeBand_73 : decode cX3_removeBand 73 = .ok (.invokestatic 196, 3) := dk_184 0 196 (dk_at dksX3_removeBand_3 5 rfl rfl)
theorem dX3_removeBand_76 : decode cX3_removeBand 76 = .ok (.iload_n 2, 1) := dk_28 (dk_at dksX3_removeBand_3 8 rfl rfl)
theorem dX3_removeBand_77 : decode cX3_removeBand 77 = .ok (.iload_n 3, 1) := dk_29 (dk_at dksX3_removeBand_3 9 rfl rfl)
theorem dX3_removeBand_78 : decode cX3_removeBand 78 = .ok (.invokestatic 50, 3) := dk_184 0 50 (dk_at dksX3_removeBand_3 10 rfl rfl)
theorem dX3_removeBand_81 : decode cX3_removeBand 81 = .ok (.ifCond .eq 7, 3) := dk_153 0 7 (dk_at dksX3_removeBand_3 13 rfl rfl)
theorem dX3_removeBand_84 : decode cX3_removeBand 84 = .ok (.iconst 0, 1) := dk_3 (dk_at dksX3_removeBand_3 16 rfl rfl)
theorem dX3_removeBand_85 : decode cX3_removeBand 85 = .ok (.goto 10, 3) := dk_167 0 10 (dk_at dksX3_removeBand_3 17 rfl rfl)
theorem dX3_removeBand_88 : decode cX3_removeBand 88 = .ok (.aload_n 0, 1) := dk_42 (dk_at dksX3_removeBand_3 20 rfl rfl)
theorem dX3_removeBand_89 : decode cX3_removeBand 89 = .ok (.getfield 28, 3) := dk_180 0 28 (dk_at dksX3_removeBand_3 21 rfl rfl)
theorem dX3_removeBand_92 : decode cX3_removeBand 92 = .ok (.iload 5, 2) := dk_21 5 (dk_at dksX3_removeBand_4 0 rfl rfl)
theorem dX3_removeBand_94 : decode cX3_removeBand 94 = .ok (.iaload, 1) := dk_46 (dk_at dksX3_removeBand_4 2 rfl rfl)
theorem dX3_removeBand_95 : decode cX3_removeBand 95 = .ok (.iastore, 1) := dk_79 (dk_at dksX3_removeBand_4 3 rfl rfl)
theorem dX3_removeBand_96 : decode cX3_removeBand 96 = .ok (.iinc 5 1, 3) := dk_132 5 1 (dk_at dksX3_removeBand_4 4 rfl rfl)
theorem dX3_removeBand_99 : decode cX3_removeBand 99 = .ok (.goto (-49), 3) := dk_167 255 207 (dk_at dksX3_removeBand_4 7 rfl rfl)
theorem dX3_removeBand_102 : decode cX3_removeBand 102 = .ok (.aload_n 0, 1) := dk_42 (dk_at dksX3_removeBand_4 10 rfl rfl)
theorem dX3_removeBand_103 : decode cX3_removeBand 103 = .ok (.aload_n 0, 1) := dk_42 (dk_at dksX3_removeBand_4 11 rfl rfl)
theorem dX3_removeBand_104 : decode cX3_removeBand 104 = .ok (.iload_n 1, 1) := dk_27 (dk_at dksX3_removeBand_4 12 rfl rfl)
theorem dX3_removeBand_105 : decode cX3_removeBand 105 = .ok (.invokevirtual 62, 3) := dk_182 0 62 (dk_at dksX3_removeBand_4 13 rfl rfl)
theorem dX3_removeBand_108 : decode cX3_removeBand 108 = .ok (.invokevirtual 252, 3) := dk_182 0 252 (dk_at dksX3_removeBand_4 16 rfl rfl)
theorem dX3_removeBand_111 : decode cX3_removeBand 111 = .ok (.aload_n 0, 1) := dk_42 (dk_at dksX3_removeBand_4 19 rfl rfl)
theorem dX3_removeBand_112 : decode cX3_removeBand 112 = .ok (.iload_n 1, 1) := dk_27 (dk_at dksX3_removeBand_4 20 rfl rfl)
theorem dX3_removeBand_113 : decode cX3_removeBand 113 = .ok (.invokevirtual 274, 3) := dk_182 1 18 (dk_at dksX3_removeBand_4 21 rfl rfl)
theorem dX3_removeBand_116 : decode cX3_removeBand 116 = .ok (.ireturn, 1) := dk_172 (dk_at dksX3_removeBand_5 0 rfl rfl)
abbrev cX3_shift : ByteArray := prog_11_method_112_code
def yX3_shift : MethodName := ⟨RX3, "shift", "(II)I"⟩
def dkwX3_shift_3 : List UInt8 := [182, 0, 82, 79, 132, 4, 1, 167, 255, 227, 42, 27, 182, 1, 18, 172]
abbrev dktX3_shift_3 : List UInt8 := dkwX3_shift_3 ++ []
def dkwX3_shift_2 : List UInt8 := [21, 4, 42, 27, 182, 0, 62, 162, 0, 25, 42, 180, 0, 37, 21, 4, 28, 130, 42, 27, 21, 4]
abbrev dktX3_shift_2 : List UInt8 := dkwX3_shift_2 ++ dktX3_shift_3
def dkwX3_shift_1 : List UInt8 := [153, 0, 7, 4, 167, 0, 4, 3, 182, 0, 187, 154, 0, 5, 2, 172, 42, 182, 1, 12, 3, 54, 4]
abbrev dktX3_shift_1 : List UInt8 := dkwX3_shift_1 ++ dktX3_shift_2
def dkwX3_shift_0 : List UInt8 := [42, 27, 182, 0, 54, 62, 42, 29, 29, 153, 0, 22, 28, 3, 42, 27, 182, 0, 62, 4, 100, 184, 0, 50]
abbrev dktX3_shift_0 : List UInt8 := dkwX3_shift_0 ++ dktX3_shift_1
theorem dksX3_shift_0 : cX3_shift.data.toList.drop 0 = dktX3_shift_0 := by decide +kernel
theorem dksX3_shift_1 : cX3_shift.data.toList.drop 24 = dktX3_shift_1 := dk_seg dksX3_shift_0 24 rfl rfl
theorem dksX3_shift_2 : cX3_shift.data.toList.drop 47 = dktX3_shift_2 := dk_seg dksX3_shift_1 23 rfl rfl
theorem dksX3_shift_3 : cX3_shift.data.toList.drop 69 = dktX3_shift_3 := dk_seg dksX3_shift_2 22 rfl rfl
theorem dX3_shift_0 : decode cX3_shift 0 = .ok (.aload_n 0, 1) := dk_42 (dk_at dksX3_shift_0 0 rfl rfl)
theorem dX3_shift_1 : decode cX3_shift 1 = .ok (.iload_n 1, 1) := dk_27 (dk_at dksX3_shift_0 1 rfl rfl)
theorem dX3_shift_2 : decode cX3_shift 2 = .ok (.invokevirtual 54, 3) := dk_182 0 54 (dk_at dksX3_shift_0 2 rfl rfl)
theorem dX3_shift_5 : decode cX3_shift 5 = .ok (.istore_n 3, 1) := dk_62 (dk_at dksX3_shift_0 5 rfl rfl)
theorem dX3_shift_6 : decode cX3_shift 6 = .ok (.aload_n 0, 1) := dk_42 (dk_at dksX3_shift_0 6 rfl rfl)
theorem dX3_shift_7 : decode cX3_shift 7 = .ok (.iload_n 3, 1) := dk_29 (dk_at dksX3_shift_0 7 rfl rfl)
theorem dX3_shift_8 : decode cX3_shift 8 = .ok (.iload_n 3, 1) := dk_29 (dk_at dksX3_shift_0 8 rfl rfl)
theorem dX3_shift_9 : decode cX3_shift 9 = .ok (.ifCond .eq 22, 3) := dk_153 0 22 (dk_at dksX3_shift_0 9 rfl rfl)
theorem dX3_shift_12 : decode cX3_shift 12 = .ok (.iload_n 2, 1) := dk_28 (dk_at dksX3_shift_0 12 rfl rfl)
theorem dX3_shift_13 : decode cX3_shift 13 = .ok (.iconst 0, 1) := dk_3 (dk_at dksX3_shift_0 13 rfl rfl)
theorem dX3_shift_14 : decode cX3_shift 14 = .ok (.aload_n 0, 1) := dk_42 (dk_at dksX3_shift_0 14 rfl rfl)
theorem dX3_shift_15 : decode cX3_shift 15 = .ok (.iload_n 1, 1) := dk_27 (dk_at dksX3_shift_0 15 rfl rfl)
theorem dX3_shift_16 : decode cX3_shift 16 = .ok (.invokevirtual 62, 3) := dk_182 0 62 (dk_at dksX3_shift_0 16 rfl rfl)
theorem dX3_shift_19 : decode cX3_shift 19 = .ok (.iconst 1, 1) := dk_4 (dk_at dksX3_shift_0 19 rfl rfl)
theorem dX3_shift_20 : decode cX3_shift 20 = .ok (.isub, 1) := dk_100 (dk_at dksX3_shift_0 20 rfl rfl)
theorem dX3_shift_21 : decode cX3_shift 21 = .ok (.invokestatic 50, 3) := dk_184 0 50 (dk_at dksX3_shift_0 21 rfl rfl)
theorem dX3_shift_24 : decode cX3_shift 24 = .ok (.ifCond .eq 7, 3) := dk_153 0 7 (dk_at dksX3_shift_1 0 rfl rfl)
theorem dX3_shift_27 : decode cX3_shift 27 = .ok (.iconst 1, 1) := dk_4 (dk_at dksX3_shift_1 3 rfl rfl)
theorem dX3_shift_28 : decode cX3_shift 28 = .ok (.goto 4, 3) := dk_167 0 4 (dk_at dksX3_shift_1 4 rfl rfl)
theorem dX3_shift_31 : decode cX3_shift 31 = .ok (.iconst 0, 1) := dk_3 (dk_at dksX3_shift_1 7 rfl rfl)
theorem dX3_shift_32 : decode cX3_shift 32 = .ok (.invokevirtual 187, 3) := dk_182 0 187 (dk_at dksX3_shift_1 8 rfl rfl)
theorem dX3_shift_35 : decode cX3_shift 35 = .ok (.ifCond .ne 5, 3) := dk_154 0 5 (dk_at dksX3_shift_1 11 rfl rfl)
theorem dX3_shift_38 : decode cX3_shift 38 = .ok (.iconst (-1), 1) := dk_2 (dk_at dksX3_shift_1 14 rfl rfl)
theorem dX3_shift_39 : decode cX3_shift 39 = .ok (.ireturn, 1) := dk_172 (dk_at dksX3_shift_1 15 rfl rfl)
theorem dX3_shift_40 : decode cX3_shift 40 = .ok (.aload_n 0, 1) := dk_42 (dk_at dksX3_shift_1 16 rfl rfl)
theorem dX3_shift_41 : decode cX3_shift 41 = .ok (.invokevirtual 268, 3) := dk_182 1 12 (dk_at dksX3_shift_1 17 rfl rfl)
theorem dX3_shift_44 : decode cX3_shift 44 = .ok (.iconst 0, 1) := dk_3 (dk_at dksX3_shift_1 20 rfl rfl)
theorem dX3_shift_45 : decode cX3_shift 45 = .ok (.istore 4, 2) := dk_54 4 (dk_at dksX3_shift_1 21 rfl rfl)
theorem dX3_shift_47 : decode cX3_shift 47 = .ok (.iload 4, 2) := dk_21 4 (dk_at dksX3_shift_2 0 rfl rfl)
theorem dX3_shift_49 : decode cX3_shift 49 = .ok (.aload_n 0, 1) := dk_42 (dk_at dksX3_shift_2 2 rfl rfl)
theorem dX3_shift_50 : decode cX3_shift 50 = .ok (.iload_n 1, 1) := dk_27 (dk_at dksX3_shift_2 3 rfl rfl)
theorem dX3_shift_51 : decode cX3_shift 51 = .ok (.invokevirtual 62, 3) := dk_182 0 62 (dk_at dksX3_shift_2 4 rfl rfl)
theorem dX3_shift_54 : decode cX3_shift 54 = .ok (.if_icmp .ge 25, 3) := dk_162 0 25 (dk_at dksX3_shift_2 7 rfl rfl)
theorem dX3_shift_57 : decode cX3_shift 57 = .ok (.aload_n 0, 1) := dk_42 (dk_at dksX3_shift_2 10 rfl rfl)
theorem dX3_shift_58 : decode cX3_shift 58 = .ok (.getfield 37, 3) := dk_180 0 37 (dk_at dksX3_shift_2 11 rfl rfl)
theorem dX3_shift_61 : decode cX3_shift 61 = .ok (.iload 4, 2) := dk_21 4 (dk_at dksX3_shift_2 14 rfl rfl)
theorem dX3_shift_63 : decode cX3_shift 63 = .ok (.iload_n 2, 1) := dk_28 (dk_at dksX3_shift_2 16 rfl rfl)
theorem dX3_shift_64 : decode cX3_shift 64 = .ok (.ixor, 1) := dk_130 (dk_at dksX3_shift_2 17 rfl rfl)
theorem dX3_shift_65 : decode cX3_shift 65 = .ok (.aload_n 0, 1) := dk_42 (dk_at dksX3_shift_2 18 rfl rfl)
theorem dX3_shift_66 : decode cX3_shift 66 = .ok (.iload_n 1, 1) := dk_27 (dk_at dksX3_shift_2 19 rfl rfl)
theorem dX3_shift_67 : decode cX3_shift 67 = .ok (.iload 4, 2) := dk_21 4 (dk_at dksX3_shift_2 20 rfl rfl)
theorem dX3_shift_69 : decode cX3_shift 69 = .ok (.invokevirtual 82, 3) := dk_182 0 82 (dk_at dksX3_shift_3 0 rfl rfl)
theorem dX3_shift_72 : decode cX3_shift 72 = .ok (.iastore, 1) := dk_79 (dk_at dksX3_shift_3 3 rfl rfl)
theorem dX3_shift_73 : decode cX3_shift 73 = .ok (.iinc 4 1, 3) := dk_132 4 1 (dk_at dksX3_shift_3 4 rfl rfl)
theorem dX3_shift_76 : decode cX3_shift 76 = .ok (.goto (-29), 3) := dk_167 255 227 (dk_at dksX3_shift_3 7 rfl rfl)
theorem dX3_shift_79 : decode cX3_shift 79 = .ok (.aload_n 0, 1) := dk_42 (dk_at dksX3_shift_3 10 rfl rfl)
theorem dX3_shift_80 : decode cX3_shift 80 = .ok (.iload_n 1, 1) := dk_27 (dk_at dksX3_shift_3 11 rfl rfl)
theorem dX3_shift_81 : decode cX3_shift 81 = .ok (.invokevirtual 274, 3) := dk_182 1 18 (dk_at dksX3_shift_3 12 rfl rfl)
theorem dX3_shift_84 : decode cX3_shift 84 = .ok (.ireturn, 1) := dk_172 (dk_at dksX3_shift_3 15 rfl rfl)
abbrev cX3_fold : ByteArray := prog_11_method_113_code
def yX3_fold : MethodName := ⟨RX3, "fold", "(I)I"⟩
def dkwX3_fold_5 : List UInt8 := [167, 255, 197, 42, 180, 0, 7, 27, 184, 0, 58, 16, 7, 96, 29, 79, 29, 172]
abbrev dktX3_fold_5 : List UInt8 := dkwX3_fold_5 ++ []
def dkwX3_fold_4 : List UInt8 := [46, 96, 5, 184, 0, 103, 79, 42, 180, 0, 7, 21, 4, 29, 96, 21, 5, 96, 3, 79, 132, 5, 1]
abbrev dktX3_fold_4 : List UInt8 := dkwX3_fold_4 ++ dktX3_fold_5
def dkwX3_fold_3 : List UInt8 := [21, 5, 96, 42, 180, 0, 7, 21, 4, 21, 5, 96, 46, 42, 180, 0, 7, 21, 4, 29, 96, 21, 5, 96]
abbrev dktX3_fold_3 : List UInt8 := dkwX3_fold_3 ++ dktX3_fold_4
def dkwX3_fold_2 : List UInt8 := [27, 184, 0, 58, 16, 8, 96, 54, 4, 3, 54, 5, 21, 5, 29, 162, 0, 59, 42, 180, 0, 7, 21, 4]
abbrev dktX3_fold_2 : List UInt8 := dkwX3_fold_2 ++ dktX3_fold_3
def dkwX3_fold_1 : List UInt8 := [167, 0, 4, 3, 182, 0, 187, 154, 0, 5, 2, 172, 42, 182, 1, 12, 42, 27, 182, 0, 62, 5, 108, 62]
abbrev dktX3_fold_1 : List UInt8 := dkwX3_fold_1 ++ dktX3_fold_2
def dkwX3_fold_0 : List UInt8 := [42, 27, 182, 0, 54, 61, 42, 28, 28, 153, 0, 16, 42, 27, 182, 0, 62, 5, 164, 0, 7, 4]
abbrev dktX3_fold_0 : List UInt8 := dkwX3_fold_0 ++ dktX3_fold_1
theorem dksX3_fold_0 : cX3_fold.data.toList.drop 0 = dktX3_fold_0 := by decide +kernel
theorem dksX3_fold_1 : cX3_fold.data.toList.drop 22 = dktX3_fold_1 := dk_seg dksX3_fold_0 22 rfl rfl
theorem dksX3_fold_2 : cX3_fold.data.toList.drop 46 = dktX3_fold_2 := dk_seg dksX3_fold_1 24 rfl rfl
theorem dksX3_fold_3 : cX3_fold.data.toList.drop 70 = dktX3_fold_3 := dk_seg dksX3_fold_2 24 rfl rfl
theorem dksX3_fold_4 : cX3_fold.data.toList.drop 94 = dktX3_fold_4 := dk_seg dksX3_fold_3 24 rfl rfl
theorem dksX3_fold_5 : cX3_fold.data.toList.drop 117 = dktX3_fold_5 := dk_seg dksX3_fold_4 23 rfl rfl
theorem dX3_fold_0 : decode cX3_fold 0 = .ok (.aload_n 0, 1) := dk_42 (dk_at dksX3_fold_0 0 rfl rfl)
theorem dX3_fold_1 : decode cX3_fold 1 = .ok (.iload_n 1, 1) := dk_27 (dk_at dksX3_fold_0 1 rfl rfl)
theorem dX3_fold_2 : decode cX3_fold 2 = .ok (.invokevirtual 54, 3) := dk_182 0 54 (dk_at dksX3_fold_0 2 rfl rfl)
theorem dX3_fold_5 : decode cX3_fold 5 = .ok (.istore_n 2, 1) := dk_61 (dk_at dksX3_fold_0 5 rfl rfl)
theorem dX3_fold_6 : decode cX3_fold 6 = .ok (.aload_n 0, 1) := dk_42 (dk_at dksX3_fold_0 6 rfl rfl)
theorem dX3_fold_7 : decode cX3_fold 7 = .ok (.iload_n 2, 1) := dk_28 (dk_at dksX3_fold_0 7 rfl rfl)
theorem dX3_fold_8 : decode cX3_fold 8 = .ok (.iload_n 2, 1) := dk_28 (dk_at dksX3_fold_0 8 rfl rfl)
theorem dX3_fold_9 : decode cX3_fold 9 = .ok (.ifCond .eq 16, 3) := dk_153 0 16 (dk_at dksX3_fold_0 9 rfl rfl)
theorem dX3_fold_12 : decode cX3_fold 12 = .ok (.aload_n 0, 1) := dk_42 (dk_at dksX3_fold_0 12 rfl rfl)
theorem dX3_fold_13 : decode cX3_fold 13 = .ok (.iload_n 1, 1) := dk_27 (dk_at dksX3_fold_0 13 rfl rfl)
theorem dX3_fold_14 : decode cX3_fold 14 = .ok (.invokevirtual 62, 3) := dk_182 0 62 (dk_at dksX3_fold_0 14 rfl rfl)
theorem dX3_fold_17 : decode cX3_fold 17 = .ok (.iconst 2, 1) := dk_5 (dk_at dksX3_fold_0 17 rfl rfl)
theorem dX3_fold_18 : decode cX3_fold 18 = .ok (.if_icmp .le 7, 3) := dk_164 0 7 (dk_at dksX3_fold_0 18 rfl rfl)
theorem dX3_fold_21 : decode cX3_fold 21 = .ok (.iconst 1, 1) := dk_4 (dk_at dksX3_fold_0 21 rfl rfl)
theorem dX3_fold_22 : decode cX3_fold 22 = .ok (.goto 4, 3) := dk_167 0 4 (dk_at dksX3_fold_1 0 rfl rfl)
theorem dX3_fold_25 : decode cX3_fold 25 = .ok (.iconst 0, 1) := dk_3 (dk_at dksX3_fold_1 3 rfl rfl)
theorem dX3_fold_26 : decode cX3_fold 26 = .ok (.invokevirtual 187, 3) := dk_182 0 187 (dk_at dksX3_fold_1 4 rfl rfl)
theorem dX3_fold_29 : decode cX3_fold 29 = .ok (.ifCond .ne 5, 3) := dk_154 0 5 (dk_at dksX3_fold_1 7 rfl rfl)
theorem dX3_fold_32 : decode cX3_fold 32 = .ok (.iconst (-1), 1) := dk_2 (dk_at dksX3_fold_1 10 rfl rfl)
theorem dX3_fold_33 : decode cX3_fold 33 = .ok (.ireturn, 1) := dk_172 (dk_at dksX3_fold_1 11 rfl rfl)
theorem dX3_fold_34 : decode cX3_fold 34 = .ok (.aload_n 0, 1) := dk_42 (dk_at dksX3_fold_1 12 rfl rfl)
theorem dX3_fold_35 : decode cX3_fold 35 = .ok (.invokevirtual 268, 3) := dk_182 1 12 (dk_at dksX3_fold_1 13 rfl rfl)
theorem dX3_fold_38 : decode cX3_fold 38 = .ok (.aload_n 0, 1) := dk_42 (dk_at dksX3_fold_1 16 rfl rfl)
theorem dX3_fold_39 : decode cX3_fold 39 = .ok (.iload_n 1, 1) := dk_27 (dk_at dksX3_fold_1 17 rfl rfl)
theorem dX3_fold_40 : decode cX3_fold 40 = .ok (.invokevirtual 62, 3) := dk_182 0 62 (dk_at dksX3_fold_1 18 rfl rfl)
theorem dX3_fold_43 : decode cX3_fold 43 = .ok (.iconst 2, 1) := dk_5 (dk_at dksX3_fold_1 21 rfl rfl)
theorem dX3_fold_44 : decode cX3_fold 44 = .ok (.idiv, 1) := dk_108 (dk_at dksX3_fold_1 22 rfl rfl)
theorem dX3_fold_45 : decode cX3_fold 45 = .ok (.istore_n 3, 1) := dk_62 (dk_at dksX3_fold_1 23 rfl rfl)
theorem dX3_fold_46 : decode cX3_fold 46 = .ok (.iload_n 1, 1) := dk_27 (dk_at dksX3_fold_2 0 rfl rfl)
theorem dX3_fold_47 : decode cX3_fold 47 = .ok (.invokestatic 58, 3) := dk_184 0 58 (dk_at dksX3_fold_2 1 rfl rfl)
theorem dX3_fold_50 : decode cX3_fold 50 = .ok (.bipush 8, 2) := dk_16 8 (dk_at dksX3_fold_2 4 rfl rfl)
theorem dX3_fold_52 : decode cX3_fold 52 = .ok (.iadd, 1) := dk_96 (dk_at dksX3_fold_2 6 rfl rfl)
theorem dX3_fold_53 : decode cX3_fold 53 = .ok (.istore 4, 2) := dk_54 4 (dk_at dksX3_fold_2 7 rfl rfl)
theorem dX3_fold_55 : decode cX3_fold 55 = .ok (.iconst 0, 1) := dk_3 (dk_at dksX3_fold_2 9 rfl rfl)
theorem dX3_fold_56 : decode cX3_fold 56 = .ok (.istore 5, 2) := dk_54 5 (dk_at dksX3_fold_2 10 rfl rfl)
theorem dX3_fold_58 : decode cX3_fold 58 = .ok (.iload 5, 2) := dk_21 5 (dk_at dksX3_fold_2 12 rfl rfl)
theorem dX3_fold_60 : decode cX3_fold 60 = .ok (.iload_n 3, 1) := dk_29 (dk_at dksX3_fold_2 14 rfl rfl)
theorem dX3_fold_61 : decode cX3_fold 61 = .ok (.if_icmp .ge 59, 3) := dk_162 0 59 (dk_at dksX3_fold_2 15 rfl rfl)
theorem dX3_fold_64 : decode cX3_fold 64 = .ok (.aload_n 0, 1) := dk_42 (dk_at dksX3_fold_2 18 rfl rfl)
theorem dX3_fold_65 : decode cX3_fold 65 = .ok (.getfield 7, 3) := dk_180 0 7 (dk_at dksX3_fold_2 19 rfl rfl)
theorem dX3_fold_68 : decode cX3_fold 68 = .ok (.iload 4, 2) := dk_21 4 (dk_at dksX3_fold_2 22 rfl rfl)
theorem dX3_fold_70 : decode cX3_fold 70 = .ok (.iload 5, 2) := dk_21 5 (dk_at dksX3_fold_3 0 rfl rfl)
theorem dX3_fold_72 : decode cX3_fold 72 = .ok (.iadd, 1) := dk_96 (dk_at dksX3_fold_3 2 rfl rfl)
theorem dX3_fold_73 : decode cX3_fold 73 = .ok (.aload_n 0, 1) := dk_42 (dk_at dksX3_fold_3 3 rfl rfl)
theorem dX3_fold_74 : decode cX3_fold 74 = .ok (.getfield 7, 3) := dk_180 0 7 (dk_at dksX3_fold_3 4 rfl rfl)
theorem dX3_fold_77 : decode cX3_fold 77 = .ok (.iload 4, 2) := dk_21 4 (dk_at dksX3_fold_3 7 rfl rfl)
theorem dX3_fold_79 : decode cX3_fold 79 = .ok (.iload 5, 2) := dk_21 5 (dk_at dksX3_fold_3 9 rfl rfl)
theorem dX3_fold_81 : decode cX3_fold 81 = .ok (.iadd, 1) := dk_96 (dk_at dksX3_fold_3 11 rfl rfl)
theorem dX3_fold_82 : decode cX3_fold 82 = .ok (.iaload, 1) := dk_46 (dk_at dksX3_fold_3 12 rfl rfl)
theorem dX3_fold_83 : decode cX3_fold 83 = .ok (.aload_n 0, 1) := dk_42 (dk_at dksX3_fold_3 13 rfl rfl)
theorem dX3_fold_84 : decode cX3_fold 84 = .ok (.getfield 7, 3) := dk_180 0 7 (dk_at dksX3_fold_3 14 rfl rfl)
theorem dX3_fold_87 : decode cX3_fold 87 = .ok (.iload 4, 2) := dk_21 4 (dk_at dksX3_fold_3 17 rfl rfl)
theorem dX3_fold_89 : decode cX3_fold 89 = .ok (.iload_n 3, 1) := dk_29 (dk_at dksX3_fold_3 19 rfl rfl)
theorem dX3_fold_90 : decode cX3_fold 90 = .ok (.iadd, 1) := dk_96 (dk_at dksX3_fold_3 20 rfl rfl)
theorem dX3_fold_91 : decode cX3_fold 91 = .ok (.iload 5, 2) := dk_21 5 (dk_at dksX3_fold_3 21 rfl rfl)
theorem dX3_fold_93 : decode cX3_fold 93 = .ok (.iadd, 1) := dk_96 (dk_at dksX3_fold_3 23 rfl rfl)
theorem dX3_fold_94 : decode cX3_fold 94 = .ok (.iaload, 1) := dk_46 (dk_at dksX3_fold_4 0 rfl rfl)
theorem dX3_fold_95 : decode cX3_fold 95 = .ok (.iadd, 1) := dk_96 (dk_at dksX3_fold_4 1 rfl rfl)
theorem dX3_fold_96 : decode cX3_fold 96 = .ok (.iconst 2, 1) := dk_5 (dk_at dksX3_fold_4 2 rfl rfl)
theorem dX3_fold_97 : decode cX3_fold 97 = .ok (.invokestatic 103, 3) := dk_184 0 103 (dk_at dksX3_fold_4 3 rfl rfl)
theorem dX3_fold_100 : decode cX3_fold 100 = .ok (.iastore, 1) := dk_79 (dk_at dksX3_fold_4 6 rfl rfl)
theorem dX3_fold_101 : decode cX3_fold 101 = .ok (.aload_n 0, 1) := dk_42 (dk_at dksX3_fold_4 7 rfl rfl)
theorem dX3_fold_102 : decode cX3_fold 102 = .ok (.getfield 7, 3) := dk_180 0 7 (dk_at dksX3_fold_4 8 rfl rfl)
theorem dX3_fold_105 : decode cX3_fold 105 = .ok (.iload 4, 2) := dk_21 4 (dk_at dksX3_fold_4 11 rfl rfl)
theorem dX3_fold_107 : decode cX3_fold 107 = .ok (.iload_n 3, 1) := dk_29 (dk_at dksX3_fold_4 13 rfl rfl)
theorem dX3_fold_108 : decode cX3_fold 108 = .ok (.iadd, 1) := dk_96 (dk_at dksX3_fold_4 14 rfl rfl)
theorem dX3_fold_109 : decode cX3_fold 109 = .ok (.iload 5, 2) := dk_21 5 (dk_at dksX3_fold_4 15 rfl rfl)
theorem dX3_fold_111 : decode cX3_fold 111 = .ok (.iadd, 1) := dk_96 (dk_at dksX3_fold_4 17 rfl rfl)
theorem dX3_fold_112 : decode cX3_fold 112 = .ok (.iconst 0, 1) := dk_3 (dk_at dksX3_fold_4 18 rfl rfl)
theorem dX3_fold_113 : decode cX3_fold 113 = .ok (.iastore, 1) := dk_79 (dk_at dksX3_fold_4 19 rfl rfl)
theorem dX3_fold_114 : decode cX3_fold 114 = .ok (.iinc 5 1, 3) := dk_132 5 1 (dk_at dksX3_fold_4 20 rfl rfl)
theorem dX3_fold_117 : decode cX3_fold 117 = .ok (.goto (-59), 3) := dk_167 255 197 (dk_at dksX3_fold_5 0 rfl rfl)
theorem dX3_fold_120 : decode cX3_fold 120 = .ok (.aload_n 0, 1) := dk_42 (dk_at dksX3_fold_5 3 rfl rfl)
theorem dX3_fold_121 : decode cX3_fold 121 = .ok (.getfield 7, 3) := dk_180 0 7 (dk_at dksX3_fold_5 4 rfl rfl)
theorem dX3_fold_124 : decode cX3_fold 124 = .ok (.iload_n 1, 1) := dk_27 (dk_at dksX3_fold_5 7 rfl rfl)
theorem dX3_fold_125 : decode cX3_fold 125 = .ok (.invokestatic 58, 3) := dk_184 0 58 (dk_at dksX3_fold_5 8 rfl rfl)
theorem dX3_fold_128 : decode cX3_fold 128 = .ok (.bipush 7, 2) := dk_16 7 (dk_at dksX3_fold_5 11 rfl rfl)
theorem dX3_fold_130 : decode cX3_fold 130 = .ok (.iadd, 1) := dk_96 (dk_at dksX3_fold_5 13 rfl rfl)
theorem dX3_fold_131 : decode cX3_fold 131 = .ok (.iload_n 3, 1) := dk_29 (dk_at dksX3_fold_5 14 rfl rfl)
theorem dX3_fold_132 : decode cX3_fold 132 = .ok (.iastore, 1) := dk_79 (dk_at dksX3_fold_5 15 rfl rfl)
theorem dX3_fold_133 : decode cX3_fold 133 = .ok (.iload_n 3, 1) := dk_29 (dk_at dksX3_fold_5 16 rfl rfl)
theorem dX3_fold_134 : decode cX3_fold 134 = .ok (.ireturn, 1) := dk_172 (dk_at dksX3_fold_5 17 rfl rfl)
abbrev cX3_undo : ByteArray := prog_11_method_114_code
def yX3_undo : MethodName := ⟨RX3, "undo", "()I"⟩
def dkwX3_undo_3 : List UInt8 := [180, 0, 47, 172]
abbrev dktX3_undo_3 : List UInt8 := dkwX3_undo_3 ++ []
def dkwX3_undo_2 : List UInt8 := [180, 0, 16, 17, 1, 177, 42, 180, 0, 47, 104, 27, 96, 46, 79, 132, 1, 1, 167, 255, 225, 42]
abbrev dktX3_undo_2 : List UInt8 := dkwX3_undo_2 ++ dktX3_undo_3
def dkwX3_undo_1 : List UInt8 := [180, 0, 47, 4, 100, 181, 0, 47, 3, 60, 27, 17, 1, 177, 162, 0, 30, 42, 180, 0, 7, 27, 42]
abbrev dktX3_undo_1 : List UInt8 := dkwX3_undo_1 ++ dktX3_undo_2
def dkwX3_undo_0 : List UInt8 := [42, 42, 180, 0, 47, 158, 0, 7, 4, 167, 0, 4, 3, 182, 0, 112, 154, 0, 5, 2, 172, 42, 89]
abbrev dktX3_undo_0 : List UInt8 := dkwX3_undo_0 ++ dktX3_undo_1
theorem dksX3_undo_0 : cX3_undo.data.toList.drop 0 = dktX3_undo_0 := by decide +kernel
theorem dksX3_undo_1 : cX3_undo.data.toList.drop 23 = dktX3_undo_1 := dk_seg dksX3_undo_0 23 rfl rfl
theorem dksX3_undo_2 : cX3_undo.data.toList.drop 46 = dktX3_undo_2 := dk_seg dksX3_undo_1 23 rfl rfl
theorem dksX3_undo_3 : cX3_undo.data.toList.drop 68 = dktX3_undo_3 := dk_seg dksX3_undo_2 22 rfl rfl
theorem dX3_undo_0 : decode cX3_undo 0 = .ok (.aload_n 0, 1) := dk_42 (dk_at dksX3_undo_0 0 rfl rfl)
theorem dX3_undo_1 : decode cX3_undo 1 = .ok (.aload_n 0, 1) := dk_42 (dk_at dksX3_undo_0 1 rfl rfl)
theorem dX3_undo_2 : decode cX3_undo 2 = .ok (.getfield 47, 3) := dk_180 0 47 (dk_at dksX3_undo_0 2 rfl rfl)
theorem dX3_undo_5 : decode cX3_undo 5 = .ok (.ifCond .le 7, 3) := dk_158 0 7 (dk_at dksX3_undo_0 5 rfl rfl)
theorem dX3_undo_8 : decode cX3_undo 8 = .ok (.iconst 1, 1) := dk_4 (dk_at dksX3_undo_0 8 rfl rfl)
theorem dX3_undo_9 : decode cX3_undo 9 = .ok (.goto 4, 3) := dk_167 0 4 (dk_at dksX3_undo_0 9 rfl rfl)
theorem dX3_undo_12 : decode cX3_undo 12 = .ok (.iconst 0, 1) := dk_3 (dk_at dksX3_undo_0 12 rfl rfl)
theorem dX3_undo_13 : decode cX3_undo 13 = .ok (.invokevirtual 112, 3) := dk_182 0 112 (dk_at dksX3_undo_0 13 rfl rfl)
theorem dX3_undo_16 : decode cX3_undo 16 = .ok (.ifCond .ne 5, 3) := dk_154 0 5 (dk_at dksX3_undo_0 16 rfl rfl)
theorem dX3_undo_19 : decode cX3_undo 19 = .ok (.iconst (-1), 1) := dk_2 (dk_at dksX3_undo_0 19 rfl rfl)
theorem dX3_undo_20 : decode cX3_undo 20 = .ok (.ireturn, 1) := dk_172 (dk_at dksX3_undo_0 20 rfl rfl)
theorem dX3_undo_21 : decode cX3_undo 21 = .ok (.aload_n 0, 1) := dk_42 (dk_at dksX3_undo_0 21 rfl rfl)
theorem dX3_undo_22 : decode cX3_undo 22 = .ok (.dup, 1) := dk_89 (dk_at dksX3_undo_0 22 rfl rfl)
theorem dX3_undo_23 : decode cX3_undo 23 = .ok (.getfield 47, 3) := dk_180 0 47 (dk_at dksX3_undo_1 0 rfl rfl)
theorem dX3_undo_26 : decode cX3_undo 26 = .ok (.iconst 1, 1) := dk_4 (dk_at dksX3_undo_1 3 rfl rfl)
theorem dX3_undo_27 : decode cX3_undo 27 = .ok (.isub, 1) := dk_100 (dk_at dksX3_undo_1 4 rfl rfl)
theorem dX3_undo_28 : decode cX3_undo 28 = .ok (.putfield 47, 3) := dk_181 0 47 (dk_at dksX3_undo_1 5 rfl rfl)
theorem dX3_undo_31 : decode cX3_undo 31 = .ok (.iconst 0, 1) := dk_3 (dk_at dksX3_undo_1 8 rfl rfl)
theorem dX3_undo_32 : decode cX3_undo 32 = .ok (.istore_n 1, 1) := dk_60 (dk_at dksX3_undo_1 9 rfl rfl)
theorem dX3_undo_33 : decode cX3_undo 33 = .ok (.iload_n 1, 1) := dk_27 (dk_at dksX3_undo_1 10 rfl rfl)
theorem dX3_undo_34 : decode cX3_undo 34 = .ok (.sipush 433, 3) := dk_17 1 177 (dk_at dksX3_undo_1 11 rfl rfl)
theorem dX3_undo_37 : decode cX3_undo 37 = .ok (.if_icmp .ge 30, 3) := dk_162 0 30 (dk_at dksX3_undo_1 14 rfl rfl)
theorem dX3_undo_40 : decode cX3_undo 40 = .ok (.aload_n 0, 1) := dk_42 (dk_at dksX3_undo_1 17 rfl rfl)
theorem dX3_undo_41 : decode cX3_undo 41 = .ok (.getfield 7, 3) := dk_180 0 7 (dk_at dksX3_undo_1 18 rfl rfl)
theorem dX3_undo_44 : decode cX3_undo 44 = .ok (.iload_n 1, 1) := dk_27 (dk_at dksX3_undo_1 21 rfl rfl)
theorem dX3_undo_45 : decode cX3_undo 45 = .ok (.aload_n 0, 1) := dk_42 (dk_at dksX3_undo_1 22 rfl rfl)
theorem dX3_undo_46 : decode cX3_undo 46 = .ok (.getfield 16, 3) := dk_180 0 16 (dk_at dksX3_undo_2 0 rfl rfl)
theorem dX3_undo_49 : decode cX3_undo 49 = .ok (.sipush 433, 3) := dk_17 1 177 (dk_at dksX3_undo_2 3 rfl rfl)
theorem dX3_undo_52 : decode cX3_undo 52 = .ok (.aload_n 0, 1) := dk_42 (dk_at dksX3_undo_2 6 rfl rfl)
theorem dX3_undo_53 : decode cX3_undo 53 = .ok (.getfield 47, 3) := dk_180 0 47 (dk_at dksX3_undo_2 7 rfl rfl)
theorem dX3_undo_56 : decode cX3_undo 56 = .ok (.imul, 1) := dk_104 (dk_at dksX3_undo_2 10 rfl rfl)
theorem dX3_undo_57 : decode cX3_undo 57 = .ok (.iload_n 1, 1) := dk_27 (dk_at dksX3_undo_2 11 rfl rfl)
theorem dX3_undo_58 : decode cX3_undo 58 = .ok (.iadd, 1) := dk_96 (dk_at dksX3_undo_2 12 rfl rfl)
theorem dX3_undo_59 : decode cX3_undo 59 = .ok (.iaload, 1) := dk_46 (dk_at dksX3_undo_2 13 rfl rfl)
theorem dX3_undo_60 : decode cX3_undo 60 = .ok (.iastore, 1) := dk_79 (dk_at dksX3_undo_2 14 rfl rfl)
theorem dX3_undo_61 : decode cX3_undo 61 = .ok (.iinc 1 1, 3) := dk_132 1 1 (dk_at dksX3_undo_2 15 rfl rfl)
theorem dX3_undo_64 : decode cX3_undo 64 = .ok (.goto (-31), 3) := dk_167 255 225 (dk_at dksX3_undo_2 18 rfl rfl)
theorem dX3_undo_67 : decode cX3_undo 67 = .ok (.aload_n 0, 1) := dk_42 (dk_at dksX3_undo_2 21 rfl rfl)
theorem dX3_undo_68 : decode cX3_undo 68 = .ok (.getfield 47, 3) := dk_180 0 47 (dk_at dksX3_undo_3 0 rfl rfl)
theorem dX3_undo_71 : decode cX3_undo 71 = .ok (.ireturn, 1) := dk_172 (dk_at dksX3_undo_3 3 rfl rfl)
abbrev cX3_save : ByteArray := prog_11_method_115_code
def yX3_save : MethodName := ⟨RX3, "save", "()I"⟩
def dkwX3_save_1 : List UInt8 := [46, 79, 132, 1, 1, 167, 255, 234, 42, 4, 181, 0, 175, 42, 180, 0, 7, 3, 46, 172]
abbrev dktX3_save_1 : List UInt8 := dkwX3_save_1 ++ []
def dkwX3_save_0 : List UInt8 := [42, 3, 181, 0, 44, 3, 60, 27, 17, 1, 177, 162, 0, 21, 42, 180, 0, 19, 27, 42, 180, 0, 7, 27]
abbrev dktX3_save_0 : List UInt8 := dkwX3_save_0 ++ dktX3_save_1
theorem dksX3_save_0 : cX3_save.data.toList.drop 0 = dktX3_save_0 := by decide +kernel
theorem dksX3_save_1 : cX3_save.data.toList.drop 24 = dktX3_save_1 := dk_seg dksX3_save_0 24 rfl rfl
theorem dX3_save_0 : decode cX3_save 0 = .ok (.aload_n 0, 1) := dk_42 (dk_at dksX3_save_0 0 rfl rfl)
theorem dX3_save_1 : decode cX3_save 1 = .ok (.iconst 0, 1) := dk_3 (dk_at dksX3_save_0 1 rfl rfl)
theorem dX3_save_2 : decode cX3_save 2 = .ok (.putfield 44, 3) := dk_181 0 44 (dk_at dksX3_save_0 2 rfl rfl)
theorem dX3_save_5 : decode cX3_save 5 = .ok (.iconst 0, 1) := dk_3 (dk_at dksX3_save_0 5 rfl rfl)
theorem dX3_save_6 : decode cX3_save 6 = .ok (.istore_n 1, 1) := dk_60 (dk_at dksX3_save_0 6 rfl rfl)
theorem dX3_save_7 : decode cX3_save 7 = .ok (.iload_n 1, 1) := dk_27 (dk_at dksX3_save_0 7 rfl rfl)
theorem dX3_save_8 : decode cX3_save 8 = .ok (.sipush 433, 3) := dk_17 1 177 (dk_at dksX3_save_0 8 rfl rfl)
theorem dX3_save_11 : decode cX3_save 11 = .ok (.if_icmp .ge 21, 3) := dk_162 0 21 (dk_at dksX3_save_0 11 rfl rfl)
theorem dX3_save_14 : decode cX3_save 14 = .ok (.aload_n 0, 1) := dk_42 (dk_at dksX3_save_0 14 rfl rfl)
theorem dX3_save_15 : decode cX3_save 15 = .ok (.getfield 19, 3) := dk_180 0 19 (dk_at dksX3_save_0 15 rfl rfl)
theorem dX3_save_18 : decode cX3_save 18 = .ok (.iload_n 1, 1) := dk_27 (dk_at dksX3_save_0 18 rfl rfl)
theorem dX3_save_19 : decode cX3_save 19 = .ok (.aload_n 0, 1) := dk_42 (dk_at dksX3_save_0 19 rfl rfl)
theorem dX3_save_20 : decode cX3_save 20 = .ok (.getfield 7, 3) := dk_180 0 7 (dk_at dksX3_save_0 20 rfl rfl)
theorem dX3_save_23 : decode cX3_save 23 = .ok (.iload_n 1, 1) := dk_27 (dk_at dksX3_save_0 23 rfl rfl)
theorem dX3_save_24 : decode cX3_save 24 = .ok (.iaload, 1) := dk_46 (dk_at dksX3_save_1 0 rfl rfl)
theorem dX3_save_25 : decode cX3_save 25 = .ok (.iastore, 1) := dk_79 (dk_at dksX3_save_1 1 rfl rfl)
theorem dX3_save_26 : decode cX3_save 26 = .ok (.iinc 1 1, 3) := dk_132 1 1 (dk_at dksX3_save_1 2 rfl rfl)
theorem dX3_save_29 : decode cX3_save 29 = .ok (.goto (-22), 3) := dk_167 255 234 (dk_at dksX3_save_1 5 rfl rfl)
theorem dX3_save_32 : decode cX3_save 32 = .ok (.aload_n 0, 1) := dk_42 (dk_at dksX3_save_1 8 rfl rfl)
theorem dX3_save_33 : decode cX3_save 33 = .ok (.iconst 1, 1) := dk_4 (dk_at dksX3_save_1 9 rfl rfl)
theorem dX3_save_34 : decode cX3_save 34 = .ok (.putfield 175, 3) := dk_181 0 175 (dk_at dksX3_save_1 10 rfl rfl)
theorem dX3_save_37 : decode cX3_save 37 = .ok (.aload_n 0, 1) := dk_42 (dk_at dksX3_save_1 13 rfl rfl)
theorem dX3_save_38 : decode cX3_save 38 = .ok (.getfield 7, 3) := dk_180 0 7 (dk_at dksX3_save_1 14 rfl rfl)
theorem dX3_save_41 : decode cX3_save 41 = .ok (.iconst 0, 1) := dk_3 (dk_at dksX3_save_1 17 rfl rfl)
theorem dX3_save_42 : decode cX3_save 42 = .ok (.iaload, 1) := dk_46 (dk_at dksX3_save_1 18 rfl rfl)
theorem dX3_save_43 : decode cX3_save 43 = .ok (.ireturn, 1) := dk_172 (dk_at dksX3_save_1 19 rfl rfl)
abbrev cX3_restore : ByteArray := prog_11_method_116_code
def yX3_restore : MethodName := ⟨RX3, "restore", "()I"⟩
def dkwX3_restore_2 : List UInt8 := [180, 0, 7, 3, 46, 172]
abbrev dktX3_restore_2 : List UInt8 := dkwX3_restore_2 ++ []
def dkwX3_restore_1 : List UInt8 := [162, 0, 21, 42, 180, 0, 7, 27, 42, 180, 0, 19, 27, 46, 79, 132, 1, 1, 167, 255, 234, 42]
abbrev dktX3_restore_1 : List UInt8 := dkwX3_restore_1 ++ dktX3_restore_2
def dkwX3_restore_0 : List UInt8 := [42, 42, 180, 0, 175, 182, 0, 112, 154, 0, 5, 2, 172, 42, 182, 1, 12, 3, 60, 27, 17, 1, 177]
abbrev dktX3_restore_0 : List UInt8 := dkwX3_restore_0 ++ dktX3_restore_1
theorem dksX3_restore_0 : cX3_restore.data.toList.drop 0 = dktX3_restore_0 := by decide +kernel
theorem dksX3_restore_1 : cX3_restore.data.toList.drop 23 = dktX3_restore_1 := dk_seg dksX3_restore_0 23 rfl rfl
theorem dksX3_restore_2 : cX3_restore.data.toList.drop 45 = dktX3_restore_2 := dk_seg dksX3_restore_1 22 rfl rfl
theorem dX3_restore_0 : decode cX3_restore 0 = .ok (.aload_n 0, 1) := dk_42 (dk_at dksX3_restore_0 0 rfl rfl)
theorem dX3_restore_1 : decode cX3_restore 1 = .ok (.aload_n 0, 1) := dk_42 (dk_at dksX3_restore_0 1 rfl rfl)
theorem dX3_restore_2 : decode cX3_restore 2 = .ok (.getfield 175, 3) := dk_180 0 175 (dk_at dksX3_restore_0 2 rfl rfl)
theorem dX3_restore_5 : decode cX3_restore 5 = .ok (.invokevirtual 112, 3) := dk_182 0 112 (dk_at dksX3_restore_0 5 rfl rfl)
theorem dX3_restore_8 : decode cX3_restore 8 = .ok (.ifCond .ne 5, 3) := dk_154 0 5 (dk_at dksX3_restore_0 8 rfl rfl)
theorem dX3_restore_11 : decode cX3_restore 11 = .ok (.iconst (-1), 1) := dk_2 (dk_at dksX3_restore_0 11 rfl rfl)
theorem dX3_restore_12 : decode cX3_restore 12 = .ok (.ireturn, 1) := dk_172 (dk_at dksX3_restore_0 12 rfl rfl)
theorem dX3_restore_13 : decode cX3_restore 13 = .ok (.aload_n 0, 1) := dk_42 (dk_at dksX3_restore_0 13 rfl rfl)
theorem dX3_restore_14 : decode cX3_restore 14 = .ok (.invokevirtual 268, 3) := dk_182 1 12 (dk_at dksX3_restore_0 14 rfl rfl)
theorem dX3_restore_17 : decode cX3_restore 17 = .ok (.iconst 0, 1) := dk_3 (dk_at dksX3_restore_0 17 rfl rfl)
theorem dX3_restore_18 : decode cX3_restore 18 = .ok (.istore_n 1, 1) := dk_60 (dk_at dksX3_restore_0 18 rfl rfl)
theorem dX3_restore_19 : decode cX3_restore 19 = .ok (.iload_n 1, 1) := dk_27 (dk_at dksX3_restore_0 19 rfl rfl)
theorem dX3_restore_20 : decode cX3_restore 20 = .ok (.sipush 433, 3) := dk_17 1 177 (dk_at dksX3_restore_0 20 rfl rfl)
theorem dX3_restore_23 : decode cX3_restore 23 = .ok (.if_icmp .ge 21, 3) := dk_162 0 21 (dk_at dksX3_restore_1 0 rfl rfl)
theorem dX3_restore_26 : decode cX3_restore 26 = .ok (.aload_n 0, 1) := dk_42 (dk_at dksX3_restore_1 3 rfl rfl)
theorem dX3_restore_27 : decode cX3_restore 27 = .ok (.getfield 7, 3) := dk_180 0 7 (dk_at dksX3_restore_1 4 rfl rfl)
theorem dX3_restore_30 : decode cX3_restore 30 = .ok (.iload_n 1, 1) := dk_27 (dk_at dksX3_restore_1 7 rfl rfl)
theorem dX3_restore_31 : decode cX3_restore 31 = .ok (.aload_n 0, 1) := dk_42 (dk_at dksX3_restore_1 8 rfl rfl)
theorem dX3_restore_32 : decode cX3_restore 32 = .ok (.getfield 19, 3) := dk_180 0 19 (dk_at dksX3_restore_1 9 rfl rfl)
theorem dX3_restore_35 : decode cX3_restore 35 = .ok (.iload_n 1, 1) := dk_27 (dk_at dksX3_restore_1 12 rfl rfl)
theorem dX3_restore_36 : decode cX3_restore 36 = .ok (.iaload, 1) := dk_46 (dk_at dksX3_restore_1 13 rfl rfl)
theorem dX3_restore_37 : decode cX3_restore 37 = .ok (.iastore, 1) := dk_79 (dk_at dksX3_restore_1 14 rfl rfl)
theorem dX3_restore_38 : decode cX3_restore 38 = .ok (.iinc 1 1, 3) := dk_132 1 1 (dk_at dksX3_restore_1 15 rfl rfl)
theorem dX3_restore_41 : decode cX3_restore 41 = .ok (.goto (-22), 3) := dk_167 255 234 (dk_at dksX3_restore_1 18 rfl rfl)
theorem dX3_restore_44 : decode cX3_restore 44 = .ok (.aload_n 0, 1) := dk_42 (dk_at dksX3_restore_1 21 rfl rfl)
theorem dX3_restore_45 : decode cX3_restore 45 = .ok (.getfield 7, 3) := dk_180 0 7 (dk_at dksX3_restore_2 0 rfl rfl)
theorem dX3_restore_48 : decode cX3_restore 48 = .ok (.iconst 0, 1) := dk_3 (dk_at dksX3_restore_2 3 rfl rfl)
theorem dX3_restore_49 : decode cX3_restore 49 = .ok (.iaload, 1) := dk_46 (dk_at dksX3_restore_2 4 rfl rfl)
theorem dX3_restore_50 : decode cX3_restore 50 = .ok (.ireturn, 1) := dk_172 (dk_at dksX3_restore_2 5 rfl rfl)
abbrev cX3_formatSamples : ByteArray := prog_11_method_119_code
def yX3_formatSamples : MethodName := ⟨RX3, "formatSamples", "(I)I"⟩
def dkwX3_formatSamples_3 : List UInt8 := [182, 1, 27, 42, 42, 27, 28, 182, 0, 82, 182, 1, 30, 132, 2, 1, 167, 255, 228, 42, 180, 1, 24, 172]
abbrev dktX3_formatSamples_3 : List UInt8 := dkwX3_formatSamples_3 ++ []
def dkwX3_formatSamples_2 : List UInt8 := [182, 1, 27, 132, 2, 1, 167, 255, 225, 3, 61, 28, 42, 27, 182, 0, 62, 162, 0, 25, 42, 16, 32]
abbrev dktX3_formatSamples_2 : List UInt8 := dkwX3_formatSamples_2 ++ dktX3_formatSamples_3
def dkwX3_formatSamples_1 : List UInt8 := [180, 0, 7, 27, 184, 0, 58, 46, 163, 0, 24, 42, 42, 180, 0, 7, 27, 184, 0, 58, 28, 96, 46]
abbrev dktX3_formatSamples_1 : List UInt8 := dkwX3_formatSamples_1 ++ dktX3_formatSamples_2
def dkwX3_formatSamples_0 : List UInt8 := [42, 42, 27, 182, 0, 54, 182, 0, 112, 154, 0, 5, 2, 172, 42, 3, 181, 1, 24, 4, 61, 28, 42]
abbrev dktX3_formatSamples_0 : List UInt8 := dkwX3_formatSamples_0 ++ dktX3_formatSamples_1
theorem dksX3_formatSamples_0 : cX3_formatSamples.data.toList.drop 0 = dktX3_formatSamples_0 := by decide +kernel
theorem dksX3_formatSamples_1 : cX3_formatSamples.data.toList.drop 23 = dktX3_formatSamples_1 := dk_seg dksX3_formatSamples_0 23 rfl rfl
theorem dksX3_formatSamples_2 : cX3_formatSamples.data.toList.drop 46 = dktX3_formatSamples_2 := dk_seg dksX3_formatSamples_1 23 rfl rfl
theorem dksX3_formatSamples_3 : cX3_formatSamples.data.toList.drop 69 = dktX3_formatSamples_3 := dk_seg dksX3_formatSamples_2 23 rfl rfl
theorem dX3_formatSamples_0 : decode cX3_formatSamples 0 = .ok (.aload_n 0, 1) := dk_42 (dk_at dksX3_formatSamples_0 0 rfl rfl)
theorem dX3_formatSamples_1 : decode cX3_formatSamples 1 = .ok (.aload_n 0, 1) := dk_42 (dk_at dksX3_formatSamples_0 1 rfl rfl)
theorem dX3_formatSamples_2 : decode cX3_formatSamples 2 = .ok (.iload_n 1, 1) := dk_27 (dk_at dksX3_formatSamples_0 2 rfl rfl)
theorem dX3_formatSamples_3 : decode cX3_formatSamples 3 = .ok (.invokevirtual 54, 3) := dk_182 0 54 (dk_at dksX3_formatSamples_0 3 rfl rfl)
theorem dX3_formatSamples_6 : decode cX3_formatSamples 6 = .ok (.invokevirtual 112, 3) := dk_182 0 112 (dk_at dksX3_formatSamples_0 6 rfl rfl)
theorem dX3_formatSamples_9 : decode cX3_formatSamples 9 = .ok (.ifCond .ne 5, 3) := dk_154 0 5 (dk_at dksX3_formatSamples_0 9 rfl rfl)
theorem dX3_formatSamples_12 : decode cX3_formatSamples 12 = .ok (.iconst (-1), 1) := dk_2 (dk_at dksX3_formatSamples_0 12 rfl rfl)
theorem dX3_formatSamples_13 : decode cX3_formatSamples 13 = .ok (.ireturn, 1) := dk_172 (dk_at dksX3_formatSamples_0 13 rfl rfl)
theorem dX3_formatSamples_14 : decode cX3_formatSamples 14 = .ok (.aload_n 0, 1) := dk_42 (dk_at dksX3_formatSamples_0 14 rfl rfl)
theorem dX3_formatSamples_15 : decode cX3_formatSamples 15 = .ok (.iconst 0, 1) := dk_3 (dk_at dksX3_formatSamples_0 15 rfl rfl)
theorem dX3_formatSamples_16 : decode cX3_formatSamples 16 = .ok (.putfield 280, 3) := dk_181 1 24 (dk_at dksX3_formatSamples_0 16 rfl rfl)
theorem dX3_formatSamples_19 : decode cX3_formatSamples 19 = .ok (.iconst 1, 1) := dk_4 (dk_at dksX3_formatSamples_0 19 rfl rfl)
theorem dX3_formatSamples_20 : decode cX3_formatSamples 20 = .ok (.istore_n 2, 1) := dk_61 (dk_at dksX3_formatSamples_0 20 rfl rfl)
theorem dX3_formatSamples_21 : decode cX3_formatSamples 21 = .ok (.iload_n 2, 1) := dk_28 (dk_at dksX3_formatSamples_0 21 rfl rfl)
theorem dX3_formatSamples_22 : decode cX3_formatSamples 22 = .ok (.aload_n 0, 1) := dk_42 (dk_at dksX3_formatSamples_0 22 rfl rfl)
theorem dX3_formatSamples_23 : decode cX3_formatSamples 23 = .ok (.getfield 7, 3) := dk_180 0 7 (dk_at dksX3_formatSamples_1 0 rfl rfl)
theorem dX3_formatSamples_26 : decode cX3_formatSamples 26 = .ok (.iload_n 1, 1) := dk_27 (dk_at dksX3_formatSamples_1 3 rfl rfl)
theorem dX3_formatSamples_27 : decode cX3_formatSamples 27 = .ok (.invokestatic 58, 3) := dk_184 0 58 (dk_at dksX3_formatSamples_1 4 rfl rfl)
theorem dX3_formatSamples_30 : decode cX3_formatSamples 30 = .ok (.iaload, 1) := dk_46 (dk_at dksX3_formatSamples_1 7 rfl rfl)
theorem dX3_formatSamples_31 : decode cX3_formatSamples 31 = .ok (.if_icmp .gt 24, 3) := dk_163 0 24 (dk_at dksX3_formatSamples_1 8 rfl rfl)
theorem dX3_formatSamples_34 : decode cX3_formatSamples 34 = .ok (.aload_n 0, 1) := dk_42 (dk_at dksX3_formatSamples_1 11 rfl rfl)
theorem dX3_formatSamples_35 : decode cX3_formatSamples 35 = .ok (.aload_n 0, 1) := dk_42 (dk_at dksX3_formatSamples_1 12 rfl rfl)
theorem dX3_formatSamples_36 : decode cX3_formatSamples 36 = .ok (.getfield 7, 3) := dk_180 0 7 (dk_at dksX3_formatSamples_1 13 rfl rfl)
theorem dX3_formatSamples_39 : decode cX3_formatSamples 39 = .ok (.iload_n 1, 1) := dk_27 (dk_at dksX3_formatSamples_1 16 rfl rfl)
theorem dX3_formatSamples_40 : decode cX3_formatSamples 40 = .ok (.invokestatic 58, 3) := dk_184 0 58 (dk_at dksX3_formatSamples_1 17 rfl rfl)
theorem dX3_formatSamples_43 : decode cX3_formatSamples 43 = .ok (.iload_n 2, 1) := dk_28 (dk_at dksX3_formatSamples_1 20 rfl rfl)
theorem dX3_formatSamples_44 : decode cX3_formatSamples 44 = .ok (.iadd, 1) := dk_96 (dk_at dksX3_formatSamples_1 21 rfl rfl)
theorem dX3_formatSamples_45 : decode cX3_formatSamples 45 = .ok (.iaload, 1) := dk_46 (dk_at dksX3_formatSamples_1 22 rfl rfl)
theorem dX3_formatSamples_46 : decode cX3_formatSamples 46 = .ok (.invokevirtual 283, 3) := dk_182 1 27 (dk_at dksX3_formatSamples_2 0 rfl rfl)
theorem dX3_formatSamples_49 : decode cX3_formatSamples 49 = .ok (.iinc 2 1, 3) := dk_132 2 1 (dk_at dksX3_formatSamples_2 3 rfl rfl)
theorem dX3_formatSamples_52 : decode cX3_formatSamples 52 = .ok (.goto (-31), 3) := dk_167 255 225 (dk_at dksX3_formatSamples_2 6 rfl rfl)
theorem dX3_formatSamples_55 : decode cX3_formatSamples 55 = .ok (.iconst 0, 1) := dk_3 (dk_at dksX3_formatSamples_2 9 rfl rfl)
theorem dX3_formatSamples_56 : decode cX3_formatSamples 56 = .ok (.istore_n 2, 1) := dk_61 (dk_at dksX3_formatSamples_2 10 rfl rfl)
theorem dX3_formatSamples_57 : decode cX3_formatSamples 57 = .ok (.iload_n 2, 1) := dk_28 (dk_at dksX3_formatSamples_2 11 rfl rfl)
theorem dX3_formatSamples_58 : decode cX3_formatSamples 58 = .ok (.aload_n 0, 1) := dk_42 (dk_at dksX3_formatSamples_2 12 rfl rfl)
theorem dX3_formatSamples_59 : decode cX3_formatSamples 59 = .ok (.iload_n 1, 1) := dk_27 (dk_at dksX3_formatSamples_2 13 rfl rfl)
theorem dX3_formatSamples_60 : decode cX3_formatSamples 60 = .ok (.invokevirtual 62, 3) := dk_182 0 62 (dk_at dksX3_formatSamples_2 14 rfl rfl)
theorem dX3_formatSamples_63 : decode cX3_formatSamples 63 = .ok (.if_icmp .ge 25, 3) := dk_162 0 25 (dk_at dksX3_formatSamples_2 17 rfl rfl)
theorem dX3_formatSamples_66 : decode cX3_formatSamples 66 = .ok (.aload_n 0, 1) := dk_42 (dk_at dksX3_formatSamples_2 20 rfl rfl)
theorem dX3_formatSamples_67 : decode cX3_formatSamples 67 = .ok (.bipush 32, 2) := dk_16 32 (dk_at dksX3_formatSamples_2 21 rfl rfl)
theorem dX3_formatSamples_69 : decode cX3_formatSamples 69 = .ok (.invokevirtual 283, 3) := dk_182 1 27 (dk_at dksX3_formatSamples_3 0 rfl rfl)
theorem dX3_formatSamples_72 : decode cX3_formatSamples 72 = .ok (.aload_n 0, 1) := dk_42 (dk_at dksX3_formatSamples_3 3 rfl rfl)
theorem dX3_formatSamples_73 : decode cX3_formatSamples 73 = .ok (.aload_n 0, 1) := dk_42 (dk_at dksX3_formatSamples_3 4 rfl rfl)
theorem dX3_formatSamples_74 : decode cX3_formatSamples 74 = .ok (.iload_n 1, 1) := dk_27 (dk_at dksX3_formatSamples_3 5 rfl rfl)
theorem dX3_formatSamples_75 : decode cX3_formatSamples 75 = .ok (.iload_n 2, 1) := dk_28 (dk_at dksX3_formatSamples_3 6 rfl rfl)
theorem dX3_formatSamples_76 : decode cX3_formatSamples 76 = .ok (.invokevirtual 82, 3) := dk_182 0 82 (dk_at dksX3_formatSamples_3 7 rfl rfl)
theorem dX3_formatSamples_79 : decode cX3_formatSamples 79 = .ok (.invokevirtual 286, 3) := dk_182 1 30 (dk_at dksX3_formatSamples_3 10 rfl rfl)
theorem dX3_formatSamples_82 : decode cX3_formatSamples 82 = .ok (.iinc 2 1, 3) := dk_132 2 1 (dk_at dksX3_formatSamples_3 13 rfl rfl)
theorem dX3_formatSamples_85 : decode cX3_formatSamples 85 = .ok (.goto (-28), 3) := dk_167 255 228 (dk_at dksX3_formatSamples_3 16 rfl rfl)
theorem dX3_formatSamples_88 : decode cX3_formatSamples 88 = .ok (.aload_n 0, 1) := dk_42 (dk_at dksX3_formatSamples_3 19 rfl rfl)
theorem dX3_formatSamples_89 : decode cX3_formatSamples 89 = .ok (.getfield 280, 3) := dk_180 1 24 (dk_at dksX3_formatSamples_3 20 rfl rfl)
theorem dX3_formatSamples_92 : decode cX3_formatSamples 92 = .ok (.ireturn, 1) := dk_172 (dk_at dksX3_formatSamples_3 23 rfl rfl)
abbrev cX3_write : ByteArray := prog_11_method_117_code
def yX3_write : MethodName := ⟨RX3, "write", "(I)V"⟩
def dkwX3_write_0 : List UInt8 := [42, 180, 0, 25, 42, 180, 1, 24, 27, 79, 42, 89, 180, 1, 24, 4, 96, 181, 1, 24, 177]
abbrev dktX3_write_0 : List UInt8 := dkwX3_write_0 ++ []
theorem dksX3_write_0 : cX3_write.data.toList.drop 0 = dktX3_write_0 := by decide +kernel
theorem dX3_write_0 : decode cX3_write 0 = .ok (.aload_n 0, 1) := dk_42 (dk_at dksX3_write_0 0 rfl rfl)
theorem dX3_write_1 : decode cX3_write 1 = .ok (.getfield 25, 3) := dk_180 0 25 (dk_at dksX3_write_0 1 rfl rfl)
theorem dX3_write_4 : decode cX3_write 4 = .ok (.aload_n 0, 1) := dk_42 (dk_at dksX3_write_0 4 rfl rfl)
theorem dX3_write_5 : decode cX3_write 5 = .ok (.getfield 280, 3) := dk_180 1 24 (dk_at dksX3_write_0 5 rfl rfl)
theorem dX3_write_8 : decode cX3_write 8 = .ok (.iload_n 1, 1) := dk_27 (dk_at dksX3_write_0 8 rfl rfl)
theorem dX3_write_9 : decode cX3_write 9 = .ok (.iastore, 1) := dk_79 (dk_at dksX3_write_0 9 rfl rfl)
theorem dX3_write_10 : decode cX3_write 10 = .ok (.aload_n 0, 1) := dk_42 (dk_at dksX3_write_0 10 rfl rfl)
theorem dX3_write_11 : decode cX3_write 11 = .ok (.dup, 1) := dk_89 (dk_at dksX3_write_0 11 rfl rfl)
theorem dX3_write_12 : decode cX3_write 12 = .ok (.getfield 280, 3) := dk_180 1 24 (dk_at dksX3_write_0 12 rfl rfl)
theorem dX3_write_15 : decode cX3_write 15 = .ok (.iconst 1, 1) := dk_4 (dk_at dksX3_write_0 15 rfl rfl)
theorem dX3_write_16 : decode cX3_write 16 = .ok (.iadd, 1) := dk_96 (dk_at dksX3_write_0 16 rfl rfl)
theorem dX3_write_17 : decode cX3_write 17 = .ok (.putfield 280, 3) := dk_181 1 24 (dk_at dksX3_write_0 17 rfl rfl)
theorem dX3_write_20 : decode cX3_write 20 = .ok (.return_, 1) := dk_177 (dk_at dksX3_write_0 20 rfl rfl)
abbrev cX3_writeNumber : ByteArray := prog_11_method_118_code
def yX3_writeNumber : MethodName := ⟨RX3, "writeNumber", "(I)V"⟩
def dkwX3_writeNumber_2 : List UInt8 := [96, 182, 1, 27, 29, 16, 10, 108, 62, 167, 255, 234, 177]
abbrev dktX3_writeNumber_2 : List UInt8 := dkwX3_writeNumber_2 ++ []
def dkwX3_writeNumber_1 : List UInt8 := [164, 0, 11, 29, 16, 10, 104, 62, 167, 255, 243, 29, 158, 0, 24, 42, 16, 48, 28, 29, 108, 16, 10, 112]
abbrev dktX3_writeNumber_1 : List UInt8 := dkwX3_writeNumber_1 ++ dktX3_writeNumber_2
def dkwX3_writeNumber_0 : List UInt8 := [27, 156, 0, 9, 42, 16, 45, 182, 1, 27, 27, 184, 0, 100, 61, 4, 62, 28, 29, 108, 16, 9]
abbrev dktX3_writeNumber_0 : List UInt8 := dkwX3_writeNumber_0 ++ dktX3_writeNumber_1
theorem dksX3_writeNumber_0 : cX3_writeNumber.data.toList.drop 0 = dktX3_writeNumber_0 := by decide +kernel
theorem dksX3_writeNumber_1 : cX3_writeNumber.data.toList.drop 22 = dktX3_writeNumber_1 := dk_seg dksX3_writeNumber_0 22 rfl rfl
theorem dksX3_writeNumber_2 : cX3_writeNumber.data.toList.drop 46 = dktX3_writeNumber_2 := dk_seg dksX3_writeNumber_1 24 rfl rfl
theorem dX3_writeNumber_0 : decode cX3_writeNumber 0 = .ok (.iload_n 1, 1) := dk_27 (dk_at dksX3_writeNumber_0 0 rfl rfl)
theorem dX3_writeNumber_1 : decode cX3_writeNumber 1 = .ok (.ifCond .ge 9, 3) := dk_156 0 9 (dk_at dksX3_writeNumber_0 1 rfl rfl)
theorem dX3_writeNumber_4 : decode cX3_writeNumber 4 = .ok (.aload_n 0, 1) := dk_42 (dk_at dksX3_writeNumber_0 4 rfl rfl)
theorem dX3_writeNumber_5 : decode cX3_writeNumber 5 = .ok (.bipush 45, 2) := dk_16 45 (dk_at dksX3_writeNumber_0 5 rfl rfl)
theorem dX3_writeNumber_7 : decode cX3_writeNumber 7 = .ok (.invokevirtual 283, 3) := dk_182 1 27 (dk_at dksX3_writeNumber_0 7 rfl rfl)
theorem dX3_writeNumber_10 : decode cX3_writeNumber 10 = .ok (.iload_n 1, 1) := dk_27 (dk_at dksX3_writeNumber_0 10 rfl rfl)
theorem dX3_writeNumber_11 : decode cX3_writeNumber 11 = .ok (.invokestatic 100, 3) := dk_184 0 100 (dk_at dksX3_writeNumber_0 11 rfl rfl)
theorem dX3_writeNumber_14 : decode cX3_writeNumber 14 = .ok (.istore_n 2, 1) := dk_61 (dk_at dksX3_writeNumber_0 14 rfl rfl)
theorem dX3_writeNumber_15 : decode cX3_writeNumber 15 = .ok (.iconst 1, 1) := dk_4 (dk_at dksX3_writeNumber_0 15 rfl rfl)
theorem dX3_writeNumber_16 : decode cX3_writeNumber 16 = .ok (.istore_n 3, 1) := dk_62 (dk_at dksX3_writeNumber_0 16 rfl rfl)
theorem dX3_writeNumber_17 : decode cX3_writeNumber 17 = .ok (.iload_n 2, 1) := dk_28 (dk_at dksX3_writeNumber_0 17 rfl rfl)
theorem dX3_writeNumber_18 : decode cX3_writeNumber 18 = .ok (.iload_n 3, 1) := dk_29 (dk_at dksX3_writeNumber_0 18 rfl rfl)
theorem dX3_writeNumber_19 : decode cX3_writeNumber 19 = .ok (.idiv, 1) := dk_108 (dk_at dksX3_writeNumber_0 19 rfl rfl)
theorem dX3_writeNumber_20 : decode cX3_writeNumber 20 = .ok (.bipush 9, 2) := dk_16 9 (dk_at dksX3_writeNumber_0 20 rfl rfl)
theorem dX3_writeNumber_22 : decode cX3_writeNumber 22 = .ok (.if_icmp .le 11, 3) := dk_164 0 11 (dk_at dksX3_writeNumber_1 0 rfl rfl)
theorem dX3_writeNumber_25 : decode cX3_writeNumber 25 = .ok (.iload_n 3, 1) := dk_29 (dk_at dksX3_writeNumber_1 3 rfl rfl)
theorem dX3_writeNumber_26 : decode cX3_writeNumber 26 = .ok (.bipush 10, 2) := dk_16 10 (dk_at dksX3_writeNumber_1 4 rfl rfl)
theorem dX3_writeNumber_28 : decode cX3_writeNumber 28 = .ok (.imul, 1) := dk_104 (dk_at dksX3_writeNumber_1 6 rfl rfl)
theorem dX3_writeNumber_29 : decode cX3_writeNumber 29 = .ok (.istore_n 3, 1) := dk_62 (dk_at dksX3_writeNumber_1 7 rfl rfl)
theorem dX3_writeNumber_30 : decode cX3_writeNumber 30 = .ok (.goto (-13), 3) := dk_167 255 243 (dk_at dksX3_writeNumber_1 8 rfl rfl)
theorem dX3_writeNumber_33 : decode cX3_writeNumber 33 = .ok (.iload_n 3, 1) := dk_29 (dk_at dksX3_writeNumber_1 11 rfl rfl)
theorem dX3_writeNumber_34 : decode cX3_writeNumber 34 = .ok (.ifCond .le 24, 3) := dk_158 0 24 (dk_at dksX3_writeNumber_1 12 rfl rfl)
theorem dX3_writeNumber_37 : decode cX3_writeNumber 37 = .ok (.aload_n 0, 1) := dk_42 (dk_at dksX3_writeNumber_1 15 rfl rfl)
theorem dX3_writeNumber_38 : decode cX3_writeNumber 38 = .ok (.bipush 48, 2) := dk_16 48 (dk_at dksX3_writeNumber_1 16 rfl rfl)
theorem dX3_writeNumber_40 : decode cX3_writeNumber 40 = .ok (.iload_n 2, 1) := dk_28 (dk_at dksX3_writeNumber_1 18 rfl rfl)
theorem dX3_writeNumber_41 : decode cX3_writeNumber 41 = .ok (.iload_n 3, 1) := dk_29 (dk_at dksX3_writeNumber_1 19 rfl rfl)
theorem dX3_writeNumber_42 : decode cX3_writeNumber 42 = .ok (.idiv, 1) := dk_108 (dk_at dksX3_writeNumber_1 20 rfl rfl)
theorem dX3_writeNumber_43 : decode cX3_writeNumber 43 = .ok (.bipush 10, 2) := dk_16 10 (dk_at dksX3_writeNumber_1 21 rfl rfl)
theorem dX3_writeNumber_45 : decode cX3_writeNumber 45 = .ok (.irem, 1) := dk_112 (dk_at dksX3_writeNumber_1 23 rfl rfl)
theorem dX3_writeNumber_46 : decode cX3_writeNumber 46 = .ok (.iadd, 1) := dk_96 (dk_at dksX3_writeNumber_2 0 rfl rfl)
theorem dX3_writeNumber_47 : decode cX3_writeNumber 47 = .ok (.invokevirtual 283, 3) := dk_182 1 27 (dk_at dksX3_writeNumber_2 1 rfl rfl)
theorem dX3_writeNumber_50 : decode cX3_writeNumber 50 = .ok (.iload_n 3, 1) := dk_29 (dk_at dksX3_writeNumber_2 4 rfl rfl)
theorem dX3_writeNumber_51 : decode cX3_writeNumber 51 = .ok (.bipush 10, 2) := dk_16 10 (dk_at dksX3_writeNumber_2 5 rfl rfl)
theorem dX3_writeNumber_53 : decode cX3_writeNumber 53 = .ok (.idiv, 1) := dk_108 (dk_at dksX3_writeNumber_2 7 rfl rfl)
theorem dX3_writeNumber_54 : decode cX3_writeNumber 54 = .ok (.istore_n 3, 1) := dk_62 (dk_at dksX3_writeNumber_2 8 rfl rfl)
theorem dX3_writeNumber_55 : decode cX3_writeNumber 55 = .ok (.goto (-22), 3) := dk_167 255 234 (dk_at dksX3_writeNumber_2 9 rfl rfl)
theorem dX3_writeNumber_58 : decode cX3_writeNumber 58 = .ok (.return_, 1) := dk_177 (dk_at dksX3_writeNumber_2 12 rfl rfl)
abbrev cX3_formatPeaks : ByteArray := prog_11_method_120_code
def yX3_formatPeaks : MethodName := ⟨RX3, "formatPeaks", "(II)I"⟩
def dkwX3_formatPeaks_6 : List UInt8 := [180, 1, 24, 172]
abbrev dktX3_formatPeaks_6 : List UInt8 := dkwX3_formatPeaks_6 ++ []
def dkwX3_formatPeaks_5 : List UInt8 := [46, 182, 1, 30, 132, 4, 1, 167, 255, 180, 42, 180, 1, 24, 154, 0, 9, 42, 16, 45, 182, 1, 27, 42]
abbrev dktX3_formatPeaks_5 : List UInt8 := dkwX3_formatPeaks_5 ++ dktX3_formatPeaks_6
def dkwX3_formatPeaks_4 : List UInt8 := [184, 0, 196, 182, 1, 30, 42, 16, 58, 182, 1, 27, 42, 42, 180, 0, 28, 42, 180, 0, 34, 21, 4, 46]
abbrev dktX3_formatPeaks_4 : List UInt8 := dkwX3_formatPeaks_4 ++ dktX3_formatPeaks_5
def dkwX3_formatPeaks_3 : List UInt8 := [21, 4, 158, 0, 9, 42, 16, 32, 182, 1, 27, 42, 42, 27, 182, 0, 62, 42, 180, 0, 34, 21, 4, 46]
abbrev dktX3_formatPeaks_3 : List UInt8 := dkwX3_formatPeaks_3 ++ dktX3_formatPeaks_4
def dkwX3_formatPeaks_2 : List UInt8 := [54, 4, 21, 4, 28, 162, 0, 76, 42, 180, 0, 28, 42, 180, 0, 34, 21, 4, 46, 46, 153, 0, 61]
abbrev dktX3_formatPeaks_2 : List UInt8 := dkwX3_formatPeaks_2 ++ dktX3_formatPeaks_3
def dkwX3_formatPeaks_1 : List UInt8 := [167, 0, 4, 3, 182, 0, 187, 154, 0, 5, 2, 172, 42, 3, 181, 1, 24, 42, 27, 182, 0, 219, 3]
abbrev dktX3_formatPeaks_1 : List UInt8 := dkwX3_formatPeaks_1 ++ dktX3_formatPeaks_2
def dkwX3_formatPeaks_0 : List UInt8 := [42, 27, 182, 0, 54, 62, 42, 29, 29, 153, 0, 16, 42, 27, 28, 182, 1, 2, 153, 0, 7, 4]
abbrev dktX3_formatPeaks_0 : List UInt8 := dkwX3_formatPeaks_0 ++ dktX3_formatPeaks_1
theorem dksX3_formatPeaks_0 : cX3_formatPeaks.data.toList.drop 0 = dktX3_formatPeaks_0 := by decide +kernel
theorem dksX3_formatPeaks_1 : cX3_formatPeaks.data.toList.drop 22 = dktX3_formatPeaks_1 := dk_seg dksX3_formatPeaks_0 22 rfl rfl
theorem dksX3_formatPeaks_2 : cX3_formatPeaks.data.toList.drop 45 = dktX3_formatPeaks_2 := dk_seg dksX3_formatPeaks_1 23 rfl rfl
theorem dksX3_formatPeaks_3 : cX3_formatPeaks.data.toList.drop 68 = dktX3_formatPeaks_3 := dk_seg dksX3_formatPeaks_2 23 rfl rfl
theorem dksX3_formatPeaks_4 : cX3_formatPeaks.data.toList.drop 92 = dktX3_formatPeaks_4 := dk_seg dksX3_formatPeaks_3 24 rfl rfl
theorem dksX3_formatPeaks_5 : cX3_formatPeaks.data.toList.drop 116 = dktX3_formatPeaks_5 := dk_seg dksX3_formatPeaks_4 24 rfl rfl
theorem dksX3_formatPeaks_6 : cX3_formatPeaks.data.toList.drop 140 = dktX3_formatPeaks_6 := dk_seg dksX3_formatPeaks_5 24 rfl rfl
theorem dX3_formatPeaks_0 : decode cX3_formatPeaks 0 = .ok (.aload_n 0, 1) := dk_42 (dk_at dksX3_formatPeaks_0 0 rfl rfl)
theorem dX3_formatPeaks_1 : decode cX3_formatPeaks 1 = .ok (.iload_n 1, 1) := dk_27 (dk_at dksX3_formatPeaks_0 1 rfl rfl)
theorem dX3_formatPeaks_2 : decode cX3_formatPeaks 2 = .ok (.invokevirtual 54, 3) := dk_182 0 54 (dk_at dksX3_formatPeaks_0 2 rfl rfl)
theorem dX3_formatPeaks_5 : decode cX3_formatPeaks 5 = .ok (.istore_n 3, 1) := dk_62 (dk_at dksX3_formatPeaks_0 5 rfl rfl)
theorem dX3_formatPeaks_6 : decode cX3_formatPeaks 6 = .ok (.aload_n 0, 1) := dk_42 (dk_at dksX3_formatPeaks_0 6 rfl rfl)
theorem dX3_formatPeaks_7 : decode cX3_formatPeaks 7 = .ok (.iload_n 3, 1) := dk_29 (dk_at dksX3_formatPeaks_0 7 rfl rfl)
theorem dX3_formatPeaks_8 : decode cX3_formatPeaks 8 = .ok (.iload_n 3, 1) := dk_29 (dk_at dksX3_formatPeaks_0 8 rfl rfl)
theorem dX3_formatPeaks_9 : decode cX3_formatPeaks 9 = .ok (.ifCond .eq 16, 3) := dk_153 0 16 (dk_at dksX3_formatPeaks_0 9 rfl rfl)
theorem dX3_formatPeaks_12 : decode cX3_formatPeaks 12 = .ok (.aload_n 0, 1) := dk_42 (dk_at dksX3_formatPeaks_0 12 rfl rfl)
theorem dX3_formatPeaks_13 : decode cX3_formatPeaks 13 = .ok (.iload_n 1, 1) := dk_27 (dk_at dksX3_formatPeaks_0 13 rfl rfl)
theorem dX3_formatPeaks_14 : decode cX3_formatPeaks 14 = .ok (.iload_n 2, 1) := dk_28 (dk_at dksX3_formatPeaks_0 14 rfl rfl)
theorem dX3_formatPeaks_15 : decode cX3_formatPeaks 15 = .ok (.invokevirtual 258, 3) := dk_182 1 2 (dk_at dksX3_formatPeaks_0 15 rfl rfl)
theorem dX3_formatPeaks_18 : decode cX3_formatPeaks 18 = .ok (.ifCond .eq 7, 3) := dk_153 0 7 (dk_at dksX3_formatPeaks_0 18 rfl rfl)
theorem dX3_formatPeaks_21 : decode cX3_formatPeaks 21 = .ok (.iconst 1, 1) := dk_4 (dk_at dksX3_formatPeaks_0 21 rfl rfl)
theorem dX3_formatPeaks_22 : decode cX3_formatPeaks 22 = .ok (.goto 4, 3) := dk_167 0 4 (dk_at dksX3_formatPeaks_1 0 rfl rfl)
theorem dX3_formatPeaks_25 : decode cX3_formatPeaks 25 = .ok (.iconst 0, 1) := dk_3 (dk_at dksX3_formatPeaks_1 3 rfl rfl)
theorem dX3_formatPeaks_26 : decode cX3_formatPeaks 26 = .ok (.invokevirtual 187, 3) := dk_182 0 187 (dk_at dksX3_formatPeaks_1 4 rfl rfl)
theorem dX3_formatPeaks_29 : decode cX3_formatPeaks 29 = .ok (.ifCond .ne 5, 3) := dk_154 0 5 (dk_at dksX3_formatPeaks_1 7 rfl rfl)
theorem dX3_formatPeaks_32 : decode cX3_formatPeaks 32 = .ok (.iconst (-1), 1) := dk_2 (dk_at dksX3_formatPeaks_1 10 rfl rfl)
theorem dX3_formatPeaks_33 : decode cX3_formatPeaks 33 = .ok (.ireturn, 1) := dk_172 (dk_at dksX3_formatPeaks_1 11 rfl rfl)
theorem dX3_formatPeaks_34 : decode cX3_formatPeaks 34 = .ok (.aload_n 0, 1) := dk_42 (dk_at dksX3_formatPeaks_1 12 rfl rfl)
theorem dX3_formatPeaks_35 : decode cX3_formatPeaks 35 = .ok (.iconst 0, 1) := dk_3 (dk_at dksX3_formatPeaks_1 13 rfl rfl)
theorem dX3_formatPeaks_36 : decode cX3_formatPeaks 36 = .ok (.putfield 280, 3) := dk_181 1 24 (dk_at dksX3_formatPeaks_1 14 rfl rfl)
theorem dX3_formatPeaks_39 : decode cX3_formatPeaks 39 = .ok (.aload_n 0, 1) := dk_42 (dk_at dksX3_formatPeaks_1 17 rfl rfl)
theorem dX3_formatPeaks_40 : decode cX3_formatPeaks 40 = .ok (.iload_n 1, 1) := dk_27 (dk_at dksX3_formatPeaks_1 18 rfl rfl)
theorem dX3_formatPeaks_41 : decode cX3_formatPeaks 41 = .ok (.invokevirtual 219, 3) := dk_182 0 219 (dk_at dksX3_formatPeaks_1 19 rfl rfl)
theorem dX3_formatPeaks_44 : decode cX3_formatPeaks 44 = .ok (.iconst 0, 1) := dk_3 (dk_at dksX3_formatPeaks_1 22 rfl rfl)
theorem dX3_formatPeaks_45 : decode cX3_formatPeaks 45 = .ok (.istore 4, 2) := dk_54 4 (dk_at dksX3_formatPeaks_2 0 rfl rfl)
theorem dX3_formatPeaks_47 : decode cX3_formatPeaks 47 = .ok (.iload 4, 2) := dk_21 4 (dk_at dksX3_formatPeaks_2 2 rfl rfl)
theorem dX3_formatPeaks_49 : decode cX3_formatPeaks 49 = .ok (.iload_n 2, 1) := dk_28 (dk_at dksX3_formatPeaks_2 4 rfl rfl)
theorem dX3_formatPeaks_50 : decode cX3_formatPeaks 50 = .ok (.if_icmp .ge 76, 3) := dk_162 0 76 (dk_at dksX3_formatPeaks_2 5 rfl rfl)
theorem dX3_formatPeaks_53 : decode cX3_formatPeaks 53 = .ok (.aload_n 0, 1) := dk_42 (dk_at dksX3_formatPeaks_2 8 rfl rfl)
theorem dX3_formatPeaks_54 : decode cX3_formatPeaks 54 = .ok (.getfield 28, 3) := dk_180 0 28 (dk_at dksX3_formatPeaks_2 9 rfl rfl)
theorem dX3_formatPeaks_57 : decode cX3_formatPeaks 57 = .ok (.aload_n 0, 1) := dk_42 (dk_at dksX3_formatPeaks_2 12 rfl rfl)
theorem dX3_formatPeaks_58 : decode cX3_formatPeaks 58 = .ok (.getfield 34, 3) := dk_180 0 34 (dk_at dksX3_formatPeaks_2 13 rfl rfl)
theorem dX3_formatPeaks_61 : decode cX3_formatPeaks 61 = .ok (.iload 4, 2) := dk_21 4 (dk_at dksX3_formatPeaks_2 16 rfl rfl)
theorem dX3_formatPeaks_63 : decode cX3_formatPeaks 63 = .ok (.iaload, 1) := dk_46 (dk_at dksX3_formatPeaks_2 18 rfl rfl)
theorem dX3_formatPeaks_64 : decode cX3_formatPeaks 64 = .ok (.iaload, 1) := dk_46 (dk_at dksX3_formatPeaks_2 19 rfl rfl)
theorem dX3_formatPeaks_65 : decode cX3_formatPeaks 65 = .ok (.ifCond .eq 61, 3) := dk_153 0 61 (dk_at dksX3_formatPeaks_2 20 rfl rfl)
theorem dX3_formatPeaks_68 : decode cX3_formatPeaks 68 = .ok (.iload 4, 2) := dk_21 4 (dk_at dksX3_formatPeaks_3 0 rfl rfl)
theorem dX3_formatPeaks_70 : decode cX3_formatPeaks 70 = .ok (.ifCond .le 9, 3) := dk_158 0 9 (dk_at dksX3_formatPeaks_3 2 rfl rfl)
theorem dX3_formatPeaks_73 : decode cX3_formatPeaks 73 = .ok (.aload_n 0, 1) := dk_42 (dk_at dksX3_formatPeaks_3 5 rfl rfl)
theorem dX3_formatPeaks_74 : decode cX3_formatPeaks 74 = .ok (.bipush 32, 2) := dk_16 32 (dk_at dksX3_formatPeaks_3 6 rfl rfl)
theorem dX3_formatPeaks_76 : decode cX3_formatPeaks 76 = .ok (.invokevirtual 283, 3) := dk_182 1 27 (dk_at dksX3_formatPeaks_3 8 rfl rfl)
theorem dX3_formatPeaks_79 : decode cX3_formatPeaks 79 = .ok (.aload_n 0, 1) := dk_42 (dk_at dksX3_formatPeaks_3 11 rfl rfl)
theorem dX3_formatPeaks_80 : decode cX3_formatPeaks 80 = .ok (.aload_n 0, 1) := dk_42 (dk_at dksX3_formatPeaks_3 12 rfl rfl)
theorem dX3_formatPeaks_81 : decode cX3_formatPeaks 81 = .ok (.iload_n 1, 1) := dk_27 (dk_at dksX3_formatPeaks_3 13 rfl rfl)
theorem dX3_formatPeaks_82 : decode cX3_formatPeaks 82 = .ok (.invokevirtual 62, 3) := dk_182 0 62 (dk_at dksX3_formatPeaks_3 14 rfl rfl)
theorem dX3_formatPeaks_85 : decode cX3_formatPeaks 85 = .ok (.aload_n 0, 1) := dk_42 (dk_at dksX3_formatPeaks_3 17 rfl rfl)
theorem dX3_formatPeaks_86 : decode cX3_formatPeaks 86 = .ok (.getfield 34, 3) := dk_180 0 34 (dk_at dksX3_formatPeaks_3 18 rfl rfl)
theorem dX3_formatPeaks_89 : decode cX3_formatPeaks 89 = .ok (.iload 4, 2) := dk_21 4 (dk_at dksX3_formatPeaks_3 21 rfl rfl)
theorem dX3_formatPeaks_91 : decode cX3_formatPeaks 91 = .ok (.iaload, 1) := dk_46 (dk_at dksX3_formatPeaks_3 23 rfl rfl)
theorem dX3_formatPeaks_92 : decode cX3_formatPeaks 92 = .ok (.invokestatic 196, 3) := dk_184 0 196 (dk_at dksX3_formatPeaks_4 0 rfl rfl)
theorem dX3_formatPeaks_95 : decode cX3_formatPeaks 95 = .ok (.invokevirtual 286, 3) := dk_182 1 30 (dk_at dksX3_formatPeaks_4 3 rfl rfl)
theorem dX3_formatPeaks_98 : decode cX3_formatPeaks 98 = .ok (.aload_n 0, 1) := dk_42 (dk_at dksX3_formatPeaks_4 6 rfl rfl)
theorem dX3_formatPeaks_99 : decode cX3_formatPeaks 99 = .ok (.bipush 58, 2) := dk_16 58 (dk_at dksX3_formatPeaks_4 7 rfl rfl)
theorem dX3_formatPeaks_101 : decode cX3_formatPeaks 101 = .ok (.invokevirtual 283, 3) := dk_182 1 27 (dk_at dksX3_formatPeaks_4 9 rfl rfl)
theorem dX3_formatPeaks_104 : decode cX3_formatPeaks 104 = .ok (.aload_n 0, 1) := dk_42 (dk_at dksX3_formatPeaks_4 12 rfl rfl)
theorem dX3_formatPeaks_105 : decode cX3_formatPeaks 105 = .ok (.aload_n 0, 1) := dk_42 (dk_at dksX3_formatPeaks_4 13 rfl rfl)
theorem dX3_formatPeaks_106 : decode cX3_formatPeaks 106 = .ok (.getfield 28, 3) := dk_180 0 28 (dk_at dksX3_formatPeaks_4 14 rfl rfl)
theorem dX3_formatPeaks_109 : decode cX3_formatPeaks 109 = .ok (.aload_n 0, 1) := dk_42 (dk_at dksX3_formatPeaks_4 17 rfl rfl)
theorem dX3_formatPeaks_110 : decode cX3_formatPeaks 110 = .ok (.getfield 34, 3) := dk_180 0 34 (dk_at dksX3_formatPeaks_4 18 rfl rfl)
theorem dX3_formatPeaks_113 : decode cX3_formatPeaks 113 = .ok (.iload 4, 2) := dk_21 4 (dk_at dksX3_formatPeaks_4 21 rfl rfl)
theorem dX3_formatPeaks_115 : decode cX3_formatPeaks 115 = .ok (.iaload, 1) := dk_46 (dk_at dksX3_formatPeaks_4 23 rfl rfl)
theorem dX3_formatPeaks_116 : decode cX3_formatPeaks 116 = .ok (.iaload, 1) := dk_46 (dk_at dksX3_formatPeaks_5 0 rfl rfl)
theorem dX3_formatPeaks_117 : decode cX3_formatPeaks 117 = .ok (.invokevirtual 286, 3) := dk_182 1 30 (dk_at dksX3_formatPeaks_5 1 rfl rfl)
theorem dX3_formatPeaks_120 : decode cX3_formatPeaks 120 = .ok (.iinc 4 1, 3) := dk_132 4 1 (dk_at dksX3_formatPeaks_5 4 rfl rfl)
theorem dX3_formatPeaks_123 : decode cX3_formatPeaks 123 = .ok (.goto (-76), 3) := dk_167 255 180 (dk_at dksX3_formatPeaks_5 7 rfl rfl)
theorem dX3_formatPeaks_126 : decode cX3_formatPeaks 126 = .ok (.aload_n 0, 1) := dk_42 (dk_at dksX3_formatPeaks_5 10 rfl rfl)
theorem dX3_formatPeaks_127 : decode cX3_formatPeaks 127 = .ok (.getfield 280, 3) := dk_180 1 24 (dk_at dksX3_formatPeaks_5 11 rfl rfl)
theorem dX3_formatPeaks_130 : decode cX3_formatPeaks 130 = .ok (.ifCond .ne 9, 3) := dk_154 0 9 (dk_at dksX3_formatPeaks_5 14 rfl rfl)
theorem dX3_formatPeaks_133 : decode cX3_formatPeaks 133 = .ok (.aload_n 0, 1) := dk_42 (dk_at dksX3_formatPeaks_5 17 rfl rfl)
theorem dX3_formatPeaks_134 : decode cX3_formatPeaks 134 = .ok (.bipush 45, 2) := dk_16 45 (dk_at dksX3_formatPeaks_5 18 rfl rfl)
theorem dX3_formatPeaks_136 : decode cX3_formatPeaks 136 = .ok (.invokevirtual 283, 3) := dk_182 1 27 (dk_at dksX3_formatPeaks_5 20 rfl rfl)
theorem dX3_formatPeaks_139 : decode cX3_formatPeaks 139 = .ok (.aload_n 0, 1) := dk_42 (dk_at dksX3_formatPeaks_5 23 rfl rfl)
theorem dX3_formatPeaks_140 : decode cX3_formatPeaks 140 = .ok (.getfield 280, 3) := dk_180 1 24 (dk_at dksX3_formatPeaks_6 0 rfl rfl)
theorem dX3_formatPeaks_143 : decode cX3_formatPeaks 143 = .ok (.ireturn, 1) := dk_172 (dk_at dksX3_formatPeaks_6 3 rfl rfl)
abbrev cX3_formattedCharacter : ByteArray := prog_11_method_121_code
def yX3_formattedCharacter : MethodName := ⟨RX3, "formattedCharacter", "(I)C"⟩
def dkwX3_formattedCharacter_1 : List UInt8 := [146, 167, 0, 4, 3, 172]
abbrev dktX3_formattedCharacter_1 : List UInt8 := dkwX3_formattedCharacter_1 ++ []
def dkwX3_formattedCharacter_0 : List UInt8 := [42, 27, 3, 42, 180, 1, 24, 4, 100, 184, 0, 50, 182, 0, 112, 153, 0, 13, 42, 180, 0, 25, 27, 46]
abbrev dktX3_formattedCharacter_0 : List UInt8 := dkwX3_formattedCharacter_0 ++ dktX3_formattedCharacter_1
theorem dksX3_formattedCharacter_0 : cX3_formattedCharacter.data.toList.drop 0 = dktX3_formattedCharacter_0 := by decide +kernel
theorem dksX3_formattedCharacter_1 : cX3_formattedCharacter.data.toList.drop 24 = dktX3_formattedCharacter_1 := dk_seg dksX3_formattedCharacter_0 24 rfl rfl
theorem dX3_formattedCharacter_0 : decode cX3_formattedCharacter 0 = .ok (.aload_n 0, 1) := dk_42 (dk_at dksX3_formattedCharacter_0 0 rfl rfl)
theorem dX3_formattedCharacter_1 : decode cX3_formattedCharacter 1 = .ok (.iload_n 1, 1) := dk_27 (dk_at dksX3_formattedCharacter_0 1 rfl rfl)
theorem dX3_formattedCharacter_2 : decode cX3_formattedCharacter 2 = .ok (.iconst 0, 1) := dk_3 (dk_at dksX3_formattedCharacter_0 2 rfl rfl)
theorem dX3_formattedCharacter_3 : decode cX3_formattedCharacter 3 = .ok (.aload_n 0, 1) := dk_42 (dk_at dksX3_formattedCharacter_0 3 rfl rfl)
theorem dX3_formattedCharacter_4 : decode cX3_formattedCharacter 4 = .ok (.getfield 280, 3) := dk_180 1 24 (dk_at dksX3_formattedCharacter_0 4 rfl rfl)
theorem dX3_formattedCharacter_7 : decode cX3_formattedCharacter 7 = .ok (.iconst 1, 1) := dk_4 (dk_at dksX3_formattedCharacter_0 7 rfl rfl)
theorem dX3_formattedCharacter_8 : decode cX3_formattedCharacter 8 = .ok (.isub, 1) := dk_100 (dk_at dksX3_formattedCharacter_0 8 rfl rfl)
theorem dX3_formattedCharacter_9 : decode cX3_formattedCharacter 9 = .ok (.invokestatic 50, 3) := dk_184 0 50 (dk_at dksX3_formattedCharacter_0 9 rfl rfl)
theorem dX3_formattedCharacter_12 : decode cX3_formattedCharacter 12 = .ok (.invokevirtual 112, 3) := dk_182 0 112 (dk_at dksX3_formattedCharacter_0 12 rfl rfl)
theorem dX3_formattedCharacter_15 : decode cX3_formattedCharacter 15 = .ok (.ifCond .eq 13, 3) := dk_153 0 13 (dk_at dksX3_formattedCharacter_0 15 rfl rfl)
theorem dX3_formattedCharacter_18 : decode cX3_formattedCharacter 18 = .ok (.aload_n 0, 1) := dk_42 (dk_at dksX3_formattedCharacter_0 18 rfl rfl)
theorem dX3_formattedCharacter_19 : decode cX3_formattedCharacter 19 = .ok (.getfield 25, 3) := dk_180 0 25 (dk_at dksX3_formattedCharacter_0 19 rfl rfl)
theorem dX3_formattedCharacter_22 : decode cX3_formattedCharacter 22 = .ok (.iload_n 1, 1) := dk_27 (dk_at dksX3_formattedCharacter_0 22 rfl rfl)
theorem dX3_formattedCharacter_23 : decode cX3_formattedCharacter 23 = .ok (.iaload, 1) := dk_46 (dk_at dksX3_formattedCharacter_0 23 rfl rfl)
theorem dX3_formattedCharacter_24 : decode cX3_formattedCharacter 24 = .ok (.i2c, 1) := dk_146 (dk_at dksX3_formattedCharacter_1 0 rfl rfl)
theorem dX3_formattedCharacter_25 : decode cX3_formattedCharacter 25 = .ok (.goto 4, 3) := dk_167 0 4 (dk_at dksX3_formattedCharacter_1 1 rfl rfl)
theorem dX3_formattedCharacter_28 : decode cX3_formattedCharacter 28 = .ok (.iconst 0, 1) := dk_3 (dk_at dksX3_formattedCharacter_1 4 rfl rfl)
theorem dX3_formattedCharacter_29 : decode cX3_formattedCharacter 29 = .ok (.ireturn, 1) := dk_172 (dk_at dksX3_formattedCharacter_1 5 rfl rfl)

