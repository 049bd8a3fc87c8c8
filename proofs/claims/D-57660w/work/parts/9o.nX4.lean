set_option maxRecDepth 100000
abbrev cX4_init : ByteArray := prog_6_method_1_code
def yX4_init : MethodName := ⟨RX4, "<init>", "([BI)V"⟩
def dkwX4_init_1 : List UInt8 := [178, 0, 22, 181, 0, 28, 42, 18, 31, 181, 0, 33, 42, 43, 181, 0, 37, 42, 28, 181, 0, 41, 177]
abbrev dktX4_init_1 : List UInt8 := dkwX4_init_1 ++ []
def dkwX4_init_0 : List UInt8 := [42, 183, 0, 3, 42, 187, 0, 9, 89, 183, 0, 11, 181, 0, 12, 42, 16, 64, 188, 10, 181, 0, 18, 42]
abbrev dktX4_init_0 : List UInt8 := dkwX4_init_0 ++ dktX4_init_1
theorem dksX4_init_0 : cX4_init.data.toList.drop 0 = dktX4_init_0 := by decide +kernel
theorem dksX4_init_1 : cX4_init.data.toList.drop 24 = dktX4_init_1 := dk_seg dksX4_init_0 24 rfl rfl
theorem dX4_init_0 : decode cX4_init 0 = .ok (.aload_n 0, 1) := dk_42 (dk_at dksX4_init_0 0 rfl rfl)
theorem dX4_init_1 : decode cX4_init 1 = .ok (.invokespecial 3, 3) := dk_183 0 3 (dk_at dksX4_init_0 1 rfl rfl)
theorem dX4_init_4 : decode cX4_init 4 = .ok (.aload_n 0, 1) := dk_42 (dk_at dksX4_init_0 4 rfl rfl)
theorem dX4_init_5 : decode cX4_init 5 = .ok (.new 9, 3) := dk_187 0 9 (dk_at dksX4_init_0 5 rfl rfl)
theorem dX4_init_8 : decode cX4_init 8 = .ok (.dup, 1) := dk_89 (dk_at dksX4_init_0 8 rfl rfl)
theorem dX4_init_9 : decode cX4_init 9 = .ok (.invokespecial 11, 3) := dk_183 0 11 (dk_at dksX4_init_0 9 rfl rfl)
theorem dX4_init_12 : decode cX4_init 12 = .ok (.putfield 12, 3) := dk_181 0 12 (dk_at dksX4_init_0 12 rfl rfl)
theorem dX4_init_15 : decode cX4_init 15 = .ok (.aload_n 0, 1) := dk_42 (dk_at dksX4_init_0 15 rfl rfl)
theorem dX4_init_16 : decode cX4_init 16 = .ok (.bipush 64, 2) := dk_16 64 (dk_at dksX4_init_0 16 rfl rfl)
theorem dX4_init_18 : decode cX4_init 18 = .ok (.newarray .int, 2) := dk_188_10 (dk_at dksX4_init_0 18 rfl rfl)
theorem dX4_init_20 : decode cX4_init 20 = .ok (.putfield 18, 3) := dk_181 0 18 (dk_at dksX4_init_0 20 rfl rfl)
theorem dX4_init_23 : decode cX4_init 23 = .ok (.aload_n 0, 1) := dk_42 (dk_at dksX4_init_0 23 rfl rfl)
theorem dX4_init_24 : decode cX4_init 24 = .ok (.getstatic 22, 3) := dk_178 0 22 (dk_at dksX4_init_1 0 rfl rfl)
theorem dX4_init_27 : decode cX4_init 27 = .ok (.putfield 28, 3) := dk_181 0 28 (dk_at dksX4_init_1 3 rfl rfl)
theorem dX4_init_30 : decode cX4_init 30 = .ok (.aload_n 0, 1) := dk_42 (dk_at dksX4_init_1 6 rfl rfl)
theorem dX4_init_31 : decode cX4_init 31 = .ok (.ldc 31, 2) := dk_18 31 (dk_at dksX4_init_1 7 rfl rfl)
theorem dX4_init_33 : decode cX4_init 33 = .ok (.putfield 33, 3) := dk_181 0 33 (dk_at dksX4_init_1 9 rfl rfl)
theorem dX4_init_36 : decode cX4_init 36 = .ok (.aload_n 0, 1) := dk_42 (dk_at dksX4_init_1 12 rfl rfl)
theorem dX4_init_37 : decode cX4_init 37 = .ok (.aload_n 1, 1) := dk_43 (dk_at dksX4_init_1 13 rfl rfl)
theorem dX4_init_38 : decode cX4_init 38 = .ok (.putfield 37, 3) := dk_181 0 37 (dk_at dksX4_init_1 14 rfl rfl)
theorem dX4_init_41 : decode cX4_init 41 = .ok (.aload_n 0, 1) := dk_42 (dk_at dksX4_init_1 17 rfl rfl)
theorem dX4_init_42 : decode cX4_init 42 = .ok (.iload_n 2, 1) := dk_28 (dk_at dksX4_init_1 18 rfl rfl)
theorem dX4_init_43 : decode cX4_init 43 = .ok (.putfield 41, 3) := dk_181 0 41 (dk_at dksX4_init_1 19 rfl rfl)
theorem dX4_init_46 : decode cX4_init 46 = .ok (.return_, 1) := dk_177 (dk_at dksX4_init_1 22 rfl rfl)
abbrev cX4_parse : ByteArray := prog_6_method_7_code
def yX4_parse : MethodName := ⟨RX4, "parse", "()LWalshAnalyzer$Archive;"⟩
def dkwX4_parse_1 : List UInt8 := [167, 255, 238, 42, 180, 0, 12, 176]
abbrev dktX4_parse_1 : List UInt8 := dkwX4_parse_1 ++ []
def dkwX4_parse_0 : List UInt8 := [42, 182, 0, 103, 42, 180, 0, 28, 178, 0, 22, 165, 0, 14, 42, 182, 0, 106, 42, 182, 0, 103]
abbrev dktX4_parse_0 : List UInt8 := dkwX4_parse_0 ++ dktX4_parse_1
theorem dksX4_parse_0 : cX4_parse.data.toList.drop 0 = dktX4_parse_0 := by decide +kernel
theorem dksX4_parse_1 : cX4_parse.data.toList.drop 22 = dktX4_parse_1 := dk_seg dksX4_parse_0 22 rfl rfl
theorem dX4_parse_0 : decode cX4_parse 0 = .ok (.aload_n 0, 1) := dk_42 (dk_at dksX4_parse_0 0 rfl rfl)
theorem dX4_parse_1 : decode cX4_parse 1 = .ok (.invokevirtual 103, 3) := dk_182 0 103 (dk_at dksX4_parse_0 1 rfl rfl)
theorem dX4_parse_4 : decode cX4_parse 4 = .ok (.aload_n 0, 1) := dk_42 (dk_at dksX4_parse_0 4 rfl rfl)
theorem dX4_parse_5 : decode cX4_parse 5 = .ok (.getfield 28, 3) := dk_180 0 28 (dk_at dksX4_parse_0 5 rfl rfl)
theorem dX4_parse_8 : decode cX4_parse 8 = .ok (.getstatic 22, 3) := dk_178 0 22 (dk_at dksX4_parse_0 8 rfl rfl)
theorem dX4_parse_11 : decode cX4_parse 11 = .ok (.if_acmp .eq 14, 3) := dk_165 0 14 (dk_at dksX4_parse_0 11 rfl rfl)
theorem dX4_parse_14 : decode cX4_parse 14 = .ok (.aload_n 0, 1) := dk_42 (dk_at dksX4_parse_0 14 rfl rfl)
theorem dX4_parse_15 : decode cX4_parse 15 = .ok (.invokevirtual 106, 3) := dk_182 0 106 (dk_at dksX4_parse_0 15 rfl rfl)
theorem dX4_parse_18 : decode cX4_parse 18 = .ok (.aload_n 0, 1) := dk_42 (dk_at dksX4_parse_0 18 rfl rfl)
theorem dX4_parse_19 : decode cX4_parse 19 = .ok (.invokevirtual 103, 3) := dk_182 0 103 (dk_at dksX4_parse_0 19 rfl rfl)
theorem dX4_parse_22 : decode cX4_parse 22 = .ok (.goto (-18), 3) := dk_167 255 238 (dk_at dksX4_parse_1 0 rfl rfl)
theorem dX4_parse_25 : decode cX4_parse 25 = .ok (.aload_n 0, 1) := dk_42 (dk_at dksX4_parse_1 3 rfl rfl)
theorem dX4_parse_26 : decode cX4_parse 26 = .ok (.getfield 12, 3) := dk_180 0 12 (dk_at dksX4_parse_1 4 rfl rfl)
theorem dX4_parse_29 : decode cX4_parse 29 = .ok (.areturn, 1) := dk_176 (dk_at dksX4_parse_1 7 rfl rfl)
abbrev cX4_advance : ByteArray := prog_6_method_4_code
def yX4_advance : MethodName := ⟨RX4, "advance", "()V"⟩
def dkwX4_advance_7 : List UInt8 := [89, 180, 0, 53, 4, 96, 181, 0, 53, 177]
abbrev dktX4_advance_7 : List UInt8 := dkwX4_advance_7 ++ []
def dkwX4_advance_6 : List UInt8 := [42, 16, 45, 16, 45, 182, 0, 60, 153, 0, 9, 178, 0, 74, 167, 0, 6, 178, 0, 77, 181, 0, 28, 42]
abbrev dktX4_advance_6 : List UInt8 := dkwX4_advance_6 ++ dktX4_advance_7
def dkwX4_advance_5 : List UInt8 := [154, 0, 14, 42, 16, 45, 16, 45, 182, 0, 60, 153, 0, 7, 4, 167, 0, 4, 3, 4, 182, 0, 70, 42]
abbrev dktX4_advance_5 : List UInt8 := dkwX4_advance_5 ++ dktX4_advance_6
def dkwX4_advance_4 : List UInt8 := [182, 0, 60, 153, 0, 10, 42, 182, 0, 67, 167, 0, 69, 42, 42, 16, 59, 16, 59, 182, 0, 60]
abbrev dktX4_advance_4 : List UInt8 := dkwX4_advance_4 ++ dktX4_advance_5
def dkwX4_advance_3 : List UInt8 := [42, 16, 97, 16, 122, 182, 0, 60, 153, 0, 10, 42, 182, 0, 64, 167, 0, 87, 42, 16, 48, 16, 57]
abbrev dktX4_advance_3 : List UInt8 := dkwX4_advance_3 ++ dktX4_advance_4
def dkwX4_advance_2 : List UInt8 := [181, 0, 33, 42, 180, 0, 53, 42, 180, 0, 41, 160, 0, 13, 42, 178, 0, 22, 181, 0, 28, 167, 0, 105]
abbrev dktX4_advance_2 : List UInt8 := dkwX4_advance_2 ++ dktX4_advance_3
def dkwX4_advance_1 : List UInt8 := [180, 0, 53, 4, 96, 181, 0, 53, 167, 255, 224, 42, 42, 180, 0, 53, 181, 0, 47, 42, 18, 31]
abbrev dktX4_advance_1 : List UInt8 := dkwX4_advance_1 ++ dktX4_advance_2
def dkwX4_advance_0 : List UInt8 := [42, 16, 32, 16, 32, 182, 0, 60, 154, 0, 14, 42, 16, 10, 16, 10, 182, 0, 60, 153, 0, 16, 42, 89]
abbrev dktX4_advance_0 : List UInt8 := dkwX4_advance_0 ++ dktX4_advance_1
theorem dksX4_advance_0 : cX4_advance.data.toList.drop 0 = dktX4_advance_0 := by decide +kernel
theorem dksX4_advance_1 : cX4_advance.data.toList.drop 24 = dktX4_advance_1 := dk_seg dksX4_advance_0 24 rfl rfl
theorem dksX4_advance_2 : cX4_advance.data.toList.drop 46 = dktX4_advance_2 := dk_seg dksX4_advance_1 22 rfl rfl
theorem dksX4_advance_3 : cX4_advance.data.toList.drop 70 = dktX4_advance_3 := dk_seg dksX4_advance_2 24 rfl rfl
theorem dksX4_advance_4 : cX4_advance.data.toList.drop 93 = dktX4_advance_4 := dk_seg dksX4_advance_3 23 rfl rfl
theorem dksX4_advance_5 : cX4_advance.data.toList.drop 115 = dktX4_advance_5 := dk_seg dksX4_advance_4 22 rfl rfl
theorem dksX4_advance_6 : cX4_advance.data.toList.drop 139 = dktX4_advance_6 := dk_seg dksX4_advance_5 24 rfl rfl
theorem dksX4_advance_7 : cX4_advance.data.toList.drop 163 = dktX4_advance_7 := dk_seg dksX4_advance_6 24 rfl rfl
theorem dX4_advance_0 : decode cX4_advance 0 = .ok (.aload_n 0, 1) := dk_42 (dk_at dksX4_advance_0 0 rfl rfl)
theorem dX4_advance_1 : decode cX4_advance 1 = .ok (.bipush 32, 2) := dk_16 32 (dk_at dksX4_advance_0 1 rfl rfl)
theorem dX4_advance_3 : decode cX4_advance 3 = .ok (.bipush 32, 2) := dk_16 32 (dk_at dksX4_advance_0 3 rfl rfl)
theorem dX4_advance_5 : decode cX4_advance 5 = .ok (.invokevirtual 60, 3) := dk_182 0 60 (dk_at dksX4_advance_0 5 rfl rfl)
theorem dX4_advance_8 : decode cX4_advance 8 = .ok (.ifCond .ne 14, 3) := dk_154 0 14 (dk_at dksX4_advance_0 8 rfl rfl)
theorem dX4_advance_11 : decode cX4_advance 11 = .ok (.aload_n 0, 1) := dk_42 (dk_at dksX4_advance_0 11 rfl rfl)
theorem dX4_advance_12 : decode cX4_advance 12 = .ok (.bipush 10, 2) := dk_16 10 (dk_at dksX4_advance_0 12 rfl rfl)
theorem dX4_advance_14 : decode cX4_advance 14 = .ok (.bipush 10, 2) := dk_16 10 (dk_at dksX4_advance_0 14 rfl rfl)
theorem dX4_advance_16 : decode cX4_advance 16 = .ok (.invokevirtual 60, 3) := dk_182 0 60 (dk_at dksX4_advance_0 16 rfl rfl)
theorem dX4_advance_19 : decode cX4_advance 19 = .ok (.ifCond .eq 16, 3) := dk_153 0 16 (dk_at dksX4_advance_0 19 rfl rfl)
theorem dX4_advance_22 : decode cX4_advance 22 = .ok (.aload_n 0, 1) := dk_42 (dk_at dksX4_advance_0 22 rfl rfl)
theorem dX4_advance_23 : decode cX4_advance 23 = .ok (.dup, 1) := dk_89 (dk_at dksX4_advance_0 23 rfl rfl)
theorem dX4_advance_24 : decode cX4_advance 24 = .ok (.getfield 53, 3) := dk_180 0 53 (dk_at dksX4_advance_1 0 rfl rfl)
theorem dX4_advance_27 : decode cX4_advance 27 = .ok (.iconst 1, 1) := dk_4 (dk_at dksX4_advance_1 3 rfl rfl)
theorem dX4_advance_28 : decode cX4_advance 28 = .ok (.iadd, 1) := dk_96 (dk_at dksX4_advance_1 4 rfl rfl)
theorem dX4_advance_29 : decode cX4_advance 29 = .ok (.putfield 53, 3) := dk_181 0 53 (dk_at dksX4_advance_1 5 rfl rfl)
theorem dX4_advance_32 : decode cX4_advance 32 = .ok (.goto (-32), 3) := dk_167 255 224 (dk_at dksX4_advance_1 8 rfl rfl)
theorem dX4_advance_35 : decode cX4_advance 35 = .ok (.aload_n 0, 1) := dk_42 (dk_at dksX4_advance_1 11 rfl rfl)
theorem dX4_advance_36 : decode cX4_advance 36 = .ok (.aload_n 0, 1) := dk_42 (dk_at dksX4_advance_1 12 rfl rfl)
theorem dX4_advance_37 : decode cX4_advance 37 = .ok (.getfield 53, 3) := dk_180 0 53 (dk_at dksX4_advance_1 13 rfl rfl)
theorem dX4_advance_40 : decode cX4_advance 40 = .ok (.putfield 47, 3) := dk_181 0 47 (dk_at dksX4_advance_1 16 rfl rfl)
theorem dX4_advance_43 : decode cX4_advance 43 = .ok (.aload_n 0, 1) := dk_42 (dk_at dksX4_advance_1 19 rfl rfl)
theorem dX4_advance_44 : decode cX4_advance 44 = .ok (.ldc 31, 2) := dk_18 31 (dk_at dksX4_advance_1 20 rfl rfl)
theorem dX4_advance_46 : decode cX4_advance 46 = .ok (.putfield 33, 3) := dk_181 0 33 (dk_at dksX4_advance_2 0 rfl rfl)
theorem dX4_advance_49 : decode cX4_advance 49 = .ok (.aload_n 0, 1) := dk_42 (dk_at dksX4_advance_2 3 rfl rfl)
theorem dX4_advance_50 : decode cX4_advance 50 = .ok (.getfield 53, 3) := dk_180 0 53 (dk_at dksX4_advance_2 4 rfl rfl)
theorem dX4_advance_53 : decode cX4_advance 53 = .ok (.aload_n 0, 1) := dk_42 (dk_at dksX4_advance_2 7 rfl rfl)
theorem dX4_advance_54 : decode cX4_advance 54 = .ok (.getfield 41, 3) := dk_180 0 41 (dk_at dksX4_advance_2 8 rfl rfl)
theorem dX4_advance_57 : decode cX4_advance 57 = .ok (.if_icmp .ne 13, 3) := dk_160 0 13 (dk_at dksX4_advance_2 11 rfl rfl)
theorem dX4_advance_60 : decode cX4_advance 60 = .ok (.aload_n 0, 1) := dk_42 (dk_at dksX4_advance_2 14 rfl rfl)
theorem dX4_advance_61 : decode cX4_advance 61 = .ok (.getstatic 22, 3) := dk_178 0 22 (dk_at dksX4_advance_2 15 rfl rfl)
theorem dX4_advance_64 : decode cX4_advance 64 = .ok (.putfield 28, 3) := dk_181 0 28 (dk_at dksX4_advance_2 18 rfl rfl)
theorem dX4_advance_67 : decode cX4_advance 67 = .ok (.goto 105, 3) := dk_167 0 105 (dk_at dksX4_advance_2 21 rfl rfl)
theorem dX4_advance_70 : decode cX4_advance 70 = .ok (.aload_n 0, 1) := dk_42 (dk_at dksX4_advance_3 0 rfl rfl)
theorem dX4_advance_71 : decode cX4_advance 71 = .ok (.bipush 97, 2) := dk_16 97 (dk_at dksX4_advance_3 1 rfl rfl)
theorem dX4_advance_73 : decode cX4_advance 73 = .ok (.bipush 122, 2) := dk_16 122 (dk_at dksX4_advance_3 3 rfl rfl)
theorem dX4_advance_75 : decode cX4_advance 75 = .ok (.invokevirtual 60, 3) := dk_182 0 60 (dk_at dksX4_advance_3 5 rfl rfl)
theorem dX4_advance_78 : decode cX4_advance 78 = .ok (.ifCond .eq 10, 3) := dk_153 0 10 (dk_at dksX4_advance_3 8 rfl rfl)
theorem dX4_advance_81 : decode cX4_advance 81 = .ok (.aload_n 0, 1) := dk_42 (dk_at dksX4_advance_3 11 rfl rfl)
theorem dX4_advance_82 : decode cX4_advance 82 = .ok (.invokevirtual 64, 3) := dk_182 0 64 (dk_at dksX4_advance_3 12 rfl rfl)
theorem dX4_advance_85 : decode cX4_advance 85 = .ok (.goto 87, 3) := dk_167 0 87 (dk_at dksX4_advance_3 15 rfl rfl)
theorem dX4_advance_88 : decode cX4_advance 88 = .ok (.aload_n 0, 1) := dk_42 (dk_at dksX4_advance_3 18 rfl rfl)
theorem dX4_advance_89 : decode cX4_advance 89 = .ok (.bipush 48, 2) := dk_16 48 (dk_at dksX4_advance_3 19 rfl rfl)
theorem dX4_advance_91 : decode cX4_advance 91 = .ok (.bipush 57, 2) := dk_16 57 (dk_at dksX4_advance_3 21 rfl rfl)
theorem dX4_advance_93 : decode cX4_advance 93 = .ok (.invokevirtual 60, 3) := dk_182 0 60 (dk_at dksX4_advance_4 0 rfl rfl)
theorem dX4_advance_96 : decode cX4_advance 96 = .ok (.ifCond .eq 10, 3) := dk_153 0 10 (dk_at dksX4_advance_4 3 rfl rfl)
theorem dX4_advance_99 : decode cX4_advance 99 = .ok (.aload_n 0, 1) := dk_42 (dk_at dksX4_advance_4 6 rfl rfl)
theorem dX4_advance_100 : decode cX4_advance 100 = .ok (.invokevirtual 67, 3) := dk_182 0 67 (dk_at dksX4_advance_4 7 rfl rfl)
theorem dX4_advance_103 : decode cX4_advance 103 = .ok (.goto 69, 3) := dk_167 0 69 (dk_at dksX4_advance_4 10 rfl rfl)
theorem dX4_advance_106 : decode cX4_advance 106 = .ok (.aload_n 0, 1) := dk_42 (dk_at dksX4_advance_4 13 rfl rfl)
theorem dX4_advance_107 : decode cX4_advance 107 = .ok (.aload_n 0, 1) := dk_42 (dk_at dksX4_advance_4 14 rfl rfl)
theorem dX4_advance_108 : decode cX4_advance 108 = .ok (.bipush 59, 2) := dk_16 59 (dk_at dksX4_advance_4 15 rfl rfl)
theorem dX4_advance_110 : decode cX4_advance 110 = .ok (.bipush 59, 2) := dk_16 59 (dk_at dksX4_advance_4 17 rfl rfl)
theorem dX4_advance_112 : decode cX4_advance 112 = .ok (.invokevirtual 60, 3) := dk_182 0 60 (dk_at dksX4_advance_4 19 rfl rfl)
theorem dX4_advance_115 : decode cX4_advance 115 = .ok (.ifCond .ne 14, 3) := dk_154 0 14 (dk_at dksX4_advance_5 0 rfl rfl)
theorem dX4_advance_118 : decode cX4_advance 118 = .ok (.aload_n 0, 1) := dk_42 (dk_at dksX4_advance_5 3 rfl rfl)
theorem dX4_advance_119 : decode cX4_advance 119 = .ok (.bipush 45, 2) := dk_16 45 (dk_at dksX4_advance_5 4 rfl rfl)
theorem dX4_advance_121 : decode cX4_advance 121 = .ok (.bipush 45, 2) := dk_16 45 (dk_at dksX4_advance_5 6 rfl rfl)
theorem dX4_advance_123 : decode cX4_advance 123 = .ok (.invokevirtual 60, 3) := dk_182 0 60 (dk_at dksX4_advance_5 8 rfl rfl)
theorem dX4_advance_126 : decode cX4_advance 126 = .ok (.ifCond .eq 7, 3) := dk_153 0 7 (dk_at dksX4_advance_5 11 rfl rfl)
theorem dX4_advance_129 : decode cX4_advance 129 = .ok (.iconst 1, 1) := dk_4 (dk_at dksX4_advance_5 14 rfl rfl)
theorem dX4_advance_130 : decode cX4_advance 130 = .ok (.goto 4, 3) := dk_167 0 4 (dk_at dksX4_advance_5 15 rfl rfl)
theorem dX4_advance_133 : decode cX4_advance 133 = .ok (.iconst 0, 1) := dk_3 (dk_at dksX4_advance_5 18 rfl rfl)
theorem dX4_advance_134 : decode cX4_advance 134 = .ok (.iconst 1, 1) := dk_4 (dk_at dksX4_advance_5 19 rfl rfl)
theorem dX4_advance_135 : decode cX4_advance 135 = .ok (.invokevirtual 70, 3) := dk_182 0 70 (dk_at dksX4_advance_5 20 rfl rfl)
theorem dX4_advance_138 : decode cX4_advance 138 = .ok (.aload_n 0, 1) := dk_42 (dk_at dksX4_advance_5 23 rfl rfl)
theorem dX4_advance_139 : decode cX4_advance 139 = .ok (.aload_n 0, 1) := dk_42 (dk_at dksX4_advance_6 0 rfl rfl)
theorem dX4_advance_140 : decode cX4_advance 140 = .ok (.bipush 45, 2) := dk_16 45 (dk_at dksX4_advance_6 1 rfl rfl)
theorem dX4_advance_142 : decode cX4_advance 142 = .ok (.bipush 45, 2) := dk_16 45 (dk_at dksX4_advance_6 3 rfl rfl)
theorem dX4_advance_144 : decode cX4_advance 144 = .ok (.invokevirtual 60, 3) := dk_182 0 60 (dk_at dksX4_advance_6 5 rfl rfl)
theorem dX4_advance_147 : decode cX4_advance 147 = .ok (.ifCond .eq 9, 3) := dk_153 0 9 (dk_at dksX4_advance_6 8 rfl rfl)
theorem dX4_advance_150 : decode cX4_advance 150 = .ok (.getstatic 74, 3) := dk_178 0 74 (dk_at dksX4_advance_6 11 rfl rfl)
theorem dX4_advance_153 : decode cX4_advance 153 = .ok (.goto 6, 3) := dk_167 0 6 (dk_at dksX4_advance_6 14 rfl rfl)
theorem dX4_advance_156 : decode cX4_advance 156 = .ok (.getstatic 77, 3) := dk_178 0 77 (dk_at dksX4_advance_6 17 rfl rfl)
theorem dX4_advance_159 : decode cX4_advance 159 = .ok (.putfield 28, 3) := dk_181 0 28 (dk_at dksX4_advance_6 20 rfl rfl)
theorem dX4_advance_162 : decode cX4_advance 162 = .ok (.aload_n 0, 1) := dk_42 (dk_at dksX4_advance_6 23 rfl rfl)
theorem dX4_advance_163 : decode cX4_advance 163 = .ok (.dup, 1) := dk_89 (dk_at dksX4_advance_7 0 rfl rfl)
theorem dX4_advance_164 : decode cX4_advance 164 = .ok (.getfield 53, 3) := dk_180 0 53 (dk_at dksX4_advance_7 1 rfl rfl)
theorem dX4_advance_167 : decode cX4_advance 167 = .ok (.iconst 1, 1) := dk_4 (dk_at dksX4_advance_7 4 rfl rfl)
theorem dX4_advance_168 : decode cX4_advance 168 = .ok (.iadd, 1) := dk_96 (dk_at dksX4_advance_7 5 rfl rfl)
theorem dX4_advance_169 : decode cX4_advance 169 = .ok (.putfield 53, 3) := dk_181 0 53 (dk_at dksX4_advance_7 6 rfl rfl)
theorem dX4_advance_172 : decode cX4_advance 172 = .ok (.return_, 1) := dk_177 (dk_at dksX4_advance_7 9 rfl rfl)
abbrev cX4_isNext : ByteArray := prog_6_method_3_code
def yX4_isNext : MethodName := ⟨RX4, "isNext", "(II)Z"⟩
def dkwX4_isNext_1 : List UInt8 := [184, 0, 56, 153, 0, 7, 4, 167, 0, 4, 3, 172]
abbrev dktX4_isNext_1 : List UInt8 := dkwX4_isNext_1 ++ []
def dkwX4_isNext_0 : List UInt8 := [42, 180, 0, 53, 42, 180, 0, 41, 162, 0, 24, 42, 180, 0, 37, 42, 180, 0, 53, 51, 27, 28]
abbrev dktX4_isNext_0 : List UInt8 := dkwX4_isNext_0 ++ dktX4_isNext_1
theorem dksX4_isNext_0 : cX4_isNext.data.toList.drop 0 = dktX4_isNext_0 := by decide +kernel
theorem dksX4_isNext_1 : cX4_isNext.data.toList.drop 22 = dktX4_isNext_1 := dk_seg dksX4_isNext_0 22 rfl rfl
theorem dX4_isNext_0 : decode cX4_isNext 0 = .ok (.aload_n 0, 1) := dk_42 (dk_at dksX4_isNext_0 0 rfl rfl)
theorem dX4_isNext_1 : decode cX4_isNext 1 = .ok (.getfield 53, 3) := dk_180 0 53 (dk_at dksX4_isNext_0 1 rfl rfl)
theorem dX4_isNext_4 : decode cX4_isNext 4 = .ok (.aload_n 0, 1) := dk_42 (dk_at dksX4_isNext_0 4 rfl rfl)
theorem dX4_isNext_5 : decode cX4_isNext 5 = .ok (.getfield 41, 3) := dk_180 0 41 (dk_at dksX4_isNext_0 5 rfl rfl)
theorem dX4_isNext_8 : decode cX4_isNext 8 = .ok (.if_icmp .ge 24, 3) := dk_162 0 24 (dk_at dksX4_isNext_0 8 rfl rfl)
theorem dX4_isNext_11 : decode cX4_isNext 11 = .ok (.aload_n 0, 1) := dk_42 (dk_at dksX4_isNext_0 11 rfl rfl)
theorem dX4_isNext_12 : decode cX4_isNext 12 = .ok (.getfield 37, 3) := dk_180 0 37 (dk_at dksX4_isNext_0 12 rfl rfl)
theorem dX4_isNext_15 : decode cX4_isNext 15 = .ok (.aload_n 0, 1) := dk_42 (dk_at dksX4_isNext_0 15 rfl rfl)
theorem dX4_isNext_16 : decode cX4_isNext 16 = .ok (.getfield 53, 3) := dk_180 0 53 (dk_at dksX4_isNext_0 16 rfl rfl)
theorem dX4_isNext_19 : decode cX4_isNext 19 = .ok (.baload, 1) := dk_51 (dk_at dksX4_isNext_0 19 rfl rfl)
theorem dX4_isNext_20 : decode cX4_isNext 20 = .ok (.iload_n 1, 1) := dk_27 (dk_at dksX4_isNext_0 20 rfl rfl)
theorem dX4_isNext_21 : decode cX4_isNext 21 = .ok (.iload_n 2, 1) := dk_28 (dk_at dksX4_isNext_0 21 rfl rfl)
theorem dX4_isNext_22 : decode cX4_isNext 22 = .ok (.invokestatic 56, 3) := dk_184 0 56 (dk_at dksX4_isNext_1 0 rfl rfl)
theorem dX4_isNext_25 : decode cX4_isNext 25 = .ok (.ifCond .eq 7, 3) := dk_153 0 7 (dk_at dksX4_isNext_1 3 rfl rfl)
theorem dX4_isNext_28 : decode cX4_isNext 28 = .ok (.iconst 1, 1) := dk_4 (dk_at dksX4_isNext_1 6 rfl rfl)
theorem dX4_isNext_29 : decode cX4_isNext 29 = .ok (.goto 4, 3) := dk_167 0 4 (dk_at dksX4_isNext_1 7 rfl rfl)
theorem dX4_isNext_32 : decode cX4_isNext 32 = .ok (.iconst 0, 1) := dk_3 (dk_at dksX4_isNext_1 10 rfl rfl)
theorem dX4_isNext_33 : decode cX4_isNext 33 = .ok (.ireturn, 1) := dk_172 (dk_at dksX4_isNext_1 11 rfl rfl)
abbrev cX4_readWord : ByteArray := prog_6_method_5_code
def yX4_readWord : MethodName := ⟨RX4, "readWord", "()V"⟩
def dkwX4_readWord_3 : List UInt8 := [181, 0, 33, 42, 178, 0, 94, 181, 0, 28, 177]
abbrev dktX4_readWord_3 : List UInt8 := dkwX4_readWord_3 ++ []
def dkwX4_readWord_2 : List UInt8 := [43, 182, 0, 87, 16, 6, 163, 0, 7, 4, 167, 0, 4, 3, 4, 182, 0, 70, 42, 43, 182, 0, 90]
abbrev dktX4_readWord_2 : List UInt8 := dkwX4_readWord_2 ++ dktX4_readWord_3
def dkwX4_readWord_1 : List UInt8 := [42, 180, 0, 53, 51, 146, 182, 0, 83, 87, 42, 89, 180, 0, 53, 4, 96, 181, 0, 53, 167, 255, 220, 42]
abbrev dktX4_readWord_1 : List UInt8 := dkwX4_readWord_1 ++ dktX4_readWord_2
def dkwX4_readWord_0 : List UInt8 := [187, 0, 80, 89, 183, 0, 82, 76, 42, 16, 97, 16, 122, 182, 0, 60, 153, 0, 31, 43, 42, 180, 0, 37]
abbrev dktX4_readWord_0 : List UInt8 := dkwX4_readWord_0 ++ dktX4_readWord_1
theorem dksX4_readWord_0 : cX4_readWord.data.toList.drop 0 = dktX4_readWord_0 := by decide +kernel
theorem dksX4_readWord_1 : cX4_readWord.data.toList.drop 24 = dktX4_readWord_1 := dk_seg dksX4_readWord_0 24 rfl rfl
theorem dksX4_readWord_2 : cX4_readWord.data.toList.drop 48 = dktX4_readWord_2 := dk_seg dksX4_readWord_1 24 rfl rfl
theorem dksX4_readWord_3 : cX4_readWord.data.toList.drop 71 = dktX4_readWord_3 := dk_seg dksX4_readWord_2 23 rfl rfl
theorem dX4_readWord_0 : decode cX4_readWord 0 = .ok (.new 80, 3) := dk_187 0 80 (dk_at dksX4_readWord_0 0 rfl rfl)
theorem dX4_readWord_3 : decode cX4_readWord 3 = .ok (.dup, 1) := dk_89 (dk_at dksX4_readWord_0 3 rfl rfl)
theorem dX4_readWord_4 : decode cX4_readWord 4 = .ok (.invokespecial 82, 3) := dk_183 0 82 (dk_at dksX4_readWord_0 4 rfl rfl)
theorem dX4_readWord_7 : decode cX4_readWord 7 = .ok (.astore_n 1, 1) := dk_76 (dk_at dksX4_readWord_0 7 rfl rfl)
theorem dX4_readWord_8 : decode cX4_readWord 8 = .ok (.aload_n 0, 1) := dk_42 (dk_at dksX4_readWord_0 8 rfl rfl)
theorem dX4_readWord_9 : decode cX4_readWord 9 = .ok (.bipush 97, 2) := dk_16 97 (dk_at dksX4_readWord_0 9 rfl rfl)
theorem dX4_readWord_11 : decode cX4_readWord 11 = .ok (.bipush 122, 2) := dk_16 122 (dk_at dksX4_readWord_0 11 rfl rfl)
theorem dX4_readWord_13 : decode cX4_readWord 13 = .ok (.invokevirtual 60, 3) := dk_182 0 60 (dk_at dksX4_readWord_0 13 rfl rfl)
theorem dX4_readWord_16 : decode cX4_readWord 16 = .ok (.ifCond .eq 31, 3) := dk_153 0 31 (dk_at dksX4_readWord_0 16 rfl rfl)
theorem dX4_readWord_19 : decode cX4_readWord 19 = .ok (.aload_n 1, 1) := dk_43 (dk_at dksX4_readWord_0 19 rfl rfl)
theorem dX4_readWord_20 : decode cX4_readWord 20 = .ok (.aload_n 0, 1) := dk_42 (dk_at dksX4_readWord_0 20 rfl rfl)
theorem dX4_readWord_21 : decode cX4_readWord 21 = .ok (.getfield 37, 3) := dk_180 0 37 (dk_at dksX4_readWord_0 21 rfl rfl)
theorem dX4_readWord_24 : decode cX4_readWord 24 = .ok (.aload_n 0, 1) := dk_42 (dk_at dksX4_readWord_1 0 rfl rfl)
theorem dX4_readWord_25 : decode cX4_readWord 25 = .ok (.getfield 53, 3) := dk_180 0 53 (dk_at dksX4_readWord_1 1 rfl rfl)
theorem dX4_readWord_28 : decode cX4_readWord 28 = .ok (.baload, 1) := dk_51 (dk_at dksX4_readWord_1 4 rfl rfl)
theorem dX4_readWord_29 : decode cX4_readWord 29 = .ok (.i2c, 1) := dk_146 (dk_at dksX4_readWord_1 5 rfl rfl)
theorem dX4_readWord_30 : decode cX4_readWord 30 = .ok (.invokevirtual 83, 3) := dk_182 0 83 (dk_at dksX4_readWord_1 6 rfl rfl)
theorem dX4_readWord_33 : decode cX4_readWord 33 = .ok (.pop, 1) := dk_87 (dk_at dksX4_readWord_1 9 rfl rfl)
theorem dX4_readWord_34 : decode cX4_readWord 34 = .ok (.aload_n 0, 1) := dk_42 (dk_at dksX4_readWord_1 10 rfl rfl)
theorem dX4_readWord_35 : decode cX4_readWord 35 = .ok (.dup, 1) := dk_89 (dk_at dksX4_readWord_1 11 rfl rfl)
theorem dX4_readWord_36 : decode cX4_readWord 36 = .ok (.getfield 53, 3) := dk_180 0 53 (dk_at dksX4_readWord_1 12 rfl rfl)
theorem dX4_readWord_39 : decode cX4_readWord 39 = .ok (.iconst 1, 1) := dk_4 (dk_at dksX4_readWord_1 15 rfl rfl)
theorem dX4_readWord_40 : decode cX4_readWord 40 = .ok (.iadd, 1) := dk_96 (dk_at dksX4_readWord_1 16 rfl rfl)
theorem dX4_readWord_41 : decode cX4_readWord 41 = .ok (.putfield 53, 3) := dk_181 0 53 (dk_at dksX4_readWord_1 17 rfl rfl)
theorem dX4_readWord_44 : decode cX4_readWord 44 = .ok (.goto (-36), 3) := dk_167 255 220 (dk_at dksX4_readWord_1 20 rfl rfl)
theorem dX4_readWord_47 : decode cX4_readWord 47 = .ok (.aload_n 0, 1) := dk_42 (dk_at dksX4_readWord_1 23 rfl rfl)
theorem dX4_readWord_48 : decode cX4_readWord 48 = .ok (.aload_n 1, 1) := dk_43 (dk_at dksX4_readWord_2 0 rfl rfl)
theorem dX4_readWord_49 : decode cX4_readWord 49 = .ok (.invokevirtual 87, 3) := dk_182 0 87 (dk_at dksX4_readWord_2 1 rfl rfl)
theorem dX4_readWord_52 : decode cX4_readWord 52 = .ok (.bipush 6, 2) := dk_16 6 (dk_at dksX4_readWord_2 4 rfl rfl)
theorem dX4_readWord_54 : decode cX4_readWord 54 = .ok (.if_icmp .gt 7, 3) := dk_163 0 7 (dk_at dksX4_readWord_2 6 rfl rfl)
theorem dX4_readWord_57 : decode cX4_readWord 57 = .ok (.iconst 1, 1) := dk_4 (dk_at dksX4_readWord_2 9 rfl rfl)
theorem dX4_readWord_58 : decode cX4_readWord 58 = .ok (.goto 4, 3) := dk_167 0 4 (dk_at dksX4_readWord_2 10 rfl rfl)
theorem dX4_readWord_61 : decode cX4_readWord 61 = .ok (.iconst 0, 1) := dk_3 (dk_at dksX4_readWord_2 13 rfl rfl)
theorem dX4_readWord_62 : decode cX4_readWord 62 = .ok (.iconst 1, 1) := dk_4 (dk_at dksX4_readWord_2 14 rfl rfl)
theorem dX4_readWord_63 : decode cX4_readWord 63 = .ok (.invokevirtual 70, 3) := dk_182 0 70 (dk_at dksX4_readWord_2 15 rfl rfl)
theorem dX4_readWord_66 : decode cX4_readWord 66 = .ok (.aload_n 0, 1) := dk_42 (dk_at dksX4_readWord_2 18 rfl rfl)
theorem dX4_readWord_67 : decode cX4_readWord 67 = .ok (.aload_n 1, 1) := dk_43 (dk_at dksX4_readWord_2 19 rfl rfl)
theorem dX4_readWord_68 : decode cX4_readWord 68 = .ok (.invokevirtual 90, 3) := dk_182 0 90 (dk_at dksX4_readWord_2 20 rfl rfl)
theorem dX4_readWord_71 : decode cX4_readWord 71 = .ok (.putfield 33, 3) := dk_181 0 33 (dk_at dksX4_readWord_3 0 rfl rfl)
theorem dX4_readWord_74 : decode cX4_readWord 74 = .ok (.aload_n 0, 1) := dk_42 (dk_at dksX4_readWord_3 3 rfl rfl)
theorem dX4_readWord_75 : decode cX4_readWord 75 = .ok (.getstatic 94, 3) := dk_178 0 94 (dk_at dksX4_readWord_3 4 rfl rfl)
theorem dX4_readWord_78 : decode cX4_readWord 78 = .ok (.putfield 28, 3) := dk_181 0 28 (dk_at dksX4_readWord_3 7 rfl rfl)
theorem dX4_readWord_81 : decode cX4_readWord 81 = .ok (.return_, 1) := dk_177 (dk_at dksX4_readWord_3 10 rfl rfl)
abbrev cX4_check : ByteArray := prog_6_method_2_code
def yX4_check : MethodName := ⟨RX4, "check", "(ZI)V"⟩
def dkwX4_check_0 : List UInt8 := [27, 154, 0, 16, 187, 0, 45, 89, 28, 42, 180, 0, 47, 183, 0, 50, 191, 177]
abbrev dktX4_check_0 : List UInt8 := dkwX4_check_0 ++ []
theorem dksX4_check_0 : cX4_check.data.toList.drop 0 = dktX4_check_0 := by decide +kernel
theorem dX4_check_0 : decode cX4_check 0 = .ok (.iload_n 1, 1) := dk_27 (dk_at dksX4_check_0 0 rfl rfl)
theorem dX4_check_1 : decode cX4_check 1 = .ok (.ifCond .ne 16, 3) := dk_154 0 16 (dk_at dksX4_check_0 1 rfl rfl)
theorem dX4_check_4 : decode cX4_check 4 = .ok (.new 45, 3) := dk_187 0 45 (dk_at dksX4_check_0 4 rfl rfl)
theorem dX4_check_7 : decode cX4_check 7 = .ok (.dup, 1) := dk_89 (dk_at dksX4_check_0 7 rfl rfl)
theorem dX4_check_8 : decode cX4_check 8 = .ok (.iload_n 2, 1) := dk_28 (dk_at dksX4_check_0 8 rfl rfl)
theorem dX4_check_9 : decode cX4_check 9 = .ok (.aload_n 0, 1) := dk_42 (dk_at dksX4_check_0 9 rfl rfl)
theorem dX4_check_10 : decode cX4_check 10 = .ok (.getfield 47, 3) := dk_180 0 47 (dk_at dksX4_check_0 10 rfl rfl)
theorem dX4_check_13 : decode cX4_check 13 = .ok (.invokespecial 50, 3) := dk_183 0 50 (dk_at dksX4_check_0 13 rfl rfl)
theorem dX4_check_16 : decode cX4_check 16 = .ok (.athrow, 1) := dk_191 (dk_at dksX4_check_0 16 rfl rfl)
theorem dX4_check_17 : decode cX4_check 17 = .ok (.return_, 1) := dk_177 (dk_at dksX4_check_0 17 rfl rfl)
abbrev cX4_readNumber : ByteArray := prog_6_method_6_code
def yX4_readNumber : MethodName := ⟨RX4, "readNumber", "()V"⟩
def dkwX4_readNumber_4 : List UInt8 := [181, 0, 28, 177]
abbrev dktX4_readNumber_4 : List UInt8 := dkwX4_readNumber_4 ++ []
def dkwX4_readNumber_3 : List UInt8 := [42, 180, 0, 47, 100, 7, 163, 0, 7, 4, 167, 0, 4, 3, 4, 182, 0, 70, 42, 178, 0, 100]
abbrev dktX4_readNumber_3 : List UInt8 := dkwX4_readNumber_3 ++ dktX4_readNumber_4
def dkwX4_readNumber_2 : List UInt8 := [16, 48, 100, 181, 0, 97, 42, 89, 180, 0, 53, 4, 96, 181, 0, 53, 167, 255, 198, 42, 42, 180, 0, 53]
abbrev dktX4_readNumber_2 : List UInt8 := dkwX4_readNumber_2 ++ dktX4_readNumber_3
def dkwX4_readNumber_1 : List UInt8 := [100, 7, 162, 0, 27, 42, 16, 10, 42, 180, 0, 97, 104, 42, 180, 0, 37, 42, 180, 0, 53, 51, 96]
abbrev dktX4_readNumber_1 : List UInt8 := dkwX4_readNumber_1 ++ dktX4_readNumber_2
def dkwX4_readNumber_0 : List UInt8 := [42, 3, 181, 0, 97, 42, 16, 48, 16, 57, 182, 0, 60, 153, 0, 53, 42, 180, 0, 53, 42, 180, 0, 47]
abbrev dktX4_readNumber_0 : List UInt8 := dkwX4_readNumber_0 ++ dktX4_readNumber_1
theorem dksX4_readNumber_0 : cX4_readNumber.data.toList.drop 0 = dktX4_readNumber_0 := by decide +kernel
theorem dksX4_readNumber_1 : cX4_readNumber.data.toList.drop 24 = dktX4_readNumber_1 := dk_seg dksX4_readNumber_0 24 rfl rfl
theorem dksX4_readNumber_2 : cX4_readNumber.data.toList.drop 47 = dktX4_readNumber_2 := dk_seg dksX4_readNumber_1 23 rfl rfl
theorem dksX4_readNumber_3 : cX4_readNumber.data.toList.drop 71 = dktX4_readNumber_3 := dk_seg dksX4_readNumber_2 24 rfl rfl
theorem dksX4_readNumber_4 : cX4_readNumber.data.toList.drop 93 = dktX4_readNumber_4 := dk_seg dksX4_readNumber_3 22 rfl rfl
theorem dX4_readNumber_0 : decode cX4_readNumber 0 = .ok (.aload_n 0, 1) := dk_42 (dk_at dksX4_readNumber_0 0 rfl rfl)
theorem dX4_readNumber_1 : decode cX4_readNumber 1 = .ok (.iconst 0, 1) := dk_3 (dk_at dksX4_readNumber_0 1 rfl rfl)
theorem dX4_readNumber_2 : decode cX4_readNumber 2 = .ok (.putfield 97, 3) := dk_181 0 97 (dk_at dksX4_readNumber_0 2 rfl rfl)
theorem dX4_readNumber_5 : decode cX4_readNumber 5 = .ok (.aload_n 0, 1) := dk_42 (dk_at dksX4_readNumber_0 5 rfl rfl)
theorem dX4_readNumber_6 : decode cX4_readNumber 6 = .ok (.bipush 48, 2) := dk_16 48 (dk_at dksX4_readNumber_0 6 rfl rfl)
theorem dX4_readNumber_8 : decode cX4_readNumber 8 = .ok (.bipush 57, 2) := dk_16 57 (dk_at dksX4_readNumber_0 8 rfl rfl)
theorem dX4_readNumber_10 : decode cX4_readNumber 10 = .ok (.invokevirtual 60, 3) := dk_182 0 60 (dk_at dksX4_readNumber_0 10 rfl rfl)
theorem dX4_readNumber_13 : decode cX4_readNumber 13 = .ok (.ifCond .eq 53, 3) := dk_153 0 53 (dk_at dksX4_readNumber_0 13 rfl rfl)
theorem dX4_readNumber_16 : decode cX4_readNumber 16 = .ok (.aload_n 0, 1) := dk_42 (dk_at dksX4_readNumber_0 16 rfl rfl)
theorem dX4_readNumber_17 : decode cX4_readNumber 17 = .ok (.getfield 53, 3) := dk_180 0 53 (dk_at dksX4_readNumber_0 17 rfl rfl)
theorem dX4_readNumber_20 : decode cX4_readNumber 20 = .ok (.aload_n 0, 1) := dk_42 (dk_at dksX4_readNumber_0 20 rfl rfl)
theorem dX4_readNumber_21 : decode cX4_readNumber 21 = .ok (.getfield 47, 3) := dk_180 0 47 (dk_at dksX4_readNumber_0 21 rfl rfl)
theorem dX4_readNumber_24 : decode cX4_readNumber 24 = .ok (.isub, 1) := dk_100 (dk_at dksX4_readNumber_1 0 rfl rfl)
theorem dX4_readNumber_25 : decode cX4_readNumber 25 = .ok (.iconst 4, 1) := dk_7 (dk_at dksX4_readNumber_1 1 rfl rfl)
theorem dX4_readNumber_26 : decode cX4_readNumber 26 = .ok (.if_icmp .ge 27, 3) := dk_162 0 27 (dk_at dksX4_readNumber_1 2 rfl rfl)
theorem dX4_readNumber_29 : decode cX4_readNumber 29 = .ok (.aload_n 0, 1) := dk_42 (dk_at dksX4_readNumber_1 5 rfl rfl)
theorem dX4_readNumber_30 : decode cX4_readNumber 30 = .ok (.bipush 10, 2) := dk_16 10 (dk_at dksX4_readNumber_1 6 rfl rfl)
theorem dX4_readNumber_32 : decode cX4_readNumber 32 = .ok (.aload_n 0, 1) := dk_42 (dk_at dksX4_readNumber_1 8 rfl rfl)
theorem dX4_readNumber_33 : decode cX4_readNumber 33 = .ok (.getfield 97, 3) := dk_180 0 97 (dk_at dksX4_readNumber_1 9 rfl rfl)
theorem dX4_readNumber_36 : decode cX4_readNumber 36 = .ok (.imul, 1) := dk_104 (dk_at dksX4_readNumber_1 12 rfl rfl)
theorem dX4_readNumber_37 : decode cX4_readNumber 37 = .ok (.aload_n 0, 1) := dk_42 (dk_at dksX4_readNumber_1 13 rfl rfl)
theorem dX4_readNumber_38 : decode cX4_readNumber 38 = .ok (.getfield 37, 3) := dk_180 0 37 (dk_at dksX4_readNumber_1 14 rfl rfl)
theorem dX4_readNumber_41 : decode cX4_readNumber 41 = .ok (.aload_n 0, 1) := dk_42 (dk_at dksX4_readNumber_1 17 rfl rfl)
theorem dX4_readNumber_42 : decode cX4_readNumber 42 = .ok (.getfield 53, 3) := dk_180 0 53 (dk_at dksX4_readNumber_1 18 rfl rfl)
theorem dX4_readNumber_45 : decode cX4_readNumber 45 = .ok (.baload, 1) := dk_51 (dk_at dksX4_readNumber_1 21 rfl rfl)
theorem dX4_readNumber_46 : decode cX4_readNumber 46 = .ok (.iadd, 1) := dk_96 (dk_at dksX4_readNumber_1 22 rfl rfl)
theorem dX4_readNumber_47 : decode cX4_readNumber 47 = .ok (.bipush 48, 2) := dk_16 48 (dk_at dksX4_readNumber_2 0 rfl rfl)
theorem dX4_readNumber_49 : decode cX4_readNumber 49 = .ok (.isub, 1) := dk_100 (dk_at dksX4_readNumber_2 2 rfl rfl)
theorem dX4_readNumber_50 : decode cX4_readNumber 50 = .ok (.putfield 97, 3) := dk_181 0 97 (dk_at dksX4_readNumber_2 3 rfl rfl)
theorem dX4_readNumber_53 : decode cX4_readNumber 53 = .ok (.aload_n 0, 1) := dk_42 (dk_at dksX4_readNumber_2 6 rfl rfl)
theorem dX4_readNumber_54 : decode cX4_readNumber 54 = .ok (.dup, 1) := dk_89 (dk_at dksX4_readNumber_2 7 rfl rfl)
theorem dX4_readNumber_55 : decode cX4_readNumber 55 = .ok (.getfield 53, 3) := dk_180 0 53 (dk_at dksX4_readNumber_2 8 rfl rfl)
theorem dX4_readNumber_58 : decode cX4_readNumber 58 = .ok (.iconst 1, 1) := dk_4 (dk_at dksX4_readNumber_2 11 rfl rfl)
theorem dX4_readNumber_59 : decode cX4_readNumber 59 = .ok (.iadd, 1) := dk_96 (dk_at dksX4_readNumber_2 12 rfl rfl)
theorem dX4_readNumber_60 : decode cX4_readNumber 60 = .ok (.putfield 53, 3) := dk_181 0 53 (dk_at dksX4_readNumber_2 13 rfl rfl)
theorem dX4_readNumber_63 : decode cX4_readNumber 63 = .ok (.goto (-58), 3) := dk_167 255 198 (dk_at dksX4_readNumber_2 16 rfl rfl)
theorem dX4_readNumber_66 : decode cX4_readNumber 66 = .ok (.aload_n 0, 1) := dk_42 (dk_at dksX4_readNumber_2 19 rfl rfl)
theorem dX4_readNumber_67 : decode cX4_readNumber 67 = .ok (.aload_n 0, 1) := dk_42 (dk_at dksX4_readNumber_2 20 rfl rfl)
theorem dX4_readNumber_68 : decode cX4_readNumber 68 = .ok (.getfield 53, 3) := dk_180 0 53 (dk_at dksX4_readNumber_2 21 rfl rfl)
theorem dX4_readNumber_71 : decode cX4_readNumber 71 = .ok (.aload_n 0, 1) := dk_42 (dk_at dksX4_readNumber_3 0 rfl rfl)
theorem dX4_readNumber_72 : decode cX4_readNumber 72 = .ok (.getfield 47, 3) := dk_180 0 47 (dk_at dksX4_readNumber_3 1 rfl rfl)
theorem dX4_readNumber_75 : decode cX4_readNumber 75 = .ok (.isub, 1) := dk_100 (dk_at dksX4_readNumber_3 4 rfl rfl)
theorem dX4_readNumber_76 : decode cX4_readNumber 76 = .ok (.iconst 4, 1) := dk_7 (dk_at dksX4_readNumber_3 5 rfl rfl)
theorem dX4_readNumber_77 : decode cX4_readNumber 77 = .ok (.if_icmp .gt 7, 3) := dk_163 0 7 (dk_at dksX4_readNumber_3 6 rfl rfl)
theorem dX4_readNumber_80 : decode cX4_readNumber 80 = .ok (.iconst 1, 1) := dk_4 (dk_at dksX4_readNumber_3 9 rfl rfl)
theorem dX4_readNumber_81 : decode cX4_readNumber 81 = .ok (.goto 4, 3) := dk_167 0 4 (dk_at dksX4_readNumber_3 10 rfl rfl)
theorem dX4_readNumber_84 : decode cX4_readNumber 84 = .ok (.iconst 0, 1) := dk_3 (dk_at dksX4_readNumber_3 13 rfl rfl)
theorem dX4_readNumber_85 : decode cX4_readNumber 85 = .ok (.iconst 1, 1) := dk_4 (dk_at dksX4_readNumber_3 14 rfl rfl)
theorem dX4_readNumber_86 : decode cX4_readNumber 86 = .ok (.invokevirtual 70, 3) := dk_182 0 70 (dk_at dksX4_readNumber_3 15 rfl rfl)
theorem dX4_readNumber_89 : decode cX4_readNumber 89 = .ok (.aload_n 0, 1) := dk_42 (dk_at dksX4_readNumber_3 18 rfl rfl)
theorem dX4_readNumber_90 : decode cX4_readNumber 90 = .ok (.getstatic 100, 3) := dk_178 0 100 (dk_at dksX4_readNumber_3 19 rfl rfl)
theorem dX4_readNumber_93 : decode cX4_readNumber 93 = .ok (.putfield 28, 3) := dk_181 0 28 (dk_at dksX4_readNumber_4 0 rfl rfl)
theorem dX4_readNumber_96 : decode cX4_readNumber 96 = .ok (.return_, 1) := dk_177 (dk_at dksX4_readNumber_4 3 rfl rfl)
abbrev cX4_parseRecording : ByteArray := prog_6_method_8_code
def yX4_parseRecording : MethodName := ⟨RX4, "parseRecording", "()V"⟩
def dkwX4_parseRecording_7 : List UInt8 := [42, 180, 0, 12, 187, 0, 146, 89, 43, 44, 183, 0, 148, 182, 0, 151, 87, 177]
abbrev dktX4_parseRecording_7 : List UInt8 := dkwX4_parseRecording_7 ++ []
def dkwX4_parseRecording_6 : List UInt8 := [182, 0, 70, 42, 180, 0, 130, 188, 10, 77, 42, 180, 0, 18, 3, 44, 3, 42, 180, 0, 130, 184, 0, 140]
abbrev dktX4_parseRecording_6 : List UInt8 := dkwX4_parseRecording_6 ++ dktX4_parseRecording_7
def dkwX4_parseRecording_5 : List UInt8 := [165, 0, 14, 42, 182, 0, 133, 42, 182, 0, 103, 167, 255, 230, 42, 42, 180, 0, 130, 184, 0, 136, 5]
abbrev dktX4_parseRecording_5 : List UInt8 := dkwX4_parseRecording_5 ++ dktX4_parseRecording_6
def dkwX4_parseRecording_4 : List UInt8 := [181, 0, 130, 42, 182, 0, 103, 42, 180, 0, 130, 5, 161, 0, 13, 42, 180, 0, 28, 178, 0, 77]
abbrev dktX4_parseRecording_4 : List UInt8 := dkwX4_parseRecording_4 ++ dktX4_parseRecording_5
def dkwX4_parseRecording_3 : List UInt8 := [42, 42, 180, 0, 12, 43, 182, 0, 126, 154, 0, 7, 4, 167, 0, 4, 3, 6, 182, 0, 70, 42, 3]
abbrev dktX4_parseRecording_3 : List UInt8 := dkwX4_parseRecording_3 ++ dktX4_parseRecording_4
def dkwX4_parseRecording_2 : List UInt8 := [166, 0, 7, 4, 167, 0, 4, 3, 4, 182, 0, 70, 187, 0, 121, 89, 42, 180, 0, 33, 183, 0, 123, 76]
abbrev dktX4_parseRecording_2 : List UInt8 := dkwX4_parseRecording_2 ++ dktX4_parseRecording_3
def dkwX4_parseRecording_1 : List UInt8 := [154, 0, 7, 4, 167, 0, 4, 3, 7, 182, 0, 70, 42, 182, 0, 103, 42, 42, 180, 0, 28, 178, 0, 94]
abbrev dktX4_parseRecording_1 : List UInt8 := dkwX4_parseRecording_1 ++ dktX4_parseRecording_2
def dkwX4_parseRecording_0 : List UInt8 := [42, 42, 180, 0, 33, 18, 109, 182, 0, 111, 4, 182, 0, 70, 42, 42, 180, 0, 12, 182, 0, 117]
abbrev dktX4_parseRecording_0 : List UInt8 := dkwX4_parseRecording_0 ++ dktX4_parseRecording_1
theorem dksX4_parseRecording_0 : cX4_parseRecording.data.toList.drop 0 = dktX4_parseRecording_0 := by decide +kernel
theorem dksX4_parseRecording_1 : cX4_parseRecording.data.toList.drop 22 = dktX4_parseRecording_1 := dk_seg dksX4_parseRecording_0 22 rfl rfl
theorem dksX4_parseRecording_2 : cX4_parseRecording.data.toList.drop 46 = dktX4_parseRecording_2 := dk_seg dksX4_parseRecording_1 24 rfl rfl
theorem dksX4_parseRecording_3 : cX4_parseRecording.data.toList.drop 70 = dktX4_parseRecording_3 := dk_seg dksX4_parseRecording_2 24 rfl rfl
theorem dksX4_parseRecording_4 : cX4_parseRecording.data.toList.drop 93 = dktX4_parseRecording_4 := dk_seg dksX4_parseRecording_3 23 rfl rfl
theorem dksX4_parseRecording_5 : cX4_parseRecording.data.toList.drop 115 = dktX4_parseRecording_5 := dk_seg dksX4_parseRecording_4 22 rfl rfl
theorem dksX4_parseRecording_6 : cX4_parseRecording.data.toList.drop 138 = dktX4_parseRecording_6 := dk_seg dksX4_parseRecording_5 23 rfl rfl
theorem dksX4_parseRecording_7 : cX4_parseRecording.data.toList.drop 162 = dktX4_parseRecording_7 := dk_seg dksX4_parseRecording_6 24 rfl rfl
theorem dX4_parseRecording_0 : decode cX4_parseRecording 0 = .ok (.aload_n 0, 1) := dk_42 (dk_at dksX4_parseRecording_0 0 rfl rfl)
theorem dX4_parseRecording_1 : decode cX4_parseRecording 1 = .ok (.aload_n 0, 1) := dk_42 (dk_at dksX4_parseRecording_0 1 rfl rfl)
theorem dX4_parseRecording_2 : decode cX4_parseRecording 2 = .ok (.getfield 33, 3) := dk_180 0 33 (dk_at dksX4_parseRecording_0 2 rfl rfl)
theorem dX4_parseRecording_5 : decode cX4_parseRecording 5 = .ok (.ldc 109, 2) := dk_18 109 (dk_at dksX4_parseRecording_0 5 rfl rfl)
theorem dX4_parseRecording_7 : decode cX4_parseRecording 7 = .ok (.invokevirtual 111, 3) := dk_182 0 111 (dk_at dksX4_parseRecording_0 7 rfl rfl)
theorem dX4_parseRecording_10 : decode cX4_parseRecording 10 = .ok (.iconst 1, 1) := dk_4 (dk_at dksX4_parseRecording_0 10 rfl rfl)
theorem dX4_parseRecording_11 : decode cX4_parseRecording 11 = .ok (.invokevirtual 70, 3) := dk_182 0 70 (dk_at dksX4_parseRecording_0 11 rfl rfl)
theorem dX4_parseRecording_14 : decode cX4_parseRecording 14 = .ok (.aload_n 0, 1) := dk_42 (dk_at dksX4_parseRecording_0 14 rfl rfl)
theorem dX4_parseRecording_15 : decode cX4_parseRecording 15 = .ok (.aload_n 0, 1) := dk_42 (dk_at dksX4_parseRecording_0 15 rfl rfl)
theorem dX4_parseRecording_16 : decode cX4_parseRecording 16 = .ok (.getfield 12, 3) := dk_180 0 12 (dk_at dksX4_parseRecording_0 16 rfl rfl)
theorem dX4_parseRecording_19 : decode cX4_parseRecording 19 = .ok (.invokevirtual 117, 3) := dk_182 0 117 (dk_at dksX4_parseRecording_0 19 rfl rfl)
theorem dX4_parseRecording_22 : decode cX4_parseRecording 22 = .ok (.ifCond .ne 7, 3) := dk_154 0 7 (dk_at dksX4_parseRecording_1 0 rfl rfl)
theorem dX4_parseRecording_25 : decode cX4_parseRecording 25 = .ok (.iconst 1, 1) := dk_4 (dk_at dksX4_parseRecording_1 3 rfl rfl)
theorem dX4_parseRecording_26 : decode cX4_parseRecording 26 = .ok (.goto 4, 3) := dk_167 0 4 (dk_at dksX4_parseRecording_1 4 rfl rfl)
theorem dX4_parseRecording_29 : decode cX4_parseRecording 29 = .ok (.iconst 0, 1) := dk_3 (dk_at dksX4_parseRecording_1 7 rfl rfl)
theorem dX4_parseRecording_30 : decode cX4_parseRecording 30 = .ok (.iconst 4, 1) := dk_7 (dk_at dksX4_parseRecording_1 8 rfl rfl)
theorem dX4_parseRecording_31 : decode cX4_parseRecording 31 = .ok (.invokevirtual 70, 3) := dk_182 0 70 (dk_at dksX4_parseRecording_1 9 rfl rfl)
theorem dX4_parseRecording_34 : decode cX4_parseRecording 34 = .ok (.aload_n 0, 1) := dk_42 (dk_at dksX4_parseRecording_1 12 rfl rfl)
theorem dX4_parseRecording_35 : decode cX4_parseRecording 35 = .ok (.invokevirtual 103, 3) := dk_182 0 103 (dk_at dksX4_parseRecording_1 13 rfl rfl)
theorem dX4_parseRecording_38 : decode cX4_parseRecording 38 = .ok (.aload_n 0, 1) := dk_42 (dk_at dksX4_parseRecording_1 16 rfl rfl)
theorem dX4_parseRecording_39 : decode cX4_parseRecording 39 = .ok (.aload_n 0, 1) := dk_42 (dk_at dksX4_parseRecording_1 17 rfl rfl)
theorem dX4_parseRecording_40 : decode cX4_parseRecording 40 = .ok (.getfield 28, 3) := dk_180 0 28 (dk_at dksX4_parseRecording_1 18 rfl rfl)
theorem dX4_parseRecording_43 : decode cX4_parseRecording 43 = .ok (.getstatic 94, 3) := dk_178 0 94 (dk_at dksX4_parseRecording_1 21 rfl rfl)
theorem dX4_parseRecording_46 : decode cX4_parseRecording 46 = .ok (.if_acmp .ne 7, 3) := dk_166 0 7 (dk_at dksX4_parseRecording_2 0 rfl rfl)
theorem dX4_parseRecording_49 : decode cX4_parseRecording 49 = .ok (.iconst 1, 1) := dk_4 (dk_at dksX4_parseRecording_2 3 rfl rfl)
theorem dX4_parseRecording_50 : decode cX4_parseRecording 50 = .ok (.goto 4, 3) := dk_167 0 4 (dk_at dksX4_parseRecording_2 4 rfl rfl)
theorem dX4_parseRecording_53 : decode cX4_parseRecording 53 = .ok (.iconst 0, 1) := dk_3 (dk_at dksX4_parseRecording_2 7 rfl rfl)
theorem dX4_parseRecording_54 : decode cX4_parseRecording 54 = .ok (.iconst 1, 1) := dk_4 (dk_at dksX4_parseRecording_2 8 rfl rfl)
theorem dX4_parseRecording_55 : decode cX4_parseRecording 55 = .ok (.invokevirtual 70, 3) := dk_182 0 70 (dk_at dksX4_parseRecording_2 9 rfl rfl)
theorem dX4_parseRecording_58 : decode cX4_parseRecording 58 = .ok (.new 121, 3) := dk_187 0 121 (dk_at dksX4_parseRecording_2 12 rfl rfl)
theorem dX4_parseRecording_61 : decode cX4_parseRecording 61 = .ok (.dup, 1) := dk_89 (dk_at dksX4_parseRecording_2 15 rfl rfl)
theorem dX4_parseRecording_62 : decode cX4_parseRecording 62 = .ok (.aload_n 0, 1) := dk_42 (dk_at dksX4_parseRecording_2 16 rfl rfl)
theorem dX4_parseRecording_63 : decode cX4_parseRecording 63 = .ok (.getfield 33, 3) := dk_180 0 33 (dk_at dksX4_parseRecording_2 17 rfl rfl)
theorem dX4_parseRecording_66 : decode cX4_parseRecording 66 = .ok (.invokespecial 123, 3) := dk_183 0 123 (dk_at dksX4_parseRecording_2 20 rfl rfl)
theorem dX4_parseRecording_69 : decode cX4_parseRecording 69 = .ok (.astore_n 1, 1) := dk_76 (dk_at dksX4_parseRecording_2 23 rfl rfl)
theorem dX4_parseRecording_70 : decode cX4_parseRecording 70 = .ok (.aload_n 0, 1) := dk_42 (dk_at dksX4_parseRecording_3 0 rfl rfl)
theorem dX4_parseRecording_71 : decode cX4_parseRecording 71 = .ok (.aload_n 0, 1) := dk_42 (dk_at dksX4_parseRecording_3 1 rfl rfl)
theorem dX4_parseRecording_72 : decode cX4_parseRecording 72 = .ok (.getfield 12, 3) := dk_180 0 12 (dk_at dksX4_parseRecording_3 2 rfl rfl)
theorem dX4_parseRecording_75 : decode cX4_parseRecording 75 = .ok (.aload_n 1, 1) := dk_43 (dk_at dksX4_parseRecording_3 5 rfl rfl)
theorem dX4_parseRecording_76 : decode cX4_parseRecording 76 = .ok (.invokevirtual 126, 3) := dk_182 0 126 (dk_at dksX4_parseRecording_3 6 rfl rfl)
theorem dX4_parseRecording_79 : decode cX4_parseRecording 79 = .ok (.ifCond .ne 7, 3) := dk_154 0 7 (dk_at dksX4_parseRecording_3 9 rfl rfl)
theorem dX4_parseRecording_82 : decode cX4_parseRecording 82 = .ok (.iconst 1, 1) := dk_4 (dk_at dksX4_parseRecording_3 12 rfl rfl)
theorem dX4_parseRecording_83 : decode cX4_parseRecording 83 = .ok (.goto 4, 3) := dk_167 0 4 (dk_at dksX4_parseRecording_3 13 rfl rfl)
theorem dX4_parseRecording_86 : decode cX4_parseRecording 86 = .ok (.iconst 0, 1) := dk_3 (dk_at dksX4_parseRecording_3 16 rfl rfl)
theorem dX4_parseRecording_87 : decode cX4_parseRecording 87 = .ok (.iconst 3, 1) := dk_6 (dk_at dksX4_parseRecording_3 17 rfl rfl)
theorem dX4_parseRecording_88 : decode cX4_parseRecording 88 = .ok (.invokevirtual 70, 3) := dk_182 0 70 (dk_at dksX4_parseRecording_3 18 rfl rfl)
theorem dX4_parseRecording_91 : decode cX4_parseRecording 91 = .ok (.aload_n 0, 1) := dk_42 (dk_at dksX4_parseRecording_3 21 rfl rfl)
theorem dX4_parseRecording_92 : decode cX4_parseRecording 92 = .ok (.iconst 0, 1) := dk_3 (dk_at dksX4_parseRecording_3 22 rfl rfl)
theorem dX4_parseRecording_93 : decode cX4_parseRecording 93 = .ok (.putfield 130, 3) := dk_181 0 130 (dk_at dksX4_parseRecording_4 0 rfl rfl)
theorem dX4_parseRecording_96 : decode cX4_parseRecording 96 = .ok (.aload_n 0, 1) := dk_42 (dk_at dksX4_parseRecording_4 3 rfl rfl)
theorem dX4_parseRecording_97 : decode cX4_parseRecording 97 = .ok (.invokevirtual 103, 3) := dk_182 0 103 (dk_at dksX4_parseRecording_4 4 rfl rfl)
theorem dX4_parseRecording_100 : decode cX4_parseRecording 100 = .ok (.aload_n 0, 1) := dk_42 (dk_at dksX4_parseRecording_4 7 rfl rfl)
theorem dX4_parseRecording_101 : decode cX4_parseRecording 101 = .ok (.getfield 130, 3) := dk_180 0 130 (dk_at dksX4_parseRecording_4 8 rfl rfl)
theorem dX4_parseRecording_104 : decode cX4_parseRecording 104 = .ok (.iconst 2, 1) := dk_5 (dk_at dksX4_parseRecording_4 11 rfl rfl)
theorem dX4_parseRecording_105 : decode cX4_parseRecording 105 = .ok (.if_icmp .lt 13, 3) := dk_161 0 13 (dk_at dksX4_parseRecording_4 12 rfl rfl)
theorem dX4_parseRecording_108 : decode cX4_parseRecording 108 = .ok (.aload_n 0, 1) := dk_42 (dk_at dksX4_parseRecording_4 15 rfl rfl)
theorem dX4_parseRecording_109 : decode cX4_parseRecording 109 = .ok (.getfield 28, 3) := dk_180 0 28 (dk_at dksX4_parseRecording_4 16 rfl rfl)
theorem dX4_parseRecording_112 : decode cX4_parseRecording 112 = .ok (.getstatic 77, 3) := dk_178 0 77 (dk_at dksX4_parseRecording_4 19 rfl rfl)
theorem dX4_parseRecording_115 : decode cX4_parseRecording 115 = .ok (.if_acmp .eq 14, 3) := dk_165 0 14 (dk_at dksX4_parseRecording_5 0 rfl rfl)
theorem dX4_parseRecording_118 : decode cX4_parseRecording 118 = .ok (.aload_n 0, 1) := dk_42 (dk_at dksX4_parseRecording_5 3 rfl rfl)
theorem dX4_parseRecording_119 : decode cX4_parseRecording 119 = .ok (.invokevirtual 133, 3) := dk_182 0 133 (dk_at dksX4_parseRecording_5 4 rfl rfl)
theorem dX4_parseRecording_122 : decode cX4_parseRecording 122 = .ok (.aload_n 0, 1) := dk_42 (dk_at dksX4_parseRecording_5 7 rfl rfl)
theorem dX4_parseRecording_123 : decode cX4_parseRecording 123 = .ok (.invokevirtual 103, 3) := dk_182 0 103 (dk_at dksX4_parseRecording_5 8 rfl rfl)
theorem dX4_parseRecording_126 : decode cX4_parseRecording 126 = .ok (.goto (-26), 3) := dk_167 255 230 (dk_at dksX4_parseRecording_5 11 rfl rfl)
theorem dX4_parseRecording_129 : decode cX4_parseRecording 129 = .ok (.aload_n 0, 1) := dk_42 (dk_at dksX4_parseRecording_5 14 rfl rfl)
theorem dX4_parseRecording_130 : decode cX4_parseRecording 130 = .ok (.aload_n 0, 1) := dk_42 (dk_at dksX4_parseRecording_5 15 rfl rfl)
theorem dX4_parseRecording_131 : decode cX4_parseRecording 131 = .ok (.getfield 130, 3) := dk_180 0 130 (dk_at dksX4_parseRecording_5 16 rfl rfl)
theorem dX4_parseRecording_134 : decode cX4_parseRecording 134 = .ok (.invokestatic 136, 3) := dk_184 0 136 (dk_at dksX4_parseRecording_5 19 rfl rfl)
theorem dX4_parseRecording_137 : decode cX4_parseRecording 137 = .ok (.iconst 2, 1) := dk_5 (dk_at dksX4_parseRecording_5 22 rfl rfl)
theorem dX4_parseRecording_138 : decode cX4_parseRecording 138 = .ok (.invokevirtual 70, 3) := dk_182 0 70 (dk_at dksX4_parseRecording_6 0 rfl rfl)
theorem dX4_parseRecording_141 : decode cX4_parseRecording 141 = .ok (.aload_n 0, 1) := dk_42 (dk_at dksX4_parseRecording_6 3 rfl rfl)
theorem dX4_parseRecording_142 : decode cX4_parseRecording 142 = .ok (.getfield 130, 3) := dk_180 0 130 (dk_at dksX4_parseRecording_6 4 rfl rfl)
theorem dX4_parseRecording_145 : decode cX4_parseRecording 145 = .ok (.newarray .int, 2) := dk_188_10 (dk_at dksX4_parseRecording_6 7 rfl rfl)
theorem dX4_parseRecording_147 : decode cX4_parseRecording 147 = .ok (.astore_n 2, 1) := dk_77 (dk_at dksX4_parseRecording_6 9 rfl rfl)
theorem dX4_parseRecording_148 : decode cX4_parseRecording 148 = .ok (.aload_n 0, 1) := dk_42 (dk_at dksX4_parseRecording_6 10 rfl rfl)
theorem dX4_parseRecording_149 : decode cX4_parseRecording 149 = .ok (.getfield 18, 3) := dk_180 0 18 (dk_at dksX4_parseRecording_6 11 rfl rfl)
theorem dX4_parseRecording_152 : decode cX4_parseRecording 152 = .ok (.iconst 0, 1) := dk_3 (dk_at dksX4_parseRecording_6 14 rfl rfl)
theorem dX4_parseRecording_153 : decode cX4_parseRecording 153 = .ok (.aload_n 2, 1) := dk_44 (dk_at dksX4_parseRecording_6 15 rfl rfl)
theorem dX4_parseRecording_154 : decode cX4_parseRecording 154 = .ok (.iconst 0, 1) := dk_3 (dk_at dksX4_parseRecording_6 16 rfl rfl)
theorem dX4_parseRecording_155 : decode cX4_parseRecording 155 = .ok (.aload_n 0, 1) := dk_42 (dk_at dksX4_parseRecording_6 17 rfl rfl)
theorem dX4_parseRecording_156 : decode cX4_parseRecording 156 = .ok (.getfield 130, 3) := dk_180 0 130 (dk_at dksX4_parseRecording_6 18 rfl rfl)
theorem dX4_parseRecording_159 : decode cX4_parseRecording 159 = .ok (.invokestatic 140, 3) := dk_184 0 140 (dk_at dksX4_parseRecording_6 21 rfl rfl)
theorem dX4_parseRecording_162 : decode cX4_parseRecording 162 = .ok (.aload_n 0, 1) := dk_42 (dk_at dksX4_parseRecording_7 0 rfl rfl)
theorem dX4_parseRecording_163 : decode cX4_parseRecording 163 = .ok (.getfield 12, 3) := dk_180 0 12 (dk_at dksX4_parseRecording_7 1 rfl rfl)
theorem dX4_parseRecording_166 : decode cX4_parseRecording 166 = .ok (.new 146, 3) := dk_187 0 146 (dk_at dksX4_parseRecording_7 4 rfl rfl)
theorem dX4_parseRecording_169 : decode cX4_parseRecording 169 = .ok (.dup, 1) := dk_89 (dk_at dksX4_parseRecording_7 7 rfl rfl)
theorem dX4_parseRecording_170 : decode cX4_parseRecording 170 = .ok (.aload_n 1, 1) := dk_43 (dk_at dksX4_parseRecording_7 8 rfl rfl)
theorem dX4_parseRecording_171 : decode cX4_parseRecording 171 = .ok (.aload_n 2, 1) := dk_44 (dk_at dksX4_parseRecording_7 9 rfl rfl)
theorem dX4_parseRecording_172 : decode cX4_parseRecording 172 = .ok (.invokespecial 148, 3) := dk_183 0 148 (dk_at dksX4_parseRecording_7 10 rfl rfl)
theorem dX4_parseRecording_175 : decode cX4_parseRecording 175 = .ok (.invokevirtual 151, 3) := dk_182 0 151 (dk_at dksX4_parseRecording_7 13 rfl rfl)
theorem dX4_parseRecording_178 : decode cX4_parseRecording 178 = .ok (.pop, 1) := dk_87 (dk_at dksX4_parseRecording_7 16 rfl rfl)
theorem dX4_parseRecording_179 : decode cX4_parseRecording 179 = .ok (.return_, 1) := dk_177 (dk_at dksX4_parseRecording_7 17 rfl rfl)
abbrev cX4_parseSample : ByteArray := prog_6_method_9_code
def yX4_parseSample : MethodName := ⟨RX4, "parseSample", "()V"⟩
def dkwX4_parseSample_4 : List UInt8 := [180, 0, 130, 4, 96, 181, 0, 130, 177]
abbrev dktX4_parseSample_4 : List UInt8 := dkwX4_parseSample_4 ++ []
def dkwX4_parseSample_3 : List UInt8 := [180, 0, 130, 27, 153, 0, 11, 42, 180, 0, 97, 116, 167, 0, 7, 42, 180, 0, 97, 79, 42, 89]
abbrev dktX4_parseSample_3 : List UInt8 := dkwX4_parseSample_3 ++ dktX4_parseSample_4
def dkwX4_parseSample_2 : List UInt8 := [180, 0, 130, 16, 64, 162, 0, 7, 4, 167, 0, 4, 3, 7, 182, 0, 70, 42, 180, 0, 18, 42]
abbrev dktX4_parseSample_2 : List UInt8 := dkwX4_parseSample_2 ++ dktX4_parseSample_3
def dkwX4_parseSample_1 : List UInt8 := [42, 42, 180, 0, 28, 178, 0, 100, 166, 0, 7, 4, 167, 0, 4, 3, 4, 182, 0, 70, 42, 42]
abbrev dktX4_parseSample_1 : List UInt8 := dkwX4_parseSample_1 ++ dktX4_parseSample_2
def dkwX4_parseSample_0 : List UInt8 := [42, 180, 0, 28, 178, 0, 74, 166, 0, 7, 4, 167, 0, 4, 3, 60, 27, 153, 0, 7, 42, 182, 0, 103]
abbrev dktX4_parseSample_0 : List UInt8 := dkwX4_parseSample_0 ++ dktX4_parseSample_1
theorem dksX4_parseSample_0 : cX4_parseSample.data.toList.drop 0 = dktX4_parseSample_0 := by decide +kernel
theorem dksX4_parseSample_1 : cX4_parseSample.data.toList.drop 24 = dktX4_parseSample_1 := dk_seg dksX4_parseSample_0 24 rfl rfl
theorem dksX4_parseSample_2 : cX4_parseSample.data.toList.drop 46 = dktX4_parseSample_2 := dk_seg dksX4_parseSample_1 22 rfl rfl
theorem dksX4_parseSample_3 : cX4_parseSample.data.toList.drop 68 = dktX4_parseSample_3 := dk_seg dksX4_parseSample_2 22 rfl rfl
theorem dksX4_parseSample_4 : cX4_parseSample.data.toList.drop 90 = dktX4_parseSample_4 := dk_seg dksX4_parseSample_3 22 rfl rfl
theorem dX4_parseSample_0 : decode cX4_parseSample 0 = .ok (.aload_n 0, 1) := dk_42 (dk_at dksX4_parseSample_0 0 rfl rfl)
theorem dX4_parseSample_1 : decode cX4_parseSample 1 = .ok (.getfield 28, 3) := dk_180 0 28 (dk_at dksX4_parseSample_0 1 rfl rfl)
theorem dX4_parseSample_4 : decode cX4_parseSample 4 = .ok (.getstatic 74, 3) := dk_178 0 74 (dk_at dksX4_parseSample_0 4 rfl rfl)
theorem dX4_parseSample_7 : decode cX4_parseSample 7 = .ok (.if_acmp .ne 7, 3) := dk_166 0 7 (dk_at dksX4_parseSample_0 7 rfl rfl)
theorem dX4_parseSample_10 : decode cX4_parseSample 10 = .ok (.iconst 1, 1) := dk_4 (dk_at dksX4_parseSample_0 10 rfl rfl)
theorem dX4_parseSample_11 : decode cX4_parseSample 11 = .ok (.goto 4, 3) := dk_167 0 4 (dk_at dksX4_parseSample_0 11 rfl rfl)
theorem dX4_parseSample_14 : decode cX4_parseSample 14 = .ok (.iconst 0, 1) := dk_3 (dk_at dksX4_parseSample_0 14 rfl rfl)
theorem dX4_parseSample_15 : decode cX4_parseSample 15 = .ok (.istore_n 1, 1) := dk_60 (dk_at dksX4_parseSample_0 15 rfl rfl)
theorem dX4_parseSample_16 : decode cX4_parseSample 16 = .ok (.iload_n 1, 1) := dk_27 (dk_at dksX4_parseSample_0 16 rfl rfl)
theorem dX4_parseSample_17 : decode cX4_parseSample 17 = .ok (.ifCond .eq 7, 3) := dk_153 0 7 (dk_at dksX4_parseSample_0 17 rfl rfl)
theorem dX4_parseSample_20 : decode cX4_parseSample 20 = .ok (.aload_n 0, 1) := dk_42 (dk_at dksX4_parseSample_0 20 rfl rfl)
theorem dX4_parseSample_21 : decode cX4_parseSample 21 = .ok (.invokevirtual 103, 3) := dk_182 0 103 (dk_at dksX4_parseSample_0 21 rfl rfl)
theorem dX4_parseSample_24 : decode cX4_parseSample 24 = .ok (.aload_n 0, 1) := dk_42 (dk_at dksX4_parseSample_1 0 rfl rfl)
theorem dX4_parseSample_25 : decode cX4_parseSample 25 = .ok (.aload_n 0, 1) := dk_42 (dk_at dksX4_parseSample_1 1 rfl rfl)
theorem dX4_parseSample_26 : decode cX4_parseSample 26 = .ok (.getfield 28, 3) := dk_180 0 28 (dk_at dksX4_parseSample_1 2 rfl rfl)
theorem dX4_parseSample_29 : decode cX4_parseSample 29 = .ok (.getstatic 100, 3) := dk_178 0 100 (dk_at dksX4_parseSample_1 5 rfl rfl)
theorem dX4_parseSample_32 : decode cX4_parseSample 32 = .ok (.if_acmp .ne 7, 3) := dk_166 0 7 (dk_at dksX4_parseSample_1 8 rfl rfl)
theorem dX4_parseSample_35 : decode cX4_parseSample 35 = .ok (.iconst 1, 1) := dk_4 (dk_at dksX4_parseSample_1 11 rfl rfl)
theorem dX4_parseSample_36 : decode cX4_parseSample 36 = .ok (.goto 4, 3) := dk_167 0 4 (dk_at dksX4_parseSample_1 12 rfl rfl)
theorem dX4_parseSample_39 : decode cX4_parseSample 39 = .ok (.iconst 0, 1) := dk_3 (dk_at dksX4_parseSample_1 15 rfl rfl)
theorem dX4_parseSample_40 : decode cX4_parseSample 40 = .ok (.iconst 1, 1) := dk_4 (dk_at dksX4_parseSample_1 16 rfl rfl)
theorem dX4_parseSample_41 : decode cX4_parseSample 41 = .ok (.invokevirtual 70, 3) := dk_182 0 70 (dk_at dksX4_parseSample_1 17 rfl rfl)
theorem dX4_parseSample_44 : decode cX4_parseSample 44 = .ok (.aload_n 0, 1) := dk_42 (dk_at dksX4_parseSample_1 20 rfl rfl)
theorem dX4_parseSample_45 : decode cX4_parseSample 45 = .ok (.aload_n 0, 1) := dk_42 (dk_at dksX4_parseSample_1 21 rfl rfl)
theorem dX4_parseSample_46 : decode cX4_parseSample 46 = .ok (.getfield 130, 3) := dk_180 0 130 (dk_at dksX4_parseSample_2 0 rfl rfl)
theorem dX4_parseSample_49 : decode cX4_parseSample 49 = .ok (.bipush 64, 2) := dk_16 64 (dk_at dksX4_parseSample_2 3 rfl rfl)
theorem dX4_parseSample_51 : decode cX4_parseSample 51 = .ok (.if_icmp .ge 7, 3) := dk_162 0 7 (dk_at dksX4_parseSample_2 5 rfl rfl)
theorem dX4_parseSample_54 : decode cX4_parseSample 54 = .ok (.iconst 1, 1) := dk_4 (dk_at dksX4_parseSample_2 8 rfl rfl)
theorem dX4_parseSample_55 : decode cX4_parseSample 55 = .ok (.goto 4, 3) := dk_167 0 4 (dk_at dksX4_parseSample_2 9 rfl rfl)
theorem dX4_parseSample_58 : decode cX4_parseSample 58 = .ok (.iconst 0, 1) := dk_3 (dk_at dksX4_parseSample_2 12 rfl rfl)
theorem dX4_parseSample_59 : decode cX4_parseSample 59 = .ok (.iconst 4, 1) := dk_7 (dk_at dksX4_parseSample_2 13 rfl rfl)
theorem dX4_parseSample_60 : decode cX4_parseSample 60 = .ok (.invokevirtual 70, 3) := dk_182 0 70 (dk_at dksX4_parseSample_2 14 rfl rfl)
theorem dX4_parseSample_63 : decode cX4_parseSample 63 = .ok (.aload_n 0, 1) := dk_42 (dk_at dksX4_parseSample_2 17 rfl rfl)
theorem dX4_parseSample_64 : decode cX4_parseSample 64 = .ok (.getfield 18, 3) := dk_180 0 18 (dk_at dksX4_parseSample_2 18 rfl rfl)
theorem dX4_parseSample_67 : decode cX4_parseSample 67 = .ok (.aload_n 0, 1) := dk_42 (dk_at dksX4_parseSample_2 21 rfl rfl)
theorem dX4_parseSample_68 : decode cX4_parseSample 68 = .ok (.getfield 130, 3) := dk_180 0 130 (dk_at dksX4_parseSample_3 0 rfl rfl)
theorem dX4_parseSample_71 : decode cX4_parseSample 71 = .ok (.iload_n 1, 1) := dk_27 (dk_at dksX4_parseSample_3 3 rfl rfl)
theorem dX4_parseSample_72 : decode cX4_parseSample 72 = .ok (.ifCond .eq 11, 3) := dk_153 0 11 (dk_at dksX4_parseSample_3 4 rfl rfl)
theorem dX4_parseSample_75 : decode cX4_parseSample 75 = .ok (.aload_n 0, 1) := dk_42 (dk_at dksX4_parseSample_3 7 rfl rfl)
theorem dX4_parseSample_76 : decode cX4_parseSample 76 = .ok (.getfield 97, 3) := dk_180 0 97 (dk_at dksX4_parseSample_3 8 rfl rfl)
theorem dX4_parseSample_79 : decode cX4_parseSample 79 = .ok (.ineg, 1) := dk_116 (dk_at dksX4_parseSample_3 11 rfl rfl)
theorem dX4_parseSample_80 : decode cX4_parseSample 80 = .ok (.goto 7, 3) := dk_167 0 7 (dk_at dksX4_parseSample_3 12 rfl rfl)
theorem dX4_parseSample_83 : decode cX4_parseSample 83 = .ok (.aload_n 0, 1) := dk_42 (dk_at dksX4_parseSample_3 15 rfl rfl)
theorem dX4_parseSample_84 : decode cX4_parseSample 84 = .ok (.getfield 97, 3) := dk_180 0 97 (dk_at dksX4_parseSample_3 16 rfl rfl)
theorem dX4_parseSample_87 : decode cX4_parseSample 87 = .ok (.iastore, 1) := dk_79 (dk_at dksX4_parseSample_3 19 rfl rfl)
theorem dX4_parseSample_88 : decode cX4_parseSample 88 = .ok (.aload_n 0, 1) := dk_42 (dk_at dksX4_parseSample_3 20 rfl rfl)
theorem dX4_parseSample_89 : decode cX4_parseSample 89 = .ok (.dup, 1) := dk_89 (dk_at dksX4_parseSample_3 21 rfl rfl)
theorem dX4_parseSample_90 : decode cX4_parseSample 90 = .ok (.getfield 130, 3) := dk_180 0 130 (dk_at dksX4_parseSample_4 0 rfl rfl)
theorem dX4_parseSample_93 : decode cX4_parseSample 93 = .ok (.iconst 1, 1) := dk_4 (dk_at dksX4_parseSample_4 3 rfl rfl)
theorem dX4_parseSample_94 : decode cX4_parseSample 94 = .ok (.iadd, 1) := dk_96 (dk_at dksX4_parseSample_4 4 rfl rfl)
theorem dX4_parseSample_95 : decode cX4_parseSample 95 = .ok (.putfield 130, 3) := dk_181 0 130 (dk_at dksX4_parseSample_4 5 rfl rfl)
theorem dX4_parseSample_98 : decode cX4_parseSample 98 = .ok (.return_, 1) := dk_177 (dk_at dksX4_parseSample_4 8 rfl rfl)

abbrev cX5_init : ByteArray := prog_5_method_1_code
def yX5_init : MethodName := ⟨RX5, "<init>", "(II)V"⟩
def dkwX5_init_0 : List UInt8 := [42, 183, 0, 1, 42, 27, 181, 0, 7, 42, 28, 181, 0, 13, 177]
abbrev dktX5_init_0 : List UInt8 := dkwX5_init_0 ++ []
theorem dksX5_init_0 : cX5_init.data.toList.drop 0 = dktX5_init_0 := by decide +kernel
theorem dX5_init_0 : decode cX5_init 0 = .ok (.aload_n 0, 1) := dk_42 (dk_at dksX5_init_0 0 rfl rfl)
theorem dX5_init_1 : decode cX5_init 1 = .ok (.invokespecial 1, 3) := dk_183 0 1 (dk_at dksX5_init_0 1 rfl rfl)
theorem dX5_init_4 : decode cX5_init 4 = .ok (.aload_n 0, 1) := dk_42 (dk_at dksX5_init_0 4 rfl rfl)
theorem dX5_init_5 : decode cX5_init 5 = .ok (.iload_n 1, 1) := dk_27 (dk_at dksX5_init_0 5 rfl rfl)
theorem dX5_init_6 : decode cX5_init 6 = .ok (.putfield 7, 3) := dk_181 0 7 (dk_at dksX5_init_0 6 rfl rfl)
theorem dX5_init_9 : decode cX5_init 9 = .ok (.aload_n 0, 1) := dk_42 (dk_at dksX5_init_0 9 rfl rfl)
theorem dX5_init_10 : decode cX5_init 10 = .ok (.iload_n 2, 1) := dk_28 (dk_at dksX5_init_0 10 rfl rfl)
theorem dX5_init_11 : decode cX5_init 11 = .ok (.putfield 13, 3) := dk_181 0 13 (dk_at dksX5_init_0 11 rfl rfl)
theorem dX5_init_14 : decode cX5_init 14 = .ok (.return_, 1) := dk_177 (dk_at dksX5_init_0 14 rfl rfl)

