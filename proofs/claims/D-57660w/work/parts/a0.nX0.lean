set_option maxRecDepth 100000
def RX0 : String := "WalshAnalyzerLaw"
abbrev cX0_append : ByteArray := method_3_code
def yX0_append : MethodName := ⟨RX0, "append", "(LWalshAnalyzer;IIIII[J)I"⟩
def dkwX0_append_1 : List UInt8 := [172]
abbrev dktX0_append_1 : List UInt8 := dkwX0_append_1 ++ []
def dkwX0_append_0 : List UInt8 := [25, 6, 3, 42, 27, 28, 29, 21, 4, 21, 5, 182, 0, 7, 133, 80, 167, 0, 7, 58, 7, 4, 172, 3]
abbrev dktX0_append_0 : List UInt8 := dkwX0_append_0 ++ dktX0_append_1
theorem dksX0_append_0 : cX0_append.data.toList.drop 0 = dktX0_append_0 := by decide +kernel
theorem dksX0_append_1 : cX0_append.data.toList.drop 24 = dktX0_append_1 := dk_seg dksX0_append_0 24 rfl rfl
theorem dX0_append_0 : decode cX0_append 0 = .ok (.aload 6, 2) := dk_25 6 (dk_at dksX0_append_0 0 rfl rfl)
theorem dX0_append_2 : decode cX0_append 2 = .ok (.iconst 0, 1) := dk_3 (dk_at dksX0_append_0 2 rfl rfl)
theorem dX0_append_3 : decode cX0_append 3 = .ok (.aload_n 0, 1) := dk_42 (dk_at dksX0_append_0 3 rfl rfl)
theorem dX0_append_4 : decode cX0_append 4 = .ok (.iload_n 1, 1) := dk_27 (dk_at dksX0_append_0 4 rfl rfl)
theorem dX0_append_5 : decode cX0_append 5 = .ok (.iload_n 2, 1) := dk_28 (dk_at dksX0_append_0 5 rfl rfl)
theorem dX0_append_6 : decode cX0_append 6 = .ok (.iload_n 3, 1) := dk_29 (dk_at dksX0_append_0 6 rfl rfl)
theorem dX0_append_7 : decode cX0_append 7 = .ok (.iload 4, 2) := dk_21 4 (dk_at dksX0_append_0 7 rfl rfl)
theorem dX0_append_9 : decode cX0_append 9 = .ok (.iload 5, 2) := dk_21 5 (dk_at dksX0_append_0 9 rfl rfl)
theorem dX0_append_11 : decode cX0_append 11 = .ok (.invokevirtual 7, 3) := dk_182 0 7 (dk_at dksX0_append_0 11 rfl rfl)
theorem dX0_append_14 : decode cX0_append 14 = .ok (.i2l, 1) := dk_133 (dk_at dksX0_append_0 14 rfl rfl)
theorem dX0_append_15 : decode cX0_append 15 = .ok (.lastore, 1) := dk_80 (dk_at dksX0_append_0 15 rfl rfl)
theorem dX0_append_16 : decode cX0_append 16 = .ok (.goto 7, 3) := dk_167 0 7 (dk_at dksX0_append_0 16 rfl rfl)
theorem dX0_append_19 : decode cX0_append 19 = .ok (.astore 7, 2) := dk_58 7 (dk_at dksX0_append_0 19 rfl rfl)
theorem dX0_append_21 : decode cX0_append 21 = .ok (.iconst 1, 1) := dk_4 (dk_at dksX0_append_0 21 rfl rfl)
theorem dX0_append_22 : decode cX0_append 22 = .ok (.ireturn, 1) := dk_172 (dk_at dksX0_append_0 22 rfl rfl)
theorem dX0_append_23 : decode cX0_append 23 = .ok (.iconst 0, 1) := dk_3 (dk_at dksX0_append_0 23 rfl rfl)
theorem dX0_append_24 : decode cX0_append 24 = .ok (.ireturn, 1) := dk_172 (dk_at dksX0_append_1 0 rfl rfl)
abbrev cX0_truncate : ByteArray := method_4_code
def yX0_truncate : MethodName := ⟨RX0, "truncate", "(LWalshAnalyzer;I[J)I"⟩
def dkwX0_truncate_0 : List UInt8 := [44, 3, 42, 27, 182, 0, 15, 133, 80, 167, 0, 6, 78, 4, 172, 3, 172]
abbrev dktX0_truncate_0 : List UInt8 := dkwX0_truncate_0 ++ []
theorem dksX0_truncate_0 : cX0_truncate.data.toList.drop 0 = dktX0_truncate_0 := by decide +kernel
theorem dX0_truncate_0 : decode cX0_truncate 0 = .ok (.aload_n 2, 1) := dk_44 (dk_at dksX0_truncate_0 0 rfl rfl)
theorem dX0_truncate_1 : decode cX0_truncate 1 = .ok (.iconst 0, 1) := dk_3 (dk_at dksX0_truncate_0 1 rfl rfl)
theorem dX0_truncate_2 : decode cX0_truncate 2 = .ok (.aload_n 0, 1) := dk_42 (dk_at dksX0_truncate_0 2 rfl rfl)
theorem dX0_truncate_3 : decode cX0_truncate 3 = .ok (.iload_n 1, 1) := dk_27 (dk_at dksX0_truncate_0 3 rfl rfl)
theorem dX0_truncate_4 : decode cX0_truncate 4 = .ok (.invokevirtual 15, 3) := dk_182 0 15 (dk_at dksX0_truncate_0 4 rfl rfl)
theorem dX0_truncate_7 : decode cX0_truncate 7 = .ok (.i2l, 1) := dk_133 (dk_at dksX0_truncate_0 7 rfl rfl)
theorem dX0_truncate_8 : decode cX0_truncate 8 = .ok (.lastore, 1) := dk_80 (dk_at dksX0_truncate_0 8 rfl rfl)
theorem dX0_truncate_9 : decode cX0_truncate 9 = .ok (.goto 6, 3) := dk_167 0 6 (dk_at dksX0_truncate_0 9 rfl rfl)
theorem dX0_truncate_12 : decode cX0_truncate 12 = .ok (.astore_n 3, 1) := dk_78 (dk_at dksX0_truncate_0 12 rfl rfl)
theorem dX0_truncate_13 : decode cX0_truncate 13 = .ok (.iconst 1, 1) := dk_4 (dk_at dksX0_truncate_0 13 rfl rfl)
theorem dX0_truncate_14 : decode cX0_truncate 14 = .ok (.ireturn, 1) := dk_172 (dk_at dksX0_truncate_0 14 rfl rfl)
theorem dX0_truncate_15 : decode cX0_truncate 15 = .ok (.iconst 0, 1) := dk_3 (dk_at dksX0_truncate_0 15 rfl rfl)
theorem dX0_truncate_16 : decode cX0_truncate 16 = .ok (.ireturn, 1) := dk_172 (dk_at dksX0_truncate_0 16 rfl rfl)
abbrev cX0_parse : ByteArray := method_5_code
def yX0_parse : MethodName := ⟨RX0, "parse", "(LWalshAnalyzer;[J)I"⟩
def dkwX0_parse_0 : List UInt8 := [43, 3, 42, 182, 0, 21, 133, 80, 167, 0, 6, 77, 4, 172, 3, 172]
abbrev dktX0_parse_0 : List UInt8 := dkwX0_parse_0 ++ []
theorem dksX0_parse_0 : cX0_parse.data.toList.drop 0 = dktX0_parse_0 := by decide +kernel
theorem dX0_parse_0 : decode cX0_parse 0 = .ok (.aload_n 1, 1) := dk_43 (dk_at dksX0_parse_0 0 rfl rfl)
theorem dX0_parse_1 : decode cX0_parse 1 = .ok (.iconst 0, 1) := dk_3 (dk_at dksX0_parse_0 1 rfl rfl)
theorem dX0_parse_2 : decode cX0_parse 2 = .ok (.aload_n 0, 1) := dk_42 (dk_at dksX0_parse_0 2 rfl rfl)
theorem dX0_parse_3 : decode cX0_parse 3 = .ok (.invokevirtual 21, 3) := dk_182 0 21 (dk_at dksX0_parse_0 3 rfl rfl)
theorem dX0_parse_6 : decode cX0_parse 6 = .ok (.i2l, 1) := dk_133 (dk_at dksX0_parse_0 6 rfl rfl)
theorem dX0_parse_7 : decode cX0_parse 7 = .ok (.lastore, 1) := dk_80 (dk_at dksX0_parse_0 7 rfl rfl)
theorem dX0_parse_8 : decode cX0_parse 8 = .ok (.goto 6, 3) := dk_167 0 6 (dk_at dksX0_parse_0 8 rfl rfl)
theorem dX0_parse_11 : decode cX0_parse 11 = .ok (.astore_n 2, 1) := dk_77 (dk_at dksX0_parse_0 11 rfl rfl)
theorem dX0_parse_12 : decode cX0_parse 12 = .ok (.iconst 1, 1) := dk_4 (dk_at dksX0_parse_0 12 rfl rfl)
theorem dX0_parse_13 : decode cX0_parse 13 = .ok (.ireturn, 1) := dk_172 (dk_at dksX0_parse_0 13 rfl rfl)
theorem dX0_parse_14 : decode cX0_parse 14 = .ok (.iconst 0, 1) := dk_3 (dk_at dksX0_parse_0 14 rfl rfl)
theorem dX0_parse_15 : decode cX0_parse 15 = .ok (.ireturn, 1) := dk_172 (dk_at dksX0_parse_0 15 rfl rfl)
abbrev cX0_length : ByteArray := method_6_code
def yX0_length : MethodName := ⟨RX0, "length", "(LWalshAnalyzer;I[J)I"⟩
def dkwX0_length_0 : List UInt8 := [44, 3, 42, 27, 182, 0, 25, 133, 80, 167, 0, 6, 78, 4, 172, 3, 172]
abbrev dktX0_length_0 : List UInt8 := dkwX0_length_0 ++ []
theorem dksX0_length_0 : cX0_length.data.toList.drop 0 = dktX0_length_0 := by decide +kernel
theorem dX0_length_0 : decode cX0_length 0 = .ok (.aload_n 2, 1) := dk_44 (dk_at dksX0_length_0 0 rfl rfl)
theorem dX0_length_1 : decode cX0_length 1 = .ok (.iconst 0, 1) := dk_3 (dk_at dksX0_length_0 1 rfl rfl)
theorem dX0_length_2 : decode cX0_length 2 = .ok (.aload_n 0, 1) := dk_42 (dk_at dksX0_length_0 2 rfl rfl)
theorem dX0_length_3 : decode cX0_length 3 = .ok (.iload_n 1, 1) := dk_27 (dk_at dksX0_length_0 3 rfl rfl)
theorem dX0_length_4 : decode cX0_length 4 = .ok (.invokevirtual 25, 3) := dk_182 0 25 (dk_at dksX0_length_0 4 rfl rfl)
theorem dX0_length_7 : decode cX0_length 7 = .ok (.i2l, 1) := dk_133 (dk_at dksX0_length_0 7 rfl rfl)
theorem dX0_length_8 : decode cX0_length 8 = .ok (.lastore, 1) := dk_80 (dk_at dksX0_length_0 8 rfl rfl)
theorem dX0_length_9 : decode cX0_length 9 = .ok (.goto 6, 3) := dk_167 0 6 (dk_at dksX0_length_0 9 rfl rfl)
theorem dX0_length_12 : decode cX0_length 12 = .ok (.astore_n 3, 1) := dk_78 (dk_at dksX0_length_0 12 rfl rfl)
theorem dX0_length_13 : decode cX0_length 13 = .ok (.iconst 1, 1) := dk_4 (dk_at dksX0_length_0 13 rfl rfl)
theorem dX0_length_14 : decode cX0_length 14 = .ok (.ireturn, 1) := dk_172 (dk_at dksX0_length_0 14 rfl rfl)
theorem dX0_length_15 : decode cX0_length 15 = .ok (.iconst 0, 1) := dk_3 (dk_at dksX0_length_0 15 rfl rfl)
theorem dX0_length_16 : decode cX0_length 16 = .ok (.ireturn, 1) := dk_172 (dk_at dksX0_length_0 16 rfl rfl)
abbrev cX0_nameCharacter : ByteArray := method_7_code
def yX0_nameCharacter : MethodName := ⟨RX0, "nameCharacter", "(LWalshAnalyzer;II[J)I"⟩
def dkwX0_nameCharacter_0 : List UInt8 := [45, 3, 42, 27, 28, 182, 0, 30, 133, 80, 167, 0, 7, 58, 4, 4, 172, 3, 172]
abbrev dktX0_nameCharacter_0 : List UInt8 := dkwX0_nameCharacter_0 ++ []
theorem dksX0_nameCharacter_0 : cX0_nameCharacter.data.toList.drop 0 = dktX0_nameCharacter_0 := by decide +kernel
theorem dX0_nameCharacter_0 : decode cX0_nameCharacter 0 = .ok (.aload_n 3, 1) := dk_45 (dk_at dksX0_nameCharacter_0 0 rfl rfl)
theorem dX0_nameCharacter_1 : decode cX0_nameCharacter 1 = .ok (.iconst 0, 1) := dk_3 (dk_at dksX0_nameCharacter_0 1 rfl rfl)
theorem dX0_nameCharacter_2 : decode cX0_nameCharacter 2 = .ok (.aload_n 0, 1) := dk_42 (dk_at dksX0_nameCharacter_0 2 rfl rfl)
theorem dX0_nameCharacter_3 : decode cX0_nameCharacter 3 = .ok (.iload_n 1, 1) := dk_27 (dk_at dksX0_nameCharacter_0 3 rfl rfl)
theorem dX0_nameCharacter_4 : decode cX0_nameCharacter 4 = .ok (.iload_n 2, 1) := dk_28 (dk_at dksX0_nameCharacter_0 4 rfl rfl)
theorem dX0_nameCharacter_5 : decode cX0_nameCharacter 5 = .ok (.invokevirtual 30, 3) := dk_182 0 30 (dk_at dksX0_nameCharacter_0 5 rfl rfl)
theorem dX0_nameCharacter_8 : decode cX0_nameCharacter 8 = .ok (.i2l, 1) := dk_133 (dk_at dksX0_nameCharacter_0 8 rfl rfl)
theorem dX0_nameCharacter_9 : decode cX0_nameCharacter 9 = .ok (.lastore, 1) := dk_80 (dk_at dksX0_nameCharacter_0 9 rfl rfl)
theorem dX0_nameCharacter_10 : decode cX0_nameCharacter 10 = .ok (.goto 7, 3) := dk_167 0 7 (dk_at dksX0_nameCharacter_0 10 rfl rfl)
theorem dX0_nameCharacter_13 : decode cX0_nameCharacter 13 = .ok (.astore 4, 2) := dk_58 4 (dk_at dksX0_nameCharacter_0 13 rfl rfl)
theorem dX0_nameCharacter_15 : decode cX0_nameCharacter 15 = .ok (.iconst 1, 1) := dk_4 (dk_at dksX0_nameCharacter_0 15 rfl rfl)
theorem dX0_nameCharacter_16 : decode cX0_nameCharacter 16 = .ok (.ireturn, 1) := dk_172 (dk_at dksX0_nameCharacter_0 16 rfl rfl)
theorem dX0_nameCharacter_17 : decode cX0_nameCharacter 17 = .ok (.iconst 0, 1) := dk_3 (dk_at dksX0_nameCharacter_0 17 rfl rfl)
theorem dX0_nameCharacter_18 : decode cX0_nameCharacter 18 = .ok (.ireturn, 1) := dk_172 (dk_at dksX0_nameCharacter_0 18 rfl rfl)
abbrev cX0_sample : ByteArray := method_8_code
def yX0_sample : MethodName := ⟨RX0, "sample", "(LWalshAnalyzer;II[J)I"⟩
def dkwX0_sample_0 : List UInt8 := [45, 3, 42, 27, 28, 182, 0, 34, 133, 80, 167, 0, 7, 58, 4, 4, 172, 3, 172]
abbrev dktX0_sample_0 : List UInt8 := dkwX0_sample_0 ++ []
theorem dksX0_sample_0 : cX0_sample.data.toList.drop 0 = dktX0_sample_0 := by decide +kernel
theorem dX0_sample_0 : decode cX0_sample 0 = .ok (.aload_n 3, 1) := dk_45 (dk_at dksX0_sample_0 0 rfl rfl)
theorem dX0_sample_1 : decode cX0_sample 1 = .ok (.iconst 0, 1) := dk_3 (dk_at dksX0_sample_0 1 rfl rfl)
theorem dX0_sample_2 : decode cX0_sample 2 = .ok (.aload_n 0, 1) := dk_42 (dk_at dksX0_sample_0 2 rfl rfl)
theorem dX0_sample_3 : decode cX0_sample 3 = .ok (.iload_n 1, 1) := dk_27 (dk_at dksX0_sample_0 3 rfl rfl)
theorem dX0_sample_4 : decode cX0_sample 4 = .ok (.iload_n 2, 1) := dk_28 (dk_at dksX0_sample_0 4 rfl rfl)
theorem dX0_sample_5 : decode cX0_sample 5 = .ok (.invokevirtual 34, 3) := dk_182 0 34 (dk_at dksX0_sample_0 5 rfl rfl)
theorem dX0_sample_8 : decode cX0_sample 8 = .ok (.i2l, 1) := dk_133 (dk_at dksX0_sample_0 8 rfl rfl)
theorem dX0_sample_9 : decode cX0_sample 9 = .ok (.lastore, 1) := dk_80 (dk_at dksX0_sample_0 9 rfl rfl)
theorem dX0_sample_10 : decode cX0_sample 10 = .ok (.goto 7, 3) := dk_167 0 7 (dk_at dksX0_sample_0 10 rfl rfl)
theorem dX0_sample_13 : decode cX0_sample 13 = .ok (.astore 4, 2) := dk_58 4 (dk_at dksX0_sample_0 13 rfl rfl)
theorem dX0_sample_15 : decode cX0_sample 15 = .ok (.iconst 1, 1) := dk_4 (dk_at dksX0_sample_0 15 rfl rfl)
theorem dX0_sample_16 : decode cX0_sample 16 = .ok (.ireturn, 1) := dk_172 (dk_at dksX0_sample_0 16 rfl rfl)
theorem dX0_sample_17 : decode cX0_sample 17 = .ok (.iconst 0, 1) := dk_3 (dk_at dksX0_sample_0 17 rfl rfl)
theorem dX0_sample_18 : decode cX0_sample 18 = .ok (.ireturn, 1) := dk_172 (dk_at dksX0_sample_0 18 rfl rfl)
abbrev cX0_energy : ByteArray := method_9_code
def yX0_energy : MethodName := ⟨RX0, "energy", "(LWalshAnalyzer;I[J)I"⟩
def dkwX0_energy_0 : List UInt8 := [44, 3, 42, 27, 182, 0, 38, 80, 167, 0, 6, 78, 4, 172, 3, 172]
abbrev dktX0_energy_0 : List UInt8 := dkwX0_energy_0 ++ []
theorem dksX0_energy_0 : cX0_energy.data.toList.drop 0 = dktX0_energy_0 := by decide +kernel
theorem dX0_energy_0 : decode cX0_energy 0 = .ok (.aload_n 2, 1) := dk_44 (dk_at dksX0_energy_0 0 rfl rfl)
theorem dX0_energy_1 : decode cX0_energy 1 = .ok (.iconst 0, 1) := dk_3 (dk_at dksX0_energy_0 1 rfl rfl)
theorem dX0_energy_2 : decode cX0_energy 2 = .ok (.aload_n 0, 1) := dk_42 (dk_at dksX0_energy_0 2 rfl rfl)
theorem dX0_energy_3 : decode cX0_energy 3 = .ok (.iload_n 1, 1) := dk_27 (dk_at dksX0_energy_0 3 rfl rfl)
theorem dX0_energy_4 : decode cX0_energy 4 = .ok (.invokevirtual 38, 3) := dk_182 0 38 (dk_at dksX0_energy_0 4 rfl rfl)
theorem dX0_energy_7 : decode cX0_energy 7 = .ok (.lastore, 1) := dk_80 (dk_at dksX0_energy_0 7 rfl rfl)
theorem dX0_energy_8 : decode cX0_energy 8 = .ok (.goto 6, 3) := dk_167 0 6 (dk_at dksX0_energy_0 8 rfl rfl)
theorem dX0_energy_11 : decode cX0_energy 11 = .ok (.astore_n 3, 1) := dk_78 (dk_at dksX0_energy_0 11 rfl rfl)
theorem dX0_energy_12 : decode cX0_energy 12 = .ok (.iconst 1, 1) := dk_4 (dk_at dksX0_energy_0 12 rfl rfl)
theorem dX0_energy_13 : decode cX0_energy 13 = .ok (.ireturn, 1) := dk_172 (dk_at dksX0_energy_0 13 rfl rfl)
theorem dX0_energy_14 : decode cX0_energy 14 = .ok (.iconst 0, 1) := dk_3 (dk_at dksX0_energy_0 14 rfl rfl)
theorem dX0_energy_15 : decode cX0_energy 15 = .ok (.ireturn, 1) := dk_172 (dk_at dksX0_energy_0 15 rfl rfl)
abbrev cX0_loudestPlace : ByteArray := method_10_code
def yX0_loudestPlace : MethodName := ⟨RX0, "loudestPlace", "(LWalshAnalyzer;I[J)I"⟩
def dkwX0_loudestPlace_0 : List UInt8 := [44, 3, 42, 27, 182, 0, 42, 133, 80, 167, 0, 6, 78, 4, 172, 3, 172]
abbrev dktX0_loudestPlace_0 : List UInt8 := dkwX0_loudestPlace_0 ++ []
theorem dksX0_loudestPlace_0 : cX0_loudestPlace.data.toList.drop 0 = dktX0_loudestPlace_0 := by decide +kernel
theorem dX0_loudestPlace_0 : decode cX0_loudestPlace 0 = .ok (.aload_n 2, 1) := dk_44 (dk_at dksX0_loudestPlace_0 0 rfl rfl)
theorem dX0_loudestPlace_1 : decode cX0_loudestPlace 1 = .ok (.iconst 0, 1) := dk_3 (dk_at dksX0_loudestPlace_0 1 rfl rfl)
theorem dX0_loudestPlace_2 : decode cX0_loudestPlace 2 = .ok (.aload_n 0, 1) := dk_42 (dk_at dksX0_loudestPlace_0 2 rfl rfl)
theorem dX0_loudestPlace_3 : decode cX0_loudestPlace 3 = .ok (.iload_n 1, 1) := dk_27 (dk_at dksX0_loudestPlace_0 3 rfl rfl)
theorem dX0_loudestPlace_4 : decode cX0_loudestPlace 4 = .ok (.invokevirtual 42, 3) := dk_182 0 42 (dk_at dksX0_loudestPlace_0 4 rfl rfl)
theorem dX0_loudestPlace_7 : decode cX0_loudestPlace 7 = .ok (.i2l, 1) := dk_133 (dk_at dksX0_loudestPlace_0 7 rfl rfl)
theorem dX0_loudestPlace_8 : decode cX0_loudestPlace 8 = .ok (.lastore, 1) := dk_80 (dk_at dksX0_loudestPlace_0 8 rfl rfl)
theorem dX0_loudestPlace_9 : decode cX0_loudestPlace 9 = .ok (.goto 6, 3) := dk_167 0 6 (dk_at dksX0_loudestPlace_0 9 rfl rfl)
theorem dX0_loudestPlace_12 : decode cX0_loudestPlace 12 = .ok (.astore_n 3, 1) := dk_78 (dk_at dksX0_loudestPlace_0 12 rfl rfl)
theorem dX0_loudestPlace_13 : decode cX0_loudestPlace 13 = .ok (.iconst 1, 1) := dk_4 (dk_at dksX0_loudestPlace_0 13 rfl rfl)
theorem dX0_loudestPlace_14 : decode cX0_loudestPlace 14 = .ok (.ireturn, 1) := dk_172 (dk_at dksX0_loudestPlace_0 14 rfl rfl)
theorem dX0_loudestPlace_15 : decode cX0_loudestPlace 15 = .ok (.iconst 0, 1) := dk_3 (dk_at dksX0_loudestPlace_0 15 rfl rfl)
theorem dX0_loudestPlace_16 : decode cX0_loudestPlace 16 = .ok (.ireturn, 1) := dk_172 (dk_at dksX0_loudestPlace_0 16 rfl rfl)
abbrev cX0_meanLoudness : ByteArray := method_11_code
def yX0_meanLoudness : MethodName := ⟨RX0, "meanLoudness", "(LWalshAnalyzer;I[D)I"⟩
def dkwX0_meanLoudness_0 : List UInt8 := [44, 3, 42, 27, 182, 0, 45, 82, 167, 0, 6, 78, 4, 172, 3, 172]
abbrev dktX0_meanLoudness_0 : List UInt8 := dkwX0_meanLoudness_0 ++ []
theorem dksX0_meanLoudness_0 : cX0_meanLoudness.data.toList.drop 0 = dktX0_meanLoudness_0 := by decide +kernel
theorem dX0_meanLoudness_0 : decode cX0_meanLoudness 0 = .ok (.aload_n 2, 1) := dk_44 (dk_at dksX0_meanLoudness_0 0 rfl rfl)
theorem dX0_meanLoudness_1 : decode cX0_meanLoudness 1 = .ok (.iconst 0, 1) := dk_3 (dk_at dksX0_meanLoudness_0 1 rfl rfl)
theorem dX0_meanLoudness_2 : decode cX0_meanLoudness 2 = .ok (.aload_n 0, 1) := dk_42 (dk_at dksX0_meanLoudness_0 2 rfl rfl)
theorem dX0_meanLoudness_3 : decode cX0_meanLoudness 3 = .ok (.iload_n 1, 1) := dk_27 (dk_at dksX0_meanLoudness_0 3 rfl rfl)
theorem dX0_meanLoudness_4 : decode cX0_meanLoudness 4 = .ok (.invokevirtual 45, 3) := dk_182 0 45 (dk_at dksX0_meanLoudness_0 4 rfl rfl)
theorem dX0_meanLoudness_7 : decode cX0_meanLoudness 7 = .ok (.dastore, 1) := dk_82 (dk_at dksX0_meanLoudness_0 7 rfl rfl)
theorem dX0_meanLoudness_8 : decode cX0_meanLoudness 8 = .ok (.goto 6, 3) := dk_167 0 6 (dk_at dksX0_meanLoudness_0 8 rfl rfl)
theorem dX0_meanLoudness_11 : decode cX0_meanLoudness 11 = .ok (.astore_n 3, 1) := dk_78 (dk_at dksX0_meanLoudness_0 11 rfl rfl)
theorem dX0_meanLoudness_12 : decode cX0_meanLoudness 12 = .ok (.iconst 1, 1) := dk_4 (dk_at dksX0_meanLoudness_0 12 rfl rfl)
theorem dX0_meanLoudness_13 : decode cX0_meanLoudness 13 = .ok (.ireturn, 1) := dk_172 (dk_at dksX0_meanLoudness_0 13 rfl rfl)
theorem dX0_meanLoudness_14 : decode cX0_meanLoudness 14 = .ok (.iconst 0, 1) := dk_3 (dk_at dksX0_meanLoudness_0 14 rfl rfl)
theorem dX0_meanLoudness_15 : decode cX0_meanLoudness 15 = .ok (.ireturn, 1) := dk_172 (dk_at dksX0_meanLoudness_0 15 rfl rfl)
abbrev cX0_signChanges : ByteArray := method_12_code
def yX0_signChanges : MethodName := ⟨RX0, "signChanges", "(LWalshAnalyzer;I[J)I"⟩
def dkwX0_signChanges_0 : List UInt8 := [44, 3, 42, 27, 182, 0, 49, 133, 80, 167, 0, 6, 78, 4, 172, 3, 172]
abbrev dktX0_signChanges_0 : List UInt8 := dkwX0_signChanges_0 ++ []
theorem dksX0_signChanges_0 : cX0_signChanges.data.toList.drop 0 = dktX0_signChanges_0 := by decide +kernel
theorem dX0_signChanges_0 : decode cX0_signChanges 0 = .ok (.aload_n 2, 1) := dk_44 (dk_at dksX0_signChanges_0 0 rfl rfl)
theorem dX0_signChanges_1 : decode cX0_signChanges 1 = .ok (.iconst 0, 1) := dk_3 (dk_at dksX0_signChanges_0 1 rfl rfl)
theorem dX0_signChanges_2 : decode cX0_signChanges 2 = .ok (.aload_n 0, 1) := dk_42 (dk_at dksX0_signChanges_0 2 rfl rfl)
theorem dX0_signChanges_3 : decode cX0_signChanges 3 = .ok (.iload_n 1, 1) := dk_27 (dk_at dksX0_signChanges_0 3 rfl rfl)
theorem dX0_signChanges_4 : decode cX0_signChanges 4 = .ok (.invokevirtual 49, 3) := dk_182 0 49 (dk_at dksX0_signChanges_0 4 rfl rfl)
theorem dX0_signChanges_7 : decode cX0_signChanges 7 = .ok (.i2l, 1) := dk_133 (dk_at dksX0_signChanges_0 7 rfl rfl)
theorem dX0_signChanges_8 : decode cX0_signChanges 8 = .ok (.lastore, 1) := dk_80 (dk_at dksX0_signChanges_0 8 rfl rfl)
theorem dX0_signChanges_9 : decode cX0_signChanges 9 = .ok (.goto 6, 3) := dk_167 0 6 (dk_at dksX0_signChanges_0 9 rfl rfl)
theorem dX0_signChanges_12 : decode cX0_signChanges 12 = .ok (.astore_n 3, 1) := dk_78 (dk_at dksX0_signChanges_0 12 rfl rfl)
theorem dX0_signChanges_13 : decode cX0_signChanges 13 = .ok (.iconst 1, 1) := dk_4 (dk_at dksX0_signChanges_0 13 rfl rfl)
theorem dX0_signChanges_14 : decode cX0_signChanges 14 = .ok (.ireturn, 1) := dk_172 (dk_at dksX0_signChanges_0 14 rfl rfl)
theorem dX0_signChanges_15 : decode cX0_signChanges 15 = .ok (.iconst 0, 1) := dk_3 (dk_at dksX0_signChanges_0 15 rfl rfl)
theorem dX0_signChanges_16 : decode cX0_signChanges 16 = .ok (.ireturn, 1) := dk_172 (dk_at dksX0_signChanges_0 16 rfl rfl)
abbrev cX0_samplesBetween : ByteArray := method_13_code
def yX0_samplesBetween : MethodName := ⟨RX0, "samplesBetween", "(LWalshAnalyzer;III[J)I"⟩
def dkwX0_samplesBetween_1 : List UInt8 := [172]
abbrev dktX0_samplesBetween_1 : List UInt8 := dkwX0_samplesBetween_1 ++ []
def dkwX0_samplesBetween_0 : List UInt8 := [25, 4, 3, 42, 27, 28, 29, 182, 0, 52, 133, 80, 167, 0, 11, 58, 5, 4, 172, 58, 5, 5, 172, 3]
abbrev dktX0_samplesBetween_0 : List UInt8 := dkwX0_samplesBetween_0 ++ dktX0_samplesBetween_1
theorem dksX0_samplesBetween_0 : cX0_samplesBetween.data.toList.drop 0 = dktX0_samplesBetween_0 := by decide +kernel
theorem dksX0_samplesBetween_1 : cX0_samplesBetween.data.toList.drop 24 = dktX0_samplesBetween_1 := dk_seg dksX0_samplesBetween_0 24 rfl rfl
theorem dX0_samplesBetween_0 : decode cX0_samplesBetween 0 = .ok (.aload 4, 2) := dk_25 4 (dk_at dksX0_samplesBetween_0 0 rfl rfl)
theorem dX0_samplesBetween_2 : decode cX0_samplesBetween 2 = .ok (.iconst 0, 1) := dk_3 (dk_at dksX0_samplesBetween_0 2 rfl rfl)
theorem dX0_samplesBetween_3 : decode cX0_samplesBetween 3 = .ok (.aload_n 0, 1) := dk_42 (dk_at dksX0_samplesBetween_0 3 rfl rfl)
theorem dX0_samplesBetween_4 : decode cX0_samplesBetween 4 = .ok (.iload_n 1, 1) := dk_27 (dk_at dksX0_samplesBetween_0 4 rfl rfl)
theorem dX0_samplesBetween_5 : decode cX0_samplesBetween 5 = .ok (.iload_n 2, 1) := dk_28 (dk_at dksX0_samplesBetween_0 5 rfl rfl)
theorem dX0_samplesBetween_6 : decode cX0_samplesBetween 6 = .ok (.iload_n 3, 1) := dk_29 (dk_at dksX0_samplesBetween_0 6 rfl rfl)
theorem dX0_samplesBetween_7 : decode cX0_samplesBetween 7 = .ok (.invokevirtual 52, 3) := dk_182 0 52 (dk_at dksX0_samplesBetween_0 7 rfl rfl)
theorem dX0_samplesBetween_10 : decode cX0_samplesBetween 10 = .ok (.i2l, 1) := dk_133 (dk_at dksX0_samplesBetween_0 10 rfl rfl)
theorem dX0_samplesBetween_11 : decode cX0_samplesBetween 11 = .ok (.lastore, 1) := dk_80 (dk_at dksX0_samplesBetween_0 11 rfl rfl)
theorem dX0_samplesBetween_12 : decode cX0_samplesBetween 12 = .ok (.goto 11, 3) := dk_167 0 11 (dk_at dksX0_samplesBetween_0 12 rfl rfl)
theorem dX0_samplesBetween_15 : decode cX0_samplesBetween 15 = .ok (.astore 5, 2) := dk_58 5 (dk_at dksX0_samplesBetween_0 15 rfl rfl)
theorem dX0_samplesBetween_17 : decode cX0_samplesBetween 17 = .ok (.iconst 1, 1) := dk_4 (dk_at dksX0_samplesBetween_0 17 rfl rfl)
theorem dX0_samplesBetween_18 : decode cX0_samplesBetween 18 = .ok (.ireturn, 1) := dk_172 (dk_at dksX0_samplesBetween_0 18 rfl rfl)
theorem dX0_samplesBetween_19 : decode cX0_samplesBetween 19 = .ok (.astore 5, 2) := dk_58 5 (dk_at dksX0_samplesBetween_0 19 rfl rfl)
theorem dX0_samplesBetween_21 : decode cX0_samplesBetween 21 = .ok (.iconst 2, 1) := dk_5 (dk_at dksX0_samplesBetween_0 21 rfl rfl)
theorem dX0_samplesBetween_22 : decode cX0_samplesBetween 22 = .ok (.ireturn, 1) := dk_172 (dk_at dksX0_samplesBetween_0 22 rfl rfl)
theorem dX0_samplesBetween_23 : decode cX0_samplesBetween 23 = .ok (.iconst 0, 1) := dk_3 (dk_at dksX0_samplesBetween_0 23 rfl rfl)
theorem dX0_samplesBetween_24 : decode cX0_samplesBetween 24 = .ok (.ireturn, 1) := dk_172 (dk_at dksX0_samplesBetween_1 0 rfl rfl)
abbrev cX0_isSymmetric : ByteArray := method_14_code
def yX0_isSymmetric : MethodName := ⟨RX0, "isSymmetric", "(LWalshAnalyzer;I[J)I"⟩
def dkwX0_isSymmetric_0 : List UInt8 := [44, 3, 42, 27, 182, 0, 56, 153, 0, 7, 10, 167, 0, 4, 9, 80, 167, 0, 6, 78, 4, 172, 3, 172]
abbrev dktX0_isSymmetric_0 : List UInt8 := dkwX0_isSymmetric_0 ++ []
theorem dksX0_isSymmetric_0 : cX0_isSymmetric.data.toList.drop 0 = dktX0_isSymmetric_0 := by decide +kernel
theorem dX0_isSymmetric_0 : decode cX0_isSymmetric 0 = .ok (.aload_n 2, 1) := dk_44 (dk_at dksX0_isSymmetric_0 0 rfl rfl)
theorem dX0_isSymmetric_1 : decode cX0_isSymmetric 1 = .ok (.iconst 0, 1) := dk_3 (dk_at dksX0_isSymmetric_0 1 rfl rfl)
theorem dX0_isSymmetric_2 : decode cX0_isSymmetric 2 = .ok (.aload_n 0, 1) := dk_42 (dk_at dksX0_isSymmetric_0 2 rfl rfl)
theorem dX0_isSymmetric_3 : decode cX0_isSymmetric 3 = .ok (.iload_n 1, 1) := dk_27 (dk_at dksX0_isSymmetric_0 3 rfl rfl)
theorem dX0_isSymmetric_4 : decode cX0_isSymmetric 4 = .ok (.invokevirtual 56, 3) := dk_182 0 56 (dk_at dksX0_isSymmetric_0 4 rfl rfl)
theorem dX0_isSymmetric_7 : decode cX0_isSymmetric 7 = .ok (.ifCond .eq 7, 3) := dk_153 0 7 (dk_at dksX0_isSymmetric_0 7 rfl rfl)
theorem dX0_isSymmetric_10 : decode cX0_isSymmetric 10 = .ok (.lconst 1, 1) := dk_10 (dk_at dksX0_isSymmetric_0 10 rfl rfl)
theorem dX0_isSymmetric_11 : decode cX0_isSymmetric 11 = .ok (.goto 4, 3) := dk_167 0 4 (dk_at dksX0_isSymmetric_0 11 rfl rfl)
theorem dX0_isSymmetric_14 : decode cX0_isSymmetric 14 = .ok (.lconst 0, 1) := dk_9 (dk_at dksX0_isSymmetric_0 14 rfl rfl)
theorem dX0_isSymmetric_15 : decode cX0_isSymmetric 15 = .ok (.lastore, 1) := dk_80 (dk_at dksX0_isSymmetric_0 15 rfl rfl)
theorem dX0_isSymmetric_16 : decode cX0_isSymmetric 16 = .ok (.goto 6, 3) := dk_167 0 6 (dk_at dksX0_isSymmetric_0 16 rfl rfl)
theorem dX0_isSymmetric_19 : decode cX0_isSymmetric 19 = .ok (.astore_n 3, 1) := dk_78 (dk_at dksX0_isSymmetric_0 19 rfl rfl)
theorem dX0_isSymmetric_20 : decode cX0_isSymmetric 20 = .ok (.iconst 1, 1) := dk_4 (dk_at dksX0_isSymmetric_0 20 rfl rfl)
theorem dX0_isSymmetric_21 : decode cX0_isSymmetric 21 = .ok (.ireturn, 1) := dk_172 (dk_at dksX0_isSymmetric_0 21 rfl rfl)
theorem dX0_isSymmetric_22 : decode cX0_isSymmetric 22 = .ok (.iconst 0, 1) := dk_3 (dk_at dksX0_isSymmetric_0 22 rfl rfl)
theorem dX0_isSymmetric_23 : decode cX0_isSymmetric 23 = .ok (.ireturn, 1) := dk_172 (dk_at dksX0_isSymmetric_0 23 rfl rfl)
abbrev cX0_loudestRecording : ByteArray := method_15_code
def yX0_loudestRecording : MethodName := ⟨RX0, "loudestRecording", "(LWalshAnalyzer;[J)I"⟩
def dkwX0_loudestRecording_0 : List UInt8 := [43, 3, 42, 182, 0, 60, 133, 80, 167, 0, 6, 77, 4, 172, 3, 172]
abbrev dktX0_loudestRecording_0 : List UInt8 := dkwX0_loudestRecording_0 ++ []
theorem dksX0_loudestRecording_0 : cX0_loudestRecording.data.toList.drop 0 = dktX0_loudestRecording_0 := by decide +kernel
theorem dX0_loudestRecording_0 : decode cX0_loudestRecording 0 = .ok (.aload_n 1, 1) := dk_43 (dk_at dksX0_loudestRecording_0 0 rfl rfl)
theorem dX0_loudestRecording_1 : decode cX0_loudestRecording 1 = .ok (.iconst 0, 1) := dk_3 (dk_at dksX0_loudestRecording_0 1 rfl rfl)
theorem dX0_loudestRecording_2 : decode cX0_loudestRecording 2 = .ok (.aload_n 0, 1) := dk_42 (dk_at dksX0_loudestRecording_0 2 rfl rfl)
theorem dX0_loudestRecording_3 : decode cX0_loudestRecording 3 = .ok (.invokevirtual 60, 3) := dk_182 0 60 (dk_at dksX0_loudestRecording_0 3 rfl rfl)
theorem dX0_loudestRecording_6 : decode cX0_loudestRecording 6 = .ok (.i2l, 1) := dk_133 (dk_at dksX0_loudestRecording_0 6 rfl rfl)
theorem dX0_loudestRecording_7 : decode cX0_loudestRecording 7 = .ok (.lastore, 1) := dk_80 (dk_at dksX0_loudestRecording_0 7 rfl rfl)
theorem dX0_loudestRecording_8 : decode cX0_loudestRecording 8 = .ok (.goto 6, 3) := dk_167 0 6 (dk_at dksX0_loudestRecording_0 8 rfl rfl)
theorem dX0_loudestRecording_11 : decode cX0_loudestRecording 11 = .ok (.astore_n 2, 1) := dk_77 (dk_at dksX0_loudestRecording_0 11 rfl rfl)
theorem dX0_loudestRecording_12 : decode cX0_loudestRecording 12 = .ok (.iconst 1, 1) := dk_4 (dk_at dksX0_loudestRecording_0 12 rfl rfl)
theorem dX0_loudestRecording_13 : decode cX0_loudestRecording 13 = .ok (.ireturn, 1) := dk_172 (dk_at dksX0_loudestRecording_0 13 rfl rfl)
theorem dX0_loudestRecording_14 : decode cX0_loudestRecording 14 = .ok (.iconst 0, 1) := dk_3 (dk_at dksX0_loudestRecording_0 14 rfl rfl)
theorem dX0_loudestRecording_15 : decode cX0_loudestRecording 15 = .ok (.ireturn, 1) := dk_172 (dk_at dksX0_loudestRecording_0 15 rfl rfl)
abbrev cX0_walsh : ByteArray := method_16_code
def yX0_walsh : MethodName := ⟨RX0, "walsh", "(LWalshAnalyzer;III[J)I"⟩
def dkwX0_walsh_0 : List UInt8 := [25, 4, 3, 42, 27, 28, 29, 182, 0, 65, 133, 80, 167, 0, 7, 58, 5, 4, 172, 3, 172]
abbrev dktX0_walsh_0 : List UInt8 := dkwX0_walsh_0 ++ []
theorem dksX0_walsh_0 : cX0_walsh.data.toList.drop 0 = dktX0_walsh_0 := by decide +kernel
theorem dX0_walsh_0 : decode cX0_walsh 0 = .ok (.aload 4, 2) := dk_25 4 (dk_at dksX0_walsh_0 0 rfl rfl)
theorem dX0_walsh_2 : decode cX0_walsh 2 = .ok (.iconst 0, 1) := dk_3 (dk_at dksX0_walsh_0 2 rfl rfl)
theorem dX0_walsh_3 : decode cX0_walsh 3 = .ok (.aload_n 0, 1) := dk_42 (dk_at dksX0_walsh_0 3 rfl rfl)
theorem dX0_walsh_4 : decode cX0_walsh 4 = .ok (.iload_n 1, 1) := dk_27 (dk_at dksX0_walsh_0 4 rfl rfl)
theorem dX0_walsh_5 : decode cX0_walsh 5 = .ok (.iload_n 2, 1) := dk_28 (dk_at dksX0_walsh_0 5 rfl rfl)
theorem dX0_walsh_6 : decode cX0_walsh 6 = .ok (.iload_n 3, 1) := dk_29 (dk_at dksX0_walsh_0 6 rfl rfl)
theorem dX0_walsh_7 : decode cX0_walsh 7 = .ok (.invokevirtual 65, 3) := dk_182 0 65 (dk_at dksX0_walsh_0 7 rfl rfl)
theorem dX0_walsh_10 : decode cX0_walsh 10 = .ok (.i2l, 1) := dk_133 (dk_at dksX0_walsh_0 10 rfl rfl)
theorem dX0_walsh_11 : decode cX0_walsh 11 = .ok (.lastore, 1) := dk_80 (dk_at dksX0_walsh_0 11 rfl rfl)
theorem dX0_walsh_12 : decode cX0_walsh 12 = .ok (.goto 7, 3) := dk_167 0 7 (dk_at dksX0_walsh_0 12 rfl rfl)
theorem dX0_walsh_15 : decode cX0_walsh 15 = .ok (.astore 5, 2) := dk_58 5 (dk_at dksX0_walsh_0 15 rfl rfl)
theorem dX0_walsh_17 : decode cX0_walsh 17 = .ok (.iconst 1, 1) := dk_4 (dk_at dksX0_walsh_0 17 rfl rfl)
theorem dX0_walsh_18 : decode cX0_walsh 18 = .ok (.ireturn, 1) := dk_172 (dk_at dksX0_walsh_0 18 rfl rfl)
theorem dX0_walsh_19 : decode cX0_walsh 19 = .ok (.iconst 0, 1) := dk_3 (dk_at dksX0_walsh_0 19 rfl rfl)
theorem dX0_walsh_20 : decode cX0_walsh 20 = .ok (.ireturn, 1) := dk_172 (dk_at dksX0_walsh_0 20 rfl rfl)
abbrev cX0_sequency : ByteArray := method_17_code
def yX0_sequency : MethodName := ⟨RX0, "sequency", "(LWalshAnalyzer;II[J)I"⟩
def dkwX0_sequency_0 : List UInt8 := [45, 3, 42, 27, 28, 182, 0, 68, 133, 80, 167, 0, 7, 58, 4, 4, 172, 3, 172]
abbrev dktX0_sequency_0 : List UInt8 := dkwX0_sequency_0 ++ []
theorem dksX0_sequency_0 : cX0_sequency.data.toList.drop 0 = dktX0_sequency_0 := by decide +kernel
theorem dX0_sequency_0 : decode cX0_sequency 0 = .ok (.aload_n 3, 1) := dk_45 (dk_at dksX0_sequency_0 0 rfl rfl)
theorem dX0_sequency_1 : decode cX0_sequency 1 = .ok (.iconst 0, 1) := dk_3 (dk_at dksX0_sequency_0 1 rfl rfl)
theorem dX0_sequency_2 : decode cX0_sequency 2 = .ok (.aload_n 0, 1) := dk_42 (dk_at dksX0_sequency_0 2 rfl rfl)
theorem dX0_sequency_3 : decode cX0_sequency 3 = .ok (.iload_n 1, 1) := dk_27 (dk_at dksX0_sequency_0 3 rfl rfl)
theorem dX0_sequency_4 : decode cX0_sequency 4 = .ok (.iload_n 2, 1) := dk_28 (dk_at dksX0_sequency_0 4 rfl rfl)
theorem dX0_sequency_5 : decode cX0_sequency 5 = .ok (.invokevirtual 68, 3) := dk_182 0 68 (dk_at dksX0_sequency_0 5 rfl rfl)
theorem dX0_sequency_8 : decode cX0_sequency 8 = .ok (.i2l, 1) := dk_133 (dk_at dksX0_sequency_0 8 rfl rfl)
theorem dX0_sequency_9 : decode cX0_sequency 9 = .ok (.lastore, 1) := dk_80 (dk_at dksX0_sequency_0 9 rfl rfl)
theorem dX0_sequency_10 : decode cX0_sequency 10 = .ok (.goto 7, 3) := dk_167 0 7 (dk_at dksX0_sequency_0 10 rfl rfl)
theorem dX0_sequency_13 : decode cX0_sequency 13 = .ok (.astore 4, 2) := dk_58 4 (dk_at dksX0_sequency_0 13 rfl rfl)
theorem dX0_sequency_15 : decode cX0_sequency 15 = .ok (.iconst 1, 1) := dk_4 (dk_at dksX0_sequency_0 15 rfl rfl)
theorem dX0_sequency_16 : decode cX0_sequency 16 = .ok (.ireturn, 1) := dk_172 (dk_at dksX0_sequency_0 16 rfl rfl)
theorem dX0_sequency_17 : decode cX0_sequency 17 = .ok (.iconst 0, 1) := dk_3 (dk_at dksX0_sequency_0 17 rfl rfl)
theorem dX0_sequency_18 : decode cX0_sequency 18 = .ok (.ireturn, 1) := dk_172 (dk_at dksX0_sequency_0 18 rfl rfl)
abbrev cX0_indexOfSequency : ByteArray := method_18_code
def yX0_indexOfSequency : MethodName := ⟨RX0, "indexOfSequency", "(LWalshAnalyzer;II[J)I"⟩
def dkwX0_indexOfSequency_0 : List UInt8 := [45, 3, 42, 27, 28, 182, 0, 71, 133, 80, 167, 0, 7, 58, 4, 4, 172, 3, 172]
abbrev dktX0_indexOfSequency_0 : List UInt8 := dkwX0_indexOfSequency_0 ++ []
theorem dksX0_indexOfSequency_0 : cX0_indexOfSequency.data.toList.drop 0 = dktX0_indexOfSequency_0 := by decide +kernel
theorem dX0_indexOfSequency_0 : decode cX0_indexOfSequency 0 = .ok (.aload_n 3, 1) := dk_45 (dk_at dksX0_indexOfSequency_0 0 rfl rfl)
theorem dX0_indexOfSequency_1 : decode cX0_indexOfSequency 1 = .ok (.iconst 0, 1) := dk_3 (dk_at dksX0_indexOfSequency_0 1 rfl rfl)
theorem dX0_indexOfSequency_2 : decode cX0_indexOfSequency 2 = .ok (.aload_n 0, 1) := dk_42 (dk_at dksX0_indexOfSequency_0 2 rfl rfl)
theorem dX0_indexOfSequency_3 : decode cX0_indexOfSequency 3 = .ok (.iload_n 1, 1) := dk_27 (dk_at dksX0_indexOfSequency_0 3 rfl rfl)
theorem dX0_indexOfSequency_4 : decode cX0_indexOfSequency 4 = .ok (.iload_n 2, 1) := dk_28 (dk_at dksX0_indexOfSequency_0 4 rfl rfl)
theorem dX0_indexOfSequency_5 : decode cX0_indexOfSequency 5 = .ok (.invokevirtual 71, 3) := dk_182 0 71 (dk_at dksX0_indexOfSequency_0 5 rfl rfl)
theorem dX0_indexOfSequency_8 : decode cX0_indexOfSequency 8 = .ok (.i2l, 1) := dk_133 (dk_at dksX0_indexOfSequency_0 8 rfl rfl)
theorem dX0_indexOfSequency_9 : decode cX0_indexOfSequency 9 = .ok (.lastore, 1) := dk_80 (dk_at dksX0_indexOfSequency_0 9 rfl rfl)
theorem dX0_indexOfSequency_10 : decode cX0_indexOfSequency 10 = .ok (.goto 7, 3) := dk_167 0 7 (dk_at dksX0_indexOfSequency_0 10 rfl rfl)
theorem dX0_indexOfSequency_13 : decode cX0_indexOfSequency 13 = .ok (.astore 4, 2) := dk_58 4 (dk_at dksX0_indexOfSequency_0 13 rfl rfl)
theorem dX0_indexOfSequency_15 : decode cX0_indexOfSequency 15 = .ok (.iconst 1, 1) := dk_4 (dk_at dksX0_indexOfSequency_0 15 rfl rfl)
theorem dX0_indexOfSequency_16 : decode cX0_indexOfSequency 16 = .ok (.ireturn, 1) := dk_172 (dk_at dksX0_indexOfSequency_0 16 rfl rfl)
theorem dX0_indexOfSequency_17 : decode cX0_indexOfSequency 17 = .ok (.iconst 0, 1) := dk_3 (dk_at dksX0_indexOfSequency_0 17 rfl rfl)
theorem dX0_indexOfSequency_18 : decode cX0_indexOfSequency 18 = .ok (.ireturn, 1) := dk_172 (dk_at dksX0_indexOfSequency_0 18 rfl rfl)
abbrev cX0_coefficient : ByteArray := method_19_code
def yX0_coefficient : MethodName := ⟨RX0, "coefficient", "(LWalshAnalyzer;II[J)I"⟩
def dkwX0_coefficient_0 : List UInt8 := [45, 3, 42, 27, 28, 182, 0, 74, 133, 80, 167, 0, 7, 58, 4, 4, 172, 3, 172]
abbrev dktX0_coefficient_0 : List UInt8 := dkwX0_coefficient_0 ++ []
theorem dksX0_coefficient_0 : cX0_coefficient.data.toList.drop 0 = dktX0_coefficient_0 := by decide +kernel
theorem dX0_coefficient_0 : decode cX0_coefficient 0 = .ok (.aload_n 3, 1) := dk_45 (dk_at dksX0_coefficient_0 0 rfl rfl)
theorem dX0_coefficient_1 : decode cX0_coefficient 1 = .ok (.iconst 0, 1) := dk_3 (dk_at dksX0_coefficient_0 1 rfl rfl)
theorem dX0_coefficient_2 : decode cX0_coefficient 2 = .ok (.aload_n 0, 1) := dk_42 (dk_at dksX0_coefficient_0 2 rfl rfl)
theorem dX0_coefficient_3 : decode cX0_coefficient 3 = .ok (.iload_n 1, 1) := dk_27 (dk_at dksX0_coefficient_0 3 rfl rfl)
theorem dX0_coefficient_4 : decode cX0_coefficient 4 = .ok (.iload_n 2, 1) := dk_28 (dk_at dksX0_coefficient_0 4 rfl rfl)
theorem dX0_coefficient_5 : decode cX0_coefficient 5 = .ok (.invokevirtual 74, 3) := dk_182 0 74 (dk_at dksX0_coefficient_0 5 rfl rfl)
theorem dX0_coefficient_8 : decode cX0_coefficient 8 = .ok (.i2l, 1) := dk_133 (dk_at dksX0_coefficient_0 8 rfl rfl)
theorem dX0_coefficient_9 : decode cX0_coefficient 9 = .ok (.lastore, 1) := dk_80 (dk_at dksX0_coefficient_0 9 rfl rfl)
theorem dX0_coefficient_10 : decode cX0_coefficient 10 = .ok (.goto 7, 3) := dk_167 0 7 (dk_at dksX0_coefficient_0 10 rfl rfl)
theorem dX0_coefficient_13 : decode cX0_coefficient 13 = .ok (.astore 4, 2) := dk_58 4 (dk_at dksX0_coefficient_0 13 rfl rfl)
theorem dX0_coefficient_15 : decode cX0_coefficient 15 = .ok (.iconst 1, 1) := dk_4 (dk_at dksX0_coefficient_0 15 rfl rfl)
theorem dX0_coefficient_16 : decode cX0_coefficient 16 = .ok (.ireturn, 1) := dk_172 (dk_at dksX0_coefficient_0 16 rfl rfl)
theorem dX0_coefficient_17 : decode cX0_coefficient 17 = .ok (.iconst 0, 1) := dk_3 (dk_at dksX0_coefficient_0 17 rfl rfl)
theorem dX0_coefficient_18 : decode cX0_coefficient 18 = .ok (.ireturn, 1) := dk_172 (dk_at dksX0_coefficient_0 18 rfl rfl)
abbrev cX0_tones : ByteArray := method_20_code
def yX0_tones : MethodName := ⟨RX0, "tones", "(LWalshAnalyzer;I[J)I"⟩
def dkwX0_tones_0 : List UInt8 := [44, 3, 42, 27, 182, 0, 77, 133, 80, 167, 0, 6, 78, 4, 172, 3, 172]
abbrev dktX0_tones_0 : List UInt8 := dkwX0_tones_0 ++ []
theorem dksX0_tones_0 : cX0_tones.data.toList.drop 0 = dktX0_tones_0 := by decide +kernel
theorem dX0_tones_0 : decode cX0_tones 0 = .ok (.aload_n 2, 1) := dk_44 (dk_at dksX0_tones_0 0 rfl rfl)
theorem dX0_tones_1 : decode cX0_tones 1 = .ok (.iconst 0, 1) := dk_3 (dk_at dksX0_tones_0 1 rfl rfl)
theorem dX0_tones_2 : decode cX0_tones 2 = .ok (.aload_n 0, 1) := dk_42 (dk_at dksX0_tones_0 2 rfl rfl)
theorem dX0_tones_3 : decode cX0_tones 3 = .ok (.iload_n 1, 1) := dk_27 (dk_at dksX0_tones_0 3 rfl rfl)
theorem dX0_tones_4 : decode cX0_tones 4 = .ok (.invokevirtual 77, 3) := dk_182 0 77 (dk_at dksX0_tones_0 4 rfl rfl)
theorem dX0_tones_7 : decode cX0_tones 7 = .ok (.i2l, 1) := dk_133 (dk_at dksX0_tones_0 7 rfl rfl)
theorem dX0_tones_8 : decode cX0_tones 8 = .ok (.lastore, 1) := dk_80 (dk_at dksX0_tones_0 8 rfl rfl)
theorem dX0_tones_9 : decode cX0_tones 9 = .ok (.goto 6, 3) := dk_167 0 6 (dk_at dksX0_tones_0 9 rfl rfl)
theorem dX0_tones_12 : decode cX0_tones 12 = .ok (.astore_n 3, 1) := dk_78 (dk_at dksX0_tones_0 12 rfl rfl)
theorem dX0_tones_13 : decode cX0_tones 13 = .ok (.iconst 1, 1) := dk_4 (dk_at dksX0_tones_0 13 rfl rfl)
theorem dX0_tones_14 : decode cX0_tones 14 = .ok (.ireturn, 1) := dk_172 (dk_at dksX0_tones_0 14 rfl rfl)
theorem dX0_tones_15 : decode cX0_tones 15 = .ok (.iconst 0, 1) := dk_3 (dk_at dksX0_tones_0 15 rfl rfl)
theorem dX0_tones_16 : decode cX0_tones 16 = .ok (.ireturn, 1) := dk_172 (dk_at dksX0_tones_0 16 rfl rfl)
abbrev cX0_bandEnergy : ByteArray := method_21_code
def yX0_bandEnergy : MethodName := ⟨RX0, "bandEnergy", "(LWalshAnalyzer;III[J)I"⟩
def dkwX0_bandEnergy_0 : List UInt8 := [25, 4, 3, 42, 27, 28, 29, 182, 0, 80, 80, 167, 0, 11, 58, 5, 4, 172, 58, 5, 5, 172, 3, 172]
abbrev dktX0_bandEnergy_0 : List UInt8 := dkwX0_bandEnergy_0 ++ []
theorem dksX0_bandEnergy_0 : cX0_bandEnergy.data.toList.drop 0 = dktX0_bandEnergy_0 := by decide +kernel
theorem dX0_bandEnergy_0 : decode cX0_bandEnergy 0 = .ok (.aload 4, 2) := dk_25 4 (dk_at dksX0_bandEnergy_0 0 rfl rfl)
theorem dX0_bandEnergy_2 : decode cX0_bandEnergy 2 = .ok (.iconst 0, 1) := dk_3 (dk_at dksX0_bandEnergy_0 2 rfl rfl)
theorem dX0_bandEnergy_3 : decode cX0_bandEnergy 3 = .ok (.aload_n 0, 1) := dk_42 (dk_at dksX0_bandEnergy_0 3 rfl rfl)
theorem dX0_bandEnergy_4 : decode cX0_bandEnergy 4 = .ok (.iload_n 1, 1) := dk_27 (dk_at dksX0_bandEnergy_0 4 rfl rfl)
theorem dX0_bandEnergy_5 : decode cX0_bandEnergy 5 = .ok (.iload_n 2, 1) := dk_28 (dk_at dksX0_bandEnergy_0 5 rfl rfl)
theorem dX0_bandEnergy_6 : decode cX0_bandEnergy 6 = .ok (.iload_n 3, 1) := dk_29 (dk_at dksX0_bandEnergy_0 6 rfl rfl)
theorem dX0_bandEnergy_7 : decode cX0_bandEnergy 7 = .ok (.invokevirtual 80, 3) := dk_182 0 80 (dk_at dksX0_bandEnergy_0 7 rfl rfl)
theorem dX0_bandEnergy_10 : decode cX0_bandEnergy 10 = .ok (.lastore, 1) := dk_80 (dk_at dksX0_bandEnergy_0 10 rfl rfl)
theorem dX0_bandEnergy_11 : decode cX0_bandEnergy 11 = .ok (.goto 11, 3) := dk_167 0 11 (dk_at dksX0_bandEnergy_0 11 rfl rfl)
theorem dX0_bandEnergy_14 : decode cX0_bandEnergy 14 = .ok (.astore 5, 2) := dk_58 5 (dk_at dksX0_bandEnergy_0 14 rfl rfl)
theorem dX0_bandEnergy_16 : decode cX0_bandEnergy 16 = .ok (.iconst 1, 1) := dk_4 (dk_at dksX0_bandEnergy_0 16 rfl rfl)
theorem dX0_bandEnergy_17 : decode cX0_bandEnergy 17 = .ok (.ireturn, 1) := dk_172 (dk_at dksX0_bandEnergy_0 17 rfl rfl)
theorem dX0_bandEnergy_18 : decode cX0_bandEnergy 18 = .ok (.astore 5, 2) := dk_58 5 (dk_at dksX0_bandEnergy_0 18 rfl rfl)
theorem dX0_bandEnergy_20 : decode cX0_bandEnergy 20 = .ok (.iconst 2, 1) := dk_5 (dk_at dksX0_bandEnergy_0 20 rfl rfl)
theorem dX0_bandEnergy_21 : decode cX0_bandEnergy 21 = .ok (.ireturn, 1) := dk_172 (dk_at dksX0_bandEnergy_0 21 rfl rfl)
theorem dX0_bandEnergy_22 : decode cX0_bandEnergy 22 = .ok (.iconst 0, 1) := dk_3 (dk_at dksX0_bandEnergy_0 22 rfl rfl)
theorem dX0_bandEnergy_23 : decode cX0_bandEnergy 23 = .ok (.ireturn, 1) := dk_172 (dk_at dksX0_bandEnergy_0 23 rfl rfl)
abbrev cX0_strongestBand : ByteArray := method_22_code
def yX0_strongestBand : MethodName := ⟨RX0, "strongestBand", "(LWalshAnalyzer;II[J)I"⟩
def dkwX0_strongestBand_0 : List UInt8 := [45, 3, 42, 27, 28, 182, 0, 84, 133, 80, 167, 0, 11, 58, 4, 4, 172, 58, 4, 5, 172, 3, 172]
abbrev dktX0_strongestBand_0 : List UInt8 := dkwX0_strongestBand_0 ++ []
theorem dksX0_strongestBand_0 : cX0_strongestBand.data.toList.drop 0 = dktX0_strongestBand_0 := by decide +kernel
theorem dX0_strongestBand_0 : decode cX0_strongestBand 0 = .ok (.aload_n 3, 1) := dk_45 (dk_at dksX0_strongestBand_0 0 rfl rfl)
theorem dX0_strongestBand_1 : decode cX0_strongestBand 1 = .ok (.iconst 0, 1) := dk_3 (dk_at dksX0_strongestBand_0 1 rfl rfl)
theorem dX0_strongestBand_2 : decode cX0_strongestBand 2 = .ok (.aload_n 0, 1) := dk_42 (dk_at dksX0_strongestBand_0 2 rfl rfl)
theorem dX0_strongestBand_3 : decode cX0_strongestBand 3 = .ok (.iload_n 1, 1) := dk_27 (dk_at dksX0_strongestBand_0 3 rfl rfl)
theorem dX0_strongestBand_4 : decode cX0_strongestBand 4 = .ok (.iload_n 2, 1) := dk_28 (dk_at dksX0_strongestBand_0 4 rfl rfl)
theorem dX0_strongestBand_5 : decode cX0_strongestBand 5 = .ok (.invokevirtual 84, 3) := dk_182 0 84 (dk_at dksX0_strongestBand_0 5 rfl rfl)
theorem dX0_strongestBand_8 : decode cX0_strongestBand 8 = .ok (.i2l, 1) := dk_133 (dk_at dksX0_strongestBand_0 8 rfl rfl)
theorem dX0_strongestBand_9 : decode cX0_strongestBand 9 = .ok (.lastore, 1) := dk_80 (dk_at dksX0_strongestBand_0 9 rfl rfl)
theorem dX0_strongestBand_10 : decode cX0_strongestBand 10 = .ok (.goto 11, 3) := dk_167 0 11 (dk_at dksX0_strongestBand_0 10 rfl rfl)
theorem dX0_strongestBand_13 : decode cX0_strongestBand 13 = .ok (.astore 4, 2) := dk_58 4 (dk_at dksX0_strongestBand_0 13 rfl rfl)
theorem dX0_strongestBand_15 : decode cX0_strongestBand 15 = .ok (.iconst 1, 1) := dk_4 (dk_at dksX0_strongestBand_0 15 rfl rfl)
theorem dX0_strongestBand_16 : decode cX0_strongestBand 16 = .ok (.ireturn, 1) := dk_172 (dk_at dksX0_strongestBand_0 16 rfl rfl)
theorem dX0_strongestBand_17 : decode cX0_strongestBand 17 = .ok (.astore 4, 2) := dk_58 4 (dk_at dksX0_strongestBand_0 17 rfl rfl)
theorem dX0_strongestBand_19 : decode cX0_strongestBand 19 = .ok (.iconst 2, 1) := dk_5 (dk_at dksX0_strongestBand_0 19 rfl rfl)
theorem dX0_strongestBand_20 : decode cX0_strongestBand 20 = .ok (.ireturn, 1) := dk_172 (dk_at dksX0_strongestBand_0 20 rfl rfl)
theorem dX0_strongestBand_21 : decode cX0_strongestBand 21 = .ok (.iconst 0, 1) := dk_3 (dk_at dksX0_strongestBand_0 21 rfl rfl)
theorem dX0_strongestBand_22 : decode cX0_strongestBand 22 = .ok (.ireturn, 1) := dk_172 (dk_at dksX0_strongestBand_0 22 rfl rfl)
abbrev cX0_tonesAbove : ByteArray := method_23_code
def yX0_tonesAbove : MethodName := ⟨RX0, "tonesAbove", "(LWalshAnalyzer;II[J)I"⟩
def dkwX0_tonesAbove_0 : List UInt8 := [45, 3, 42, 27, 28, 182, 0, 87, 133, 80, 167, 0, 11, 58, 4, 4, 172, 58, 4, 5, 172, 3, 172]
abbrev dktX0_tonesAbove_0 : List UInt8 := dkwX0_tonesAbove_0 ++ []
theorem dksX0_tonesAbove_0 : cX0_tonesAbove.data.toList.drop 0 = dktX0_tonesAbove_0 := by decide +kernel
theorem dX0_tonesAbove_0 : decode cX0_tonesAbove 0 = .ok (.aload_n 3, 1) := dk_45 (dk_at dksX0_tonesAbove_0 0 rfl rfl)
theorem dX0_tonesAbove_1 : decode cX0_tonesAbove 1 = .ok (.iconst 0, 1) := dk_3 (dk_at dksX0_tonesAbove_0 1 rfl rfl)
theorem dX0_tonesAbove_2 : decode cX0_tonesAbove 2 = .ok (.aload_n 0, 1) := dk_42 (dk_at dksX0_tonesAbove_0 2 rfl rfl)
theorem dX0_tonesAbove_3 : decode cX0_tonesAbove 3 = .ok (.iload_n 1, 1) := dk_27 (dk_at dksX0_tonesAbove_0 3 rfl rfl)
theorem dX0_tonesAbove_4 : decode cX0_tonesAbove 4 = .ok (.iload_n 2, 1) := dk_28 (dk_at dksX0_tonesAbove_0 4 rfl rfl)
theorem dX0_tonesAbove_5 : decode cX0_tonesAbove 5 = .ok (.invokevirtual 87, 3) := dk_182 0 87 (dk_at dksX0_tonesAbove_0 5 rfl rfl)
theorem dX0_tonesAbove_8 : decode cX0_tonesAbove 8 = .ok (.i2l, 1) := dk_133 (dk_at dksX0_tonesAbove_0 8 rfl rfl)
theorem dX0_tonesAbove_9 : decode cX0_tonesAbove 9 = .ok (.lastore, 1) := dk_80 (dk_at dksX0_tonesAbove_0 9 rfl rfl)
theorem dX0_tonesAbove_10 : decode cX0_tonesAbove 10 = .ok (.goto 11, 3) := dk_167 0 11 (dk_at dksX0_tonesAbove_0 10 rfl rfl)
theorem dX0_tonesAbove_13 : decode cX0_tonesAbove 13 = .ok (.astore 4, 2) := dk_58 4 (dk_at dksX0_tonesAbove_0 13 rfl rfl)
theorem dX0_tonesAbove_15 : decode cX0_tonesAbove 15 = .ok (.iconst 1, 1) := dk_4 (dk_at dksX0_tonesAbove_0 15 rfl rfl)
theorem dX0_tonesAbove_16 : decode cX0_tonesAbove 16 = .ok (.ireturn, 1) := dk_172 (dk_at dksX0_tonesAbove_0 16 rfl rfl)
theorem dX0_tonesAbove_17 : decode cX0_tonesAbove 17 = .ok (.astore 4, 2) := dk_58 4 (dk_at dksX0_tonesAbove_0 17 rfl rfl)
theorem dX0_tonesAbove_19 : decode cX0_tonesAbove 19 = .ok (.iconst 2, 1) := dk_5 (dk_at dksX0_tonesAbove_0 19 rfl rfl)
theorem dX0_tonesAbove_20 : decode cX0_tonesAbove 20 = .ok (.ireturn, 1) := dk_172 (dk_at dksX0_tonesAbove_0 20 rfl rfl)
theorem dX0_tonesAbove_21 : decode cX0_tonesAbove 21 = .ok (.iconst 0, 1) := dk_3 (dk_at dksX0_tonesAbove_0 21 rfl rfl)
theorem dX0_tonesAbove_22 : decode cX0_tonesAbove 22 = .ok (.ireturn, 1) := dk_172 (dk_at dksX0_tonesAbove_0 22 rfl rfl)
abbrev cX0_meanSequency : ByteArray := method_24_code
def yX0_meanSequency : MethodName := ⟨RX0, "meanSequency", "(LWalshAnalyzer;I[D)I"⟩
def dkwX0_meanSequency_0 : List UInt8 := [44, 3, 42, 27, 182, 0, 90, 82, 167, 0, 6, 78, 4, 172, 3, 172]
abbrev dktX0_meanSequency_0 : List UInt8 := dkwX0_meanSequency_0 ++ []
theorem dksX0_meanSequency_0 : cX0_meanSequency.data.toList.drop 0 = dktX0_meanSequency_0 := by decide +kernel
theorem dX0_meanSequency_0 : decode cX0_meanSequency 0 = .ok (.aload_n 2, 1) := dk_44 (dk_at dksX0_meanSequency_0 0 rfl rfl)
theorem dX0_meanSequency_1 : decode cX0_meanSequency 1 = .ok (.iconst 0, 1) := dk_3 (dk_at dksX0_meanSequency_0 1 rfl rfl)
theorem dX0_meanSequency_2 : decode cX0_meanSequency 2 = .ok (.aload_n 0, 1) := dk_42 (dk_at dksX0_meanSequency_0 2 rfl rfl)
theorem dX0_meanSequency_3 : decode cX0_meanSequency 3 = .ok (.iload_n 1, 1) := dk_27 (dk_at dksX0_meanSequency_0 3 rfl rfl)
theorem dX0_meanSequency_4 : decode cX0_meanSequency 4 = .ok (.invokevirtual 90, 3) := dk_182 0 90 (dk_at dksX0_meanSequency_0 4 rfl rfl)
theorem dX0_meanSequency_7 : decode cX0_meanSequency 7 = .ok (.dastore, 1) := dk_82 (dk_at dksX0_meanSequency_0 7 rfl rfl)
theorem dX0_meanSequency_8 : decode cX0_meanSequency 8 = .ok (.goto 6, 3) := dk_167 0 6 (dk_at dksX0_meanSequency_0 8 rfl rfl)
theorem dX0_meanSequency_11 : decode cX0_meanSequency 11 = .ok (.astore_n 3, 1) := dk_78 (dk_at dksX0_meanSequency_0 11 rfl rfl)
theorem dX0_meanSequency_12 : decode cX0_meanSequency 12 = .ok (.iconst 1, 1) := dk_4 (dk_at dksX0_meanSequency_0 12 rfl rfl)
theorem dX0_meanSequency_13 : decode cX0_meanSequency 13 = .ok (.ireturn, 1) := dk_172 (dk_at dksX0_meanSequency_0 13 rfl rfl)
theorem dX0_meanSequency_14 : decode cX0_meanSequency 14 = .ok (.iconst 0, 1) := dk_3 (dk_at dksX0_meanSequency_0 14 rfl rfl)
theorem dX0_meanSequency_15 : decode cX0_meanSequency 15 = .ok (.ireturn, 1) := dk_172 (dk_at dksX0_meanSequency_0 15 rfl rfl)
abbrev cX0_peak : ByteArray := method_25_code
def yX0_peak : MethodName := ⟨RX0, "peak", "(LWalshAnalyzer;II[J)I"⟩
def dkwX0_peak_0 : List UInt8 := [45, 3, 42, 27, 28, 182, 0, 93, 133, 80, 167, 0, 7, 58, 4, 4, 172, 3, 172]
abbrev dktX0_peak_0 : List UInt8 := dkwX0_peak_0 ++ []
theorem dksX0_peak_0 : cX0_peak.data.toList.drop 0 = dktX0_peak_0 := by decide +kernel
theorem dX0_peak_0 : decode cX0_peak 0 = .ok (.aload_n 3, 1) := dk_45 (dk_at dksX0_peak_0 0 rfl rfl)
theorem dX0_peak_1 : decode cX0_peak 1 = .ok (.iconst 0, 1) := dk_3 (dk_at dksX0_peak_0 1 rfl rfl)
theorem dX0_peak_2 : decode cX0_peak 2 = .ok (.aload_n 0, 1) := dk_42 (dk_at dksX0_peak_0 2 rfl rfl)
theorem dX0_peak_3 : decode cX0_peak 3 = .ok (.iload_n 1, 1) := dk_27 (dk_at dksX0_peak_0 3 rfl rfl)
theorem dX0_peak_4 : decode cX0_peak 4 = .ok (.iload_n 2, 1) := dk_28 (dk_at dksX0_peak_0 4 rfl rfl)
theorem dX0_peak_5 : decode cX0_peak 5 = .ok (.invokevirtual 93, 3) := dk_182 0 93 (dk_at dksX0_peak_0 5 rfl rfl)
theorem dX0_peak_8 : decode cX0_peak 8 = .ok (.i2l, 1) := dk_133 (dk_at dksX0_peak_0 8 rfl rfl)
theorem dX0_peak_9 : decode cX0_peak 9 = .ok (.lastore, 1) := dk_80 (dk_at dksX0_peak_0 9 rfl rfl)
theorem dX0_peak_10 : decode cX0_peak 10 = .ok (.goto 7, 3) := dk_167 0 7 (dk_at dksX0_peak_0 10 rfl rfl)
theorem dX0_peak_13 : decode cX0_peak 13 = .ok (.astore 4, 2) := dk_58 4 (dk_at dksX0_peak_0 13 rfl rfl)
theorem dX0_peak_15 : decode cX0_peak 15 = .ok (.iconst 1, 1) := dk_4 (dk_at dksX0_peak_0 15 rfl rfl)
theorem dX0_peak_16 : decode cX0_peak 16 = .ok (.ireturn, 1) := dk_172 (dk_at dksX0_peak_0 16 rfl rfl)
theorem dX0_peak_17 : decode cX0_peak 17 = .ok (.iconst 0, 1) := dk_3 (dk_at dksX0_peak_0 17 rfl rfl)
theorem dX0_peak_18 : decode cX0_peak 18 = .ok (.ireturn, 1) := dk_172 (dk_at dksX0_peak_0 18 rfl rfl)
abbrev cX0_rank : ByteArray := method_26_code
def yX0_rank : MethodName := ⟨RX0, "rank", "(LWalshAnalyzer;II[J)I"⟩
def dkwX0_rank_0 : List UInt8 := [45, 3, 42, 27, 28, 182, 0, 96, 133, 80, 167, 0, 7, 58, 4, 4, 172, 3, 172]
abbrev dktX0_rank_0 : List UInt8 := dkwX0_rank_0 ++ []
theorem dksX0_rank_0 : cX0_rank.data.toList.drop 0 = dktX0_rank_0 := by decide +kernel
theorem dX0_rank_0 : decode cX0_rank 0 = .ok (.aload_n 3, 1) := dk_45 (dk_at dksX0_rank_0 0 rfl rfl)
theorem dX0_rank_1 : decode cX0_rank 1 = .ok (.iconst 0, 1) := dk_3 (dk_at dksX0_rank_0 1 rfl rfl)
theorem dX0_rank_2 : decode cX0_rank 2 = .ok (.aload_n 0, 1) := dk_42 (dk_at dksX0_rank_0 2 rfl rfl)
theorem dX0_rank_3 : decode cX0_rank 3 = .ok (.iload_n 1, 1) := dk_27 (dk_at dksX0_rank_0 3 rfl rfl)
theorem dX0_rank_4 : decode cX0_rank 4 = .ok (.iload_n 2, 1) := dk_28 (dk_at dksX0_rank_0 4 rfl rfl)
theorem dX0_rank_5 : decode cX0_rank 5 = .ok (.invokevirtual 96, 3) := dk_182 0 96 (dk_at dksX0_rank_0 5 rfl rfl)
theorem dX0_rank_8 : decode cX0_rank 8 = .ok (.i2l, 1) := dk_133 (dk_at dksX0_rank_0 8 rfl rfl)
theorem dX0_rank_9 : decode cX0_rank 9 = .ok (.lastore, 1) := dk_80 (dk_at dksX0_rank_0 9 rfl rfl)
theorem dX0_rank_10 : decode cX0_rank 10 = .ok (.goto 7, 3) := dk_167 0 7 (dk_at dksX0_rank_0 10 rfl rfl)
theorem dX0_rank_13 : decode cX0_rank 13 = .ok (.astore 4, 2) := dk_58 4 (dk_at dksX0_rank_0 13 rfl rfl)
theorem dX0_rank_15 : decode cX0_rank 15 = .ok (.iconst 1, 1) := dk_4 (dk_at dksX0_rank_0 15 rfl rfl)
theorem dX0_rank_16 : decode cX0_rank 16 = .ok (.ireturn, 1) := dk_172 (dk_at dksX0_rank_0 16 rfl rfl)
theorem dX0_rank_17 : decode cX0_rank 17 = .ok (.iconst 0, 1) := dk_3 (dk_at dksX0_rank_0 17 rfl rfl)
theorem dX0_rank_18 : decode cX0_rank 18 = .ok (.ireturn, 1) := dk_172 (dk_at dksX0_rank_0 18 rfl rfl)
abbrev cX0_peaksFor : ByteArray := method_27_code
def yX0_peaksFor : MethodName := ⟨RX0, "peaksFor", "(LWalshAnalyzer;II[J)I"⟩
def dkwX0_peaksFor_0 : List UInt8 := [45, 3, 42, 27, 28, 182, 0, 99, 133, 80, 167, 0, 11, 58, 4, 4, 172, 58, 4, 5, 172, 3, 172]
abbrev dktX0_peaksFor_0 : List UInt8 := dkwX0_peaksFor_0 ++ []
theorem dksX0_peaksFor_0 : cX0_peaksFor.data.toList.drop 0 = dktX0_peaksFor_0 := by decide +kernel
theorem dX0_peaksFor_0 : decode cX0_peaksFor 0 = .ok (.aload_n 3, 1) := dk_45 (dk_at dksX0_peaksFor_0 0 rfl rfl)
theorem dX0_peaksFor_1 : decode cX0_peaksFor 1 = .ok (.iconst 0, 1) := dk_3 (dk_at dksX0_peaksFor_0 1 rfl rfl)
theorem dX0_peaksFor_2 : decode cX0_peaksFor 2 = .ok (.aload_n 0, 1) := dk_42 (dk_at dksX0_peaksFor_0 2 rfl rfl)
theorem dX0_peaksFor_3 : decode cX0_peaksFor 3 = .ok (.iload_n 1, 1) := dk_27 (dk_at dksX0_peaksFor_0 3 rfl rfl)
theorem dX0_peaksFor_4 : decode cX0_peaksFor 4 = .ok (.iload_n 2, 1) := dk_28 (dk_at dksX0_peaksFor_0 4 rfl rfl)
theorem dX0_peaksFor_5 : decode cX0_peaksFor 5 = .ok (.invokevirtual 99, 3) := dk_182 0 99 (dk_at dksX0_peaksFor_0 5 rfl rfl)
theorem dX0_peaksFor_8 : decode cX0_peaksFor 8 = .ok (.i2l, 1) := dk_133 (dk_at dksX0_peaksFor_0 8 rfl rfl)
theorem dX0_peaksFor_9 : decode cX0_peaksFor 9 = .ok (.lastore, 1) := dk_80 (dk_at dksX0_peaksFor_0 9 rfl rfl)
theorem dX0_peaksFor_10 : decode cX0_peaksFor 10 = .ok (.goto 11, 3) := dk_167 0 11 (dk_at dksX0_peaksFor_0 10 rfl rfl)
theorem dX0_peaksFor_13 : decode cX0_peaksFor 13 = .ok (.astore 4, 2) := dk_58 4 (dk_at dksX0_peaksFor_0 13 rfl rfl)
theorem dX0_peaksFor_15 : decode cX0_peaksFor 15 = .ok (.iconst 1, 1) := dk_4 (dk_at dksX0_peaksFor_0 15 rfl rfl)
theorem dX0_peaksFor_16 : decode cX0_peaksFor 16 = .ok (.ireturn, 1) := dk_172 (dk_at dksX0_peaksFor_0 16 rfl rfl)
theorem dX0_peaksFor_17 : decode cX0_peaksFor 17 = .ok (.astore 4, 2) := dk_58 4 (dk_at dksX0_peaksFor_0 17 rfl rfl)
theorem dX0_peaksFor_19 : decode cX0_peaksFor 19 = .ok (.iconst 2, 1) := dk_5 (dk_at dksX0_peaksFor_0 19 rfl rfl)
theorem dX0_peaksFor_20 : decode cX0_peaksFor 20 = .ok (.ireturn, 1) := dk_172 (dk_at dksX0_peaksFor_0 20 rfl rfl)
theorem dX0_peaksFor_21 : decode cX0_peaksFor 21 = .ok (.iconst 0, 1) := dk_3 (dk_at dksX0_peaksFor_0 21 rfl rfl)
theorem dX0_peaksFor_22 : decode cX0_peaksFor 22 = .ok (.ireturn, 1) := dk_172 (dk_at dksX0_peaksFor_0 22 rfl rfl)
abbrev cX0_purity : ByteArray := method_28_code
def yX0_purity : MethodName := ⟨RX0, "purity", "(LWalshAnalyzer;I[D)I"⟩
def dkwX0_purity_0 : List UInt8 := [44, 3, 42, 27, 182, 0, 102, 141, 82, 167, 0, 6, 78, 4, 172, 3, 172]
abbrev dktX0_purity_0 : List UInt8 := dkwX0_purity_0 ++ []
theorem dksX0_purity_0 : cX0_purity.data.toList.drop 0 = dktX0_purity_0 := by decide +kernel
theorem dX0_purity_0 : decode cX0_purity 0 = .ok (.aload_n 2, 1) := dk_44 (dk_at dksX0_purity_0 0 rfl rfl)
theorem dX0_purity_1 : decode cX0_purity 1 = .ok (.iconst 0, 1) := dk_3 (dk_at dksX0_purity_0 1 rfl rfl)
theorem dX0_purity_2 : decode cX0_purity 2 = .ok (.aload_n 0, 1) := dk_42 (dk_at dksX0_purity_0 2 rfl rfl)
theorem dX0_purity_3 : decode cX0_purity 3 = .ok (.iload_n 1, 1) := dk_27 (dk_at dksX0_purity_0 3 rfl rfl)
theorem dX0_purity_4 : decode cX0_purity 4 = .ok (.invokevirtual 102, 3) := dk_182 0 102 (dk_at dksX0_purity_0 4 rfl rfl)
theorem dX0_purity_7 : decode cX0_purity 7 = .ok (.f2d, 1) := dk_141 (dk_at dksX0_purity_0 7 rfl rfl)
theorem dX0_purity_8 : decode cX0_purity 8 = .ok (.dastore, 1) := dk_82 (dk_at dksX0_purity_0 8 rfl rfl)
theorem dX0_purity_9 : decode cX0_purity 9 = .ok (.goto 6, 3) := dk_167 0 6 (dk_at dksX0_purity_0 9 rfl rfl)
theorem dX0_purity_12 : decode cX0_purity 12 = .ok (.astore_n 3, 1) := dk_78 (dk_at dksX0_purity_0 12 rfl rfl)
theorem dX0_purity_13 : decode cX0_purity 13 = .ok (.iconst 1, 1) := dk_4 (dk_at dksX0_purity_0 13 rfl rfl)
theorem dX0_purity_14 : decode cX0_purity 14 = .ok (.ireturn, 1) := dk_172 (dk_at dksX0_purity_0 14 rfl rfl)
theorem dX0_purity_15 : decode cX0_purity 15 = .ok (.iconst 0, 1) := dk_3 (dk_at dksX0_purity_0 15 rfl rfl)
theorem dX0_purity_16 : decode cX0_purity 16 = .ok (.ireturn, 1) := dk_172 (dk_at dksX0_purity_0 16 rfl rfl)
abbrev cX0_distance : ByteArray := method_29_code
def yX0_distance : MethodName := ⟨RX0, "distance", "(LWalshAnalyzer;II[J)I"⟩
def dkwX0_distance_0 : List UInt8 := [45, 3, 42, 27, 28, 182, 0, 106, 133, 80, 167, 0, 11, 58, 4, 4, 172, 58, 4, 5, 172, 3, 172]
abbrev dktX0_distance_0 : List UInt8 := dkwX0_distance_0 ++ []
theorem dksX0_distance_0 : cX0_distance.data.toList.drop 0 = dktX0_distance_0 := by decide +kernel
theorem dX0_distance_0 : decode cX0_distance 0 = .ok (.aload_n 3, 1) := dk_45 (dk_at dksX0_distance_0 0 rfl rfl)
theorem dX0_distance_1 : decode cX0_distance 1 = .ok (.iconst 0, 1) := dk_3 (dk_at dksX0_distance_0 1 rfl rfl)
theorem dX0_distance_2 : decode cX0_distance 2 = .ok (.aload_n 0, 1) := dk_42 (dk_at dksX0_distance_0 2 rfl rfl)
theorem dX0_distance_3 : decode cX0_distance 3 = .ok (.iload_n 1, 1) := dk_27 (dk_at dksX0_distance_0 3 rfl rfl)
theorem dX0_distance_4 : decode cX0_distance 4 = .ok (.iload_n 2, 1) := dk_28 (dk_at dksX0_distance_0 4 rfl rfl)
theorem dX0_distance_5 : decode cX0_distance 5 = .ok (.invokevirtual 106, 3) := dk_182 0 106 (dk_at dksX0_distance_0 5 rfl rfl)
theorem dX0_distance_8 : decode cX0_distance 8 = .ok (.i2l, 1) := dk_133 (dk_at dksX0_distance_0 8 rfl rfl)
theorem dX0_distance_9 : decode cX0_distance 9 = .ok (.lastore, 1) := dk_80 (dk_at dksX0_distance_0 9 rfl rfl)
theorem dX0_distance_10 : decode cX0_distance 10 = .ok (.goto 11, 3) := dk_167 0 11 (dk_at dksX0_distance_0 10 rfl rfl)
theorem dX0_distance_13 : decode cX0_distance 13 = .ok (.astore 4, 2) := dk_58 4 (dk_at dksX0_distance_0 13 rfl rfl)
theorem dX0_distance_15 : decode cX0_distance 15 = .ok (.iconst 1, 1) := dk_4 (dk_at dksX0_distance_0 15 rfl rfl)
theorem dX0_distance_16 : decode cX0_distance 16 = .ok (.ireturn, 1) := dk_172 (dk_at dksX0_distance_0 16 rfl rfl)
theorem dX0_distance_17 : decode cX0_distance 17 = .ok (.astore 4, 2) := dk_58 4 (dk_at dksX0_distance_0 17 rfl rfl)
theorem dX0_distance_19 : decode cX0_distance 19 = .ok (.iconst 2, 1) := dk_5 (dk_at dksX0_distance_0 19 rfl rfl)
theorem dX0_distance_20 : decode cX0_distance 20 = .ok (.ireturn, 1) := dk_172 (dk_at dksX0_distance_0 20 rfl rfl)
theorem dX0_distance_21 : decode cX0_distance 21 = .ok (.iconst 0, 1) := dk_3 (dk_at dksX0_distance_0 21 rfl rfl)
theorem dX0_distance_22 : decode cX0_distance 22 = .ok (.ireturn, 1) := dk_172 (dk_at dksX0_distance_0 22 rfl rfl)
abbrev cX0_similarity : ByteArray := method_30_code
def yX0_similarity : MethodName := ⟨RX0, "similarity", "(LWalshAnalyzer;II[D)I"⟩
def dkwX0_similarity_0 : List UInt8 := [45, 3, 42, 27, 28, 182, 0, 109, 82, 167, 0, 11, 58, 4, 4, 172, 58, 4, 5, 172, 3, 172]
abbrev dktX0_similarity_0 : List UInt8 := dkwX0_similarity_0 ++ []
theorem dksX0_similarity_0 : cX0_similarity.data.toList.drop 0 = dktX0_similarity_0 := by decide +kernel
theorem dX0_similarity_0 : decode cX0_similarity 0 = .ok (.aload_n 3, 1) := dk_45 (dk_at dksX0_similarity_0 0 rfl rfl)
theorem dX0_similarity_1 : decode cX0_similarity 1 = .ok (.iconst 0, 1) := dk_3 (dk_at dksX0_similarity_0 1 rfl rfl)
theorem dX0_similarity_2 : decode cX0_similarity 2 = .ok (.aload_n 0, 1) := dk_42 (dk_at dksX0_similarity_0 2 rfl rfl)
theorem dX0_similarity_3 : decode cX0_similarity 3 = .ok (.iload_n 1, 1) := dk_27 (dk_at dksX0_similarity_0 3 rfl rfl)
theorem dX0_similarity_4 : decode cX0_similarity 4 = .ok (.iload_n 2, 1) := dk_28 (dk_at dksX0_similarity_0 4 rfl rfl)
theorem dX0_similarity_5 : decode cX0_similarity 5 = .ok (.invokevirtual 109, 3) := dk_182 0 109 (dk_at dksX0_similarity_0 5 rfl rfl)
theorem dX0_similarity_8 : decode cX0_similarity 8 = .ok (.dastore, 1) := dk_82 (dk_at dksX0_similarity_0 8 rfl rfl)
theorem dX0_similarity_9 : decode cX0_similarity 9 = .ok (.goto 11, 3) := dk_167 0 11 (dk_at dksX0_similarity_0 9 rfl rfl)
theorem dX0_similarity_12 : decode cX0_similarity 12 = .ok (.astore 4, 2) := dk_58 4 (dk_at dksX0_similarity_0 12 rfl rfl)
theorem dX0_similarity_14 : decode cX0_similarity 14 = .ok (.iconst 1, 1) := dk_4 (dk_at dksX0_similarity_0 14 rfl rfl)
theorem dX0_similarity_15 : decode cX0_similarity 15 = .ok (.ireturn, 1) := dk_172 (dk_at dksX0_similarity_0 15 rfl rfl)
theorem dX0_similarity_16 : decode cX0_similarity 16 = .ok (.astore 4, 2) := dk_58 4 (dk_at dksX0_similarity_0 16 rfl rfl)
theorem dX0_similarity_18 : decode cX0_similarity 18 = .ok (.iconst 2, 1) := dk_5 (dk_at dksX0_similarity_0 18 rfl rfl)
theorem dX0_similarity_19 : decode cX0_similarity 19 = .ok (.ireturn, 1) := dk_172 (dk_at dksX0_similarity_0 19 rfl rfl)
theorem dX0_similarity_20 : decode cX0_similarity 20 = .ok (.iconst 0, 1) := dk_3 (dk_at dksX0_similarity_0 20 rfl rfl)
theorem dX0_similarity_21 : decode cX0_similarity 21 = .ok (.ireturn, 1) := dk_172 (dk_at dksX0_similarity_0 21 rfl rfl)
abbrev cX0_nearest : ByteArray := method_31_code
def yX0_nearest : MethodName := ⟨RX0, "nearest", "(LWalshAnalyzer;I[J)I"⟩
def dkwX0_nearest_0 : List UInt8 := [44, 3, 42, 27, 182, 0, 113, 133, 80, 167, 0, 9, 78, 4, 172, 78, 5, 172, 3, 172]
abbrev dktX0_nearest_0 : List UInt8 := dkwX0_nearest_0 ++ []
theorem dksX0_nearest_0 : cX0_nearest.data.toList.drop 0 = dktX0_nearest_0 := by decide +kernel
theorem dX0_nearest_0 : decode cX0_nearest 0 = .ok (.aload_n 2, 1) := dk_44 (dk_at dksX0_nearest_0 0 rfl rfl)
theorem dX0_nearest_1 : decode cX0_nearest 1 = .ok (.iconst 0, 1) := dk_3 (dk_at dksX0_nearest_0 1 rfl rfl)
theorem dX0_nearest_2 : decode cX0_nearest 2 = .ok (.aload_n 0, 1) := dk_42 (dk_at dksX0_nearest_0 2 rfl rfl)
theorem dX0_nearest_3 : decode cX0_nearest 3 = .ok (.iload_n 1, 1) := dk_27 (dk_at dksX0_nearest_0 3 rfl rfl)
theorem dX0_nearest_4 : decode cX0_nearest 4 = .ok (.invokevirtual 113, 3) := dk_182 0 113 (dk_at dksX0_nearest_0 4 rfl rfl)
theorem dX0_nearest_7 : decode cX0_nearest 7 = .ok (.i2l, 1) := dk_133 (dk_at dksX0_nearest_0 7 rfl rfl)
theorem dX0_nearest_8 : decode cX0_nearest 8 = .ok (.lastore, 1) := dk_80 (dk_at dksX0_nearest_0 8 rfl rfl)
theorem dX0_nearest_9 : decode cX0_nearest 9 = .ok (.goto 9, 3) := dk_167 0 9 (dk_at dksX0_nearest_0 9 rfl rfl)
theorem dX0_nearest_12 : decode cX0_nearest 12 = .ok (.astore_n 3, 1) := dk_78 (dk_at dksX0_nearest_0 12 rfl rfl)
theorem dX0_nearest_13 : decode cX0_nearest 13 = .ok (.iconst 1, 1) := dk_4 (dk_at dksX0_nearest_0 13 rfl rfl)
theorem dX0_nearest_14 : decode cX0_nearest 14 = .ok (.ireturn, 1) := dk_172 (dk_at dksX0_nearest_0 14 rfl rfl)
theorem dX0_nearest_15 : decode cX0_nearest 15 = .ok (.astore_n 3, 1) := dk_78 (dk_at dksX0_nearest_0 15 rfl rfl)
theorem dX0_nearest_16 : decode cX0_nearest 16 = .ok (.iconst 2, 1) := dk_5 (dk_at dksX0_nearest_0 16 rfl rfl)
theorem dX0_nearest_17 : decode cX0_nearest 17 = .ok (.ireturn, 1) := dk_172 (dk_at dksX0_nearest_0 17 rfl rfl)
theorem dX0_nearest_18 : decode cX0_nearest 18 = .ok (.iconst 0, 1) := dk_3 (dk_at dksX0_nearest_0 18 rfl rfl)
theorem dX0_nearest_19 : decode cX0_nearest 19 = .ok (.ireturn, 1) := dk_172 (dk_at dksX0_nearest_0 19 rfl rfl)
abbrev cX0_correlation : ByteArray := method_32_code
def yX0_correlation : MethodName := ⟨RX0, "correlation", "(LWalshAnalyzer;III[J)I"⟩
def dkwX0_correlation_0 : List UInt8 := [25, 4, 3, 42, 27, 28, 29, 182, 0, 116, 80, 167, 0, 11, 58, 5, 4, 172, 58, 5, 5, 172, 3, 172]
abbrev dktX0_correlation_0 : List UInt8 := dkwX0_correlation_0 ++ []
theorem dksX0_correlation_0 : cX0_correlation.data.toList.drop 0 = dktX0_correlation_0 := by decide +kernel
theorem dX0_correlation_0 : decode cX0_correlation 0 = .ok (.aload 4, 2) := dk_25 4 (dk_at dksX0_correlation_0 0 rfl rfl)
theorem dX0_correlation_2 : decode cX0_correlation 2 = .ok (.iconst 0, 1) := dk_3 (dk_at dksX0_correlation_0 2 rfl rfl)
theorem dX0_correlation_3 : decode cX0_correlation 3 = .ok (.aload_n 0, 1) := dk_42 (dk_at dksX0_correlation_0 3 rfl rfl)
theorem dX0_correlation_4 : decode cX0_correlation 4 = .ok (.iload_n 1, 1) := dk_27 (dk_at dksX0_correlation_0 4 rfl rfl)
theorem dX0_correlation_5 : decode cX0_correlation 5 = .ok (.iload_n 2, 1) := dk_28 (dk_at dksX0_correlation_0 5 rfl rfl)
theorem dX0_correlation_6 : decode cX0_correlation 6 = .ok (.iload_n 3, 1) := dk_29 (dk_at dksX0_correlation_0 6 rfl rfl)
theorem dX0_correlation_7 : decode cX0_correlation 7 = .ok (.invokevirtual 116, 3) := dk_182 0 116 (dk_at dksX0_correlation_0 7 rfl rfl)
theorem dX0_correlation_10 : decode cX0_correlation 10 = .ok (.lastore, 1) := dk_80 (dk_at dksX0_correlation_0 10 rfl rfl)
theorem dX0_correlation_11 : decode cX0_correlation 11 = .ok (.goto 11, 3) := dk_167 0 11 (dk_at dksX0_correlation_0 11 rfl rfl)
theorem dX0_correlation_14 : decode cX0_correlation 14 = .ok (.astore 5, 2) := dk_58 5 (dk_at dksX0_correlation_0 14 rfl rfl)
theorem dX0_correlation_16 : decode cX0_correlation 16 = .ok (.iconst 1, 1) := dk_4 (dk_at dksX0_correlation_0 16 rfl rfl)
theorem dX0_correlation_17 : decode cX0_correlation 17 = .ok (.ireturn, 1) := dk_172 (dk_at dksX0_correlation_0 17 rfl rfl)
theorem dX0_correlation_18 : decode cX0_correlation 18 = .ok (.astore 5, 2) := dk_58 5 (dk_at dksX0_correlation_0 18 rfl rfl)
theorem dX0_correlation_20 : decode cX0_correlation 20 = .ok (.iconst 2, 1) := dk_5 (dk_at dksX0_correlation_0 20 rfl rfl)
theorem dX0_correlation_21 : decode cX0_correlation 21 = .ok (.ireturn, 1) := dk_172 (dk_at dksX0_correlation_0 21 rfl rfl)
theorem dX0_correlation_22 : decode cX0_correlation 22 = .ok (.iconst 0, 1) := dk_3 (dk_at dksX0_correlation_0 22 rfl rfl)
theorem dX0_correlation_23 : decode cX0_correlation 23 = .ok (.ireturn, 1) := dk_172 (dk_at dksX0_correlation_0 23 rfl rfl)
abbrev cX0_bestShift : ByteArray := method_33_code
def yX0_bestShift : MethodName := ⟨RX0, "bestShift", "(LWalshAnalyzer;II[J)I"⟩
def dkwX0_bestShift_0 : List UInt8 := [45, 3, 42, 27, 28, 182, 0, 119, 133, 80, 167, 0, 11, 58, 4, 4, 172, 58, 4, 5, 172, 3, 172]
abbrev dktX0_bestShift_0 : List UInt8 := dkwX0_bestShift_0 ++ []
theorem dksX0_bestShift_0 : cX0_bestShift.data.toList.drop 0 = dktX0_bestShift_0 := by decide +kernel
theorem dX0_bestShift_0 : decode cX0_bestShift 0 = .ok (.aload_n 3, 1) := dk_45 (dk_at dksX0_bestShift_0 0 rfl rfl)
theorem dX0_bestShift_1 : decode cX0_bestShift 1 = .ok (.iconst 0, 1) := dk_3 (dk_at dksX0_bestShift_0 1 rfl rfl)
theorem dX0_bestShift_2 : decode cX0_bestShift 2 = .ok (.aload_n 0, 1) := dk_42 (dk_at dksX0_bestShift_0 2 rfl rfl)
theorem dX0_bestShift_3 : decode cX0_bestShift 3 = .ok (.iload_n 1, 1) := dk_27 (dk_at dksX0_bestShift_0 3 rfl rfl)
theorem dX0_bestShift_4 : decode cX0_bestShift 4 = .ok (.iload_n 2, 1) := dk_28 (dk_at dksX0_bestShift_0 4 rfl rfl)
theorem dX0_bestShift_5 : decode cX0_bestShift 5 = .ok (.invokevirtual 119, 3) := dk_182 0 119 (dk_at dksX0_bestShift_0 5 rfl rfl)
theorem dX0_bestShift_8 : decode cX0_bestShift 8 = .ok (.i2l, 1) := dk_133 (dk_at dksX0_bestShift_0 8 rfl rfl)
theorem dX0_bestShift_9 : decode cX0_bestShift 9 = .ok (.lastore, 1) := dk_80 (dk_at dksX0_bestShift_0 9 rfl rfl)
theorem dX0_bestShift_10 : decode cX0_bestShift 10 = .ok (.goto 11, 3) := dk_167 0 11 (dk_at dksX0_bestShift_0 10 rfl rfl)
theorem dX0_bestShift_13 : decode cX0_bestShift 13 = .ok (.astore 4, 2) := dk_58 4 (dk_at dksX0_bestShift_0 13 rfl rfl)
theorem dX0_bestShift_15 : decode cX0_bestShift 15 = .ok (.iconst 1, 1) := dk_4 (dk_at dksX0_bestShift_0 15 rfl rfl)
theorem dX0_bestShift_16 : decode cX0_bestShift 16 = .ok (.ireturn, 1) := dk_172 (dk_at dksX0_bestShift_0 16 rfl rfl)
theorem dX0_bestShift_17 : decode cX0_bestShift 17 = .ok (.astore 4, 2) := dk_58 4 (dk_at dksX0_bestShift_0 17 rfl rfl)
theorem dX0_bestShift_19 : decode cX0_bestShift 19 = .ok (.iconst 2, 1) := dk_5 (dk_at dksX0_bestShift_0 19 rfl rfl)
theorem dX0_bestShift_20 : decode cX0_bestShift 20 = .ok (.ireturn, 1) := dk_172 (dk_at dksX0_bestShift_0 20 rfl rfl)
theorem dX0_bestShift_21 : decode cX0_bestShift 21 = .ok (.iconst 0, 1) := dk_3 (dk_at dksX0_bestShift_0 21 rfl rfl)
theorem dX0_bestShift_22 : decode cX0_bestShift 22 = .ok (.ireturn, 1) := dk_172 (dk_at dksX0_bestShift_0 22 rfl rfl)
abbrev cX0_commonPeaks : ByteArray := method_34_code
def yX0_commonPeaks : MethodName := ⟨RX0, "commonPeaks", "(LWalshAnalyzer;III[J)I"⟩
def dkwX0_commonPeaks_1 : List UInt8 := [172]
abbrev dktX0_commonPeaks_1 : List UInt8 := dkwX0_commonPeaks_1 ++ []
def dkwX0_commonPeaks_0 : List UInt8 := [25, 4, 3, 42, 27, 28, 29, 182, 0, 122, 133, 80, 167, 0, 11, 58, 5, 4, 172, 58, 5, 5, 172, 3]
abbrev dktX0_commonPeaks_0 : List UInt8 := dkwX0_commonPeaks_0 ++ dktX0_commonPeaks_1
theorem dksX0_commonPeaks_0 : cX0_commonPeaks.data.toList.drop 0 = dktX0_commonPeaks_0 := by decide +kernel
theorem dksX0_commonPeaks_1 : cX0_commonPeaks.data.toList.drop 24 = dktX0_commonPeaks_1 := dk_seg dksX0_commonPeaks_0 24 rfl rfl
theorem dX0_commonPeaks_0 : decode cX0_commonPeaks 0 = .ok (.aload 4, 2) := dk_25 4 (dk_at dksX0_commonPeaks_0 0 rfl rfl)
theorem dX0_commonPeaks_2 : decode cX0_commonPeaks 2 = .ok (.iconst 0, 1) := dk_3 (dk_at dksX0_commonPeaks_0 2 rfl rfl)
theorem dX0_commonPeaks_3 : decode cX0_commonPeaks 3 = .ok (.aload_n 0, 1) := dk_42 (dk_at dksX0_commonPeaks_0 3 rfl rfl)
theorem dX0_commonPeaks_4 : decode cX0_commonPeaks 4 = .ok (.iload_n 1, 1) := dk_27 (dk_at dksX0_commonPeaks_0 4 rfl rfl)
theorem dX0_commonPeaks_5 : decode cX0_commonPeaks 5 = .ok (.iload_n 2, 1) := dk_28 (dk_at dksX0_commonPeaks_0 5 rfl rfl)
theorem dX0_commonPeaks_6 : decode cX0_commonPeaks 6 = .ok (.iload_n 3, 1) := dk_29 (dk_at dksX0_commonPeaks_0 6 rfl rfl)
theorem dX0_commonPeaks_7 : decode cX0_commonPeaks 7 = .ok (.invokevirtual 122, 3) := dk_182 0 122 (dk_at dksX0_commonPeaks_0 7 rfl rfl)
theorem dX0_commonPeaks_10 : decode cX0_commonPeaks 10 = .ok (.i2l, 1) := dk_133 (dk_at dksX0_commonPeaks_0 10 rfl rfl)
theorem dX0_commonPeaks_11 : decode cX0_commonPeaks 11 = .ok (.lastore, 1) := dk_80 (dk_at dksX0_commonPeaks_0 11 rfl rfl)
theorem dX0_commonPeaks_12 : decode cX0_commonPeaks 12 = .ok (.goto 11, 3) := dk_167 0 11 (dk_at dksX0_commonPeaks_0 12 rfl rfl)
theorem dX0_commonPeaks_15 : decode cX0_commonPeaks 15 = .ok (.astore 5, 2) := dk_58 5 (dk_at dksX0_commonPeaks_0 15 rfl rfl)
theorem dX0_commonPeaks_17 : decode cX0_commonPeaks 17 = .ok (.iconst 1, 1) := dk_4 (dk_at dksX0_commonPeaks_0 17 rfl rfl)
theorem dX0_commonPeaks_18 : decode cX0_commonPeaks 18 = .ok (.ireturn, 1) := dk_172 (dk_at dksX0_commonPeaks_0 18 rfl rfl)
theorem dX0_commonPeaks_19 : decode cX0_commonPeaks 19 = .ok (.astore 5, 2) := dk_58 5 (dk_at dksX0_commonPeaks_0 19 rfl rfl)
theorem dX0_commonPeaks_21 : decode cX0_commonPeaks 21 = .ok (.iconst 2, 1) := dk_5 (dk_at dksX0_commonPeaks_0 21 rfl rfl)
theorem dX0_commonPeaks_22 : decode cX0_commonPeaks 22 = .ok (.ireturn, 1) := dk_172 (dk_at dksX0_commonPeaks_0 22 rfl rfl)
theorem dX0_commonPeaks_23 : decode cX0_commonPeaks 23 = .ok (.iconst 0, 1) := dk_3 (dk_at dksX0_commonPeaks_0 23 rfl rfl)
theorem dX0_commonPeaks_24 : decode cX0_commonPeaks 24 = .ok (.ireturn, 1) := dk_172 (dk_at dksX0_commonPeaks_1 0 rfl rfl)
abbrev cX0_errorOfPeaks : ByteArray := method_35_code
def yX0_errorOfPeaks : MethodName := ⟨RX0, "errorOfPeaks", "(LWalshAnalyzer;II[J)I"⟩
def dkwX0_errorOfPeaks_0 : List UInt8 := [45, 3, 42, 27, 28, 182, 0, 125, 80, 167, 0, 11, 58, 4, 4, 172, 58, 4, 5, 172, 3, 172]
abbrev dktX0_errorOfPeaks_0 : List UInt8 := dkwX0_errorOfPeaks_0 ++ []
theorem dksX0_errorOfPeaks_0 : cX0_errorOfPeaks.data.toList.drop 0 = dktX0_errorOfPeaks_0 := by decide +kernel
theorem dX0_errorOfPeaks_0 : decode cX0_errorOfPeaks 0 = .ok (.aload_n 3, 1) := dk_45 (dk_at dksX0_errorOfPeaks_0 0 rfl rfl)
theorem dX0_errorOfPeaks_1 : decode cX0_errorOfPeaks 1 = .ok (.iconst 0, 1) := dk_3 (dk_at dksX0_errorOfPeaks_0 1 rfl rfl)
theorem dX0_errorOfPeaks_2 : decode cX0_errorOfPeaks 2 = .ok (.aload_n 0, 1) := dk_42 (dk_at dksX0_errorOfPeaks_0 2 rfl rfl)
theorem dX0_errorOfPeaks_3 : decode cX0_errorOfPeaks 3 = .ok (.iload_n 1, 1) := dk_27 (dk_at dksX0_errorOfPeaks_0 3 rfl rfl)
theorem dX0_errorOfPeaks_4 : decode cX0_errorOfPeaks 4 = .ok (.iload_n 2, 1) := dk_28 (dk_at dksX0_errorOfPeaks_0 4 rfl rfl)
theorem dX0_errorOfPeaks_5 : decode cX0_errorOfPeaks 5 = .ok (.invokevirtual 125, 3) := dk_182 0 125 (dk_at dksX0_errorOfPeaks_0 5 rfl rfl)
theorem dX0_errorOfPeaks_8 : decode cX0_errorOfPeaks 8 = .ok (.lastore, 1) := dk_80 (dk_at dksX0_errorOfPeaks_0 8 rfl rfl)
theorem dX0_errorOfPeaks_9 : decode cX0_errorOfPeaks 9 = .ok (.goto 11, 3) := dk_167 0 11 (dk_at dksX0_errorOfPeaks_0 9 rfl rfl)
theorem dX0_errorOfPeaks_12 : decode cX0_errorOfPeaks 12 = .ok (.astore 4, 2) := dk_58 4 (dk_at dksX0_errorOfPeaks_0 12 rfl rfl)
theorem dX0_errorOfPeaks_14 : decode cX0_errorOfPeaks 14 = .ok (.iconst 1, 1) := dk_4 (dk_at dksX0_errorOfPeaks_0 14 rfl rfl)
theorem dX0_errorOfPeaks_15 : decode cX0_errorOfPeaks 15 = .ok (.ireturn, 1) := dk_172 (dk_at dksX0_errorOfPeaks_0 15 rfl rfl)
theorem dX0_errorOfPeaks_16 : decode cX0_errorOfPeaks 16 = .ok (.astore 4, 2) := dk_58 4 (dk_at dksX0_errorOfPeaks_0 16 rfl rfl)
theorem dX0_errorOfPeaks_18 : decode cX0_errorOfPeaks 18 = .ok (.iconst 2, 1) := dk_5 (dk_at dksX0_errorOfPeaks_0 18 rfl rfl)
theorem dX0_errorOfPeaks_19 : decode cX0_errorOfPeaks 19 = .ok (.ireturn, 1) := dk_172 (dk_at dksX0_errorOfPeaks_0 19 rfl rfl)
theorem dX0_errorOfPeaks_20 : decode cX0_errorOfPeaks 20 = .ok (.iconst 0, 1) := dk_3 (dk_at dksX0_errorOfPeaks_0 20 rfl rfl)
theorem dX0_errorOfPeaks_21 : decode cX0_errorOfPeaks 21 = .ok (.ireturn, 1) := dk_172 (dk_at dksX0_errorOfPeaks_0 21 rfl rfl)
abbrev cX0_addSilence : ByteArray := method_36_code
def yX0_addSilence : MethodName := ⟨RX0, "addSilence", "(LWalshAnalyzer;I[J)I"⟩
def dkwX0_addSilence_0 : List UInt8 := [44, 3, 42, 27, 182, 0, 129, 133, 80, 167, 0, 9, 78, 4, 172, 78, 5, 172, 3, 172]
abbrev dktX0_addSilence_0 : List UInt8 := dkwX0_addSilence_0 ++ []
theorem dksX0_addSilence_0 : cX0_addSilence.data.toList.drop 0 = dktX0_addSilence_0 := by decide +kernel
theorem dX0_addSilence_0 : decode cX0_addSilence 0 = .ok (.aload_n 2, 1) := dk_44 (dk_at dksX0_addSilence_0 0 rfl rfl)
theorem dX0_addSilence_1 : decode cX0_addSilence 1 = .ok (.iconst 0, 1) := dk_3 (dk_at dksX0_addSilence_0 1 rfl rfl)
theorem dX0_addSilence_2 : decode cX0_addSilence 2 = .ok (.aload_n 0, 1) := dk_42 (dk_at dksX0_addSilence_0 2 rfl rfl)
theorem dX0_addSilence_3 : decode cX0_addSilence 3 = .ok (.iload_n 1, 1) := dk_27 (dk_at dksX0_addSilence_0 3 rfl rfl)
theorem dX0_addSilence_4 : decode cX0_addSilence 4 = .ok (.invokevirtual 129, 3) := dk_182 0 129 (dk_at dksX0_addSilence_0 4 rfl rfl)
theorem dX0_addSilence_7 : decode cX0_addSilence 7 = .ok (.i2l, 1) := dk_133 (dk_at dksX0_addSilence_0 7 rfl rfl)
theorem dX0_addSilence_8 : decode cX0_addSilence 8 = .ok (.lastore, 1) := dk_80 (dk_at dksX0_addSilence_0 8 rfl rfl)
theorem dX0_addSilence_9 : decode cX0_addSilence 9 = .ok (.goto 9, 3) := dk_167 0 9 (dk_at dksX0_addSilence_0 9 rfl rfl)
theorem dX0_addSilence_12 : decode cX0_addSilence 12 = .ok (.astore_n 3, 1) := dk_78 (dk_at dksX0_addSilence_0 12 rfl rfl)
theorem dX0_addSilence_13 : decode cX0_addSilence 13 = .ok (.iconst 1, 1) := dk_4 (dk_at dksX0_addSilence_0 13 rfl rfl)
theorem dX0_addSilence_14 : decode cX0_addSilence 14 = .ok (.ireturn, 1) := dk_172 (dk_at dksX0_addSilence_0 14 rfl rfl)
theorem dX0_addSilence_15 : decode cX0_addSilence 15 = .ok (.astore_n 3, 1) := dk_78 (dk_at dksX0_addSilence_0 15 rfl rfl)
theorem dX0_addSilence_16 : decode cX0_addSilence 16 = .ok (.iconst 2, 1) := dk_5 (dk_at dksX0_addSilence_0 16 rfl rfl)
theorem dX0_addSilence_17 : decode cX0_addSilence 17 = .ok (.ireturn, 1) := dk_172 (dk_at dksX0_addSilence_0 17 rfl rfl)
theorem dX0_addSilence_18 : decode cX0_addSilence 18 = .ok (.iconst 0, 1) := dk_3 (dk_at dksX0_addSilence_0 18 rfl rfl)
theorem dX0_addSilence_19 : decode cX0_addSilence 19 = .ok (.ireturn, 1) := dk_172 (dk_at dksX0_addSilence_0 19 rfl rfl)
abbrev cX0_copyRecording : ByteArray := method_37_code
def yX0_copyRecording : MethodName := ⟨RX0, "copyRecording", "(LWalshAnalyzer;I[J)I"⟩
def dkwX0_copyRecording_0 : List UInt8 := [44, 3, 42, 27, 182, 0, 132, 133, 80, 167, 0, 12, 78, 4, 172, 78, 5, 172, 78, 6, 172, 3, 172]
abbrev dktX0_copyRecording_0 : List UInt8 := dkwX0_copyRecording_0 ++ []
theorem dksX0_copyRecording_0 : cX0_copyRecording.data.toList.drop 0 = dktX0_copyRecording_0 := by decide +kernel
theorem dX0_copyRecording_0 : decode cX0_copyRecording 0 = .ok (.aload_n 2, 1) := dk_44 (dk_at dksX0_copyRecording_0 0 rfl rfl)
theorem dX0_copyRecording_1 : decode cX0_copyRecording 1 = .ok (.iconst 0, 1) := dk_3 (dk_at dksX0_copyRecording_0 1 rfl rfl)
theorem dX0_copyRecording_2 : decode cX0_copyRecording 2 = .ok (.aload_n 0, 1) := dk_42 (dk_at dksX0_copyRecording_0 2 rfl rfl)
theorem dX0_copyRecording_3 : decode cX0_copyRecording 3 = .ok (.iload_n 1, 1) := dk_27 (dk_at dksX0_copyRecording_0 3 rfl rfl)
theorem dX0_copyRecording_4 : decode cX0_copyRecording 4 = .ok (.invokevirtual 132, 3) := dk_182 0 132 (dk_at dksX0_copyRecording_0 4 rfl rfl)
theorem dX0_copyRecording_7 : decode cX0_copyRecording 7 = .ok (.i2l, 1) := dk_133 (dk_at dksX0_copyRecording_0 7 rfl rfl)
theorem dX0_copyRecording_8 : decode cX0_copyRecording 8 = .ok (.lastore, 1) := dk_80 (dk_at dksX0_copyRecording_0 8 rfl rfl)
theorem dX0_copyRecording_9 : decode cX0_copyRecording 9 = .ok (.goto 12, 3) := dk_167 0 12 (dk_at dksX0_copyRecording_0 9 rfl rfl)
theorem dX0_copyRecording_12 : decode cX0_copyRecording 12 = .ok (.astore_n 3, 1) := dk_78 (dk_at dksX0_copyRecording_0 12 rfl rfl)
theorem dX0_copyRecording_13 : decode cX0_copyRecording 13 = .ok (.iconst 1, 1) := dk_4 (dk_at dksX0_copyRecording_0 13 rfl rfl)
theorem dX0_copyRecording_14 : decode cX0_copyRecording 14 = .ok (.ireturn, 1) := dk_172 (dk_at dksX0_copyRecording_0 14 rfl rfl)
theorem dX0_copyRecording_15 : decode cX0_copyRecording 15 = .ok (.astore_n 3, 1) := dk_78 (dk_at dksX0_copyRecording_0 15 rfl rfl)
theorem dX0_copyRecording_16 : decode cX0_copyRecording 16 = .ok (.iconst 2, 1) := dk_5 (dk_at dksX0_copyRecording_0 16 rfl rfl)
theorem dX0_copyRecording_17 : decode cX0_copyRecording 17 = .ok (.ireturn, 1) := dk_172 (dk_at dksX0_copyRecording_0 17 rfl rfl)
theorem dX0_copyRecording_18 : decode cX0_copyRecording 18 = .ok (.astore_n 3, 1) := dk_78 (dk_at dksX0_copyRecording_0 18 rfl rfl)
theorem dX0_copyRecording_19 : decode cX0_copyRecording 19 = .ok (.iconst 3, 1) := dk_6 (dk_at dksX0_copyRecording_0 19 rfl rfl)
theorem dX0_copyRecording_20 : decode cX0_copyRecording 20 = .ok (.ireturn, 1) := dk_172 (dk_at dksX0_copyRecording_0 20 rfl rfl)
theorem dX0_copyRecording_21 : decode cX0_copyRecording 21 = .ok (.iconst 0, 1) := dk_3 (dk_at dksX0_copyRecording_0 21 rfl rfl)
theorem dX0_copyRecording_22 : decode cX0_copyRecording 22 = .ok (.ireturn, 1) := dk_172 (dk_at dksX0_copyRecording_0 22 rfl rfl)
abbrev cX0_rename : ByteArray := method_38_code
def yX0_rename : MethodName := ⟨RX0, "rename", "(LWalshAnalyzer;I[J)I"⟩
def dkwX0_rename_0 : List UInt8 := [44, 3, 42, 27, 182, 0, 135, 133, 80, 167, 0, 9, 78, 4, 172, 78, 5, 172, 3, 172]
abbrev dktX0_rename_0 : List UInt8 := dkwX0_rename_0 ++ []
theorem dksX0_rename_0 : cX0_rename.data.toList.drop 0 = dktX0_rename_0 := by decide +kernel
theorem dX0_rename_0 : decode cX0_rename 0 = .ok (.aload_n 2, 1) := dk_44 (dk_at dksX0_rename_0 0 rfl rfl)
theorem dX0_rename_1 : decode cX0_rename 1 = .ok (.iconst 0, 1) := dk_3 (dk_at dksX0_rename_0 1 rfl rfl)
theorem dX0_rename_2 : decode cX0_rename 2 = .ok (.aload_n 0, 1) := dk_42 (dk_at dksX0_rename_0 2 rfl rfl)
theorem dX0_rename_3 : decode cX0_rename 3 = .ok (.iload_n 1, 1) := dk_27 (dk_at dksX0_rename_0 3 rfl rfl)
theorem dX0_rename_4 : decode cX0_rename 4 = .ok (.invokevirtual 135, 3) := dk_182 0 135 (dk_at dksX0_rename_0 4 rfl rfl)
theorem dX0_rename_7 : decode cX0_rename 7 = .ok (.i2l, 1) := dk_133 (dk_at dksX0_rename_0 7 rfl rfl)
theorem dX0_rename_8 : decode cX0_rename 8 = .ok (.lastore, 1) := dk_80 (dk_at dksX0_rename_0 8 rfl rfl)
theorem dX0_rename_9 : decode cX0_rename 9 = .ok (.goto 9, 3) := dk_167 0 9 (dk_at dksX0_rename_0 9 rfl rfl)
theorem dX0_rename_12 : decode cX0_rename 12 = .ok (.astore_n 3, 1) := dk_78 (dk_at dksX0_rename_0 12 rfl rfl)
theorem dX0_rename_13 : decode cX0_rename 13 = .ok (.iconst 1, 1) := dk_4 (dk_at dksX0_rename_0 13 rfl rfl)
theorem dX0_rename_14 : decode cX0_rename 14 = .ok (.ireturn, 1) := dk_172 (dk_at dksX0_rename_0 14 rfl rfl)
theorem dX0_rename_15 : decode cX0_rename 15 = .ok (.astore_n 3, 1) := dk_78 (dk_at dksX0_rename_0 15 rfl rfl)
theorem dX0_rename_16 : decode cX0_rename 16 = .ok (.iconst 2, 1) := dk_5 (dk_at dksX0_rename_0 16 rfl rfl)
theorem dX0_rename_17 : decode cX0_rename 17 = .ok (.ireturn, 1) := dk_172 (dk_at dksX0_rename_0 17 rfl rfl)
theorem dX0_rename_18 : decode cX0_rename 18 = .ok (.iconst 0, 1) := dk_3 (dk_at dksX0_rename_0 18 rfl rfl)
theorem dX0_rename_19 : decode cX0_rename 19 = .ok (.ireturn, 1) := dk_172 (dk_at dksX0_rename_0 19 rfl rfl)
abbrev cX0_removeRecording : ByteArray := method_39_code
def yX0_removeRecording : MethodName := ⟨RX0, "removeRecording", "(LWalshAnalyzer;I[J)I"⟩
def dkwX0_removeRecording_0 : List UInt8 := [44, 3, 42, 27, 182, 0, 138, 133, 80, 167, 0, 6, 78, 4, 172, 3, 172]
abbrev dktX0_removeRecording_0 : List UInt8 := dkwX0_removeRecording_0 ++ []
theorem dksX0_removeRecording_0 : cX0_removeRecording.data.toList.drop 0 = dktX0_removeRecording_0 := by decide +kernel
theorem dX0_removeRecording_0 : decode cX0_removeRecording 0 = .ok (.aload_n 2, 1) := dk_44 (dk_at dksX0_removeRecording_0 0 rfl rfl)
theorem dX0_removeRecording_1 : decode cX0_removeRecording 1 = .ok (.iconst 0, 1) := dk_3 (dk_at dksX0_removeRecording_0 1 rfl rfl)
theorem dX0_removeRecording_2 : decode cX0_removeRecording 2 = .ok (.aload_n 0, 1) := dk_42 (dk_at dksX0_removeRecording_0 2 rfl rfl)
theorem dX0_removeRecording_3 : decode cX0_removeRecording 3 = .ok (.iload_n 1, 1) := dk_27 (dk_at dksX0_removeRecording_0 3 rfl rfl)
theorem dX0_removeRecording_4 : decode cX0_removeRecording 4 = .ok (.invokevirtual 138, 3) := dk_182 0 138 (dk_at dksX0_removeRecording_0 4 rfl rfl)
theorem dX0_removeRecording_7 : decode cX0_removeRecording 7 = .ok (.i2l, 1) := dk_133 (dk_at dksX0_removeRecording_0 7 rfl rfl)
theorem dX0_removeRecording_8 : decode cX0_removeRecording 8 = .ok (.lastore, 1) := dk_80 (dk_at dksX0_removeRecording_0 8 rfl rfl)
theorem dX0_removeRecording_9 : decode cX0_removeRecording 9 = .ok (.goto 6, 3) := dk_167 0 6 (dk_at dksX0_removeRecording_0 9 rfl rfl)
theorem dX0_removeRecording_12 : decode cX0_removeRecording 12 = .ok (.astore_n 3, 1) := dk_78 (dk_at dksX0_removeRecording_0 12 rfl rfl)
theorem dX0_removeRecording_13 : decode cX0_removeRecording 13 = .ok (.iconst 1, 1) := dk_4 (dk_at dksX0_removeRecording_0 13 rfl rfl)
theorem dX0_removeRecording_14 : decode cX0_removeRecording 14 = .ok (.ireturn, 1) := dk_172 (dk_at dksX0_removeRecording_0 14 rfl rfl)
theorem dX0_removeRecording_15 : decode cX0_removeRecording 15 = .ok (.iconst 0, 1) := dk_3 (dk_at dksX0_removeRecording_0 15 rfl rfl)
theorem dX0_removeRecording_16 : decode cX0_removeRecording 16 = .ok (.ireturn, 1) := dk_172 (dk_at dksX0_removeRecording_0 16 rfl rfl)
abbrev cX0_setSample : ByteArray := method_40_code
def yX0_setSample : MethodName := ⟨RX0, "setSample", "(LWalshAnalyzer;III[J)I"⟩
def dkwX0_setSample_1 : List UInt8 := [172]
abbrev dktX0_setSample_1 : List UInt8 := dkwX0_setSample_1 ++ []
def dkwX0_setSample_0 : List UInt8 := [25, 4, 3, 42, 27, 28, 29, 182, 0, 141, 133, 80, 167, 0, 11, 58, 5, 4, 172, 58, 5, 5, 172, 3]
abbrev dktX0_setSample_0 : List UInt8 := dkwX0_setSample_0 ++ dktX0_setSample_1
theorem dksX0_setSample_0 : cX0_setSample.data.toList.drop 0 = dktX0_setSample_0 := by decide +kernel
theorem dksX0_setSample_1 : cX0_setSample.data.toList.drop 24 = dktX0_setSample_1 := dk_seg dksX0_setSample_0 24 rfl rfl
theorem dX0_setSample_0 : decode cX0_setSample 0 = .ok (.aload 4, 2) := dk_25 4 (dk_at dksX0_setSample_0 0 rfl rfl)
theorem dX0_setSample_2 : decode cX0_setSample 2 = .ok (.iconst 0, 1) := dk_3 (dk_at dksX0_setSample_0 2 rfl rfl)
theorem dX0_setSample_3 : decode cX0_setSample 3 = .ok (.aload_n 0, 1) := dk_42 (dk_at dksX0_setSample_0 3 rfl rfl)
theorem dX0_setSample_4 : decode cX0_setSample 4 = .ok (.iload_n 1, 1) := dk_27 (dk_at dksX0_setSample_0 4 rfl rfl)
theorem dX0_setSample_5 : decode cX0_setSample 5 = .ok (.iload_n 2, 1) := dk_28 (dk_at dksX0_setSample_0 5 rfl rfl)
theorem dX0_setSample_6 : decode cX0_setSample 6 = .ok (.iload_n 3, 1) := dk_29 (dk_at dksX0_setSample_0 6 rfl rfl)
theorem dX0_setSample_7 : decode cX0_setSample 7 = .ok (.invokevirtual 141, 3) := dk_182 0 141 (dk_at dksX0_setSample_0 7 rfl rfl)
theorem dX0_setSample_10 : decode cX0_setSample 10 = .ok (.i2l, 1) := dk_133 (dk_at dksX0_setSample_0 10 rfl rfl)
theorem dX0_setSample_11 : decode cX0_setSample 11 = .ok (.lastore, 1) := dk_80 (dk_at dksX0_setSample_0 11 rfl rfl)
theorem dX0_setSample_12 : decode cX0_setSample 12 = .ok (.goto 11, 3) := dk_167 0 11 (dk_at dksX0_setSample_0 12 rfl rfl)
theorem dX0_setSample_15 : decode cX0_setSample 15 = .ok (.astore 5, 2) := dk_58 5 (dk_at dksX0_setSample_0 15 rfl rfl)
theorem dX0_setSample_17 : decode cX0_setSample 17 = .ok (.iconst 1, 1) := dk_4 (dk_at dksX0_setSample_0 17 rfl rfl)
theorem dX0_setSample_18 : decode cX0_setSample 18 = .ok (.ireturn, 1) := dk_172 (dk_at dksX0_setSample_0 18 rfl rfl)
theorem dX0_setSample_19 : decode cX0_setSample 19 = .ok (.astore 5, 2) := dk_58 5 (dk_at dksX0_setSample_0 19 rfl rfl)
theorem dX0_setSample_21 : decode cX0_setSample 21 = .ok (.iconst 2, 1) := dk_5 (dk_at dksX0_setSample_0 21 rfl rfl)
theorem dX0_setSample_22 : decode cX0_setSample 22 = .ok (.ireturn, 1) := dk_172 (dk_at dksX0_setSample_0 22 rfl rfl)
theorem dX0_setSample_23 : decode cX0_setSample 23 = .ok (.iconst 0, 1) := dk_3 (dk_at dksX0_setSample_0 23 rfl rfl)
theorem dX0_setSample_24 : decode cX0_setSample 24 = .ok (.ireturn, 1) := dk_172 (dk_at dksX0_setSample_1 0 rfl rfl)
abbrev cX0_addRecording : ByteArray := method_41_code
def yX0_addRecording : MethodName := ⟨RX0, "addRecording", "(LWalshAnalyzer;III[J)I"⟩
def dkwX0_addRecording_1 : List UInt8 := [172]
abbrev dktX0_addRecording_1 : List UInt8 := dkwX0_addRecording_1 ++ []
def dkwX0_addRecording_0 : List UInt8 := [25, 4, 3, 42, 27, 28, 29, 182, 0, 144, 133, 80, 167, 0, 11, 58, 5, 4, 172, 58, 5, 5, 172, 3]
abbrev dktX0_addRecording_0 : List UInt8 := dkwX0_addRecording_0 ++ dktX0_addRecording_1
theorem dksX0_addRecording_0 : cX0_addRecording.data.toList.drop 0 = dktX0_addRecording_0 := by decide +kernel
theorem dksX0_addRecording_1 : cX0_addRecording.data.toList.drop 24 = dktX0_addRecording_1 := dk_seg dksX0_addRecording_0 24 rfl rfl
theorem dX0_addRecording_0 : decode cX0_addRecording 0 = .ok (.aload 4, 2) := dk_25 4 (dk_at dksX0_addRecording_0 0 rfl rfl)
theorem dX0_addRecording_2 : decode cX0_addRecording 2 = .ok (.iconst 0, 1) := dk_3 (dk_at dksX0_addRecording_0 2 rfl rfl)
theorem dX0_addRecording_3 : decode cX0_addRecording 3 = .ok (.aload_n 0, 1) := dk_42 (dk_at dksX0_addRecording_0 3 rfl rfl)
theorem dX0_addRecording_4 : decode cX0_addRecording 4 = .ok (.iload_n 1, 1) := dk_27 (dk_at dksX0_addRecording_0 4 rfl rfl)
theorem dX0_addRecording_5 : decode cX0_addRecording 5 = .ok (.iload_n 2, 1) := dk_28 (dk_at dksX0_addRecording_0 5 rfl rfl)
theorem dX0_addRecording_6 : decode cX0_addRecording 6 = .ok (.iload_n 3, 1) := dk_29 (dk_at dksX0_addRecording_0 6 rfl rfl)
theorem dX0_addRecording_7 : decode cX0_addRecording 7 = .ok (.invokevirtual 144, 3) := dk_182 0 144 (dk_at dksX0_addRecording_0 7 rfl rfl)
theorem dX0_addRecording_10 : decode cX0_addRecording 10 = .ok (.i2l, 1) := dk_133 (dk_at dksX0_addRecording_0 10 rfl rfl)
theorem dX0_addRecording_11 : decode cX0_addRecording 11 = .ok (.lastore, 1) := dk_80 (dk_at dksX0_addRecording_0 11 rfl rfl)
theorem dX0_addRecording_12 : decode cX0_addRecording 12 = .ok (.goto 11, 3) := dk_167 0 11 (dk_at dksX0_addRecording_0 12 rfl rfl)
theorem dX0_addRecording_15 : decode cX0_addRecording 15 = .ok (.astore 5, 2) := dk_58 5 (dk_at dksX0_addRecording_0 15 rfl rfl)
theorem dX0_addRecording_17 : decode cX0_addRecording 17 = .ok (.iconst 1, 1) := dk_4 (dk_at dksX0_addRecording_0 17 rfl rfl)
theorem dX0_addRecording_18 : decode cX0_addRecording 18 = .ok (.ireturn, 1) := dk_172 (dk_at dksX0_addRecording_0 18 rfl rfl)
theorem dX0_addRecording_19 : decode cX0_addRecording 19 = .ok (.astore 5, 2) := dk_58 5 (dk_at dksX0_addRecording_0 19 rfl rfl)
theorem dX0_addRecording_21 : decode cX0_addRecording 21 = .ok (.iconst 2, 1) := dk_5 (dk_at dksX0_addRecording_0 21 rfl rfl)
theorem dX0_addRecording_22 : decode cX0_addRecording 22 = .ok (.ireturn, 1) := dk_172 (dk_at dksX0_addRecording_0 22 rfl rfl)
theorem dX0_addRecording_23 : decode cX0_addRecording 23 = .ok (.iconst 0, 1) := dk_3 (dk_at dksX0_addRecording_0 23 rfl rfl)
theorem dX0_addRecording_24 : decode cX0_addRecording 24 = .ok (.ireturn, 1) := dk_172 (dk_at dksX0_addRecording_1 0 rfl rfl)
abbrev cX0_appendRecording : ByteArray := method_42_code
def yX0_appendRecording : MethodName := ⟨RX0, "appendRecording", "(LWalshAnalyzer;II[J)I"⟩
def dkwX0_appendRecording_1 : List UInt8 := [172, 3, 172]
abbrev dktX0_appendRecording_1 : List UInt8 := dkwX0_appendRecording_1 ++ []
def dkwX0_appendRecording_0 : List UInt8 := [45, 3, 42, 27, 28, 182, 0, 147, 133, 80, 167, 0, 15, 58, 4, 4, 172, 58, 4, 5, 172, 58, 4, 6]
abbrev dktX0_appendRecording_0 : List UInt8 := dkwX0_appendRecording_0 ++ dktX0_appendRecording_1
theorem dksX0_appendRecording_0 : cX0_appendRecording.data.toList.drop 0 = dktX0_appendRecording_0 := by decide +kernel
theorem dksX0_appendRecording_1 : cX0_appendRecording.data.toList.drop 24 = dktX0_appendRecording_1 := dk_seg dksX0_appendRecording_0 24 rfl rfl
theorem dX0_appendRecording_0 : decode cX0_appendRecording 0 = .ok (.aload_n 3, 1) := dk_45 (dk_at dksX0_appendRecording_0 0 rfl rfl)
theorem dX0_appendRecording_1 : decode cX0_appendRecording 1 = .ok (.iconst 0, 1) := dk_3 (dk_at dksX0_appendRecording_0 1 rfl rfl)
theorem dX0_appendRecording_2 : decode cX0_appendRecording 2 = .ok (.aload_n 0, 1) := dk_42 (dk_at dksX0_appendRecording_0 2 rfl rfl)
theorem dX0_appendRecording_3 : decode cX0_appendRecording 3 = .ok (.iload_n 1, 1) := dk_27 (dk_at dksX0_appendRecording_0 3 rfl rfl)
theorem dX0_appendRecording_4 : decode cX0_appendRecording 4 = .ok (.iload_n 2, 1) := dk_28 (dk_at dksX0_appendRecording_0 4 rfl rfl)
theorem dX0_appendRecording_5 : decode cX0_appendRecording 5 = .ok (.invokevirtual 147, 3) := dk_182 0 147 (dk_at dksX0_appendRecording_0 5 rfl rfl)
theorem dX0_appendRecording_8 : decode cX0_appendRecording 8 = .ok (.i2l, 1) := dk_133 (dk_at dksX0_appendRecording_0 8 rfl rfl)
theorem dX0_appendRecording_9 : decode cX0_appendRecording 9 = .ok (.lastore, 1) := dk_80 (dk_at dksX0_appendRecording_0 9 rfl rfl)
theorem dX0_appendRecording_10 : decode cX0_appendRecording 10 = .ok (.goto 15, 3) := dk_167 0 15 (dk_at dksX0_appendRecording_0 10 rfl rfl)
theorem dX0_appendRecording_13 : decode cX0_appendRecording 13 = .ok (.astore 4, 2) := dk_58 4 (dk_at dksX0_appendRecording_0 13 rfl rfl)
theorem dX0_appendRecording_15 : decode cX0_appendRecording 15 = .ok (.iconst 1, 1) := dk_4 (dk_at dksX0_appendRecording_0 15 rfl rfl)
theorem dX0_appendRecording_16 : decode cX0_appendRecording 16 = .ok (.ireturn, 1) := dk_172 (dk_at dksX0_appendRecording_0 16 rfl rfl)
theorem dX0_appendRecording_17 : decode cX0_appendRecording 17 = .ok (.astore 4, 2) := dk_58 4 (dk_at dksX0_appendRecording_0 17 rfl rfl)
theorem dX0_appendRecording_19 : decode cX0_appendRecording 19 = .ok (.iconst 2, 1) := dk_5 (dk_at dksX0_appendRecording_0 19 rfl rfl)
theorem dX0_appendRecording_20 : decode cX0_appendRecording 20 = .ok (.ireturn, 1) := dk_172 (dk_at dksX0_appendRecording_0 20 rfl rfl)
theorem dX0_appendRecording_21 : decode cX0_appendRecording 21 = .ok (.astore 4, 2) := dk_58 4 (dk_at dksX0_appendRecording_0 21 rfl rfl)
theorem dX0_appendRecording_23 : decode cX0_appendRecording 23 = .ok (.iconst 3, 1) := dk_6 (dk_at dksX0_appendRecording_0 23 rfl rfl)
theorem dX0_appendRecording_24 : decode cX0_appendRecording 24 = .ok (.ireturn, 1) := dk_172 (dk_at dksX0_appendRecording_1 0 rfl rfl)
theorem dX0_appendRecording_25 : decode cX0_appendRecording 25 = .ok (.iconst 0, 1) := dk_3 (dk_at dksX0_appendRecording_1 1 rfl rfl)
theorem dX0_appendRecording_26 : decode cX0_appendRecording 26 = .ok (.ireturn, 1) := dk_172 (dk_at dksX0_appendRecording_1 2 rfl rfl)
abbrev cX0_keepAbove : ByteArray := method_43_code
def yX0_keepAbove : MethodName := ⟨RX0, "keepAbove", "(LWalshAnalyzer;II[J)I"⟩
def dkwX0_keepAbove_0 : List UInt8 := [45, 3, 42, 27, 28, 182, 0, 150, 133, 80, 167, 0, 11, 58, 4, 4, 172, 58, 4, 5, 172, 3, 172]
abbrev dktX0_keepAbove_0 : List UInt8 := dkwX0_keepAbove_0 ++ []
theorem dksX0_keepAbove_0 : cX0_keepAbove.data.toList.drop 0 = dktX0_keepAbove_0 := by decide +kernel
theorem dX0_keepAbove_0 : decode cX0_keepAbove 0 = .ok (.aload_n 3, 1) := dk_45 (dk_at dksX0_keepAbove_0 0 rfl rfl)
theorem dX0_keepAbove_1 : decode cX0_keepAbove 1 = .ok (.iconst 0, 1) := dk_3 (dk_at dksX0_keepAbove_0 1 rfl rfl)
theorem dX0_keepAbove_2 : decode cX0_keepAbove 2 = .ok (.aload_n 0, 1) := dk_42 (dk_at dksX0_keepAbove_0 2 rfl rfl)
theorem dX0_keepAbove_3 : decode cX0_keepAbove 3 = .ok (.iload_n 1, 1) := dk_27 (dk_at dksX0_keepAbove_0 3 rfl rfl)
theorem dX0_keepAbove_4 : decode cX0_keepAbove 4 = .ok (.iload_n 2, 1) := dk_28 (dk_at dksX0_keepAbove_0 4 rfl rfl)
theorem dX0_keepAbove_5 : decode cX0_keepAbove 5 = .ok (.invokevirtual 150, 3) := dk_182 0 150 (dk_at dksX0_keepAbove_0 5 rfl rfl)
theorem dX0_keepAbove_8 : decode cX0_keepAbove 8 = .ok (.i2l, 1) := dk_133 (dk_at dksX0_keepAbove_0 8 rfl rfl)
theorem dX0_keepAbove_9 : decode cX0_keepAbove 9 = .ok (.lastore, 1) := dk_80 (dk_at dksX0_keepAbove_0 9 rfl rfl)
theorem dX0_keepAbove_10 : decode cX0_keepAbove 10 = .ok (.goto 11, 3) := dk_167 0 11 (dk_at dksX0_keepAbove_0 10 rfl rfl)
theorem dX0_keepAbove_13 : decode cX0_keepAbove 13 = .ok (.astore 4, 2) := dk_58 4 (dk_at dksX0_keepAbove_0 13 rfl rfl)
theorem dX0_keepAbove_15 : decode cX0_keepAbove 15 = .ok (.iconst 1, 1) := dk_4 (dk_at dksX0_keepAbove_0 15 rfl rfl)
theorem dX0_keepAbove_16 : decode cX0_keepAbove 16 = .ok (.ireturn, 1) := dk_172 (dk_at dksX0_keepAbove_0 16 rfl rfl)
theorem dX0_keepAbove_17 : decode cX0_keepAbove 17 = .ok (.astore 4, 2) := dk_58 4 (dk_at dksX0_keepAbove_0 17 rfl rfl)
theorem dX0_keepAbove_19 : decode cX0_keepAbove 19 = .ok (.iconst 2, 1) := dk_5 (dk_at dksX0_keepAbove_0 19 rfl rfl)
theorem dX0_keepAbove_20 : decode cX0_keepAbove 20 = .ok (.ireturn, 1) := dk_172 (dk_at dksX0_keepAbove_0 20 rfl rfl)
theorem dX0_keepAbove_21 : decode cX0_keepAbove 21 = .ok (.iconst 0, 1) := dk_3 (dk_at dksX0_keepAbove_0 21 rfl rfl)
theorem dX0_keepAbove_22 : decode cX0_keepAbove 22 = .ok (.ireturn, 1) := dk_172 (dk_at dksX0_keepAbove_0 22 rfl rfl)
abbrev cX0_scaleBand : ByteArray := method_44_code
def yX0_scaleBand : MethodName := ⟨RX0, "scaleBand", "(LWalshAnalyzer;IIII[J)I"⟩
def dkwX0_scaleBand_1 : List UInt8 := [172, 3, 172]
abbrev dktX0_scaleBand_1 : List UInt8 := dkwX0_scaleBand_1 ++ []
def dkwX0_scaleBand_0 : List UInt8 := [25, 5, 3, 42, 27, 28, 29, 21, 4, 182, 0, 153, 133, 80, 167, 0, 11, 58, 6, 4, 172, 58, 6, 5]
abbrev dktX0_scaleBand_0 : List UInt8 := dkwX0_scaleBand_0 ++ dktX0_scaleBand_1
theorem dksX0_scaleBand_0 : cX0_scaleBand.data.toList.drop 0 = dktX0_scaleBand_0 := by decide +kernel
theorem dksX0_scaleBand_1 : cX0_scaleBand.data.toList.drop 24 = dktX0_scaleBand_1 := dk_seg dksX0_scaleBand_0 24 rfl rfl
theorem dX0_scaleBand_0 : decode cX0_scaleBand 0 = .ok (.aload 5, 2) := dk_25 5 (dk_at dksX0_scaleBand_0 0 rfl rfl)
theorem dX0_scaleBand_2 : decode cX0_scaleBand 2 = .ok (.iconst 0, 1) := dk_3 (dk_at dksX0_scaleBand_0 2 rfl rfl)
theorem dX0_scaleBand_3 : decode cX0_scaleBand 3 = .ok (.aload_n 0, 1) := dk_42 (dk_at dksX0_scaleBand_0 3 rfl rfl)
theorem dX0_scaleBand_4 : decode cX0_scaleBand 4 = .ok (.iload_n 1, 1) := dk_27 (dk_at dksX0_scaleBand_0 4 rfl rfl)
theorem dX0_scaleBand_5 : decode cX0_scaleBand 5 = .ok (.iload_n 2, 1) := dk_28 (dk_at dksX0_scaleBand_0 5 rfl rfl)
theorem dX0_scaleBand_6 : decode cX0_scaleBand 6 = .ok (.iload_n 3, 1) := dk_29 (dk_at dksX0_scaleBand_0 6 rfl rfl)
theorem dX0_scaleBand_7 : decode cX0_scaleBand 7 = .ok (.iload 4, 2) := dk_21 4 (dk_at dksX0_scaleBand_0 7 rfl rfl)
theorem dX0_scaleBand_9 : decode cX0_scaleBand 9 = .ok (.invokevirtual 153, 3) := dk_182 0 153 (dk_at dksX0_scaleBand_0 9 rfl rfl)
theorem dX0_scaleBand_12 : decode cX0_scaleBand 12 = .ok (.i2l, 1) := dk_133 (dk_at dksX0_scaleBand_0 12 rfl rfl)
theorem dX0_scaleBand_13 : decode cX0_scaleBand 13 = .ok (.lastore, 1) := dk_80 (dk_at dksX0_scaleBand_0 13 rfl rfl)
theorem dX0_scaleBand_14 : decode cX0_scaleBand 14 = .ok (.goto 11, 3) := dk_167 0 11 (dk_at dksX0_scaleBand_0 14 rfl rfl)
theorem dX0_scaleBand_17 : decode cX0_scaleBand 17 = .ok (.astore 6, 2) := dk_58 6 (dk_at dksX0_scaleBand_0 17 rfl rfl)
theorem dX0_scaleBand_19 : decode cX0_scaleBand 19 = .ok (.iconst 1, 1) := dk_4 (dk_at dksX0_scaleBand_0 19 rfl rfl)
theorem dX0_scaleBand_20 : decode cX0_scaleBand 20 = .ok (.ireturn, 1) := dk_172 (dk_at dksX0_scaleBand_0 20 rfl rfl)
theorem dX0_scaleBand_21 : decode cX0_scaleBand 21 = .ok (.astore 6, 2) := dk_58 6 (dk_at dksX0_scaleBand_0 21 rfl rfl)
theorem dX0_scaleBand_23 : decode cX0_scaleBand 23 = .ok (.iconst 2, 1) := dk_5 (dk_at dksX0_scaleBand_0 23 rfl rfl)
theorem dX0_scaleBand_24 : decode cX0_scaleBand 24 = .ok (.ireturn, 1) := dk_172 (dk_at dksX0_scaleBand_1 0 rfl rfl)
theorem dX0_scaleBand_25 : decode cX0_scaleBand 25 = .ok (.iconst 0, 1) := dk_3 (dk_at dksX0_scaleBand_1 1 rfl rfl)
theorem dX0_scaleBand_26 : decode cX0_scaleBand 26 = .ok (.ireturn, 1) := dk_172 (dk_at dksX0_scaleBand_1 2 rfl rfl)
abbrev cX0_keepPeaks : ByteArray := method_45_code
def yX0_keepPeaks : MethodName := ⟨RX0, "keepPeaks", "(LWalshAnalyzer;II[J)I"⟩
def dkwX0_keepPeaks_0 : List UInt8 := [45, 3, 42, 27, 28, 182, 0, 157, 133, 80, 167, 0, 11, 58, 4, 4, 172, 58, 4, 5, 172, 3, 172]
abbrev dktX0_keepPeaks_0 : List UInt8 := dkwX0_keepPeaks_0 ++ []
theorem dksX0_keepPeaks_0 : cX0_keepPeaks.data.toList.drop 0 = dktX0_keepPeaks_0 := by decide +kernel
theorem dX0_keepPeaks_0 : decode cX0_keepPeaks 0 = .ok (.aload_n 3, 1) := dk_45 (dk_at dksX0_keepPeaks_0 0 rfl rfl)
theorem dX0_keepPeaks_1 : decode cX0_keepPeaks 1 = .ok (.iconst 0, 1) := dk_3 (dk_at dksX0_keepPeaks_0 1 rfl rfl)
theorem dX0_keepPeaks_2 : decode cX0_keepPeaks 2 = .ok (.aload_n 0, 1) := dk_42 (dk_at dksX0_keepPeaks_0 2 rfl rfl)
theorem dX0_keepPeaks_3 : decode cX0_keepPeaks 3 = .ok (.iload_n 1, 1) := dk_27 (dk_at dksX0_keepPeaks_0 3 rfl rfl)
theorem dX0_keepPeaks_4 : decode cX0_keepPeaks 4 = .ok (.iload_n 2, 1) := dk_28 (dk_at dksX0_keepPeaks_0 4 rfl rfl)
theorem dX0_keepPeaks_5 : decode cX0_keepPeaks 5 = .ok (.invokevirtual 157, 3) := dk_182 0 157 (dk_at dksX0_keepPeaks_0 5 rfl rfl)
theorem dX0_keepPeaks_8 : decode cX0_keepPeaks 8 = .ok (.i2l, 1) := dk_133 (dk_at dksX0_keepPeaks_0 8 rfl rfl)
theorem dX0_keepPeaks_9 : decode cX0_keepPeaks 9 = .ok (.lastore, 1) := dk_80 (dk_at dksX0_keepPeaks_0 9 rfl rfl)
theorem dX0_keepPeaks_10 : decode cX0_keepPeaks 10 = .ok (.goto 11, 3) := dk_167 0 11 (dk_at dksX0_keepPeaks_0 10 rfl rfl)
theorem dX0_keepPeaks_13 : decode cX0_keepPeaks 13 = .ok (.astore 4, 2) := dk_58 4 (dk_at dksX0_keepPeaks_0 13 rfl rfl)
theorem dX0_keepPeaks_15 : decode cX0_keepPeaks 15 = .ok (.iconst 1, 1) := dk_4 (dk_at dksX0_keepPeaks_0 15 rfl rfl)
theorem dX0_keepPeaks_16 : decode cX0_keepPeaks 16 = .ok (.ireturn, 1) := dk_172 (dk_at dksX0_keepPeaks_0 16 rfl rfl)
theorem dX0_keepPeaks_17 : decode cX0_keepPeaks 17 = .ok (.astore 4, 2) := dk_58 4 (dk_at dksX0_keepPeaks_0 17 rfl rfl)
theorem dX0_keepPeaks_19 : decode cX0_keepPeaks 19 = .ok (.iconst 2, 1) := dk_5 (dk_at dksX0_keepPeaks_0 19 rfl rfl)
theorem dX0_keepPeaks_20 : decode cX0_keepPeaks 20 = .ok (.ireturn, 1) := dk_172 (dk_at dksX0_keepPeaks_0 20 rfl rfl)
theorem dX0_keepPeaks_21 : decode cX0_keepPeaks 21 = .ok (.iconst 0, 1) := dk_3 (dk_at dksX0_keepPeaks_0 21 rfl rfl)
theorem dX0_keepPeaks_22 : decode cX0_keepPeaks 22 = .ok (.ireturn, 1) := dk_172 (dk_at dksX0_keepPeaks_0 22 rfl rfl)
abbrev cX0_removeBand : ByteArray := method_46_code
def yX0_removeBand : MethodName := ⟨RX0, "removeBand", "(LWalshAnalyzer;III[J)I"⟩
def dkwX0_removeBand_1 : List UInt8 := [172]
abbrev dktX0_removeBand_1 : List UInt8 := dkwX0_removeBand_1 ++ []
def dkwX0_removeBand_0 : List UInt8 := [25, 4, 3, 42, 27, 28, 29, 182, 0, 160, 133, 80, 167, 0, 11, 58, 5, 4, 172, 58, 5, 5, 172, 3]
abbrev dktX0_removeBand_0 : List UInt8 := dkwX0_removeBand_0 ++ dktX0_removeBand_1
theorem dksX0_removeBand_0 : cX0_removeBand.data.toList.drop 0 = dktX0_removeBand_0 := by decide +kernel
theorem dksX0_removeBand_1 : cX0_removeBand.data.toList.drop 24 = dktX0_removeBand_1 := dk_seg dksX0_removeBand_0 24 rfl rfl
theorem dX0_removeBand_0 : decode cX0_removeBand 0 = .ok (.aload 4, 2) := dk_25 4 (dk_at dksX0_removeBand_0 0 rfl rfl)
theorem dX0_removeBand_2 : decode cX0_removeBand 2 = .ok (.iconst 0, 1) := dk_3 (dk_at dksX0_removeBand_0 2 rfl rfl)
theorem dX0_removeBand_3 : decode cX0_removeBand 3 = .ok (.aload_n 0, 1) := dk_42 (dk_at dksX0_removeBand_0 3 rfl rfl)
theorem dX0_removeBand_4 : decode cX0_removeBand 4 = .ok (.iload_n 1, 1) := dk_27 (dk_at dksX0_removeBand_0 4 rfl rfl)
theorem dX0_removeBand_5 : decode cX0_removeBand 5 = .ok (.iload_n 2, 1) := dk_28 (dk_at dksX0_removeBand_0 5 rfl rfl)
theorem dX0_removeBand_6 : decode cX0_removeBand 6 = .ok (.iload_n 3, 1) := dk_29 (dk_at dksX0_removeBand_0 6 rfl rfl)
theorem dX0_removeBand_7 : decode cX0_removeBand 7 = .ok (.invokevirtual 160, 3) := dk_182 0 160 (dk_at dksX0_removeBand_0 7 rfl rfl)
theorem dX0_removeBand_10 : decode cX0_removeBand 10 = .ok (.i2l, 1) := dk_133 (dk_at dksX0_removeBand_0 10 rfl rfl)
theorem dX0_removeBand_11 : decode cX0_removeBand 11 = .ok (.lastore, 1) := dk_80 (dk_at dksX0_removeBand_0 11 rfl rfl)
theorem dX0_removeBand_12 : decode cX0_removeBand 12 = .ok (.goto 11, 3) := dk_167 0 11 (dk_at dksX0_removeBand_0 12 rfl rfl)
theorem dX0_removeBand_15 : decode cX0_removeBand 15 = .ok (.astore 5, 2) := dk_58 5 (dk_at dksX0_removeBand_0 15 rfl rfl)
theorem dX0_removeBand_17 : decode cX0_removeBand 17 = .ok (.iconst 1, 1) := dk_4 (dk_at dksX0_removeBand_0 17 rfl rfl)
theorem dX0_removeBand_18 : decode cX0_removeBand 18 = .ok (.ireturn, 1) := dk_172 (dk_at dksX0_removeBand_0 18 rfl rfl)
theorem dX0_removeBand_19 : decode cX0_removeBand 19 = .ok (.astore 5, 2) := dk_58 5 (dk_at dksX0_removeBand_0 19 rfl rfl)
theorem dX0_removeBand_21 : decode cX0_removeBand 21 = .ok (.iconst 2, 1) := dk_5 (dk_at dksX0_removeBand_0 21 rfl rfl)
theorem dX0_removeBand_22 : decode cX0_removeBand 22 = .ok (.ireturn, 1) := dk_172 (dk_at dksX0_removeBand_0 22 rfl rfl)
theorem dX0_removeBand_23 : decode cX0_removeBand 23 = .ok (.iconst 0, 1) := dk_3 (dk_at dksX0_removeBand_0 23 rfl rfl)
theorem dX0_removeBand_24 : decode cX0_removeBand 24 = .ok (.ireturn, 1) := dk_172 (dk_at dksX0_removeBand_1 0 rfl rfl)
abbrev cX0_shift : ByteArray := method_47_code
def yX0_shift : MethodName := ⟨RX0, "shift", "(LWalshAnalyzer;II[J)I"⟩
def dkwX0_shift_0 : List UInt8 := [45, 3, 42, 27, 28, 182, 0, 163, 133, 80, 167, 0, 11, 58, 4, 4, 172, 58, 4, 5, 172, 3, 172]
abbrev dktX0_shift_0 : List UInt8 := dkwX0_shift_0 ++ []
theorem dksX0_shift_0 : cX0_shift.data.toList.drop 0 = dktX0_shift_0 := by decide +kernel
theorem dX0_shift_0 : decode cX0_shift 0 = .ok (.aload_n 3, 1) := dk_45 (dk_at dksX0_shift_0 0 rfl rfl)
theorem dX0_shift_1 : decode cX0_shift 1 = .ok (.iconst 0, 1) := dk_3 (dk_at dksX0_shift_0 1 rfl rfl)
theorem dX0_shift_2 : decode cX0_shift 2 = .ok (.aload_n 0, 1) := dk_42 (dk_at dksX0_shift_0 2 rfl rfl)
theorem dX0_shift_3 : decode cX0_shift 3 = .ok (.iload_n 1, 1) := dk_27 (dk_at dksX0_shift_0 3 rfl rfl)
theorem dX0_shift_4 : decode cX0_shift 4 = .ok (.iload_n 2, 1) := dk_28 (dk_at dksX0_shift_0 4 rfl rfl)
theorem dX0_shift_5 : decode cX0_shift 5 = .ok (.invokevirtual 163, 3) := dk_182 0 163 (dk_at dksX0_shift_0 5 rfl rfl)
theorem dX0_shift_8 : decode cX0_shift 8 = .ok (.i2l, 1) := dk_133 (dk_at dksX0_shift_0 8 rfl rfl)
theorem dX0_shift_9 : decode cX0_shift 9 = .ok (.lastore, 1) := dk_80 (dk_at dksX0_shift_0 9 rfl rfl)
theorem dX0_shift_10 : decode cX0_shift 10 = .ok (.goto 11, 3) := dk_167 0 11 (dk_at dksX0_shift_0 10 rfl rfl)
theorem dX0_shift_13 : decode cX0_shift 13 = .ok (.astore 4, 2) := dk_58 4 (dk_at dksX0_shift_0 13 rfl rfl)
theorem dX0_shift_15 : decode cX0_shift 15 = .ok (.iconst 1, 1) := dk_4 (dk_at dksX0_shift_0 15 rfl rfl)
theorem dX0_shift_16 : decode cX0_shift 16 = .ok (.ireturn, 1) := dk_172 (dk_at dksX0_shift_0 16 rfl rfl)
theorem dX0_shift_17 : decode cX0_shift 17 = .ok (.astore 4, 2) := dk_58 4 (dk_at dksX0_shift_0 17 rfl rfl)
theorem dX0_shift_19 : decode cX0_shift 19 = .ok (.iconst 2, 1) := dk_5 (dk_at dksX0_shift_0 19 rfl rfl)
theorem dX0_shift_20 : decode cX0_shift 20 = .ok (.ireturn, 1) := dk_172 (dk_at dksX0_shift_0 20 rfl rfl)
theorem dX0_shift_21 : decode cX0_shift 21 = .ok (.iconst 0, 1) := dk_3 (dk_at dksX0_shift_0 21 rfl rfl)
theorem dX0_shift_22 : decode cX0_shift 22 = .ok (.ireturn, 1) := dk_172 (dk_at dksX0_shift_0 22 rfl rfl)
abbrev cX0_reverse : ByteArray := method_48_code
def yX0_reverse : MethodName := ⟨RX0, "reverse", "(LWalshAnalyzer;I[J)I"⟩
def dkwX0_reverse_0 : List UInt8 := [44, 3, 42, 27, 182, 0, 166, 133, 80, 167, 0, 6, 78, 4, 172, 3, 172]
abbrev dktX0_reverse_0 : List UInt8 := dkwX0_reverse_0 ++ []
theorem dksX0_reverse_0 : cX0_reverse.data.toList.drop 0 = dktX0_reverse_0 := by decide +kernel
theorem dX0_reverse_0 : decode cX0_reverse 0 = .ok (.aload_n 2, 1) := dk_44 (dk_at dksX0_reverse_0 0 rfl rfl)
theorem dX0_reverse_1 : decode cX0_reverse 1 = .ok (.iconst 0, 1) := dk_3 (dk_at dksX0_reverse_0 1 rfl rfl)
theorem dX0_reverse_2 : decode cX0_reverse 2 = .ok (.aload_n 0, 1) := dk_42 (dk_at dksX0_reverse_0 2 rfl rfl)
theorem dX0_reverse_3 : decode cX0_reverse 3 = .ok (.iload_n 1, 1) := dk_27 (dk_at dksX0_reverse_0 3 rfl rfl)
theorem dX0_reverse_4 : decode cX0_reverse 4 = .ok (.invokevirtual 166, 3) := dk_182 0 166 (dk_at dksX0_reverse_0 4 rfl rfl)
theorem dX0_reverse_7 : decode cX0_reverse 7 = .ok (.i2l, 1) := dk_133 (dk_at dksX0_reverse_0 7 rfl rfl)
theorem dX0_reverse_8 : decode cX0_reverse 8 = .ok (.lastore, 1) := dk_80 (dk_at dksX0_reverse_0 8 rfl rfl)
theorem dX0_reverse_9 : decode cX0_reverse 9 = .ok (.goto 6, 3) := dk_167 0 6 (dk_at dksX0_reverse_0 9 rfl rfl)
theorem dX0_reverse_12 : decode cX0_reverse 12 = .ok (.astore_n 3, 1) := dk_78 (dk_at dksX0_reverse_0 12 rfl rfl)
theorem dX0_reverse_13 : decode cX0_reverse 13 = .ok (.iconst 1, 1) := dk_4 (dk_at dksX0_reverse_0 13 rfl rfl)
theorem dX0_reverse_14 : decode cX0_reverse 14 = .ok (.ireturn, 1) := dk_172 (dk_at dksX0_reverse_0 14 rfl rfl)
theorem dX0_reverse_15 : decode cX0_reverse 15 = .ok (.iconst 0, 1) := dk_3 (dk_at dksX0_reverse_0 15 rfl rfl)
theorem dX0_reverse_16 : decode cX0_reverse 16 = .ok (.ireturn, 1) := dk_172 (dk_at dksX0_reverse_0 16 rfl rfl)
abbrev cX0_quantize : ByteArray := method_49_code
def yX0_quantize : MethodName := ⟨RX0, "quantize", "(LWalshAnalyzer;II[J)I"⟩
def dkwX0_quantize_0 : List UInt8 := [45, 3, 42, 27, 28, 182, 0, 169, 133, 80, 167, 0, 11, 58, 4, 4, 172, 58, 4, 5, 172, 3, 172]
abbrev dktX0_quantize_0 : List UInt8 := dkwX0_quantize_0 ++ []
theorem dksX0_quantize_0 : cX0_quantize.data.toList.drop 0 = dktX0_quantize_0 := by decide +kernel
theorem dX0_quantize_0 : decode cX0_quantize 0 = .ok (.aload_n 3, 1) := dk_45 (dk_at dksX0_quantize_0 0 rfl rfl)
theorem dX0_quantize_1 : decode cX0_quantize 1 = .ok (.iconst 0, 1) := dk_3 (dk_at dksX0_quantize_0 1 rfl rfl)
theorem dX0_quantize_2 : decode cX0_quantize 2 = .ok (.aload_n 0, 1) := dk_42 (dk_at dksX0_quantize_0 2 rfl rfl)
theorem dX0_quantize_3 : decode cX0_quantize 3 = .ok (.iload_n 1, 1) := dk_27 (dk_at dksX0_quantize_0 3 rfl rfl)
theorem dX0_quantize_4 : decode cX0_quantize 4 = .ok (.iload_n 2, 1) := dk_28 (dk_at dksX0_quantize_0 4 rfl rfl)
theorem dX0_quantize_5 : decode cX0_quantize 5 = .ok (.invokevirtual 169, 3) := dk_182 0 169 (dk_at dksX0_quantize_0 5 rfl rfl)
theorem dX0_quantize_8 : decode cX0_quantize 8 = .ok (.i2l, 1) := dk_133 (dk_at dksX0_quantize_0 8 rfl rfl)
theorem dX0_quantize_9 : decode cX0_quantize 9 = .ok (.lastore, 1) := dk_80 (dk_at dksX0_quantize_0 9 rfl rfl)
theorem dX0_quantize_10 : decode cX0_quantize 10 = .ok (.goto 11, 3) := dk_167 0 11 (dk_at dksX0_quantize_0 10 rfl rfl)
theorem dX0_quantize_13 : decode cX0_quantize 13 = .ok (.astore 4, 2) := dk_58 4 (dk_at dksX0_quantize_0 13 rfl rfl)
theorem dX0_quantize_15 : decode cX0_quantize 15 = .ok (.iconst 1, 1) := dk_4 (dk_at dksX0_quantize_0 15 rfl rfl)
theorem dX0_quantize_16 : decode cX0_quantize 16 = .ok (.ireturn, 1) := dk_172 (dk_at dksX0_quantize_0 16 rfl rfl)
theorem dX0_quantize_17 : decode cX0_quantize 17 = .ok (.astore 4, 2) := dk_58 4 (dk_at dksX0_quantize_0 17 rfl rfl)
theorem dX0_quantize_19 : decode cX0_quantize 19 = .ok (.iconst 2, 1) := dk_5 (dk_at dksX0_quantize_0 19 rfl rfl)
theorem dX0_quantize_20 : decode cX0_quantize 20 = .ok (.ireturn, 1) := dk_172 (dk_at dksX0_quantize_0 20 rfl rfl)
theorem dX0_quantize_21 : decode cX0_quantize 21 = .ok (.iconst 0, 1) := dk_3 (dk_at dksX0_quantize_0 21 rfl rfl)
theorem dX0_quantize_22 : decode cX0_quantize 22 = .ok (.ireturn, 1) := dk_172 (dk_at dksX0_quantize_0 22 rfl rfl)
abbrev cX0_normalize : ByteArray := method_50_code
def yX0_normalize : MethodName := ⟨RX0, "normalize", "(LWalshAnalyzer;II[J)I"⟩
def dkwX0_normalize_1 : List UInt8 := [172, 3, 172]
abbrev dktX0_normalize_1 : List UInt8 := dkwX0_normalize_1 ++ []
def dkwX0_normalize_0 : List UInt8 := [45, 3, 42, 27, 28, 182, 0, 172, 133, 80, 167, 0, 15, 58, 4, 4, 172, 58, 4, 5, 172, 58, 4, 6]
abbrev dktX0_normalize_0 : List UInt8 := dkwX0_normalize_0 ++ dktX0_normalize_1
theorem dksX0_normalize_0 : cX0_normalize.data.toList.drop 0 = dktX0_normalize_0 := by decide +kernel
theorem dksX0_normalize_1 : cX0_normalize.data.toList.drop 24 = dktX0_normalize_1 := dk_seg dksX0_normalize_0 24 rfl rfl
theorem dX0_normalize_0 : decode cX0_normalize 0 = .ok (.aload_n 3, 1) := dk_45 (dk_at dksX0_normalize_0 0 rfl rfl)
theorem dX0_normalize_1 : decode cX0_normalize 1 = .ok (.iconst 0, 1) := dk_3 (dk_at dksX0_normalize_0 1 rfl rfl)
theorem dX0_normalize_2 : decode cX0_normalize 2 = .ok (.aload_n 0, 1) := dk_42 (dk_at dksX0_normalize_0 2 rfl rfl)
theorem dX0_normalize_3 : decode cX0_normalize 3 = .ok (.iload_n 1, 1) := dk_27 (dk_at dksX0_normalize_0 3 rfl rfl)
theorem dX0_normalize_4 : decode cX0_normalize 4 = .ok (.iload_n 2, 1) := dk_28 (dk_at dksX0_normalize_0 4 rfl rfl)
theorem dX0_normalize_5 : decode cX0_normalize 5 = .ok (.invokevirtual 172, 3) := dk_182 0 172 (dk_at dksX0_normalize_0 5 rfl rfl)
theorem dX0_normalize_8 : decode cX0_normalize 8 = .ok (.i2l, 1) := dk_133 (dk_at dksX0_normalize_0 8 rfl rfl)
theorem dX0_normalize_9 : decode cX0_normalize 9 = .ok (.lastore, 1) := dk_80 (dk_at dksX0_normalize_0 9 rfl rfl)
theorem dX0_normalize_10 : decode cX0_normalize 10 = .ok (.goto 15, 3) := dk_167 0 15 (dk_at dksX0_normalize_0 10 rfl rfl)
theorem dX0_normalize_13 : decode cX0_normalize 13 = .ok (.astore 4, 2) := dk_58 4 (dk_at dksX0_normalize_0 13 rfl rfl)
theorem dX0_normalize_15 : decode cX0_normalize 15 = .ok (.iconst 1, 1) := dk_4 (dk_at dksX0_normalize_0 15 rfl rfl)
theorem dX0_normalize_16 : decode cX0_normalize 16 = .ok (.ireturn, 1) := dk_172 (dk_at dksX0_normalize_0 16 rfl rfl)
theorem dX0_normalize_17 : decode cX0_normalize 17 = .ok (.astore 4, 2) := dk_58 4 (dk_at dksX0_normalize_0 17 rfl rfl)
theorem dX0_normalize_19 : decode cX0_normalize 19 = .ok (.iconst 2, 1) := dk_5 (dk_at dksX0_normalize_0 19 rfl rfl)
theorem dX0_normalize_20 : decode cX0_normalize 20 = .ok (.ireturn, 1) := dk_172 (dk_at dksX0_normalize_0 20 rfl rfl)
theorem dX0_normalize_21 : decode cX0_normalize 21 = .ok (.astore 4, 2) := dk_58 4 (dk_at dksX0_normalize_0 21 rfl rfl)
theorem dX0_normalize_23 : decode cX0_normalize 23 = .ok (.iconst 3, 1) := dk_6 (dk_at dksX0_normalize_0 23 rfl rfl)
theorem dX0_normalize_24 : decode cX0_normalize 24 = .ok (.ireturn, 1) := dk_172 (dk_at dksX0_normalize_1 0 rfl rfl)
theorem dX0_normalize_25 : decode cX0_normalize 25 = .ok (.iconst 0, 1) := dk_3 (dk_at dksX0_normalize_1 1 rfl rfl)
theorem dX0_normalize_26 : decode cX0_normalize 26 = .ok (.ireturn, 1) := dk_172 (dk_at dksX0_normalize_1 2 rfl rfl)
abbrev cX0_interleave : ByteArray := method_51_code
def yX0_interleave : MethodName := ⟨RX0, "interleave", "(LWalshAnalyzer;II[J)I"⟩
def dkwX0_interleave_1 : List UInt8 := [172, 3, 172]
abbrev dktX0_interleave_1 : List UInt8 := dkwX0_interleave_1 ++ []
def dkwX0_interleave_0 : List UInt8 := [45, 3, 42, 27, 28, 182, 0, 175, 133, 80, 167, 0, 15, 58, 4, 4, 172, 58, 4, 5, 172, 58, 4, 6]
abbrev dktX0_interleave_0 : List UInt8 := dkwX0_interleave_0 ++ dktX0_interleave_1
theorem dksX0_interleave_0 : cX0_interleave.data.toList.drop 0 = dktX0_interleave_0 := by decide +kernel
theorem dksX0_interleave_1 : cX0_interleave.data.toList.drop 24 = dktX0_interleave_1 := dk_seg dksX0_interleave_0 24 rfl rfl
theorem dX0_interleave_0 : decode cX0_interleave 0 = .ok (.aload_n 3, 1) := dk_45 (dk_at dksX0_interleave_0 0 rfl rfl)
theorem dX0_interleave_1 : decode cX0_interleave 1 = .ok (.iconst 0, 1) := dk_3 (dk_at dksX0_interleave_0 1 rfl rfl)
theorem dX0_interleave_2 : decode cX0_interleave 2 = .ok (.aload_n 0, 1) := dk_42 (dk_at dksX0_interleave_0 2 rfl rfl)
theorem dX0_interleave_3 : decode cX0_interleave 3 = .ok (.iload_n 1, 1) := dk_27 (dk_at dksX0_interleave_0 3 rfl rfl)
theorem dX0_interleave_4 : decode cX0_interleave 4 = .ok (.iload_n 2, 1) := dk_28 (dk_at dksX0_interleave_0 4 rfl rfl)
theorem dX0_interleave_5 : decode cX0_interleave 5 = .ok (.invokevirtual 175, 3) := dk_182 0 175 (dk_at dksX0_interleave_0 5 rfl rfl)
theorem dX0_interleave_8 : decode cX0_interleave 8 = .ok (.i2l, 1) := dk_133 (dk_at dksX0_interleave_0 8 rfl rfl)
theorem dX0_interleave_9 : decode cX0_interleave 9 = .ok (.lastore, 1) := dk_80 (dk_at dksX0_interleave_0 9 rfl rfl)
theorem dX0_interleave_10 : decode cX0_interleave 10 = .ok (.goto 15, 3) := dk_167 0 15 (dk_at dksX0_interleave_0 10 rfl rfl)
theorem dX0_interleave_13 : decode cX0_interleave 13 = .ok (.astore 4, 2) := dk_58 4 (dk_at dksX0_interleave_0 13 rfl rfl)
theorem dX0_interleave_15 : decode cX0_interleave 15 = .ok (.iconst 1, 1) := dk_4 (dk_at dksX0_interleave_0 15 rfl rfl)
theorem dX0_interleave_16 : decode cX0_interleave 16 = .ok (.ireturn, 1) := dk_172 (dk_at dksX0_interleave_0 16 rfl rfl)
theorem dX0_interleave_17 : decode cX0_interleave 17 = .ok (.astore 4, 2) := dk_58 4 (dk_at dksX0_interleave_0 17 rfl rfl)
theorem dX0_interleave_19 : decode cX0_interleave 19 = .ok (.iconst 2, 1) := dk_5 (dk_at dksX0_interleave_0 19 rfl rfl)
theorem dX0_interleave_20 : decode cX0_interleave 20 = .ok (.ireturn, 1) := dk_172 (dk_at dksX0_interleave_0 20 rfl rfl)
theorem dX0_interleave_21 : decode cX0_interleave 21 = .ok (.astore 4, 2) := dk_58 4 (dk_at dksX0_interleave_0 21 rfl rfl)
theorem dX0_interleave_23 : decode cX0_interleave 23 = .ok (.iconst 3, 1) := dk_6 (dk_at dksX0_interleave_0 23 rfl rfl)
theorem dX0_interleave_24 : decode cX0_interleave 24 = .ok (.ireturn, 1) := dk_172 (dk_at dksX0_interleave_1 0 rfl rfl)
theorem dX0_interleave_25 : decode cX0_interleave 25 = .ok (.iconst 0, 1) := dk_3 (dk_at dksX0_interleave_1 1 rfl rfl)
theorem dX0_interleave_26 : decode cX0_interleave 26 = .ok (.ireturn, 1) := dk_172 (dk_at dksX0_interleave_1 2 rfl rfl)
abbrev cX0_stretch : ByteArray := method_52_code
def yX0_stretch : MethodName := ⟨RX0, "stretch", "(LWalshAnalyzer;I[J)I"⟩
def dkwX0_stretch_0 : List UInt8 := [44, 3, 42, 27, 182, 0, 178, 133, 80, 167, 0, 9, 78, 4, 172, 78, 5, 172, 3, 172]
abbrev dktX0_stretch_0 : List UInt8 := dkwX0_stretch_0 ++ []
theorem dksX0_stretch_0 : cX0_stretch.data.toList.drop 0 = dktX0_stretch_0 := by decide +kernel
theorem dX0_stretch_0 : decode cX0_stretch 0 = .ok (.aload_n 2, 1) := dk_44 (dk_at dksX0_stretch_0 0 rfl rfl)
theorem dX0_stretch_1 : decode cX0_stretch 1 = .ok (.iconst 0, 1) := dk_3 (dk_at dksX0_stretch_0 1 rfl rfl)
theorem dX0_stretch_2 : decode cX0_stretch 2 = .ok (.aload_n 0, 1) := dk_42 (dk_at dksX0_stretch_0 2 rfl rfl)
theorem dX0_stretch_3 : decode cX0_stretch 3 = .ok (.iload_n 1, 1) := dk_27 (dk_at dksX0_stretch_0 3 rfl rfl)
theorem dX0_stretch_4 : decode cX0_stretch 4 = .ok (.invokevirtual 178, 3) := dk_182 0 178 (dk_at dksX0_stretch_0 4 rfl rfl)
theorem dX0_stretch_7 : decode cX0_stretch 7 = .ok (.i2l, 1) := dk_133 (dk_at dksX0_stretch_0 7 rfl rfl)
theorem dX0_stretch_8 : decode cX0_stretch 8 = .ok (.lastore, 1) := dk_80 (dk_at dksX0_stretch_0 8 rfl rfl)
theorem dX0_stretch_9 : decode cX0_stretch 9 = .ok (.goto 9, 3) := dk_167 0 9 (dk_at dksX0_stretch_0 9 rfl rfl)
theorem dX0_stretch_12 : decode cX0_stretch 12 = .ok (.astore_n 3, 1) := dk_78 (dk_at dksX0_stretch_0 12 rfl rfl)
theorem dX0_stretch_13 : decode cX0_stretch 13 = .ok (.iconst 1, 1) := dk_4 (dk_at dksX0_stretch_0 13 rfl rfl)
theorem dX0_stretch_14 : decode cX0_stretch 14 = .ok (.ireturn, 1) := dk_172 (dk_at dksX0_stretch_0 14 rfl rfl)
theorem dX0_stretch_15 : decode cX0_stretch 15 = .ok (.astore_n 3, 1) := dk_78 (dk_at dksX0_stretch_0 15 rfl rfl)
theorem dX0_stretch_16 : decode cX0_stretch 16 = .ok (.iconst 2, 1) := dk_5 (dk_at dksX0_stretch_0 16 rfl rfl)
theorem dX0_stretch_17 : decode cX0_stretch 17 = .ok (.ireturn, 1) := dk_172 (dk_at dksX0_stretch_0 17 rfl rfl)
theorem dX0_stretch_18 : decode cX0_stretch 18 = .ok (.iconst 0, 1) := dk_3 (dk_at dksX0_stretch_0 18 rfl rfl)
theorem dX0_stretch_19 : decode cX0_stretch 19 = .ok (.ireturn, 1) := dk_172 (dk_at dksX0_stretch_0 19 rfl rfl)
abbrev cX0_fold : ByteArray := method_53_code
def yX0_fold : MethodName := ⟨RX0, "fold", "(LWalshAnalyzer;I[J)I"⟩
def dkwX0_fold_0 : List UInt8 := [44, 3, 42, 27, 182, 0, 181, 133, 80, 167, 0, 9, 78, 4, 172, 78, 5, 172, 3, 172]
abbrev dktX0_fold_0 : List UInt8 := dkwX0_fold_0 ++ []
theorem dksX0_fold_0 : cX0_fold.data.toList.drop 0 = dktX0_fold_0 := by decide +kernel
theorem dX0_fold_0 : decode cX0_fold 0 = .ok (.aload_n 2, 1) := dk_44 (dk_at dksX0_fold_0 0 rfl rfl)
theorem dX0_fold_1 : decode cX0_fold 1 = .ok (.iconst 0, 1) := dk_3 (dk_at dksX0_fold_0 1 rfl rfl)
theorem dX0_fold_2 : decode cX0_fold 2 = .ok (.aload_n 0, 1) := dk_42 (dk_at dksX0_fold_0 2 rfl rfl)
theorem dX0_fold_3 : decode cX0_fold 3 = .ok (.iload_n 1, 1) := dk_27 (dk_at dksX0_fold_0 3 rfl rfl)
theorem dX0_fold_4 : decode cX0_fold 4 = .ok (.invokevirtual 181, 3) := dk_182 0 181 (dk_at dksX0_fold_0 4 rfl rfl)
theorem dX0_fold_7 : decode cX0_fold 7 = .ok (.i2l, 1) := dk_133 (dk_at dksX0_fold_0 7 rfl rfl)
theorem dX0_fold_8 : decode cX0_fold 8 = .ok (.lastore, 1) := dk_80 (dk_at dksX0_fold_0 8 rfl rfl)
theorem dX0_fold_9 : decode cX0_fold 9 = .ok (.goto 9, 3) := dk_167 0 9 (dk_at dksX0_fold_0 9 rfl rfl)
theorem dX0_fold_12 : decode cX0_fold 12 = .ok (.astore_n 3, 1) := dk_78 (dk_at dksX0_fold_0 12 rfl rfl)
theorem dX0_fold_13 : decode cX0_fold 13 = .ok (.iconst 1, 1) := dk_4 (dk_at dksX0_fold_0 13 rfl rfl)
theorem dX0_fold_14 : decode cX0_fold 14 = .ok (.ireturn, 1) := dk_172 (dk_at dksX0_fold_0 14 rfl rfl)
theorem dX0_fold_15 : decode cX0_fold 15 = .ok (.astore_n 3, 1) := dk_78 (dk_at dksX0_fold_0 15 rfl rfl)
theorem dX0_fold_16 : decode cX0_fold 16 = .ok (.iconst 2, 1) := dk_5 (dk_at dksX0_fold_0 16 rfl rfl)
theorem dX0_fold_17 : decode cX0_fold 17 = .ok (.ireturn, 1) := dk_172 (dk_at dksX0_fold_0 17 rfl rfl)
theorem dX0_fold_18 : decode cX0_fold 18 = .ok (.iconst 0, 1) := dk_3 (dk_at dksX0_fold_0 18 rfl rfl)
theorem dX0_fold_19 : decode cX0_fold 19 = .ok (.ireturn, 1) := dk_172 (dk_at dksX0_fold_0 19 rfl rfl)
abbrev cX0_undo : ByteArray := method_54_code
def yX0_undo : MethodName := ⟨RX0, "undo", "(LWalshAnalyzer;[J)I"⟩
def dkwX0_undo_0 : List UInt8 := [43, 3, 42, 182, 0, 184, 133, 80, 167, 0, 6, 77, 4, 172, 3, 172]
abbrev dktX0_undo_0 : List UInt8 := dkwX0_undo_0 ++ []
theorem dksX0_undo_0 : cX0_undo.data.toList.drop 0 = dktX0_undo_0 := by decide +kernel
theorem dX0_undo_0 : decode cX0_undo 0 = .ok (.aload_n 1, 1) := dk_43 (dk_at dksX0_undo_0 0 rfl rfl)
theorem dX0_undo_1 : decode cX0_undo 1 = .ok (.iconst 0, 1) := dk_3 (dk_at dksX0_undo_0 1 rfl rfl)
theorem dX0_undo_2 : decode cX0_undo 2 = .ok (.aload_n 0, 1) := dk_42 (dk_at dksX0_undo_0 2 rfl rfl)
theorem dX0_undo_3 : decode cX0_undo 3 = .ok (.invokevirtual 184, 3) := dk_182 0 184 (dk_at dksX0_undo_0 3 rfl rfl)
theorem dX0_undo_6 : decode cX0_undo 6 = .ok (.i2l, 1) := dk_133 (dk_at dksX0_undo_0 6 rfl rfl)
theorem dX0_undo_7 : decode cX0_undo 7 = .ok (.lastore, 1) := dk_80 (dk_at dksX0_undo_0 7 rfl rfl)
theorem dX0_undo_8 : decode cX0_undo 8 = .ok (.goto 6, 3) := dk_167 0 6 (dk_at dksX0_undo_0 8 rfl rfl)
theorem dX0_undo_11 : decode cX0_undo 11 = .ok (.astore_n 2, 1) := dk_77 (dk_at dksX0_undo_0 11 rfl rfl)
theorem dX0_undo_12 : decode cX0_undo 12 = .ok (.iconst 1, 1) := dk_4 (dk_at dksX0_undo_0 12 rfl rfl)
theorem dX0_undo_13 : decode cX0_undo 13 = .ok (.ireturn, 1) := dk_172 (dk_at dksX0_undo_0 13 rfl rfl)
theorem dX0_undo_14 : decode cX0_undo 14 = .ok (.iconst 0, 1) := dk_3 (dk_at dksX0_undo_0 14 rfl rfl)
theorem dX0_undo_15 : decode cX0_undo 15 = .ok (.ireturn, 1) := dk_172 (dk_at dksX0_undo_0 15 rfl rfl)
abbrev cX0_restore : ByteArray := method_55_code
def yX0_restore : MethodName := ⟨RX0, "restore", "(LWalshAnalyzer;[J)I"⟩
def dkwX0_restore_0 : List UInt8 := [43, 3, 42, 182, 0, 187, 133, 80, 167, 0, 6, 77, 4, 172, 3, 172]
abbrev dktX0_restore_0 : List UInt8 := dkwX0_restore_0 ++ []
theorem dksX0_restore_0 : cX0_restore.data.toList.drop 0 = dktX0_restore_0 := by decide +kernel
theorem dX0_restore_0 : decode cX0_restore 0 = .ok (.aload_n 1, 1) := dk_43 (dk_at dksX0_restore_0 0 rfl rfl)
theorem dX0_restore_1 : decode cX0_restore 1 = .ok (.iconst 0, 1) := dk_3 (dk_at dksX0_restore_0 1 rfl rfl)
theorem dX0_restore_2 : decode cX0_restore 2 = .ok (.aload_n 0, 1) := dk_42 (dk_at dksX0_restore_0 2 rfl rfl)
theorem dX0_restore_3 : decode cX0_restore 3 = .ok (.invokevirtual 187, 3) := dk_182 0 187 (dk_at dksX0_restore_0 3 rfl rfl)
theorem dX0_restore_6 : decode cX0_restore 6 = .ok (.i2l, 1) := dk_133 (dk_at dksX0_restore_0 6 rfl rfl)
theorem dX0_restore_7 : decode cX0_restore 7 = .ok (.lastore, 1) := dk_80 (dk_at dksX0_restore_0 7 rfl rfl)
theorem dX0_restore_8 : decode cX0_restore 8 = .ok (.goto 6, 3) := dk_167 0 6 (dk_at dksX0_restore_0 8 rfl rfl)
theorem dX0_restore_11 : decode cX0_restore 11 = .ok (.astore_n 2, 1) := dk_77 (dk_at dksX0_restore_0 11 rfl rfl)
theorem dX0_restore_12 : decode cX0_restore 12 = .ok (.iconst 1, 1) := dk_4 (dk_at dksX0_restore_0 12 rfl rfl)
theorem dX0_restore_13 : decode cX0_restore 13 = .ok (.ireturn, 1) := dk_172 (dk_at dksX0_restore_0 13 rfl rfl)
theorem dX0_restore_14 : decode cX0_restore 14 = .ok (.iconst 0, 1) := dk_3 (dk_at dksX0_restore_0 14 rfl rfl)
theorem dX0_restore_15 : decode cX0_restore 15 = .ok (.ireturn, 1) := dk_172 (dk_at dksX0_restore_0 15 rfl rfl)
abbrev cX0_formatSamples : ByteArray := method_56_code
def yX0_formatSamples : MethodName := ⟨RX0, "formatSamples", "(LWalshAnalyzer;I[J)I"⟩
def dkwX0_formatSamples_0 : List UInt8 := [44, 3, 42, 27, 182, 0, 190, 133, 80, 167, 0, 6, 78, 4, 172, 3, 172]
abbrev dktX0_formatSamples_0 : List UInt8 := dkwX0_formatSamples_0 ++ []
theorem dksX0_formatSamples_0 : cX0_formatSamples.data.toList.drop 0 = dktX0_formatSamples_0 := by decide +kernel
theorem dX0_formatSamples_0 : decode cX0_formatSamples 0 = .ok (.aload_n 2, 1) := dk_44 (dk_at dksX0_formatSamples_0 0 rfl rfl)
theorem dX0_formatSamples_1 : decode cX0_formatSamples 1 = .ok (.iconst 0, 1) := dk_3 (dk_at dksX0_formatSamples_0 1 rfl rfl)
theorem dX0_formatSamples_2 : decode cX0_formatSamples 2 = .ok (.aload_n 0, 1) := dk_42 (dk_at dksX0_formatSamples_0 2 rfl rfl)
theorem dX0_formatSamples_3 : decode cX0_formatSamples 3 = .ok (.iload_n 1, 1) := dk_27 (dk_at dksX0_formatSamples_0 3 rfl rfl)
theorem dX0_formatSamples_4 : decode cX0_formatSamples 4 = .ok (.invokevirtual 190, 3) := dk_182 0 190 (dk_at dksX0_formatSamples_0 4 rfl rfl)
theorem dX0_formatSamples_7 : decode cX0_formatSamples 7 = .ok (.i2l, 1) := dk_133 (dk_at dksX0_formatSamples_0 7 rfl rfl)
theorem dX0_formatSamples_8 : decode cX0_formatSamples 8 = .ok (.lastore, 1) := dk_80 (dk_at dksX0_formatSamples_0 8 rfl rfl)
theorem dX0_formatSamples_9 : decode cX0_formatSamples 9 = .ok (.goto 6, 3) := dk_167 0 6 (dk_at dksX0_formatSamples_0 9 rfl rfl)
theorem dX0_formatSamples_12 : decode cX0_formatSamples 12 = .ok (.astore_n 3, 1) := dk_78 (dk_at dksX0_formatSamples_0 12 rfl rfl)
theorem dX0_formatSamples_13 : decode cX0_formatSamples 13 = .ok (.iconst 1, 1) := dk_4 (dk_at dksX0_formatSamples_0 13 rfl rfl)
theorem dX0_formatSamples_14 : decode cX0_formatSamples 14 = .ok (.ireturn, 1) := dk_172 (dk_at dksX0_formatSamples_0 14 rfl rfl)
theorem dX0_formatSamples_15 : decode cX0_formatSamples 15 = .ok (.iconst 0, 1) := dk_3 (dk_at dksX0_formatSamples_0 15 rfl rfl)
theorem dX0_formatSamples_16 : decode cX0_formatSamples 16 = .ok (.ireturn, 1) := dk_172 (dk_at dksX0_formatSamples_0 16 rfl rfl)
abbrev cX0_formatPeaks : ByteArray := method_57_code
def yX0_formatPeaks : MethodName := ⟨RX0, "formatPeaks", "(LWalshAnalyzer;II[J)I"⟩
def dkwX0_formatPeaks_0 : List UInt8 := [45, 3, 42, 27, 28, 182, 0, 193, 133, 80, 167, 0, 11, 58, 4, 4, 172, 58, 4, 5, 172, 3, 172]
abbrev dktX0_formatPeaks_0 : List UInt8 := dkwX0_formatPeaks_0 ++ []
theorem dksX0_formatPeaks_0 : cX0_formatPeaks.data.toList.drop 0 = dktX0_formatPeaks_0 := by decide +kernel
theorem dX0_formatPeaks_0 : decode cX0_formatPeaks 0 = .ok (.aload_n 3, 1) := dk_45 (dk_at dksX0_formatPeaks_0 0 rfl rfl)
theorem dX0_formatPeaks_1 : decode cX0_formatPeaks 1 = .ok (.iconst 0, 1) := dk_3 (dk_at dksX0_formatPeaks_0 1 rfl rfl)
theorem dX0_formatPeaks_2 : decode cX0_formatPeaks 2 = .ok (.aload_n 0, 1) := dk_42 (dk_at dksX0_formatPeaks_0 2 rfl rfl)
theorem dX0_formatPeaks_3 : decode cX0_formatPeaks 3 = .ok (.iload_n 1, 1) := dk_27 (dk_at dksX0_formatPeaks_0 3 rfl rfl)
theorem dX0_formatPeaks_4 : decode cX0_formatPeaks 4 = .ok (.iload_n 2, 1) := dk_28 (dk_at dksX0_formatPeaks_0 4 rfl rfl)
theorem dX0_formatPeaks_5 : decode cX0_formatPeaks 5 = .ok (.invokevirtual 193, 3) := dk_182 0 193 (dk_at dksX0_formatPeaks_0 5 rfl rfl)
theorem dX0_formatPeaks_8 : decode cX0_formatPeaks 8 = .ok (.i2l, 1) := dk_133 (dk_at dksX0_formatPeaks_0 8 rfl rfl)
theorem dX0_formatPeaks_9 : decode cX0_formatPeaks 9 = .ok (.lastore, 1) := dk_80 (dk_at dksX0_formatPeaks_0 9 rfl rfl)
theorem dX0_formatPeaks_10 : decode cX0_formatPeaks 10 = .ok (.goto 11, 3) := dk_167 0 11 (dk_at dksX0_formatPeaks_0 10 rfl rfl)
theorem dX0_formatPeaks_13 : decode cX0_formatPeaks 13 = .ok (.astore 4, 2) := dk_58 4 (dk_at dksX0_formatPeaks_0 13 rfl rfl)
theorem dX0_formatPeaks_15 : decode cX0_formatPeaks 15 = .ok (.iconst 1, 1) := dk_4 (dk_at dksX0_formatPeaks_0 15 rfl rfl)
theorem dX0_formatPeaks_16 : decode cX0_formatPeaks 16 = .ok (.ireturn, 1) := dk_172 (dk_at dksX0_formatPeaks_0 16 rfl rfl)
theorem dX0_formatPeaks_17 : decode cX0_formatPeaks 17 = .ok (.astore 4, 2) := dk_58 4 (dk_at dksX0_formatPeaks_0 17 rfl rfl)
theorem dX0_formatPeaks_19 : decode cX0_formatPeaks 19 = .ok (.iconst 2, 1) := dk_5 (dk_at dksX0_formatPeaks_0 19 rfl rfl)
theorem dX0_formatPeaks_20 : decode cX0_formatPeaks 20 = .ok (.ireturn, 1) := dk_172 (dk_at dksX0_formatPeaks_0 20 rfl rfl)
theorem dX0_formatPeaks_21 : decode cX0_formatPeaks 21 = .ok (.iconst 0, 1) := dk_3 (dk_at dksX0_formatPeaks_0 21 rfl rfl)
theorem dX0_formatPeaks_22 : decode cX0_formatPeaks 22 = .ok (.ireturn, 1) := dk_172 (dk_at dksX0_formatPeaks_0 22 rfl rfl)
abbrev cX0_formattedCharacter : ByteArray := method_58_code
def yX0_formattedCharacter : MethodName := ⟨RX0, "formattedCharacter", "(LWalshAnalyzer;I[J)I"⟩
def dkwX0_formattedCharacter_0 : List UInt8 := [44, 3, 42, 27, 182, 0, 196, 133, 80, 167, 0, 6, 78, 4, 172, 3, 172]
abbrev dktX0_formattedCharacter_0 : List UInt8 := dkwX0_formattedCharacter_0 ++ []
theorem dksX0_formattedCharacter_0 : cX0_formattedCharacter.data.toList.drop 0 = dktX0_formattedCharacter_0 := by decide +kernel
theorem dX0_formattedCharacter_0 : decode cX0_formattedCharacter 0 = .ok (.aload_n 2, 1) := dk_44 (dk_at dksX0_formattedCharacter_0 0 rfl rfl)
theorem dX0_formattedCharacter_1 : decode cX0_formattedCharacter 1 = .ok (.iconst 0, 1) := dk_3 (dk_at dksX0_formattedCharacter_0 1 rfl rfl)
theorem dX0_formattedCharacter_2 : decode cX0_formattedCharacter 2 = .ok (.aload_n 0, 1) := dk_42 (dk_at dksX0_formattedCharacter_0 2 rfl rfl)
theorem dX0_formattedCharacter_3 : decode cX0_formattedCharacter 3 = .ok (.iload_n 1, 1) := dk_27 (dk_at dksX0_formattedCharacter_0 3 rfl rfl)
theorem dX0_formattedCharacter_4 : decode cX0_formattedCharacter 4 = .ok (.invokevirtual 196, 3) := dk_182 0 196 (dk_at dksX0_formattedCharacter_0 4 rfl rfl)
theorem dX0_formattedCharacter_7 : decode cX0_formattedCharacter 7 = .ok (.i2l, 1) := dk_133 (dk_at dksX0_formattedCharacter_0 7 rfl rfl)
theorem dX0_formattedCharacter_8 : decode cX0_formattedCharacter 8 = .ok (.lastore, 1) := dk_80 (dk_at dksX0_formattedCharacter_0 8 rfl rfl)
theorem dX0_formattedCharacter_9 : decode cX0_formattedCharacter 9 = .ok (.goto 6, 3) := dk_167 0 6 (dk_at dksX0_formattedCharacter_0 9 rfl rfl)
theorem dX0_formattedCharacter_12 : decode cX0_formattedCharacter 12 = .ok (.astore_n 3, 1) := dk_78 (dk_at dksX0_formattedCharacter_0 12 rfl rfl)
theorem dX0_formattedCharacter_13 : decode cX0_formattedCharacter 13 = .ok (.iconst 1, 1) := dk_4 (dk_at dksX0_formattedCharacter_0 13 rfl rfl)
theorem dX0_formattedCharacter_14 : decode cX0_formattedCharacter 14 = .ok (.ireturn, 1) := dk_172 (dk_at dksX0_formattedCharacter_0 14 rfl rfl)
theorem dX0_formattedCharacter_15 : decode cX0_formattedCharacter 15 = .ok (.iconst 0, 1) := dk_3 (dk_at dksX0_formattedCharacter_0 15 rfl rfl)
theorem dX0_formattedCharacter_16 : decode cX0_formattedCharacter 16 = .ok (.ireturn, 1) := dk_172 (dk_at dksX0_formattedCharacter_0 16 rfl rfl)

