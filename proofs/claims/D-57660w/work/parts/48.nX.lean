set_option maxRecDepth 100000
abbrev cX1_init : ByteArray := prog_1_method_8_code
def yX1_init : MethodName := ⟨RX1, "<init>", "()V"⟩
def dkwX1_init_1 : List UInt8 := [183, 0, 44, 181, 0, 45, 42, 187, 0, 49, 89, 183, 0, 51, 181, 0, 52, 42, 18, 56, 181, 0, 58, 177]
abbrev dktX1_init_1 : List UInt8 := dkwX1_init_1 ++ []
def dkwX1_init_0 : List UInt8 := [42, 183, 0, 31, 42, 17, 3, 132, 188, 8, 181, 0, 34, 42, 2, 181, 0, 38, 42, 187, 0, 42, 89]
abbrev dktX1_init_0 : List UInt8 := dkwX1_init_0 ++ dktX1_init_1
theorem dksX1_init_0 : cX1_init.data.toList.drop 0 = dktX1_init_0 := by decide +kernel
theorem dksX1_init_1 : cX1_init.data.toList.drop 23 = dktX1_init_1 := dk_seg dksX1_init_0 23 rfl rfl
theorem dX1_init_0 : decode cX1_init 0 = .ok (.aload_n 0, 1) := dk_42 (dk_at dksX1_init_0 0 rfl rfl)
theorem dX1_init_1 : decode cX1_init 1 = .ok (.invokespecial 31, 3) := dk_183 0 31 (dk_at dksX1_init_0 1 rfl rfl)
theorem dX1_init_4 : decode cX1_init 4 = .ok (.aload_n 0, 1) := dk_42 (dk_at dksX1_init_0 4 rfl rfl)
theorem dX1_init_5 : decode cX1_init 5 = .ok (.sipush 900, 3) := dk_17 3 132 (dk_at dksX1_init_0 5 rfl rfl)
theorem dX1_init_8 : decode cX1_init 8 = .ok (.newarray .byte, 2) := dk_188_8 (dk_at dksX1_init_0 8 rfl rfl)
theorem dX1_init_10 : decode cX1_init 10 = .ok (.putfield 34, 3) := dk_181 0 34 (dk_at dksX1_init_0 10 rfl rfl)
theorem dX1_init_13 : decode cX1_init 13 = .ok (.aload_n 0, 1) := dk_42 (dk_at dksX1_init_0 13 rfl rfl)
theorem dX1_init_14 : decode cX1_init 14 = .ok (.iconst (-1), 1) := dk_2 (dk_at dksX1_init_0 14 rfl rfl)
theorem dX1_init_15 : decode cX1_init 15 = .ok (.putfield 38, 3) := dk_181 0 38 (dk_at dksX1_init_0 15 rfl rfl)
theorem dX1_init_18 : decode cX1_init 18 = .ok (.aload_n 0, 1) := dk_42 (dk_at dksX1_init_0 18 rfl rfl)
theorem dX1_init_19 : decode cX1_init 19 = .ok (.new 42, 3) := dk_187 0 42 (dk_at dksX1_init_0 19 rfl rfl)
theorem dX1_init_22 : decode cX1_init 22 = .ok (.dup, 1) := dk_89 (dk_at dksX1_init_0 22 rfl rfl)
theorem dX1_init_23 : decode cX1_init 23 = .ok (.invokespecial 44, 3) := dk_183 0 44 (dk_at dksX1_init_1 0 rfl rfl)
theorem dX1_init_26 : decode cX1_init 26 = .ok (.putfield 45, 3) := dk_181 0 45 (dk_at dksX1_init_1 3 rfl rfl)
theorem dX1_init_29 : decode cX1_init 29 = .ok (.aload_n 0, 1) := dk_42 (dk_at dksX1_init_1 6 rfl rfl)
theorem dX1_init_30 : decode cX1_init 30 = .ok (.new 49, 3) := dk_187 0 49 (dk_at dksX1_init_1 7 rfl rfl)
theorem dX1_init_33 : decode cX1_init 33 = .ok (.dup, 1) := dk_89 (dk_at dksX1_init_1 10 rfl rfl)
theorem dX1_init_34 : decode cX1_init 34 = .ok (.invokespecial 51, 3) := dk_183 0 51 (dk_at dksX1_init_1 11 rfl rfl)
theorem dX1_init_37 : decode cX1_init 37 = .ok (.putfield 52, 3) := dk_181 0 52 (dk_at dksX1_init_1 14 rfl rfl)
theorem dX1_init_40 : decode cX1_init 40 = .ok (.aload_n 0, 1) := dk_42 (dk_at dksX1_init_1 17 rfl rfl)
theorem dX1_init_41 : decode cX1_init 41 = .ok (.ldc 56, 2) := dk_18 56 (dk_at dksX1_init_1 18 rfl rfl)
theorem dX1_init_43 : decode cX1_init 43 = .ok (.putfield 58, 3) := dk_181 0 58 (dk_at dksX1_init_1 20 rfl rfl)
theorem dX1_init_46 : decode cX1_init 46 = .ok (.return_, 1) := dk_177 (dk_at dksX1_init_1 23 rfl rfl)
abbrev cX1_errorKind : ByteArray := prog_1_method_13_code
def yX1_errorKind : MethodName := ⟨RX1, "errorKind", "()I"⟩
theorem dX1_errorKind_0 : decode cX1_errorKind 0 = .ok (.aload_n 0, 1) := by decide +kernel
theorem dX1_errorKind_1 : decode cX1_errorKind 1 = .ok (.getfield 85, 3) := by decide +kernel
theorem dX1_errorKind_4 : decode cX1_errorKind 4 = .ok (.ireturn, 1) := by decide +kernel
abbrev cX1_errorOffset : ByteArray := prog_1_method_14_code
def yX1_errorOffset : MethodName := ⟨RX1, "errorOffset", "()I"⟩
theorem dX1_errorOffset_0 : decode cX1_errorOffset 0 = .ok (.aload_n 0, 1) := by decide +kernel
theorem dX1_errorOffset_1 : decode cX1_errorOffset 1 = .ok (.getfield 38, 3) := by decide +kernel
theorem dX1_errorOffset_4 : decode cX1_errorOffset 4 = .ok (.ireturn, 1) := by decide +kernel
abbrev cX1_recordingCount : ByteArray := prog_1_method_19_code
def yX1_recordingCount : MethodName := ⟨RX1, "recordingCount", "()I"⟩
def dkwX1_recordingCount_0 : List UInt8 := [42, 180, 0, 45, 180, 0, 102, 182, 0, 106, 172]
abbrev dktX1_recordingCount_0 : List UInt8 := dkwX1_recordingCount_0 ++ []
theorem dksX1_recordingCount_0 : cX1_recordingCount.data.toList.drop 0 = dktX1_recordingCount_0 := by decide +kernel
theorem dX1_recordingCount_0 : decode cX1_recordingCount 0 = .ok (.aload_n 0, 1) := dk_42 (dk_at dksX1_recordingCount_0 0 rfl rfl)
theorem dX1_recordingCount_1 : decode cX1_recordingCount 1 = .ok (.getfield 45, 3) := dk_180 0 45 (dk_at dksX1_recordingCount_0 1 rfl rfl)
theorem dX1_recordingCount_4 : decode cX1_recordingCount 4 = .ok (.getfield 102, 3) := dk_180 0 102 (dk_at dksX1_recordingCount_0 4 rfl rfl)
theorem dX1_recordingCount_7 : decode cX1_recordingCount 7 = .ok (.invokevirtual 106, 3) := dk_182 0 106 (dk_at dksX1_recordingCount_0 7 rfl rfl)
theorem dX1_recordingCount_10 : decode cX1_recordingCount 10 = .ok (.ireturn, 1) := dk_172 (dk_at dksX1_recordingCount_0 10 rfl rfl)
abbrev cX1_findRecording : ByteArray := prog_1_method_22_code
def yX1_findRecording : MethodName := ⟨RX1, "findRecording", "()I"⟩
def dkwX1_findRecording_1 : List UInt8 := [180, 0, 45, 44, 182, 0, 168, 153, 0, 14, 42, 180, 0, 45, 44, 182, 0, 171, 167, 0, 4, 2, 172]
abbrev dktX1_findRecording_1 : List UInt8 := dkwX1_findRecording_1 ++ []
def dkwX1_findRecording_0 : List UInt8 := [42, 182, 0, 158, 76, 187, 0, 154, 89, 43, 183, 0, 161, 77, 43, 184, 0, 164, 153, 0, 25, 42]
abbrev dktX1_findRecording_0 : List UInt8 := dkwX1_findRecording_0 ++ dktX1_findRecording_1
theorem dksX1_findRecording_0 : cX1_findRecording.data.toList.drop 0 = dktX1_findRecording_0 := by decide +kernel
theorem dksX1_findRecording_1 : cX1_findRecording.data.toList.drop 22 = dktX1_findRecording_1 := dk_seg dksX1_findRecording_0 22 rfl rfl
theorem dX1_findRecording_0 : decode cX1_findRecording 0 = .ok (.aload_n 0, 1) := dk_42 (dk_at dksX1_findRecording_0 0 rfl rfl)
theorem dX1_findRecording_1 : decode cX1_findRecording 1 = .ok (.invokevirtual 158, 3) := dk_182 0 158 (dk_at dksX1_findRecording_0 1 rfl rfl)
theorem dX1_findRecording_4 : decode cX1_findRecording 4 = .ok (.astore_n 1, 1) := dk_76 (dk_at dksX1_findRecording_0 4 rfl rfl)
theorem dX1_findRecording_5 : decode cX1_findRecording 5 = .ok (.new 154, 3) := dk_187 0 154 (dk_at dksX1_findRecording_0 5 rfl rfl)
theorem dX1_findRecording_8 : decode cX1_findRecording 8 = .ok (.dup, 1) := dk_89 (dk_at dksX1_findRecording_0 8 rfl rfl)
theorem dX1_findRecording_9 : decode cX1_findRecording 9 = .ok (.aload_n 1, 1) := dk_43 (dk_at dksX1_findRecording_0 9 rfl rfl)
theorem dX1_findRecording_10 : decode cX1_findRecording 10 = .ok (.invokespecial 161, 3) := dk_183 0 161 (dk_at dksX1_findRecording_0 10 rfl rfl)
theorem dX1_findRecording_13 : decode cX1_findRecording 13 = .ok (.astore_n 2, 1) := dk_77 (dk_at dksX1_findRecording_0 13 rfl rfl)
theorem dX1_findRecording_14 : decode cX1_findRecording 14 = .ok (.aload_n 1, 1) := dk_43 (dk_at dksX1_findRecording_0 14 rfl rfl)
theorem dX1_findRecording_15 : decode cX1_findRecording 15 = .ok (.invokestatic 164, 3) := dk_184 0 164 (dk_at dksX1_findRecording_0 15 rfl rfl)
theorem dX1_findRecording_18 : decode cX1_findRecording 18 = .ok (.ifCond .eq 25, 3) := dk_153 0 25 (dk_at dksX1_findRecording_0 18 rfl rfl)
theorem dX1_findRecording_21 : decode cX1_findRecording 21 = .ok (.aload_n 0, 1) := dk_42 (dk_at dksX1_findRecording_0 21 rfl rfl)
theorem dX1_findRecording_22 : decode cX1_findRecording 22 = .ok (.getfield 45, 3) := dk_180 0 45 (dk_at dksX1_findRecording_1 0 rfl rfl)
theorem dX1_findRecording_25 : decode cX1_findRecording 25 = .ok (.aload_n 2, 1) := dk_44 (dk_at dksX1_findRecording_1 3 rfl rfl)
theorem dX1_findRecording_26 : decode cX1_findRecording 26 = .ok (.invokevirtual 168, 3) := dk_182 0 168 (dk_at dksX1_findRecording_1 4 rfl rfl)
theorem dX1_findRecording_29 : decode cX1_findRecording 29 = .ok (.ifCond .eq 14, 3) := dk_153 0 14 (dk_at dksX1_findRecording_1 7 rfl rfl)
theorem dX1_findRecording_32 : decode cX1_findRecording 32 = .ok (.aload_n 0, 1) := dk_42 (dk_at dksX1_findRecording_1 10 rfl rfl)
theorem dX1_findRecording_33 : decode cX1_findRecording 33 = .ok (.getfield 45, 3) := dk_180 0 45 (dk_at dksX1_findRecording_1 11 rfl rfl)
theorem dX1_findRecording_36 : decode cX1_findRecording 36 = .ok (.aload_n 2, 1) := dk_44 (dk_at dksX1_findRecording_1 14 rfl rfl)
theorem dX1_findRecording_37 : decode cX1_findRecording 37 = .ok (.invokevirtual 171, 3) := dk_182 0 171 (dk_at dksX1_findRecording_1 15 rfl rfl)
theorem dX1_findRecording_40 : decode cX1_findRecording 40 = .ok (.goto 4, 3) := dk_167 0 4 (dk_at dksX1_findRecording_1 18 rfl rfl)
theorem dX1_findRecording_43 : decode cX1_findRecording 43 = .ok (.iconst (-1), 1) := dk_2 (dk_at dksX1_findRecording_1 21 rfl rfl)
theorem dX1_findRecording_44 : decode cX1_findRecording 44 = .ok (.ireturn, 1) := dk_172 (dk_at dksX1_findRecording_1 22 rfl rfl)
abbrev cX1_bufferText : ByteArray := prog_1_method_17_code
def yX1_bufferText : MethodName := ⟨RX1, "bufferText", "()Ljava/lang/String;"⟩
def dkwX1_bufferText_1 : List UInt8 := [51, 17, 0, 255, 126, 146, 182, 0, 131, 87, 132, 2, 1, 167, 255, 229, 43, 182, 0, 135, 176]
abbrev dktX1_bufferText_1 : List UInt8 := dkwX1_bufferText_1 ++ []
def dkwX1_bufferText_0 : List UInt8 := [187, 0, 128, 89, 183, 0, 130, 76, 3, 61, 28, 42, 180, 0, 62, 162, 0, 25, 43, 42, 180, 0, 34, 28]
abbrev dktX1_bufferText_0 : List UInt8 := dkwX1_bufferText_0 ++ dktX1_bufferText_1
theorem dksX1_bufferText_0 : cX1_bufferText.data.toList.drop 0 = dktX1_bufferText_0 := by decide +kernel
theorem dksX1_bufferText_1 : cX1_bufferText.data.toList.drop 24 = dktX1_bufferText_1 := dk_seg dksX1_bufferText_0 24 rfl rfl
theorem dX1_bufferText_0 : decode cX1_bufferText 0 = .ok (.new 128, 3) := dk_187 0 128 (dk_at dksX1_bufferText_0 0 rfl rfl)
theorem dX1_bufferText_3 : decode cX1_bufferText 3 = .ok (.dup, 1) := dk_89 (dk_at dksX1_bufferText_0 3 rfl rfl)
theorem dX1_bufferText_4 : decode cX1_bufferText 4 = .ok (.invokespecial 130, 3) := dk_183 0 130 (dk_at dksX1_bufferText_0 4 rfl rfl)
theorem dX1_bufferText_7 : decode cX1_bufferText 7 = .ok (.astore_n 1, 1) := dk_76 (dk_at dksX1_bufferText_0 7 rfl rfl)
theorem dX1_bufferText_8 : decode cX1_bufferText 8 = .ok (.iconst 0, 1) := dk_3 (dk_at dksX1_bufferText_0 8 rfl rfl)
theorem dX1_bufferText_9 : decode cX1_bufferText 9 = .ok (.istore_n 2, 1) := dk_61 (dk_at dksX1_bufferText_0 9 rfl rfl)
theorem dX1_bufferText_10 : decode cX1_bufferText 10 = .ok (.iload_n 2, 1) := dk_28 (dk_at dksX1_bufferText_0 10 rfl rfl)
theorem dX1_bufferText_11 : decode cX1_bufferText 11 = .ok (.aload_n 0, 1) := dk_42 (dk_at dksX1_bufferText_0 11 rfl rfl)
theorem dX1_bufferText_12 : decode cX1_bufferText 12 = .ok (.getfield 62, 3) := dk_180 0 62 (dk_at dksX1_bufferText_0 12 rfl rfl)
theorem dX1_bufferText_15 : decode cX1_bufferText 15 = .ok (.if_icmp .ge 25, 3) := dk_162 0 25 (dk_at dksX1_bufferText_0 15 rfl rfl)
theorem dX1_bufferText_18 : decode cX1_bufferText 18 = .ok (.aload_n 1, 1) := dk_43 (dk_at dksX1_bufferText_0 18 rfl rfl)
theorem dX1_bufferText_19 : decode cX1_bufferText 19 = .ok (.aload_n 0, 1) := dk_42 (dk_at dksX1_bufferText_0 19 rfl rfl)
theorem dX1_bufferText_20 : decode cX1_bufferText 20 = .ok (.getfield 34, 3) := dk_180 0 34 (dk_at dksX1_bufferText_0 20 rfl rfl)
theorem dX1_bufferText_23 : decode cX1_bufferText 23 = .ok (.iload_n 2, 1) := dk_28 (dk_at dksX1_bufferText_0 23 rfl rfl)
theorem dX1_bufferText_24 : decode cX1_bufferText 24 = .ok (.baload, 1) := dk_51 (dk_at dksX1_bufferText_1 0 rfl rfl)
theorem dX1_bufferText_25 : decode cX1_bufferText 25 = .ok (.sipush 255, 3) := dk_17 0 255 (dk_at dksX1_bufferText_1 1 rfl rfl)
theorem dX1_bufferText_28 : decode cX1_bufferText 28 = .ok (.iand, 1) := dk_126 (dk_at dksX1_bufferText_1 4 rfl rfl)
theorem dX1_bufferText_29 : decode cX1_bufferText 29 = .ok (.i2c, 1) := dk_146 (dk_at dksX1_bufferText_1 5 rfl rfl)
theorem dX1_bufferText_30 : decode cX1_bufferText 30 = .ok (.invokevirtual 131, 3) := dk_182 0 131 (dk_at dksX1_bufferText_1 6 rfl rfl)
theorem dX1_bufferText_33 : decode cX1_bufferText 33 = .ok (.pop, 1) := dk_87 (dk_at dksX1_bufferText_1 9 rfl rfl)
theorem dX1_bufferText_34 : decode cX1_bufferText 34 = .ok (.iinc 2 1, 3) := dk_132 2 1 (dk_at dksX1_bufferText_1 10 rfl rfl)
theorem dX1_bufferText_37 : decode cX1_bufferText 37 = .ok (.goto (-27), 3) := dk_167 255 229 (dk_at dksX1_bufferText_1 13 rfl rfl)
theorem dX1_bufferText_40 : decode cX1_bufferText 40 = .ok (.aload_n 1, 1) := dk_43 (dk_at dksX1_bufferText_1 16 rfl rfl)
theorem dX1_bufferText_41 : decode cX1_bufferText 41 = .ok (.invokevirtual 135, 3) := dk_182 0 135 (dk_at dksX1_bufferText_1 17 rfl rfl)
theorem dX1_bufferText_44 : decode cX1_bufferText 44 = .ok (.areturn, 1) := dk_176 (dk_at dksX1_bufferText_1 20 rfl rfl)
abbrev cX1_isName : ByteArray := prog_1_method_18_code
def yX1_isName : MethodName := ⟨RX1, "isName", "(Ljava/lang/String;)Z"⟩
def dkwX1_isName_1 : List UInt8 := [154, 0, 5, 3, 172, 132, 1, 1, 167, 255, 228, 42, 182, 0, 139, 4, 16, 6, 184, 0, 18, 172]
abbrev dktX1_isName_1 : List UInt8 := dkwX1_isName_1 ++ []
def dkwX1_isName_0 : List UInt8 := [3, 60, 27, 42, 182, 0, 139, 162, 0, 26, 42, 27, 182, 0, 144, 16, 97, 16, 122, 184, 0, 18]
abbrev dktX1_isName_0 : List UInt8 := dkwX1_isName_0 ++ dktX1_isName_1
theorem dksX1_isName_0 : cX1_isName.data.toList.drop 0 = dktX1_isName_0 := by decide +kernel
theorem dksX1_isName_1 : cX1_isName.data.toList.drop 22 = dktX1_isName_1 := dk_seg dksX1_isName_0 22 rfl rfl
theorem dX1_isName_0 : decode cX1_isName 0 = .ok (.iconst 0, 1) := dk_3 (dk_at dksX1_isName_0 0 rfl rfl)
theorem dX1_isName_1 : decode cX1_isName 1 = .ok (.istore_n 1, 1) := dk_60 (dk_at dksX1_isName_0 1 rfl rfl)
theorem dX1_isName_2 : decode cX1_isName 2 = .ok (.iload_n 1, 1) := dk_27 (dk_at dksX1_isName_0 2 rfl rfl)
theorem dX1_isName_3 : decode cX1_isName 3 = .ok (.aload_n 0, 1) := dk_42 (dk_at dksX1_isName_0 3 rfl rfl)
theorem dX1_isName_4 : decode cX1_isName 4 = .ok (.invokevirtual 139, 3) := dk_182 0 139 (dk_at dksX1_isName_0 4 rfl rfl)
theorem dX1_isName_7 : decode cX1_isName 7 = .ok (.if_icmp .ge 26, 3) := dk_162 0 26 (dk_at dksX1_isName_0 7 rfl rfl)
theorem dX1_isName_10 : decode cX1_isName 10 = .ok (.aload_n 0, 1) := dk_42 (dk_at dksX1_isName_0 10 rfl rfl)
theorem dX1_isName_11 : decode cX1_isName 11 = .ok (.iload_n 1, 1) := dk_27 (dk_at dksX1_isName_0 11 rfl rfl)
theorem dX1_isName_12 : decode cX1_isName 12 = .ok (.invokevirtual 144, 3) := dk_182 0 144 (dk_at dksX1_isName_0 12 rfl rfl)
theorem dX1_isName_15 : decode cX1_isName 15 = .ok (.bipush 97, 2) := dk_16 97 (dk_at dksX1_isName_0 15 rfl rfl)
theorem dX1_isName_17 : decode cX1_isName 17 = .ok (.bipush 122, 2) := dk_16 122 (dk_at dksX1_isName_0 17 rfl rfl)
theorem dX1_isName_19 : decode cX1_isName 19 = .ok (.invokestatic 18, 3) := dk_184 0 18 (dk_at dksX1_isName_0 19 rfl rfl)
theorem dX1_isName_22 : decode cX1_isName 22 = .ok (.ifCond .ne 5, 3) := dk_154 0 5 (dk_at dksX1_isName_1 0 rfl rfl)
theorem dX1_isName_25 : decode cX1_isName 25 = .ok (.iconst 0, 1) := dk_3 (dk_at dksX1_isName_1 3 rfl rfl)
theorem dX1_isName_26 : decode cX1_isName 26 = .ok (.ireturn, 1) := dk_172 (dk_at dksX1_isName_1 4 rfl rfl)
theorem dX1_isName_27 : decode cX1_isName 27 = .ok (.iinc 1 1, 3) := dk_132 1 1 (dk_at dksX1_isName_1 5 rfl rfl)
theorem dX1_isName_30 : decode cX1_isName 30 = .ok (.goto (-28), 3) := dk_167 255 228 (dk_at dksX1_isName_1 8 rfl rfl)
theorem dX1_isName_33 : decode cX1_isName 33 = .ok (.aload_n 0, 1) := dk_42 (dk_at dksX1_isName_1 11 rfl rfl)
theorem dX1_isName_34 : decode cX1_isName 34 = .ok (.invokevirtual 139, 3) := dk_182 0 139 (dk_at dksX1_isName_1 12 rfl rfl)
theorem dX1_isName_37 : decode cX1_isName 37 = .ok (.iconst 1, 1) := dk_4 (dk_at dksX1_isName_1 15 rfl rfl)
theorem dX1_isName_38 : decode cX1_isName 38 = .ok (.bipush 6, 2) := dk_16 6 (dk_at dksX1_isName_1 16 rfl rfl)
theorem dX1_isName_40 : decode cX1_isName 40 = .ok (.invokestatic 18, 3) := dk_184 0 18 (dk_at dksX1_isName_1 18 rfl rfl)
theorem dX1_isName_43 : decode cX1_isName 43 = .ok (.ireturn, 1) := dk_172 (dk_at dksX1_isName_1 21 rfl rfl)
abbrev cX1_isBetween : ByteArray := prog_1_method_5_code
def yX1_isBetween : MethodName := ⟨RX1, "isBetween", "(III)Z"⟩
def dkwX1_isBetween_0 : List UInt8 := [26, 27, 161, 0, 12, 26, 28, 163, 0, 7, 4, 167, 0, 4, 3, 172]
abbrev dktX1_isBetween_0 : List UInt8 := dkwX1_isBetween_0 ++ []
theorem dksX1_isBetween_0 : cX1_isBetween.data.toList.drop 0 = dktX1_isBetween_0 := by decide +kernel
theorem dX1_isBetween_0 : decode cX1_isBetween 0 = .ok (.iload_n 0, 1) := dk_26 (dk_at dksX1_isBetween_0 0 rfl rfl)
theorem dX1_isBetween_1 : decode cX1_isBetween 1 = .ok (.iload_n 1, 1) := dk_27 (dk_at dksX1_isBetween_0 1 rfl rfl)
theorem dX1_isBetween_2 : decode cX1_isBetween 2 = .ok (.if_icmp .lt 12, 3) := dk_161 0 12 (dk_at dksX1_isBetween_0 2 rfl rfl)
theorem dX1_isBetween_5 : decode cX1_isBetween 5 = .ok (.iload_n 0, 1) := dk_26 (dk_at dksX1_isBetween_0 5 rfl rfl)
theorem dX1_isBetween_6 : decode cX1_isBetween 6 = .ok (.iload_n 2, 1) := dk_28 (dk_at dksX1_isBetween_0 6 rfl rfl)
theorem dX1_isBetween_7 : decode cX1_isBetween 7 = .ok (.if_icmp .gt 7, 3) := dk_163 0 7 (dk_at dksX1_isBetween_0 7 rfl rfl)
theorem dX1_isBetween_10 : decode cX1_isBetween 10 = .ok (.iconst 1, 1) := dk_4 (dk_at dksX1_isBetween_0 10 rfl rfl)
theorem dX1_isBetween_11 : decode cX1_isBetween 11 = .ok (.goto 4, 3) := dk_167 0 4 (dk_at dksX1_isBetween_0 11 rfl rfl)
theorem dX1_isBetween_14 : decode cX1_isBetween 14 = .ok (.iconst 0, 1) := dk_3 (dk_at dksX1_isBetween_0 14 rfl rfl)
theorem dX1_isBetween_15 : decode cX1_isBetween 15 = .ok (.ireturn, 1) := dk_172 (dk_at dksX1_isBetween_0 15 rfl rfl)
abbrev cX1_save : ByteArray := prog_1_method_79_code
def yX1_save : MethodName := ⟨RX1, "save", "()I"⟩
def dkwX1_save_0 : List UInt8 := [42, 42, 180, 0, 45, 182, 1, 47, 181, 0, 99, 42, 180, 0, 45, 180, 0, 102, 182, 0, 106, 172]
abbrev dktX1_save_0 : List UInt8 := dkwX1_save_0 ++ []
theorem dksX1_save_0 : cX1_save.data.toList.drop 0 = dktX1_save_0 := by decide +kernel
theorem dX1_save_0 : decode cX1_save 0 = .ok (.aload_n 0, 1) := dk_42 (dk_at dksX1_save_0 0 rfl rfl)
theorem dX1_save_1 : decode cX1_save 1 = .ok (.aload_n 0, 1) := dk_42 (dk_at dksX1_save_0 1 rfl rfl)
theorem dX1_save_2 : decode cX1_save 2 = .ok (.getfield 45, 3) := dk_180 0 45 (dk_at dksX1_save_0 2 rfl rfl)
theorem dX1_save_5 : decode cX1_save 5 = .ok (.invokevirtual 303, 3) := dk_182 1 47 (dk_at dksX1_save_0 5 rfl rfl)
theorem dX1_save_8 : decode cX1_save 8 = .ok (.putfield 99, 3) := dk_181 0 99 (dk_at dksX1_save_0 8 rfl rfl)
theorem dX1_save_11 : decode cX1_save 11 = .ok (.aload_n 0, 1) := dk_42 (dk_at dksX1_save_0 11 rfl rfl)
theorem dX1_save_12 : decode cX1_save 12 = .ok (.getfield 45, 3) := dk_180 0 45 (dk_at dksX1_save_0 12 rfl rfl)
theorem dX1_save_15 : decode cX1_save 15 = .ok (.getfield 102, 3) := dk_180 0 102 (dk_at dksX1_save_0 15 rfl rfl)
theorem dX1_save_18 : decode cX1_save 18 = .ok (.invokevirtual 106, 3) := dk_182 0 106 (dk_at dksX1_save_0 18 rfl rfl)
theorem dX1_save_21 : decode cX1_save 21 = .ok (.ireturn, 1) := dk_172 (dk_at dksX1_save_0 21 rfl rfl)
abbrev cX1_append : ByteArray := prog_1_method_9_code
def yX1_append : MethodName := ⟨RX1, "append", "(IIIII)I"⟩
def dkwX1_append_2 : List UInt8 := [182, 0, 69, 42, 180, 0, 62, 172]
abbrev dktX1_append_2 : List UInt8 := dkwX1_append_2 ++ []
def dkwX1_append_1 : List UInt8 := [188, 10, 89, 3, 27, 79, 89, 4, 28, 79, 89, 5, 29, 79, 89, 6, 21, 4, 79, 89, 7, 21, 5, 79]
abbrev dktX1_append_1 : List UInt8 := dkwX1_append_1 ++ dktX1_append_2
def dkwX1_append_0 : List UInt8 := [42, 180, 0, 62, 16, 20, 96, 17, 3, 132, 163, 0, 7, 4, 167, 0, 4, 3, 184, 0, 65, 42, 8]
abbrev dktX1_append_0 : List UInt8 := dkwX1_append_0 ++ dktX1_append_1
theorem dksX1_append_0 : cX1_append.data.toList.drop 0 = dktX1_append_0 := by decide +kernel
theorem dksX1_append_1 : cX1_append.data.toList.drop 23 = dktX1_append_1 := dk_seg dksX1_append_0 23 rfl rfl
theorem dksX1_append_2 : cX1_append.data.toList.drop 47 = dktX1_append_2 := dk_seg dksX1_append_1 24 rfl rfl
theorem dX1_append_0 : decode cX1_append 0 = .ok (.aload_n 0, 1) := dk_42 (dk_at dksX1_append_0 0 rfl rfl)
theorem dX1_append_1 : decode cX1_append 1 = .ok (.getfield 62, 3) := dk_180 0 62 (dk_at dksX1_append_0 1 rfl rfl)
theorem dX1_append_4 : decode cX1_append 4 = .ok (.bipush 20, 2) := dk_16 20 (dk_at dksX1_append_0 4 rfl rfl)
theorem dX1_append_6 : decode cX1_append 6 = .ok (.iadd, 1) := dk_96 (dk_at dksX1_append_0 6 rfl rfl)
theorem dX1_append_7 : decode cX1_append 7 = .ok (.sipush 900, 3) := dk_17 3 132 (dk_at dksX1_append_0 7 rfl rfl)
theorem dX1_append_10 : decode cX1_append 10 = .ok (.if_icmp .gt 7, 3) := dk_163 0 7 (dk_at dksX1_append_0 10 rfl rfl)
theorem dX1_append_13 : decode cX1_append 13 = .ok (.iconst 1, 1) := dk_4 (dk_at dksX1_append_0 13 rfl rfl)
theorem dX1_append_14 : decode cX1_append 14 = .ok (.goto 4, 3) := dk_167 0 4 (dk_at dksX1_append_0 14 rfl rfl)
theorem dX1_append_17 : decode cX1_append 17 = .ok (.iconst 0, 1) := dk_3 (dk_at dksX1_append_0 17 rfl rfl)
theorem dX1_append_18 : decode cX1_append 18 = .ok (.invokestatic 65, 3) := dk_184 0 65 (dk_at dksX1_append_0 18 rfl rfl)
theorem dX1_append_21 : decode cX1_append 21 = .ok (.aload_n 0, 1) := dk_42 (dk_at dksX1_append_0 21 rfl rfl)
theorem dX1_append_22 : decode cX1_append 22 = .ok (.iconst 5, 1) := dk_8 (dk_at dksX1_append_0 22 rfl rfl)
theorem dX1_append_23 : decode cX1_append 23 = .ok (.newarray .int, 2) := dk_188_10 (dk_at dksX1_append_1 0 rfl rfl)
theorem dX1_append_25 : decode cX1_append 25 = .ok (.dup, 1) := dk_89 (dk_at dksX1_append_1 2 rfl rfl)
theorem dX1_append_26 : decode cX1_append 26 = .ok (.iconst 0, 1) := dk_3 (dk_at dksX1_append_1 3 rfl rfl)
theorem dX1_append_27 : decode cX1_append 27 = .ok (.iload_n 1, 1) := dk_27 (dk_at dksX1_append_1 4 rfl rfl)
theorem dX1_append_28 : decode cX1_append 28 = .ok (.iastore, 1) := dk_79 (dk_at dksX1_append_1 5 rfl rfl)
theorem dX1_append_29 : decode cX1_append 29 = .ok (.dup, 1) := dk_89 (dk_at dksX1_append_1 6 rfl rfl)
theorem dX1_append_30 : decode cX1_append 30 = .ok (.iconst 1, 1) := dk_4 (dk_at dksX1_append_1 7 rfl rfl)
theorem dX1_append_31 : decode cX1_append 31 = .ok (.iload_n 2, 1) := dk_28 (dk_at dksX1_append_1 8 rfl rfl)
theorem dX1_append_32 : decode cX1_append 32 = .ok (.iastore, 1) := dk_79 (dk_at dksX1_append_1 9 rfl rfl)
theorem dX1_append_33 : decode cX1_append 33 = .ok (.dup, 1) := dk_89 (dk_at dksX1_append_1 10 rfl rfl)
theorem dX1_append_34 : decode cX1_append 34 = .ok (.iconst 2, 1) := dk_5 (dk_at dksX1_append_1 11 rfl rfl)
theorem dX1_append_35 : decode cX1_append 35 = .ok (.iload_n 3, 1) := dk_29 (dk_at dksX1_append_1 12 rfl rfl)
theorem dX1_append_36 : decode cX1_append 36 = .ok (.iastore, 1) := dk_79 (dk_at dksX1_append_1 13 rfl rfl)
theorem dX1_append_37 : decode cX1_append 37 = .ok (.dup, 1) := dk_89 (dk_at dksX1_append_1 14 rfl rfl)
theorem dX1_append_38 : decode cX1_append 38 = .ok (.iconst 3, 1) := dk_6 (dk_at dksX1_append_1 15 rfl rfl)
theorem dX1_append_39 : decode cX1_append 39 = .ok (.iload 4, 2) := dk_21 4 (dk_at dksX1_append_1 16 rfl rfl)
theorem dX1_append_41 : decode cX1_append 41 = .ok (.iastore, 1) := dk_79 (dk_at dksX1_append_1 18 rfl rfl)
theorem dX1_append_42 : decode cX1_append 42 = .ok (.dup, 1) := dk_89 (dk_at dksX1_append_1 19 rfl rfl)
theorem dX1_append_43 : decode cX1_append 43 = .ok (.iconst 4, 1) := dk_7 (dk_at dksX1_append_1 20 rfl rfl)
theorem dX1_append_44 : decode cX1_append 44 = .ok (.iload 5, 2) := dk_21 5 (dk_at dksX1_append_1 21 rfl rfl)
theorem dX1_append_46 : decode cX1_append 46 = .ok (.iastore, 1) := dk_79 (dk_at dksX1_append_1 23 rfl rfl)
theorem dX1_append_47 : decode cX1_append 47 = .ok (.invokevirtual 69, 3) := dk_182 0 69 (dk_at dksX1_append_2 0 rfl rfl)
theorem dX1_append_50 : decode cX1_append 50 = .ok (.aload_n 0, 1) := dk_42 (dk_at dksX1_append_2 3 rfl rfl)
theorem dX1_append_51 : decode cX1_append 51 = .ok (.getfield 62, 3) := dk_180 0 62 (dk_at dksX1_append_2 4 rfl rfl)
theorem dX1_append_54 : decode cX1_append 54 = .ok (.ireturn, 1) := dk_172 (dk_at dksX1_append_2 7 rfl rfl)
abbrev cX1_requireState : ByteArray := prog_1_method_3_code
def yX1_requireState : MethodName := ⟨RX1, "requireState", "(Z)V"⟩
def dkwX1_requireState_0 : List UInt8 := [26, 154, 0, 11, 187, 0, 10, 89, 183, 0, 12, 191, 177]
abbrev dktX1_requireState_0 : List UInt8 := dkwX1_requireState_0 ++ []
theorem dksX1_requireState_0 : cX1_requireState.data.toList.drop 0 = dktX1_requireState_0 := by decide +kernel
theorem dX1_requireState_0 : decode cX1_requireState 0 = .ok (.iload_n 0, 1) := dk_26 (dk_at dksX1_requireState_0 0 rfl rfl)
theorem dX1_requireState_1 : decode cX1_requireState 1 = .ok (.ifCond .ne 11, 3) := dk_154 0 11 (dk_at dksX1_requireState_0 1 rfl rfl)
theorem dX1_requireState_4 : decode cX1_requireState 4 = .ok (.new 10, 3) := dk_187 0 10 (dk_at dksX1_requireState_0 4 rfl rfl)
theorem dX1_requireState_7 : decode cX1_requireState 7 = .ok (.dup, 1) := dk_89 (dk_at dksX1_requireState_0 7 rfl rfl)
theorem dX1_requireState_8 : decode cX1_requireState 8 = .ok (.invokespecial 12, 3) := dk_183 0 12 (dk_at dksX1_requireState_0 8 rfl rfl)
theorem dX1_requireState_11 : decode cX1_requireState 11 = .ok (.athrow, 1) := dk_191 (dk_at dksX1_requireState_0 11 rfl rfl)
theorem dX1_requireState_12 : decode cX1_requireState 12 = .ok (.return_, 1) := dk_177 (dk_at dksX1_requireState_0 12 rfl rfl)
abbrev cX1_appendWords : ByteArray := prog_1_method_10_code
def yX1_appendWords : MethodName := ⟨RX1, "appendWords", "([I)V"⟩
def dkwX1_appendWords_2 : List UInt8 := [180, 0, 62, 4, 96, 181, 0, 62, 132, 6, 248, 167, 255, 223, 132, 4, 1, 167, 255, 201, 177]
abbrev dktX1_appendWords_2 : List UInt8 := dkwX1_appendWords_2 ++ []
def dkwX1_appendWords_1 : List UInt8 := [21, 6, 155, 0, 34, 42, 180, 0, 34, 42, 180, 0, 62, 21, 5, 21, 6, 122, 145, 84, 42, 89]
abbrev dktX1_appendWords_1 : List UInt8 := dkwX1_appendWords_1 ++ dktX1_appendWords_2
def dkwX1_appendWords_0 : List UInt8 := [43, 77, 44, 190, 62, 3, 54, 4, 21, 4, 29, 162, 0, 55, 44, 21, 4, 46, 54, 5, 16, 24, 54, 6]
abbrev dktX1_appendWords_0 : List UInt8 := dkwX1_appendWords_0 ++ dktX1_appendWords_1
theorem dksX1_appendWords_0 : cX1_appendWords.data.toList.drop 0 = dktX1_appendWords_0 := by decide +kernel
theorem dksX1_appendWords_1 : cX1_appendWords.data.toList.drop 24 = dktX1_appendWords_1 := dk_seg dksX1_appendWords_0 24 rfl rfl
theorem dksX1_appendWords_2 : cX1_appendWords.data.toList.drop 46 = dktX1_appendWords_2 := dk_seg dksX1_appendWords_1 22 rfl rfl
theorem dX1_appendWords_0 : decode cX1_appendWords 0 = .ok (.aload_n 1, 1) := dk_43 (dk_at dksX1_appendWords_0 0 rfl rfl)
theorem dX1_appendWords_1 : decode cX1_appendWords 1 = .ok (.astore_n 2, 1) := dk_77 (dk_at dksX1_appendWords_0 1 rfl rfl)
theorem dX1_appendWords_2 : decode cX1_appendWords 2 = .ok (.aload_n 2, 1) := dk_44 (dk_at dksX1_appendWords_0 2 rfl rfl)
theorem dX1_appendWords_3 : decode cX1_appendWords 3 = .ok (.arraylength, 1) := dk_190 (dk_at dksX1_appendWords_0 3 rfl rfl)
theorem dX1_appendWords_4 : decode cX1_appendWords 4 = .ok (.istore_n 3, 1) := dk_62 (dk_at dksX1_appendWords_0 4 rfl rfl)
theorem dX1_appendWords_5 : decode cX1_appendWords 5 = .ok (.iconst 0, 1) := dk_3 (dk_at dksX1_appendWords_0 5 rfl rfl)
theorem dX1_appendWords_6 : decode cX1_appendWords 6 = .ok (.istore 4, 2) := dk_54 4 (dk_at dksX1_appendWords_0 6 rfl rfl)
theorem dX1_appendWords_8 : decode cX1_appendWords 8 = .ok (.iload 4, 2) := dk_21 4 (dk_at dksX1_appendWords_0 8 rfl rfl)
theorem dX1_appendWords_10 : decode cX1_appendWords 10 = .ok (.iload_n 3, 1) := dk_29 (dk_at dksX1_appendWords_0 10 rfl rfl)
theorem dX1_appendWords_11 : decode cX1_appendWords 11 = .ok (.if_icmp .ge 55, 3) := dk_162 0 55 (dk_at dksX1_appendWords_0 11 rfl rfl)
theorem dX1_appendWords_14 : decode cX1_appendWords 14 = .ok (.aload_n 2, 1) := dk_44 (dk_at dksX1_appendWords_0 14 rfl rfl)
theorem dX1_appendWords_15 : decode cX1_appendWords 15 = .ok (.iload 4, 2) := dk_21 4 (dk_at dksX1_appendWords_0 15 rfl rfl)
theorem dX1_appendWords_17 : decode cX1_appendWords 17 = .ok (.iaload, 1) := dk_46 (dk_at dksX1_appendWords_0 17 rfl rfl)
theorem dX1_appendWords_18 : decode cX1_appendWords 18 = .ok (.istore 5, 2) := dk_54 5 (dk_at dksX1_appendWords_0 18 rfl rfl)
theorem dX1_appendWords_20 : decode cX1_appendWords 20 = .ok (.bipush 24, 2) := dk_16 24 (dk_at dksX1_appendWords_0 20 rfl rfl)
theorem dX1_appendWords_22 : decode cX1_appendWords 22 = .ok (.istore 6, 2) := dk_54 6 (dk_at dksX1_appendWords_0 22 rfl rfl)
theorem dX1_appendWords_24 : decode cX1_appendWords 24 = .ok (.iload 6, 2) := dk_21 6 (dk_at dksX1_appendWords_1 0 rfl rfl)
theorem dX1_appendWords_26 : decode cX1_appendWords 26 = .ok (.ifCond .lt 34, 3) := dk_155 0 34 (dk_at dksX1_appendWords_1 2 rfl rfl)
theorem dX1_appendWords_29 : decode cX1_appendWords 29 = .ok (.aload_n 0, 1) := dk_42 (dk_at dksX1_appendWords_1 5 rfl rfl)
theorem dX1_appendWords_30 : decode cX1_appendWords 30 = .ok (.getfield 34, 3) := dk_180 0 34 (dk_at dksX1_appendWords_1 6 rfl rfl)
theorem dX1_appendWords_33 : decode cX1_appendWords 33 = .ok (.aload_n 0, 1) := dk_42 (dk_at dksX1_appendWords_1 9 rfl rfl)
theorem dX1_appendWords_34 : decode cX1_appendWords 34 = .ok (.getfield 62, 3) := dk_180 0 62 (dk_at dksX1_appendWords_1 10 rfl rfl)
theorem dX1_appendWords_37 : decode cX1_appendWords 37 = .ok (.iload 5, 2) := dk_21 5 (dk_at dksX1_appendWords_1 13 rfl rfl)
theorem dX1_appendWords_39 : decode cX1_appendWords 39 = .ok (.iload 6, 2) := dk_21 6 (dk_at dksX1_appendWords_1 15 rfl rfl)
theorem dX1_appendWords_41 : decode cX1_appendWords 41 = .ok (.ishr, 1) := dk_122 (dk_at dksX1_appendWords_1 17 rfl rfl)
theorem dX1_appendWords_42 : decode cX1_appendWords 42 = .ok (.i2b, 1) := dk_145 (dk_at dksX1_appendWords_1 18 rfl rfl)
theorem dX1_appendWords_43 : decode cX1_appendWords 43 = .ok (.bastore, 1) := dk_84 (dk_at dksX1_appendWords_1 19 rfl rfl)
theorem dX1_appendWords_44 : decode cX1_appendWords 44 = .ok (.aload_n 0, 1) := dk_42 (dk_at dksX1_appendWords_1 20 rfl rfl)
theorem dX1_appendWords_45 : decode cX1_appendWords 45 = .ok (.dup, 1) := dk_89 (dk_at dksX1_appendWords_1 21 rfl rfl)
theorem dX1_appendWords_46 : decode cX1_appendWords 46 = .ok (.getfield 62, 3) := dk_180 0 62 (dk_at dksX1_appendWords_2 0 rfl rfl)
theorem dX1_appendWords_49 : decode cX1_appendWords 49 = .ok (.iconst 1, 1) := dk_4 (dk_at dksX1_appendWords_2 3 rfl rfl)
theorem dX1_appendWords_50 : decode cX1_appendWords 50 = .ok (.iadd, 1) := dk_96 (dk_at dksX1_appendWords_2 4 rfl rfl)
theorem dX1_appendWords_51 : decode cX1_appendWords 51 = .ok (.putfield 62, 3) := dk_181 0 62 (dk_at dksX1_appendWords_2 5 rfl rfl)
theorem dX1_appendWords_54 : decode cX1_appendWords 54 = .ok (.iinc 6 (-8), 3) := dk_132 6 248 (dk_at dksX1_appendWords_2 8 rfl rfl)
theorem dX1_appendWords_57 : decode cX1_appendWords 57 = .ok (.goto (-33), 3) := dk_167 255 223 (dk_at dksX1_appendWords_2 11 rfl rfl)
theorem dX1_appendWords_60 : decode cX1_appendWords 60 = .ok (.iinc 4 1, 3) := dk_132 4 1 (dk_at dksX1_appendWords_2 14 rfl rfl)
theorem dX1_appendWords_63 : decode cX1_appendWords 63 = .ok (.goto (-55), 3) := dk_167 255 201 (dk_at dksX1_appendWords_2 17 rfl rfl)
theorem dX1_appendWords_66 : decode cX1_appendWords 66 = .ok (.return_, 1) := dk_177 (dk_at dksX1_appendWords_2 20 rfl rfl)
abbrev cX1_truncate : ByteArray := prog_1_method_11_code
def yX1_truncate : MethodName := ⟨RX1, "truncate", "(I)I"⟩
def dkwX1_truncate_0 : List UInt8 := [27, 3, 42, 180, 0, 62, 184, 0, 18, 184, 0, 73, 42, 27, 181, 0, 62, 27, 172]
abbrev dktX1_truncate_0 : List UInt8 := dkwX1_truncate_0 ++ []
theorem dksX1_truncate_0 : cX1_truncate.data.toList.drop 0 = dktX1_truncate_0 := by decide +kernel
theorem dX1_truncate_0 : decode cX1_truncate 0 = .ok (.iload_n 1, 1) := dk_27 (dk_at dksX1_truncate_0 0 rfl rfl)
theorem dX1_truncate_1 : decode cX1_truncate 1 = .ok (.iconst 0, 1) := dk_3 (dk_at dksX1_truncate_0 1 rfl rfl)
theorem dX1_truncate_2 : decode cX1_truncate 2 = .ok (.aload_n 0, 1) := dk_42 (dk_at dksX1_truncate_0 2 rfl rfl)
theorem dX1_truncate_3 : decode cX1_truncate 3 = .ok (.getfield 62, 3) := dk_180 0 62 (dk_at dksX1_truncate_0 3 rfl rfl)
theorem dX1_truncate_6 : decode cX1_truncate 6 = .ok (.invokestatic 18, 3) := dk_184 0 18 (dk_at dksX1_truncate_0 6 rfl rfl)
theorem dX1_truncate_9 : decode cX1_truncate 9 = .ok (.invokestatic 73, 3) := dk_184 0 73 (dk_at dksX1_truncate_0 9 rfl rfl)
theorem dX1_truncate_12 : decode cX1_truncate 12 = .ok (.aload_n 0, 1) := dk_42 (dk_at dksX1_truncate_0 12 rfl rfl)
theorem dX1_truncate_13 : decode cX1_truncate 13 = .ok (.iload_n 1, 1) := dk_27 (dk_at dksX1_truncate_0 13 rfl rfl)
theorem dX1_truncate_14 : decode cX1_truncate 14 = .ok (.putfield 62, 3) := dk_181 0 62 (dk_at dksX1_truncate_0 14 rfl rfl)
theorem dX1_truncate_17 : decode cX1_truncate 17 = .ok (.iload_n 1, 1) := dk_27 (dk_at dksX1_truncate_0 17 rfl rfl)
theorem dX1_truncate_18 : decode cX1_truncate 18 = .ok (.ireturn, 1) := dk_172 (dk_at dksX1_truncate_0 18 rfl rfl)
abbrev cX1_requireArgument : ByteArray := prog_1_method_2_code
def yX1_requireArgument : MethodName := ⟨RX1, "requireArgument", "(Z)V"⟩
def dkwX1_requireArgument_0 : List UInt8 := [26, 154, 0, 11, 187, 0, 7, 89, 183, 0, 9, 191, 177]
abbrev dktX1_requireArgument_0 : List UInt8 := dkwX1_requireArgument_0 ++ []
theorem dksX1_requireArgument_0 : cX1_requireArgument.data.toList.drop 0 = dktX1_requireArgument_0 := by decide +kernel
theorem dX1_requireArgument_0 : decode cX1_requireArgument 0 = .ok (.iload_n 0, 1) := dk_26 (dk_at dksX1_requireArgument_0 0 rfl rfl)
theorem dX1_requireArgument_1 : decode cX1_requireArgument 1 = .ok (.ifCond .ne 11, 3) := dk_154 0 11 (dk_at dksX1_requireArgument_0 1 rfl rfl)
theorem dX1_requireArgument_4 : decode cX1_requireArgument 4 = .ok (.new 7, 3) := dk_187 0 7 (dk_at dksX1_requireArgument_0 4 rfl rfl)
theorem dX1_requireArgument_7 : decode cX1_requireArgument 7 = .ok (.dup, 1) := dk_89 (dk_at dksX1_requireArgument_0 7 rfl rfl)
theorem dX1_requireArgument_8 : decode cX1_requireArgument 8 = .ok (.invokespecial 9, 3) := dk_183 0 9 (dk_at dksX1_requireArgument_0 8 rfl rfl)
theorem dX1_requireArgument_11 : decode cX1_requireArgument 11 = .ok (.athrow, 1) := dk_191 (dk_at dksX1_requireArgument_0 11 rfl rfl)
theorem dX1_requireArgument_12 : decode cX1_requireArgument 12 = .ok (.return_, 1) := dk_177 (dk_at dksX1_requireArgument_0 12 rfl rfl)
abbrev cX1_parse : ByteArray := prog_1_method_12_code
def yX1_parse : MethodName := ⟨RX1, "parse", "()I"⟩
def dkwX1_parse_4 : List UInt8 := [180, 0, 102, 182, 0, 106, 172]
abbrev dktX1_parse_4 : List UInt8 := dkwX1_parse_4 ++ []
def dkwX1_parse_3 : List UInt8 := [167, 0, 4, 3, 184, 0, 73, 42, 180, 0, 52, 182, 0, 96, 42, 1, 181, 0, 99, 42, 180, 0, 45]
abbrev dktX1_parse_3 : List UInt8 := dkwX1_parse_3 ++ dktX1_parse_4
def dkwX1_parse_2 : List UInt8 := [180, 0, 90, 181, 0, 85, 42, 44, 180, 0, 93, 181, 0, 38, 42, 180, 0, 85, 154, 0, 7, 4]
abbrev dktX1_parse_2 : List UInt8 := dkwX1_parse_2 ++ dktX1_parse_3
def dkwX1_parse_1 : List UInt8 := [182, 0, 81, 181, 0, 45, 42, 3, 181, 0, 85, 42, 2, 181, 0, 38, 167, 0, 20, 77, 42, 44]
abbrev dktX1_parse_1 : List UInt8 := dkwX1_parse_1 ++ dktX1_parse_2
def dkwX1_parse_0 : List UInt8 := [42, 180, 0, 62, 60, 42, 3, 181, 0, 62, 42, 187, 0, 76, 89, 42, 180, 0, 34, 27, 183, 0, 78]
abbrev dktX1_parse_0 : List UInt8 := dkwX1_parse_0 ++ dktX1_parse_1
theorem dksX1_parse_0 : cX1_parse.data.toList.drop 0 = dktX1_parse_0 := by decide +kernel
theorem dksX1_parse_1 : cX1_parse.data.toList.drop 23 = dktX1_parse_1 := dk_seg dksX1_parse_0 23 rfl rfl
theorem dksX1_parse_2 : cX1_parse.data.toList.drop 45 = dktX1_parse_2 := dk_seg dksX1_parse_1 22 rfl rfl
theorem dksX1_parse_3 : cX1_parse.data.toList.drop 67 = dktX1_parse_3 := dk_seg dksX1_parse_2 22 rfl rfl
theorem dksX1_parse_4 : cX1_parse.data.toList.drop 90 = dktX1_parse_4 := dk_seg dksX1_parse_3 23 rfl rfl
theorem dX1_parse_0 : decode cX1_parse 0 = .ok (.aload_n 0, 1) := dk_42 (dk_at dksX1_parse_0 0 rfl rfl)
theorem dX1_parse_1 : decode cX1_parse 1 = .ok (.getfield 62, 3) := dk_180 0 62 (dk_at dksX1_parse_0 1 rfl rfl)
theorem dX1_parse_4 : decode cX1_parse 4 = .ok (.istore_n 1, 1) := dk_60 (dk_at dksX1_parse_0 4 rfl rfl)
theorem dX1_parse_5 : decode cX1_parse 5 = .ok (.aload_n 0, 1) := dk_42 (dk_at dksX1_parse_0 5 rfl rfl)
theorem dX1_parse_6 : decode cX1_parse 6 = .ok (.iconst 0, 1) := dk_3 (dk_at dksX1_parse_0 6 rfl rfl)
theorem dX1_parse_7 : decode cX1_parse 7 = .ok (.putfield 62, 3) := dk_181 0 62 (dk_at dksX1_parse_0 7 rfl rfl)
theorem dX1_parse_10 : decode cX1_parse 10 = .ok (.aload_n 0, 1) := dk_42 (dk_at dksX1_parse_0 10 rfl rfl)
theorem dX1_parse_11 : decode cX1_parse 11 = .ok (.new 76, 3) := dk_187 0 76 (dk_at dksX1_parse_0 11 rfl rfl)
theorem dX1_parse_14 : decode cX1_parse 14 = .ok (.dup, 1) := dk_89 (dk_at dksX1_parse_0 14 rfl rfl)
theorem dX1_parse_15 : decode cX1_parse 15 = .ok (.aload_n 0, 1) := dk_42 (dk_at dksX1_parse_0 15 rfl rfl)
theorem dX1_parse_16 : decode cX1_parse 16 = .ok (.getfield 34, 3) := dk_180 0 34 (dk_at dksX1_parse_0 16 rfl rfl)
theorem dX1_parse_19 : decode cX1_parse 19 = .ok (.iload_n 1, 1) := dk_27 (dk_at dksX1_parse_0 19 rfl rfl)
theorem dX1_parse_20 : decode cX1_parse 20 = .ok (.invokespecial 78, 3) := dk_183 0 78 (dk_at dksX1_parse_0 20 rfl rfl)
theorem dX1_parse_23 : decode cX1_parse 23 = .ok (.invokevirtual 81, 3) := dk_182 0 81 (dk_at dksX1_parse_1 0 rfl rfl)
theorem dX1_parse_26 : decode cX1_parse 26 = .ok (.putfield 45, 3) := dk_181 0 45 (dk_at dksX1_parse_1 3 rfl rfl)
theorem dX1_parse_29 : decode cX1_parse 29 = .ok (.aload_n 0, 1) := dk_42 (dk_at dksX1_parse_1 6 rfl rfl)
theorem dX1_parse_30 : decode cX1_parse 30 = .ok (.iconst 0, 1) := dk_3 (dk_at dksX1_parse_1 7 rfl rfl)
theorem dX1_parse_31 : decode cX1_parse 31 = .ok (.putfield 85, 3) := dk_181 0 85 (dk_at dksX1_parse_1 8 rfl rfl)
theorem dX1_parse_34 : decode cX1_parse 34 = .ok (.aload_n 0, 1) := dk_42 (dk_at dksX1_parse_1 11 rfl rfl)
theorem dX1_parse_35 : decode cX1_parse 35 = .ok (.iconst (-1), 1) := dk_2 (dk_at dksX1_parse_1 12 rfl rfl)
theorem dX1_parse_36 : decode cX1_parse 36 = .ok (.putfield 38, 3) := dk_181 0 38 (dk_at dksX1_parse_1 13 rfl rfl)
theorem dX1_parse_39 : decode cX1_parse 39 = .ok (.goto 20, 3) := dk_167 0 20 (dk_at dksX1_parse_1 16 rfl rfl)
theorem dX1_parse_42 : decode cX1_parse 42 = .ok (.astore_n 2, 1) := dk_77 (dk_at dksX1_parse_1 19 rfl rfl)
theorem dX1_parse_43 : decode cX1_parse 43 = .ok (.aload_n 0, 1) := dk_42 (dk_at dksX1_parse_1 20 rfl rfl)
theorem dX1_parse_44 : decode cX1_parse 44 = .ok (.aload_n 2, 1) := dk_44 (dk_at dksX1_parse_1 21 rfl rfl)
theorem dX1_parse_45 : decode cX1_parse 45 = .ok (.getfield 90, 3) := dk_180 0 90 (dk_at dksX1_parse_2 0 rfl rfl)
theorem dX1_parse_48 : decode cX1_parse 48 = .ok (.putfield 85, 3) := dk_181 0 85 (dk_at dksX1_parse_2 3 rfl rfl)
theorem dX1_parse_51 : decode cX1_parse 51 = .ok (.aload_n 0, 1) := dk_42 (dk_at dksX1_parse_2 6 rfl rfl)
theorem dX1_parse_52 : decode cX1_parse 52 = .ok (.aload_n 2, 1) := dk_44 (dk_at dksX1_parse_2 7 rfl rfl)
theorem dX1_parse_53 : decode cX1_parse 53 = .ok (.getfield 93, 3) := dk_180 0 93 (dk_at dksX1_parse_2 8 rfl rfl)
theorem dX1_parse_56 : decode cX1_parse 56 = .ok (.putfield 38, 3) := dk_181 0 38 (dk_at dksX1_parse_2 11 rfl rfl)
theorem dX1_parse_59 : decode cX1_parse 59 = .ok (.aload_n 0, 1) := dk_42 (dk_at dksX1_parse_2 14 rfl rfl)
theorem dX1_parse_60 : decode cX1_parse 60 = .ok (.getfield 85, 3) := dk_180 0 85 (dk_at dksX1_parse_2 15 rfl rfl)
theorem dX1_parse_63 : decode cX1_parse 63 = .ok (.ifCond .ne 7, 3) := dk_154 0 7 (dk_at dksX1_parse_2 18 rfl rfl)
theorem dX1_parse_66 : decode cX1_parse 66 = .ok (.iconst 1, 1) := dk_4 (dk_at dksX1_parse_2 21 rfl rfl)
theorem dX1_parse_67 : decode cX1_parse 67 = .ok (.goto 4, 3) := dk_167 0 4 (dk_at dksX1_parse_3 0 rfl rfl)
theorem dX1_parse_70 : decode cX1_parse 70 = .ok (.iconst 0, 1) := dk_3 (dk_at dksX1_parse_3 3 rfl rfl)
theorem dX1_parse_71 : decode cX1_parse 71 = .ok (.invokestatic 73, 3) := dk_184 0 73 (dk_at dksX1_parse_3 4 rfl rfl)
theorem dX1_parse_74 : decode cX1_parse 74 = .ok (.aload_n 0, 1) := dk_42 (dk_at dksX1_parse_3 7 rfl rfl)
theorem dX1_parse_75 : decode cX1_parse 75 = .ok (.getfield 52, 3) := dk_180 0 52 (dk_at dksX1_parse_3 8 rfl rfl)
theorem dX1_parse_78 : decode cX1_parse 78 = .ok (.invokevirtual 96, 3) := dk_182 0 96 (dk_at dksX1_parse_3 11 rfl rfl)
theorem dX1_parse_81 : decode cX1_parse 81 = .ok (.aload_n 0, 1) := dk_42 (dk_at dksX1_parse_3 14 rfl rfl)
theorem dX1_parse_82 : decode cX1_parse 82 = .ok (.aconst_null, 1) := dk_1 (dk_at dksX1_parse_3 15 rfl rfl)
theorem dX1_parse_83 : decode cX1_parse 83 = .ok (.putfield 99, 3) := dk_181 0 99 (dk_at dksX1_parse_3 16 rfl rfl)
theorem dX1_parse_86 : decode cX1_parse 86 = .ok (.aload_n 0, 1) := dk_42 (dk_at dksX1_parse_3 19 rfl rfl)
theorem dX1_parse_87 : decode cX1_parse 87 = .ok (.getfield 45, 3) := dk_180 0 45 (dk_at dksX1_parse_3 20 rfl rfl)
theorem dX1_parse_90 : decode cX1_parse 90 = .ok (.getfield 102, 3) := dk_180 0 102 (dk_at dksX1_parse_4 0 rfl rfl)
theorem dX1_parse_93 : decode cX1_parse 93 = .ok (.invokevirtual 106, 3) := dk_182 0 106 (dk_at dksX1_parse_4 3 rfl rfl)
theorem dX1_parse_96 : decode cX1_parse 96 = .ok (.ireturn, 1) := dk_172 (dk_at dksX1_parse_4 6 rfl rfl)
abbrev cX1_isLength : ByteArray := prog_1_method_6_code
def yX1_isLength : MethodName := ⟨RX1, "isLength", "(I)Z"⟩
def dkwX1_isLength_0 : List UInt8 := [26, 5, 16, 64, 184, 0, 18, 153, 0, 15, 26, 26, 4, 100, 126, 154, 0, 7, 4, 167, 0, 4, 3, 172]
abbrev dktX1_isLength_0 : List UInt8 := dkwX1_isLength_0 ++ []
theorem dksX1_isLength_0 : cX1_isLength.data.toList.drop 0 = dktX1_isLength_0 := by decide +kernel
theorem dX1_isLength_0 : decode cX1_isLength 0 = .ok (.iload_n 0, 1) := dk_26 (dk_at dksX1_isLength_0 0 rfl rfl)
theorem dX1_isLength_1 : decode cX1_isLength 1 = .ok (.iconst 2, 1) := dk_5 (dk_at dksX1_isLength_0 1 rfl rfl)
theorem dX1_isLength_2 : decode cX1_isLength 2 = .ok (.bipush 64, 2) := dk_16 64 (dk_at dksX1_isLength_0 2 rfl rfl)
theorem dX1_isLength_4 : decode cX1_isLength 4 = .ok (.invokestatic 18, 3) := dk_184 0 18 (dk_at dksX1_isLength_0 4 rfl rfl)
theorem dX1_isLength_7 : decode cX1_isLength 7 = .ok (.ifCond .eq 15, 3) := dk_153 0 15 (dk_at dksX1_isLength_0 7 rfl rfl)
theorem dX1_isLength_10 : decode cX1_isLength 10 = .ok (.iload_n 0, 1) := dk_26 (dk_at dksX1_isLength_0 10 rfl rfl)
theorem dX1_isLength_11 : decode cX1_isLength 11 = .ok (.iload_n 0, 1) := dk_26 (dk_at dksX1_isLength_0 11 rfl rfl)
theorem dX1_isLength_12 : decode cX1_isLength 12 = .ok (.iconst 1, 1) := dk_4 (dk_at dksX1_isLength_0 12 rfl rfl)
theorem dX1_isLength_13 : decode cX1_isLength 13 = .ok (.isub, 1) := dk_100 (dk_at dksX1_isLength_0 13 rfl rfl)
theorem dX1_isLength_14 : decode cX1_isLength 14 = .ok (.iand, 1) := dk_126 (dk_at dksX1_isLength_0 14 rfl rfl)
theorem dX1_isLength_15 : decode cX1_isLength 15 = .ok (.ifCond .ne 7, 3) := dk_154 0 7 (dk_at dksX1_isLength_0 15 rfl rfl)
theorem dX1_isLength_18 : decode cX1_isLength 18 = .ok (.iconst 1, 1) := dk_4 (dk_at dksX1_isLength_0 18 rfl rfl)
theorem dX1_isLength_19 : decode cX1_isLength 19 = .ok (.goto 4, 3) := dk_167 0 4 (dk_at dksX1_isLength_0 19 rfl rfl)
theorem dX1_isLength_22 : decode cX1_isLength 22 = .ok (.iconst 0, 1) := dk_3 (dk_at dksX1_isLength_0 22 rfl rfl)
theorem dX1_isLength_23 : decode cX1_isLength 23 = .ok (.ireturn, 1) := dk_172 (dk_at dksX1_isLength_0 23 rfl rfl)
abbrev cX1_length : ByteArray := prog_1_method_20_code
def yX1_length : MethodName := ⟨RX1, "length", "(I)I"⟩
def dkwX1_length_0 : List UInt8 := [42, 27, 182, 0, 121, 182, 0, 148, 172]
abbrev dktX1_length_0 : List UInt8 := dkwX1_length_0 ++ []
theorem dksX1_length_0 : cX1_length.data.toList.drop 0 = dktX1_length_0 := by decide +kernel
theorem dX1_length_0 : decode cX1_length 0 = .ok (.aload_n 0, 1) := dk_42 (dk_at dksX1_length_0 0 rfl rfl)
theorem dX1_length_1 : decode cX1_length 1 = .ok (.iload_n 1, 1) := dk_27 (dk_at dksX1_length_0 1 rfl rfl)
theorem dX1_length_2 : decode cX1_length 2 = .ok (.invokevirtual 121, 3) := dk_182 0 121 (dk_at dksX1_length_0 2 rfl rfl)
theorem dX1_length_5 : decode cX1_length 5 = .ok (.invokevirtual 148, 3) := dk_182 0 148 (dk_at dksX1_length_0 5 rfl rfl)
theorem dX1_length_8 : decode cX1_length 8 = .ok (.ireturn, 1) := dk_172 (dk_at dksX1_length_0 8 rfl rfl)
abbrev cX1_get : ByteArray := prog_1_method_15_code
def yX1_get : MethodName := ⟨RX1, "get", "(I)LWalshAnalyzer$Recording;"⟩
def dkwX1_get_1 : List UInt8 := [180, 0, 102, 27, 182, 0, 115, 192, 0, 119, 176]
abbrev dktX1_get_1 : List UInt8 := dkwX1_get_1 ++ []
def dkwX1_get_0 : List UInt8 := [27, 3, 42, 180, 0, 45, 180, 0, 102, 182, 0, 106, 4, 100, 184, 0, 18, 184, 0, 112, 42, 180, 0, 45]
abbrev dktX1_get_0 : List UInt8 := dkwX1_get_0 ++ dktX1_get_1
theorem dksX1_get_0 : cX1_get.data.toList.drop 0 = dktX1_get_0 := by decide +kernel
theorem dksX1_get_1 : cX1_get.data.toList.drop 24 = dktX1_get_1 := dk_seg dksX1_get_0 24 rfl rfl
theorem dX1_get_0 : decode cX1_get 0 = .ok (.iload_n 1, 1) := dk_27 (dk_at dksX1_get_0 0 rfl rfl)
theorem dX1_get_1 : decode cX1_get 1 = .ok (.iconst 0, 1) := dk_3 (dk_at dksX1_get_0 1 rfl rfl)
theorem dX1_get_2 : decode cX1_get 2 = .ok (.aload_n 0, 1) := dk_42 (dk_at dksX1_get_0 2 rfl rfl)
theorem dX1_get_3 : decode cX1_get 3 = .ok (.getfield 45, 3) := dk_180 0 45 (dk_at dksX1_get_0 3 rfl rfl)
theorem dX1_get_6 : decode cX1_get 6 = .ok (.getfield 102, 3) := dk_180 0 102 (dk_at dksX1_get_0 6 rfl rfl)
theorem dX1_get_9 : decode cX1_get 9 = .ok (.invokevirtual 106, 3) := dk_182 0 106 (dk_at dksX1_get_0 9 rfl rfl)
theorem dX1_get_12 : decode cX1_get 12 = .ok (.iconst 1, 1) := dk_4 (dk_at dksX1_get_0 12 rfl rfl)
theorem dX1_get_13 : decode cX1_get 13 = .ok (.isub, 1) := dk_100 (dk_at dksX1_get_0 13 rfl rfl)
theorem dX1_get_14 : decode cX1_get 14 = .ok (.invokestatic 18, 3) := dk_184 0 18 (dk_at dksX1_get_0 14 rfl rfl)
theorem dX1_get_17 : decode cX1_get 17 = .ok (.invokestatic 112, 3) := dk_184 0 112 (dk_at dksX1_get_0 17 rfl rfl)
theorem dX1_get_20 : decode cX1_get 20 = .ok (.aload_n 0, 1) := dk_42 (dk_at dksX1_get_0 20 rfl rfl)
theorem dX1_get_21 : decode cX1_get 21 = .ok (.getfield 45, 3) := dk_180 0 45 (dk_at dksX1_get_0 21 rfl rfl)
theorem dX1_get_24 : decode cX1_get 24 = .ok (.getfield 102, 3) := dk_180 0 102 (dk_at dksX1_get_1 0 rfl rfl)
theorem dX1_get_27 : decode cX1_get 27 = .ok (.iload_n 1, 1) := dk_27 (dk_at dksX1_get_1 3 rfl rfl)
theorem dX1_get_28 : decode cX1_get 28 = .ok (.invokevirtual 115, 3) := dk_182 0 115 (dk_at dksX1_get_1 4 rfl rfl)
theorem dX1_get_31 : decode cX1_get 31 = .ok (.checkcast 119, 3) := dk_192 0 119 (dk_at dksX1_get_1 7 rfl rfl)
theorem dX1_get_34 : decode cX1_get 34 = .ok (.areturn, 1) := dk_176 (dk_at dksX1_get_1 10 rfl rfl)
abbrev cX1_requireIndex : ByteArray := prog_1_method_1_code
def yX1_requireIndex : MethodName := ⟨RX1, "requireIndex", "(Z)V"⟩
def dkwX1_requireIndex_0 : List UInt8 := [26, 154, 0, 11, 187, 0, 1, 89, 183, 0, 3, 191, 177]
abbrev dktX1_requireIndex_0 : List UInt8 := dkwX1_requireIndex_0 ++ []
theorem dksX1_requireIndex_0 : cX1_requireIndex.data.toList.drop 0 = dktX1_requireIndex_0 := by decide +kernel
theorem dX1_requireIndex_0 : decode cX1_requireIndex 0 = .ok (.iload_n 0, 1) := dk_26 (dk_at dksX1_requireIndex_0 0 rfl rfl)
theorem dX1_requireIndex_1 : decode cX1_requireIndex 1 = .ok (.ifCond .ne 11, 3) := dk_154 0 11 (dk_at dksX1_requireIndex_0 1 rfl rfl)
theorem dX1_requireIndex_4 : decode cX1_requireIndex 4 = .ok (.new 1, 3) := dk_187 0 1 (dk_at dksX1_requireIndex_0 4 rfl rfl)
theorem dX1_requireIndex_7 : decode cX1_requireIndex 7 = .ok (.dup, 1) := dk_89 (dk_at dksX1_requireIndex_0 7 rfl rfl)
theorem dX1_requireIndex_8 : decode cX1_requireIndex 8 = .ok (.invokespecial 3, 3) := dk_183 0 3 (dk_at dksX1_requireIndex_0 8 rfl rfl)
theorem dX1_requireIndex_11 : decode cX1_requireIndex 11 = .ok (.athrow, 1) := dk_191 (dk_at dksX1_requireIndex_0 11 rfl rfl)
theorem dX1_requireIndex_12 : decode cX1_requireIndex 12 = .ok (.return_, 1) := dk_177 (dk_at dksX1_requireIndex_0 12 rfl rfl)
abbrev cX1_nameCharacter : ByteArray := prog_1_method_21_code
def yX1_nameCharacter : MethodName := ⟨RX1, "nameCharacter", "(II)C"⟩
def dkwX1_nameCharacter_1 : List UInt8 := [184, 0, 112, 45, 28, 182, 0, 144, 172]
abbrev dktX1_nameCharacter_1 : List UInt8 := dkwX1_nameCharacter_1 ++ []
def dkwX1_nameCharacter_0 : List UInt8 := [42, 27, 182, 0, 121, 180, 0, 149, 180, 0, 153, 78, 28, 3, 45, 182, 0, 139, 4, 100, 184, 0, 18]
abbrev dktX1_nameCharacter_0 : List UInt8 := dkwX1_nameCharacter_0 ++ dktX1_nameCharacter_1
theorem dksX1_nameCharacter_0 : cX1_nameCharacter.data.toList.drop 0 = dktX1_nameCharacter_0 := by decide +kernel
theorem dksX1_nameCharacter_1 : cX1_nameCharacter.data.toList.drop 23 = dktX1_nameCharacter_1 := dk_seg dksX1_nameCharacter_0 23 rfl rfl
theorem dX1_nameCharacter_0 : decode cX1_nameCharacter 0 = .ok (.aload_n 0, 1) := dk_42 (dk_at dksX1_nameCharacter_0 0 rfl rfl)
theorem dX1_nameCharacter_1 : decode cX1_nameCharacter 1 = .ok (.iload_n 1, 1) := dk_27 (dk_at dksX1_nameCharacter_0 1 rfl rfl)
theorem dX1_nameCharacter_2 : decode cX1_nameCharacter 2 = .ok (.invokevirtual 121, 3) := dk_182 0 121 (dk_at dksX1_nameCharacter_0 2 rfl rfl)
theorem dX1_nameCharacter_5 : decode cX1_nameCharacter 5 = .ok (.getfield 149, 3) := dk_180 0 149 (dk_at dksX1_nameCharacter_0 5 rfl rfl)
theorem dX1_nameCharacter_8 : decode cX1_nameCharacter 8 = .ok (.getfield 153, 3) := dk_180 0 153 (dk_at dksX1_nameCharacter_0 8 rfl rfl)
theorem dX1_nameCharacter_11 : decode cX1_nameCharacter 11 = .ok (.astore_n 3, 1) := dk_78 (dk_at dksX1_nameCharacter_0 11 rfl rfl)
theorem dX1_nameCharacter_12 : decode cX1_nameCharacter 12 = .ok (.iload_n 2, 1) := dk_28 (dk_at dksX1_nameCharacter_0 12 rfl rfl)
theorem dX1_nameCharacter_13 : decode cX1_nameCharacter 13 = .ok (.iconst 0, 1) := dk_3 (dk_at dksX1_nameCharacter_0 13 rfl rfl)
theorem dX1_nameCharacter_14 : decode cX1_nameCharacter 14 = .ok (.aload_n 3, 1) := dk_45 (dk_at dksX1_nameCharacter_0 14 rfl rfl)
theorem dX1_nameCharacter_15 : decode cX1_nameCharacter 15 = .ok (.invokevirtual 139, 3) := dk_182 0 139 (dk_at dksX1_nameCharacter_0 15 rfl rfl)
theorem dX1_nameCharacter_18 : decode cX1_nameCharacter 18 = .ok (.iconst 1, 1) := dk_4 (dk_at dksX1_nameCharacter_0 18 rfl rfl)
theorem dX1_nameCharacter_19 : decode cX1_nameCharacter 19 = .ok (.isub, 1) := dk_100 (dk_at dksX1_nameCharacter_0 19 rfl rfl)
theorem dX1_nameCharacter_20 : decode cX1_nameCharacter 20 = .ok (.invokestatic 18, 3) := dk_184 0 18 (dk_at dksX1_nameCharacter_0 20 rfl rfl)
theorem dX1_nameCharacter_23 : decode cX1_nameCharacter 23 = .ok (.invokestatic 112, 3) := dk_184 0 112 (dk_at dksX1_nameCharacter_1 0 rfl rfl)
theorem dX1_nameCharacter_26 : decode cX1_nameCharacter 26 = .ok (.aload_n 3, 1) := dk_45 (dk_at dksX1_nameCharacter_1 3 rfl rfl)
theorem dX1_nameCharacter_27 : decode cX1_nameCharacter 27 = .ok (.iload_n 2, 1) := dk_28 (dk_at dksX1_nameCharacter_1 4 rfl rfl)
theorem dX1_nameCharacter_28 : decode cX1_nameCharacter 28 = .ok (.invokevirtual 144, 3) := dk_182 0 144 (dk_at dksX1_nameCharacter_1 5 rfl rfl)
theorem dX1_nameCharacter_31 : decode cX1_nameCharacter 31 = .ok (.ireturn, 1) := dk_172 (dk_at dksX1_nameCharacter_1 8 rfl rfl)
abbrev cX1_sample : ByteArray := prog_1_method_23_code
def yX1_sample : MethodName := ⟨RX1, "sample", "(II)I"⟩
def dkwX1_sample_0 : List UInt8 := [42, 27, 28, 182, 0, 175, 180, 0, 178, 28, 46, 172]
abbrev dktX1_sample_0 : List UInt8 := dkwX1_sample_0 ++ []
theorem dksX1_sample_0 : cX1_sample.data.toList.drop 0 = dktX1_sample_0 := by decide +kernel
theorem dX1_sample_0 : decode cX1_sample 0 = .ok (.aload_n 0, 1) := dk_42 (dk_at dksX1_sample_0 0 rfl rfl)
theorem dX1_sample_1 : decode cX1_sample 1 = .ok (.iload_n 1, 1) := dk_27 (dk_at dksX1_sample_0 1 rfl rfl)
theorem dX1_sample_2 : decode cX1_sample 2 = .ok (.iload_n 2, 1) := dk_28 (dk_at dksX1_sample_0 2 rfl rfl)
theorem dX1_sample_3 : decode cX1_sample 3 = .ok (.invokevirtual 175, 3) := dk_182 0 175 (dk_at dksX1_sample_0 3 rfl rfl)
theorem dX1_sample_6 : decode cX1_sample 6 = .ok (.getfield 178, 3) := dk_180 0 178 (dk_at dksX1_sample_0 6 rfl rfl)
theorem dX1_sample_9 : decode cX1_sample 9 = .ok (.iload_n 2, 1) := dk_28 (dk_at dksX1_sample_0 9 rfl rfl)
theorem dX1_sample_10 : decode cX1_sample 10 = .ok (.iaload, 1) := dk_46 (dk_at dksX1_sample_0 10 rfl rfl)
theorem dX1_sample_11 : decode cX1_sample 11 = .ok (.ireturn, 1) := dk_172 (dk_at dksX1_sample_0 11 rfl rfl)
abbrev cX1_get_2 : ByteArray := prog_1_method_16_code
def yX1_get_2 : MethodName := ⟨RX1, "get", "(II)LWalshAnalyzer$Recording;"⟩
def dkwX1_get_2_0 : List UInt8 := [42, 27, 182, 0, 121, 78, 45, 28, 182, 0, 124, 184, 0, 112, 45, 176]
abbrev dktX1_get_2_0 : List UInt8 := dkwX1_get_2_0 ++ []
theorem dksX1_get_2_0 : cX1_get_2.data.toList.drop 0 = dktX1_get_2_0 := by decide +kernel
theorem dX1_get_2_0 : decode cX1_get_2 0 = .ok (.aload_n 0, 1) := dk_42 (dk_at dksX1_get_2_0 0 rfl rfl)
theorem dX1_get_2_1 : decode cX1_get_2 1 = .ok (.iload_n 1, 1) := dk_27 (dk_at dksX1_get_2_0 1 rfl rfl)
theorem dX1_get_2_2 : decode cX1_get_2 2 = .ok (.invokevirtual 121, 3) := dk_182 0 121 (dk_at dksX1_get_2_0 2 rfl rfl)
theorem dX1_get_2_5 : decode cX1_get_2 5 = .ok (.astore_n 3, 1) := dk_78 (dk_at dksX1_get_2_0 5 rfl rfl)
theorem dX1_get_2_6 : decode cX1_get_2 6 = .ok (.aload_n 3, 1) := dk_45 (dk_at dksX1_get_2_0 6 rfl rfl)
theorem dX1_get_2_7 : decode cX1_get_2 7 = .ok (.iload_n 2, 1) := dk_28 (dk_at dksX1_get_2_0 7 rfl rfl)
theorem dX1_get_2_8 : decode cX1_get_2 8 = .ok (.invokevirtual 124, 3) := dk_182 0 124 (dk_at dksX1_get_2_0 8 rfl rfl)
theorem dX1_get_2_11 : decode cX1_get_2 11 = .ok (.invokestatic 112, 3) := dk_184 0 112 (dk_at dksX1_get_2_0 11 rfl rfl)
theorem dX1_get_2_14 : decode cX1_get_2 14 = .ok (.aload_n 3, 1) := dk_45 (dk_at dksX1_get_2_0 14 rfl rfl)
theorem dX1_get_2_15 : decode cX1_get_2 15 = .ok (.areturn, 1) := dk_176 (dk_at dksX1_get_2_0 15 rfl rfl)
abbrev cX1_energy : ByteArray := prog_1_method_24_code
def yX1_energy : MethodName := ⟨RX1, "energy", "(I)J"⟩
def dkwX1_energy_0 : List UInt8 := [42, 27, 182, 0, 121, 182, 0, 182, 173]
abbrev dktX1_energy_0 : List UInt8 := dkwX1_energy_0 ++ []
theorem dksX1_energy_0 : cX1_energy.data.toList.drop 0 = dktX1_energy_0 := by decide +kernel
theorem dX1_energy_0 : decode cX1_energy 0 = .ok (.aload_n 0, 1) := dk_42 (dk_at dksX1_energy_0 0 rfl rfl)
theorem dX1_energy_1 : decode cX1_energy 1 = .ok (.iload_n 1, 1) := dk_27 (dk_at dksX1_energy_0 1 rfl rfl)
theorem dX1_energy_2 : decode cX1_energy 2 = .ok (.invokevirtual 121, 3) := dk_182 0 121 (dk_at dksX1_energy_0 2 rfl rfl)
theorem dX1_energy_5 : decode cX1_energy 5 = .ok (.invokevirtual 182, 3) := dk_182 0 182 (dk_at dksX1_energy_0 5 rfl rfl)
theorem dX1_energy_8 : decode cX1_energy 8 = .ok (.lreturn, 1) := dk_173 (dk_at dksX1_energy_0 8 rfl rfl)
abbrev cX1_loudestPlace : ByteArray := prog_1_method_25_code
def yX1_loudestPlace : MethodName := ⟨RX1, "loudestPlace", "(I)I"⟩
def dkwX1_loudestPlace_1 : List UInt8 := [46, 184, 0, 186, 44, 29, 46, 184, 0, 186, 164, 0, 6, 21, 4, 62, 132, 4, 1, 167, 255, 227, 29, 172]
abbrev dktX1_loudestPlace_1 : List UInt8 := dkwX1_loudestPlace_1 ++ []
def dkwX1_loudestPlace_0 : List UInt8 := [42, 27, 182, 0, 121, 180, 0, 178, 77, 3, 62, 4, 54, 4, 21, 4, 44, 190, 162, 0, 28, 44, 21, 4]
abbrev dktX1_loudestPlace_0 : List UInt8 := dkwX1_loudestPlace_0 ++ dktX1_loudestPlace_1
theorem dksX1_loudestPlace_0 : cX1_loudestPlace.data.toList.drop 0 = dktX1_loudestPlace_0 := by decide +kernel
theorem dksX1_loudestPlace_1 : cX1_loudestPlace.data.toList.drop 24 = dktX1_loudestPlace_1 := dk_seg dksX1_loudestPlace_0 24 rfl rfl
theorem dX1_loudestPlace_0 : decode cX1_loudestPlace 0 = .ok (.aload_n 0, 1) := dk_42 (dk_at dksX1_loudestPlace_0 0 rfl rfl)
theorem dX1_loudestPlace_1 : decode cX1_loudestPlace 1 = .ok (.iload_n 1, 1) := dk_27 (dk_at dksX1_loudestPlace_0 1 rfl rfl)
theorem dX1_loudestPlace_2 : decode cX1_loudestPlace 2 = .ok (.invokevirtual 121, 3) := dk_182 0 121 (dk_at dksX1_loudestPlace_0 2 rfl rfl)
theorem dX1_loudestPlace_5 : decode cX1_loudestPlace 5 = .ok (.getfield 178, 3) := dk_180 0 178 (dk_at dksX1_loudestPlace_0 5 rfl rfl)
theorem dX1_loudestPlace_8 : decode cX1_loudestPlace 8 = .ok (.astore_n 2, 1) := dk_77 (dk_at dksX1_loudestPlace_0 8 rfl rfl)
theorem dX1_loudestPlace_9 : decode cX1_loudestPlace 9 = .ok (.iconst 0, 1) := dk_3 (dk_at dksX1_loudestPlace_0 9 rfl rfl)
theorem dX1_loudestPlace_10 : decode cX1_loudestPlace 10 = .ok (.istore_n 3, 1) := dk_62 (dk_at dksX1_loudestPlace_0 10 rfl rfl)
theorem dX1_loudestPlace_11 : decode cX1_loudestPlace 11 = .ok (.iconst 1, 1) := dk_4 (dk_at dksX1_loudestPlace_0 11 rfl rfl)
theorem dX1_loudestPlace_12 : decode cX1_loudestPlace 12 = .ok (.istore 4, 2) := dk_54 4 (dk_at dksX1_loudestPlace_0 12 rfl rfl)
theorem dX1_loudestPlace_14 : decode cX1_loudestPlace 14 = .ok (.iload 4, 2) := dk_21 4 (dk_at dksX1_loudestPlace_0 14 rfl rfl)
theorem dX1_loudestPlace_16 : decode cX1_loudestPlace 16 = .ok (.aload_n 2, 1) := dk_44 (dk_at dksX1_loudestPlace_0 16 rfl rfl)
theorem dX1_loudestPlace_17 : decode cX1_loudestPlace 17 = .ok (.arraylength, 1) := dk_190 (dk_at dksX1_loudestPlace_0 17 rfl rfl)
theorem dX1_loudestPlace_18 : decode cX1_loudestPlace 18 = .ok (.if_icmp .ge 28, 3) := dk_162 0 28 (dk_at dksX1_loudestPlace_0 18 rfl rfl)
theorem dX1_loudestPlace_21 : decode cX1_loudestPlace 21 = .ok (.aload_n 2, 1) := dk_44 (dk_at dksX1_loudestPlace_0 21 rfl rfl)
theorem dX1_loudestPlace_22 : decode cX1_loudestPlace 22 = .ok (.iload 4, 2) := dk_21 4 (dk_at dksX1_loudestPlace_0 22 rfl rfl)
theorem dX1_loudestPlace_24 : decode cX1_loudestPlace 24 = .ok (.iaload, 1) := dk_46 (dk_at dksX1_loudestPlace_1 0 rfl rfl)
theorem dX1_loudestPlace_25 : decode cX1_loudestPlace 25 = .ok (.invokestatic 186, 3) := dk_184 0 186 (dk_at dksX1_loudestPlace_1 1 rfl rfl)
theorem dX1_loudestPlace_28 : decode cX1_loudestPlace 28 = .ok (.aload_n 2, 1) := dk_44 (dk_at dksX1_loudestPlace_1 4 rfl rfl)
theorem dX1_loudestPlace_29 : decode cX1_loudestPlace 29 = .ok (.iload_n 3, 1) := dk_29 (dk_at dksX1_loudestPlace_1 5 rfl rfl)
theorem dX1_loudestPlace_30 : decode cX1_loudestPlace 30 = .ok (.iaload, 1) := dk_46 (dk_at dksX1_loudestPlace_1 6 rfl rfl)
theorem dX1_loudestPlace_31 : decode cX1_loudestPlace 31 = .ok (.invokestatic 186, 3) := dk_184 0 186 (dk_at dksX1_loudestPlace_1 7 rfl rfl)
theorem dX1_loudestPlace_34 : decode cX1_loudestPlace 34 = .ok (.if_icmp .le 6, 3) := dk_164 0 6 (dk_at dksX1_loudestPlace_1 10 rfl rfl)
theorem dX1_loudestPlace_37 : decode cX1_loudestPlace 37 = .ok (.iload 4, 2) := dk_21 4 (dk_at dksX1_loudestPlace_1 13 rfl rfl)
theorem dX1_loudestPlace_39 : decode cX1_loudestPlace 39 = .ok (.istore_n 3, 1) := dk_62 (dk_at dksX1_loudestPlace_1 15 rfl rfl)
theorem dX1_loudestPlace_40 : decode cX1_loudestPlace 40 = .ok (.iinc 4 1, 3) := dk_132 4 1 (dk_at dksX1_loudestPlace_1 16 rfl rfl)
theorem dX1_loudestPlace_43 : decode cX1_loudestPlace 43 = .ok (.goto (-29), 3) := dk_167 255 227 (dk_at dksX1_loudestPlace_1 19 rfl rfl)
theorem dX1_loudestPlace_46 : decode cX1_loudestPlace 46 = .ok (.iload_n 3, 1) := dk_29 (dk_at dksX1_loudestPlace_1 22 rfl rfl)
theorem dX1_loudestPlace_47 : decode cX1_loudestPlace 47 = .ok (.ireturn, 1) := dk_172 (dk_at dksX1_loudestPlace_1 23 rfl rfl)
abbrev cX1_meanLoudness : ByteArray := prog_1_method_26_code
def yX1_meanLoudness : MethodName := ⟨RX1, "meanLoudness", "(I)D"⟩
def dkwX1_meanLoudness_2 : List UInt8 := [167, 255, 231, 29, 135, 44, 182, 0, 148, 135, 111, 175]
abbrev dktX1_meanLoudness_2 : List UInt8 := dkwX1_meanLoudness_2 ++ []
def dkwX1_meanLoudness_1 : List UInt8 := [21, 5, 162, 0, 24, 25, 4, 21, 6, 46, 54, 7, 29, 21, 7, 184, 0, 186, 96, 62, 132, 6, 1]
abbrev dktX1_meanLoudness_1 : List UInt8 := dkwX1_meanLoudness_1 ++ dktX1_meanLoudness_2
def dkwX1_meanLoudness_0 : List UInt8 := [42, 27, 182, 0, 121, 77, 3, 62, 44, 180, 0, 178, 58, 4, 25, 4, 190, 54, 5, 3, 54, 6, 21, 6]
abbrev dktX1_meanLoudness_0 : List UInt8 := dkwX1_meanLoudness_0 ++ dktX1_meanLoudness_1
theorem dksX1_meanLoudness_0 : cX1_meanLoudness.data.toList.drop 0 = dktX1_meanLoudness_0 := by decide +kernel
theorem dksX1_meanLoudness_1 : cX1_meanLoudness.data.toList.drop 24 = dktX1_meanLoudness_1 := dk_seg dksX1_meanLoudness_0 24 rfl rfl
theorem dksX1_meanLoudness_2 : cX1_meanLoudness.data.toList.drop 47 = dktX1_meanLoudness_2 := dk_seg dksX1_meanLoudness_1 23 rfl rfl
theorem dX1_meanLoudness_0 : decode cX1_meanLoudness 0 = .ok (.aload_n 0, 1) := dk_42 (dk_at dksX1_meanLoudness_0 0 rfl rfl)
theorem dX1_meanLoudness_1 : decode cX1_meanLoudness 1 = .ok (.iload_n 1, 1) := dk_27 (dk_at dksX1_meanLoudness_0 1 rfl rfl)
theorem dX1_meanLoudness_2 : decode cX1_meanLoudness 2 = .ok (.invokevirtual 121, 3) := dk_182 0 121 (dk_at dksX1_meanLoudness_0 2 rfl rfl)
theorem dX1_meanLoudness_5 : decode cX1_meanLoudness 5 = .ok (.astore_n 2, 1) := dk_77 (dk_at dksX1_meanLoudness_0 5 rfl rfl)
theorem dX1_meanLoudness_6 : decode cX1_meanLoudness 6 = .ok (.iconst 0, 1) := dk_3 (dk_at dksX1_meanLoudness_0 6 rfl rfl)
theorem dX1_meanLoudness_7 : decode cX1_meanLoudness 7 = .ok (.istore_n 3, 1) := dk_62 (dk_at dksX1_meanLoudness_0 7 rfl rfl)
theorem dX1_meanLoudness_8 : decode cX1_meanLoudness 8 = .ok (.aload_n 2, 1) := dk_44 (dk_at dksX1_meanLoudness_0 8 rfl rfl)
theorem dX1_meanLoudness_9 : decode cX1_meanLoudness 9 = .ok (.getfield 178, 3) := dk_180 0 178 (dk_at dksX1_meanLoudness_0 9 rfl rfl)
theorem dX1_meanLoudness_12 : decode cX1_meanLoudness 12 = .ok (.astore 4, 2) := dk_58 4 (dk_at dksX1_meanLoudness_0 12 rfl rfl)
theorem dX1_meanLoudness_14 : decode cX1_meanLoudness 14 = .ok (.aload 4, 2) := dk_25 4 (dk_at dksX1_meanLoudness_0 14 rfl rfl)
theorem dX1_meanLoudness_16 : decode cX1_meanLoudness 16 = .ok (.arraylength, 1) := dk_190 (dk_at dksX1_meanLoudness_0 16 rfl rfl)
theorem dX1_meanLoudness_17 : decode cX1_meanLoudness 17 = .ok (.istore 5, 2) := dk_54 5 (dk_at dksX1_meanLoudness_0 17 rfl rfl)
theorem dX1_meanLoudness_19 : decode cX1_meanLoudness 19 = .ok (.iconst 0, 1) := dk_3 (dk_at dksX1_meanLoudness_0 19 rfl rfl)
theorem dX1_meanLoudness_20 : decode cX1_meanLoudness 20 = .ok (.istore 6, 2) := dk_54 6 (dk_at dksX1_meanLoudness_0 20 rfl rfl)
theorem dX1_meanLoudness_22 : decode cX1_meanLoudness 22 = .ok (.iload 6, 2) := dk_21 6 (dk_at dksX1_meanLoudness_0 22 rfl rfl)
theorem dX1_meanLoudness_24 : decode cX1_meanLoudness 24 = .ok (.iload 5, 2) := dk_21 5 (dk_at dksX1_meanLoudness_1 0 rfl rfl)
theorem dX1_meanLoudness_26 : decode cX1_meanLoudness 26 = .ok (.if_icmp .ge 24, 3) := dk_162 0 24 (dk_at dksX1_meanLoudness_1 2 rfl rfl)
theorem dX1_meanLoudness_29 : decode cX1_meanLoudness 29 = .ok (.aload 4, 2) := dk_25 4 (dk_at dksX1_meanLoudness_1 5 rfl rfl)
theorem dX1_meanLoudness_31 : decode cX1_meanLoudness 31 = .ok (.iload 6, 2) := dk_21 6 (dk_at dksX1_meanLoudness_1 7 rfl rfl)
theorem dX1_meanLoudness_33 : decode cX1_meanLoudness 33 = .ok (.iaload, 1) := dk_46 (dk_at dksX1_meanLoudness_1 9 rfl rfl)
theorem dX1_meanLoudness_34 : decode cX1_meanLoudness 34 = .ok (.istore 7, 2) := dk_54 7 (dk_at dksX1_meanLoudness_1 10 rfl rfl)
theorem dX1_meanLoudness_36 : decode cX1_meanLoudness 36 = .ok (.iload_n 3, 1) := dk_29 (dk_at dksX1_meanLoudness_1 12 rfl rfl)
theorem dX1_meanLoudness_37 : decode cX1_meanLoudness 37 = .ok (.iload 7, 2) := dk_21 7 (dk_at dksX1_meanLoudness_1 13 rfl rfl)
theorem dX1_meanLoudness_39 : decode cX1_meanLoudness 39 = .ok (.invokestatic 186, 3) := dk_184 0 186 (dk_at dksX1_meanLoudness_1 15 rfl rfl)
theorem dX1_meanLoudness_42 : decode cX1_meanLoudness 42 = .ok (.iadd, 1) := dk_96 (dk_at dksX1_meanLoudness_1 18 rfl rfl)
theorem dX1_meanLoudness_43 : decode cX1_meanLoudness 43 = .ok (.istore_n 3, 1) := dk_62 (dk_at dksX1_meanLoudness_1 19 rfl rfl)
theorem dX1_meanLoudness_44 : decode cX1_meanLoudness 44 = .ok (.iinc 6 1, 3) := dk_132 6 1 (dk_at dksX1_meanLoudness_1 20 rfl rfl)
theorem dX1_meanLoudness_47 : decode cX1_meanLoudness 47 = .ok (.goto (-25), 3) := dk_167 255 231 (dk_at dksX1_meanLoudness_2 0 rfl rfl)
theorem dX1_meanLoudness_50 : decode cX1_meanLoudness 50 = .ok (.iload_n 3, 1) := dk_29 (dk_at dksX1_meanLoudness_2 3 rfl rfl)
theorem dX1_meanLoudness_51 : decode cX1_meanLoudness 51 = .ok (.i2d, 1) := dk_135 (dk_at dksX1_meanLoudness_2 4 rfl rfl)
theorem dX1_meanLoudness_52 : decode cX1_meanLoudness 52 = .ok (.aload_n 2, 1) := dk_44 (dk_at dksX1_meanLoudness_2 5 rfl rfl)
theorem dX1_meanLoudness_53 : decode cX1_meanLoudness 53 = .ok (.invokevirtual 148, 3) := dk_182 0 148 (dk_at dksX1_meanLoudness_2 6 rfl rfl)
theorem dX1_meanLoudness_56 : decode cX1_meanLoudness 56 = .ok (.i2d, 1) := dk_135 (dk_at dksX1_meanLoudness_2 9 rfl rfl)
theorem dX1_meanLoudness_57 : decode cX1_meanLoudness 57 = .ok (.ddiv, 1) := dk_111 (dk_at dksX1_meanLoudness_2 10 rfl rfl)
theorem dX1_meanLoudness_58 : decode cX1_meanLoudness 58 = .ok (.dreturn, 1) := dk_175 (dk_at dksX1_meanLoudness_2 11 rfl rfl)
abbrev cX1_signChanges : ByteArray := prog_1_method_27_code
def yX1_signChanges : MethodName := ⟨RX1, "signChanges", "(I)I"⟩
def dkwX1_signChanges_0 : List UInt8 := [42, 27, 182, 0, 121, 182, 0, 190, 172]
abbrev dktX1_signChanges_0 : List UInt8 := dkwX1_signChanges_0 ++ []
theorem dksX1_signChanges_0 : cX1_signChanges.data.toList.drop 0 = dktX1_signChanges_0 := by decide +kernel
theorem dX1_signChanges_0 : decode cX1_signChanges 0 = .ok (.aload_n 0, 1) := dk_42 (dk_at dksX1_signChanges_0 0 rfl rfl)
theorem dX1_signChanges_1 : decode cX1_signChanges 1 = .ok (.iload_n 1, 1) := dk_27 (dk_at dksX1_signChanges_0 1 rfl rfl)
theorem dX1_signChanges_2 : decode cX1_signChanges 2 = .ok (.invokevirtual 121, 3) := dk_182 0 121 (dk_at dksX1_signChanges_0 2 rfl rfl)
theorem dX1_signChanges_5 : decode cX1_signChanges 5 = .ok (.invokevirtual 190, 3) := dk_182 0 190 (dk_at dksX1_signChanges_0 5 rfl rfl)
theorem dX1_signChanges_8 : decode cX1_signChanges 8 = .ok (.ireturn, 1) := dk_172 (dk_at dksX1_signChanges_0 8 rfl rfl)
abbrev cX1_samplesBetween : ByteArray := prog_1_method_28_code
def yX1_samplesBetween : MethodName := ⟨RX1, "samplesBetween", "(III)I"⟩
def dkwX1_samplesBetween_1 : List UInt8 := [182, 0, 193, 172]
abbrev dktX1_samplesBetween_1 : List UInt8 := dkwX1_samplesBetween_1 ++ []
def dkwX1_samplesBetween_0 : List UInt8 := [42, 27, 182, 0, 121, 58, 4, 28, 29, 163, 0, 7, 4, 167, 0, 4, 3, 184, 0, 73, 25, 4, 28, 29]
abbrev dktX1_samplesBetween_0 : List UInt8 := dkwX1_samplesBetween_0 ++ dktX1_samplesBetween_1
theorem dksX1_samplesBetween_0 : cX1_samplesBetween.data.toList.drop 0 = dktX1_samplesBetween_0 := by decide +kernel
theorem dksX1_samplesBetween_1 : cX1_samplesBetween.data.toList.drop 24 = dktX1_samplesBetween_1 := dk_seg dksX1_samplesBetween_0 24 rfl rfl
theorem dX1_samplesBetween_0 : decode cX1_samplesBetween 0 = .ok (.aload_n 0, 1) := dk_42 (dk_at dksX1_samplesBetween_0 0 rfl rfl)
theorem dX1_samplesBetween_1 : decode cX1_samplesBetween 1 = .ok (.iload_n 1, 1) := dk_27 (dk_at dksX1_samplesBetween_0 1 rfl rfl)
theorem dX1_samplesBetween_2 : decode cX1_samplesBetween 2 = .ok (.invokevirtual 121, 3) := dk_182 0 121 (dk_at dksX1_samplesBetween_0 2 rfl rfl)
theorem dX1_samplesBetween_5 : decode cX1_samplesBetween 5 = .ok (.astore 4, 2) := dk_58 4 (dk_at dksX1_samplesBetween_0 5 rfl rfl)
theorem dX1_samplesBetween_7 : decode cX1_samplesBetween 7 = .ok (.iload_n 2, 1) := dk_28 (dk_at dksX1_samplesBetween_0 7 rfl rfl)
theorem dX1_samplesBetween_8 : decode cX1_samplesBetween 8 = .ok (.iload_n 3, 1) := dk_29 (dk_at dksX1_samplesBetween_0 8 rfl rfl)
theorem dX1_samplesBetween_9 : decode cX1_samplesBetween 9 = .ok (.if_icmp .gt 7, 3) := dk_163 0 7 (dk_at dksX1_samplesBetween_0 9 rfl rfl)
theorem dX1_samplesBetween_12 : decode cX1_samplesBetween 12 = .ok (.iconst 1, 1) := dk_4 (dk_at dksX1_samplesBetween_0 12 rfl rfl)
theorem dX1_samplesBetween_13 : decode cX1_samplesBetween 13 = .ok (.goto 4, 3) := dk_167 0 4 (dk_at dksX1_samplesBetween_0 13 rfl rfl)
theorem dX1_samplesBetween_16 : decode cX1_samplesBetween 16 = .ok (.iconst 0, 1) := dk_3 (dk_at dksX1_samplesBetween_0 16 rfl rfl)
theorem dX1_samplesBetween_17 : decode cX1_samplesBetween 17 = .ok (.invokestatic 73, 3) := dk_184 0 73 (dk_at dksX1_samplesBetween_0 17 rfl rfl)
theorem dX1_samplesBetween_20 : decode cX1_samplesBetween 20 = .ok (.aload 4, 2) := dk_25 4 (dk_at dksX1_samplesBetween_0 20 rfl rfl)
theorem dX1_samplesBetween_22 : decode cX1_samplesBetween 22 = .ok (.iload_n 2, 1) := dk_28 (dk_at dksX1_samplesBetween_0 22 rfl rfl)
theorem dX1_samplesBetween_23 : decode cX1_samplesBetween 23 = .ok (.iload_n 3, 1) := dk_29 (dk_at dksX1_samplesBetween_0 23 rfl rfl)
theorem dX1_samplesBetween_24 : decode cX1_samplesBetween 24 = .ok (.invokevirtual 193, 3) := dk_182 0 193 (dk_at dksX1_samplesBetween_1 0 rfl rfl)
theorem dX1_samplesBetween_27 : decode cX1_samplesBetween 27 = .ok (.ireturn, 1) := dk_172 (dk_at dksX1_samplesBetween_1 3 rfl rfl)
abbrev cX1_isSymmetric : ByteArray := prog_1_method_29_code
def yX1_isSymmetric : MethodName := ⟨RX1, "isSymmetric", "(I)Z"⟩
def dkwX1_isSymmetric_0 : List UInt8 := [42, 27, 182, 0, 121, 77, 44, 44, 182, 0, 196, 182, 0, 200, 154, 0, 7, 4, 167, 0, 4, 3, 172]
abbrev dktX1_isSymmetric_0 : List UInt8 := dkwX1_isSymmetric_0 ++ []
theorem dksX1_isSymmetric_0 : cX1_isSymmetric.data.toList.drop 0 = dktX1_isSymmetric_0 := by decide +kernel
theorem dX1_isSymmetric_0 : decode cX1_isSymmetric 0 = .ok (.aload_n 0, 1) := dk_42 (dk_at dksX1_isSymmetric_0 0 rfl rfl)
theorem dX1_isSymmetric_1 : decode cX1_isSymmetric 1 = .ok (.iload_n 1, 1) := dk_27 (dk_at dksX1_isSymmetric_0 1 rfl rfl)
theorem dX1_isSymmetric_2 : decode cX1_isSymmetric 2 = .ok (.invokevirtual 121, 3) := dk_182 0 121 (dk_at dksX1_isSymmetric_0 2 rfl rfl)
theorem dX1_isSymmetric_5 : decode cX1_isSymmetric 5 = .ok (.astore_n 2, 1) := dk_77 (dk_at dksX1_isSymmetric_0 5 rfl rfl)
theorem dX1_isSymmetric_6 : decode cX1_isSymmetric 6 = .ok (.aload_n 2, 1) := dk_44 (dk_at dksX1_isSymmetric_0 6 rfl rfl)
theorem dX1_isSymmetric_7 : decode cX1_isSymmetric 7 = .ok (.aload_n 2, 1) := dk_44 (dk_at dksX1_isSymmetric_0 7 rfl rfl)
theorem dX1_isSymmetric_8 : decode cX1_isSymmetric 8 = .ok (.invokevirtual 196, 3) := dk_182 0 196 (dk_at dksX1_isSymmetric_0 8 rfl rfl)
theorem dX1_isSymmetric_11 : decode cX1_isSymmetric 11 = .ok (.invokevirtual 200, 3) := dk_182 0 200 (dk_at dksX1_isSymmetric_0 11 rfl rfl)
theorem dX1_isSymmetric_14 : decode cX1_isSymmetric 14 = .ok (.ifCond .ne 7, 3) := dk_154 0 7 (dk_at dksX1_isSymmetric_0 14 rfl rfl)
theorem dX1_isSymmetric_17 : decode cX1_isSymmetric 17 = .ok (.iconst 1, 1) := dk_4 (dk_at dksX1_isSymmetric_0 17 rfl rfl)
theorem dX1_isSymmetric_18 : decode cX1_isSymmetric 18 = .ok (.goto 4, 3) := dk_167 0 4 (dk_at dksX1_isSymmetric_0 18 rfl rfl)
theorem dX1_isSymmetric_21 : decode cX1_isSymmetric 21 = .ok (.iconst 0, 1) := dk_3 (dk_at dksX1_isSymmetric_0 21 rfl rfl)
theorem dX1_isSymmetric_22 : decode cX1_isSymmetric 22 = .ok (.ireturn, 1) := dk_172 (dk_at dksX1_isSymmetric_0 22 rfl rfl)
abbrev cX1_loudestRecording : ByteArray := prog_1_method_30_code
def yX1_loudestRecording : MethodName := ⟨RX1, "loudestRecording", "()I"⟩
def dkwX1_loudestRecording_3 : List UInt8 := [159, 0, 7, 4, 167, 0, 4, 3, 184, 0, 204, 27, 172]
abbrev dktX1_loudestRecording_3 : List UInt8 := dkwX1_loudestRecording_3 ++ []
def dkwX1_loudestRecording_2 : List UInt8 := [182, 0, 115, 192, 0, 119, 182, 0, 182, 148, 158, 0, 5, 28, 60, 132, 2, 1, 167, 255, 194, 27, 2]
abbrev dktX1_loudestRecording_2 : List UInt8 := dkwX1_loudestRecording_2 ++ dktX1_loudestRecording_3
def dkwX1_loudestRecording_1 : List UInt8 := [180, 0, 45, 180, 0, 102, 28, 182, 0, 115, 192, 0, 119, 182, 0, 182, 42, 180, 0, 45, 180, 0, 102, 27]
abbrev dktX1_loudestRecording_1 : List UInt8 := dkwX1_loudestRecording_1 ++ dktX1_loudestRecording_2
def dkwX1_loudestRecording_0 : List UInt8 := [2, 60, 3, 61, 28, 42, 180, 0, 45, 180, 0, 102, 182, 0, 106, 162, 0, 54, 27, 2, 159, 0, 41, 42]
abbrev dktX1_loudestRecording_0 : List UInt8 := dkwX1_loudestRecording_0 ++ dktX1_loudestRecording_1
theorem dksX1_loudestRecording_0 : cX1_loudestRecording.data.toList.drop 0 = dktX1_loudestRecording_0 := by decide +kernel
theorem dksX1_loudestRecording_1 : cX1_loudestRecording.data.toList.drop 24 = dktX1_loudestRecording_1 := dk_seg dksX1_loudestRecording_0 24 rfl rfl
theorem dksX1_loudestRecording_2 : cX1_loudestRecording.data.toList.drop 48 = dktX1_loudestRecording_2 := dk_seg dksX1_loudestRecording_1 24 rfl rfl
theorem dksX1_loudestRecording_3 : cX1_loudestRecording.data.toList.drop 71 = dktX1_loudestRecording_3 := dk_seg dksX1_loudestRecording_2 23 rfl rfl
theorem dX1_loudestRecording_0 : decode cX1_loudestRecording 0 = .ok (.iconst (-1), 1) := dk_2 (dk_at dksX1_loudestRecording_0 0 rfl rfl)
theorem dX1_loudestRecording_1 : decode cX1_loudestRecording 1 = .ok (.istore_n 1, 1) := dk_60 (dk_at dksX1_loudestRecording_0 1 rfl rfl)
theorem dX1_loudestRecording_2 : decode cX1_loudestRecording 2 = .ok (.iconst 0, 1) := dk_3 (dk_at dksX1_loudestRecording_0 2 rfl rfl)
theorem dX1_loudestRecording_3 : decode cX1_loudestRecording 3 = .ok (.istore_n 2, 1) := dk_61 (dk_at dksX1_loudestRecording_0 3 rfl rfl)
theorem dX1_loudestRecording_4 : decode cX1_loudestRecording 4 = .ok (.iload_n 2, 1) := dk_28 (dk_at dksX1_loudestRecording_0 4 rfl rfl)
theorem dX1_loudestRecording_5 : decode cX1_loudestRecording 5 = .ok (.aload_n 0, 1) := dk_42 (dk_at dksX1_loudestRecording_0 5 rfl rfl)
theorem dX1_loudestRecording_6 : decode cX1_loudestRecording 6 = .ok (.getfield 45, 3) := dk_180 0 45 (dk_at dksX1_loudestRecording_0 6 rfl rfl)
theorem dX1_loudestRecording_9 : decode cX1_loudestRecording 9 = .ok (.getfield 102, 3) := dk_180 0 102 (dk_at dksX1_loudestRecording_0 9 rfl rfl)
theorem dX1_loudestRecording_12 : decode cX1_loudestRecording 12 = .ok (.invokevirtual 106, 3) := dk_182 0 106 (dk_at dksX1_loudestRecording_0 12 rfl rfl)
theorem dX1_loudestRecording_15 : decode cX1_loudestRecording 15 = .ok (.if_icmp .ge 54, 3) := dk_162 0 54 (dk_at dksX1_loudestRecording_0 15 rfl rfl)
theorem dX1_loudestRecording_18 : decode cX1_loudestRecording 18 = .ok (.iload_n 1, 1) := dk_27 (dk_at dksX1_loudestRecording_0 18 rfl rfl)
theorem dX1_loudestRecording_19 : decode cX1_loudestRecording 19 = .ok (.iconst (-1), 1) := dk_2 (dk_at dksX1_loudestRecording_0 19 rfl rfl)
theorem dX1_loudestRecording_20 : decode cX1_loudestRecording 20 = .ok (.if_icmp .eq 41, 3) := dk_159 0 41 (dk_at dksX1_loudestRecording_0 20 rfl rfl)
theorem dX1_loudestRecording_23 : decode cX1_loudestRecording 23 = .ok (.aload_n 0, 1) := dk_42 (dk_at dksX1_loudestRecording_0 23 rfl rfl)
theorem dX1_loudestRecording_24 : decode cX1_loudestRecording 24 = .ok (.getfield 45, 3) := dk_180 0 45 (dk_at dksX1_loudestRecording_1 0 rfl rfl)
theorem dX1_loudestRecording_27 : decode cX1_loudestRecording 27 = .ok (.getfield 102, 3) := dk_180 0 102 (dk_at dksX1_loudestRecording_1 3 rfl rfl)
theorem dX1_loudestRecording_30 : decode cX1_loudestRecording 30 = .ok (.iload_n 2, 1) := dk_28 (dk_at dksX1_loudestRecording_1 6 rfl rfl)
theorem dX1_loudestRecording_31 : decode cX1_loudestRecording 31 = .ok (.invokevirtual 115, 3) := dk_182 0 115 (dk_at dksX1_loudestRecording_1 7 rfl rfl)
theorem dX1_loudestRecording_34 : decode cX1_loudestRecording 34 = .ok (.checkcast 119, 3) := dk_192 0 119 (dk_at dksX1_loudestRecording_1 10 rfl rfl)
theorem dX1_loudestRecording_37 : decode cX1_loudestRecording 37 = .ok (.invokevirtual 182, 3) := dk_182 0 182 (dk_at dksX1_loudestRecording_1 13 rfl rfl)
theorem dX1_loudestRecording_40 : decode cX1_loudestRecording 40 = .ok (.aload_n 0, 1) := dk_42 (dk_at dksX1_loudestRecording_1 16 rfl rfl)
theorem dX1_loudestRecording_41 : decode cX1_loudestRecording 41 = .ok (.getfield 45, 3) := dk_180 0 45 (dk_at dksX1_loudestRecording_1 17 rfl rfl)
theorem dX1_loudestRecording_44 : decode cX1_loudestRecording 44 = .ok (.getfield 102, 3) := dk_180 0 102 (dk_at dksX1_loudestRecording_1 20 rfl rfl)
theorem dX1_loudestRecording_47 : decode cX1_loudestRecording 47 = .ok (.iload_n 1, 1) := dk_27 (dk_at dksX1_loudestRecording_1 23 rfl rfl)
theorem dX1_loudestRecording_48 : decode cX1_loudestRecording 48 = .ok (.invokevirtual 115, 3) := dk_182 0 115 (dk_at dksX1_loudestRecording_2 0 rfl rfl)
theorem dX1_loudestRecording_51 : decode cX1_loudestRecording 51 = .ok (.checkcast 119, 3) := dk_192 0 119 (dk_at dksX1_loudestRecording_2 3 rfl rfl)
theorem dX1_loudestRecording_54 : decode cX1_loudestRecording 54 = .ok (.invokevirtual 182, 3) := dk_182 0 182 (dk_at dksX1_loudestRecording_2 6 rfl rfl)
theorem dX1_loudestRecording_57 : decode cX1_loudestRecording 57 = .ok (.lcmp, 1) := dk_148 (dk_at dksX1_loudestRecording_2 9 rfl rfl)
theorem dX1_loudestRecording_58 : decode cX1_loudestRecording 58 = .ok (.ifCond .le 5, 3) := dk_158 0 5 (dk_at dksX1_loudestRecording_2 10 rfl rfl)
theorem dX1_loudestRecording_61 : decode cX1_loudestRecording 61 = .ok (.iload_n 2, 1) := dk_28 (dk_at dksX1_loudestRecording_2 13 rfl rfl)
theorem dX1_loudestRecording_62 : decode cX1_loudestRecording 62 = .ok (.istore_n 1, 1) := dk_60 (dk_at dksX1_loudestRecording_2 14 rfl rfl)
theorem dX1_loudestRecording_63 : decode cX1_loudestRecording 63 = .ok (.iinc 2 1, 3) := dk_132 2 1 (dk_at dksX1_loudestRecording_2 15 rfl rfl)
theorem dX1_loudestRecording_66 : decode cX1_loudestRecording 66 = .ok (.goto (-62), 3) := dk_167 255 194 (dk_at dksX1_loudestRecording_2 18 rfl rfl)
theorem dX1_loudestRecording_69 : decode cX1_loudestRecording 69 = .ok (.iload_n 1, 1) := dk_27 (dk_at dksX1_loudestRecording_2 21 rfl rfl)
theorem dX1_loudestRecording_70 : decode cX1_loudestRecording 70 = .ok (.iconst (-1), 1) := dk_2 (dk_at dksX1_loudestRecording_2 22 rfl rfl)
theorem dX1_loudestRecording_71 : decode cX1_loudestRecording 71 = .ok (.if_icmp .eq 7, 3) := dk_159 0 7 (dk_at dksX1_loudestRecording_3 0 rfl rfl)
theorem dX1_loudestRecording_74 : decode cX1_loudestRecording 74 = .ok (.iconst 1, 1) := dk_4 (dk_at dksX1_loudestRecording_3 3 rfl rfl)
theorem dX1_loudestRecording_75 : decode cX1_loudestRecording 75 = .ok (.goto 4, 3) := dk_167 0 4 (dk_at dksX1_loudestRecording_3 4 rfl rfl)
theorem dX1_loudestRecording_78 : decode cX1_loudestRecording 78 = .ok (.iconst 0, 1) := dk_3 (dk_at dksX1_loudestRecording_3 7 rfl rfl)
theorem dX1_loudestRecording_79 : decode cX1_loudestRecording 79 = .ok (.invokestatic 204, 3) := dk_184 0 204 (dk_at dksX1_loudestRecording_3 8 rfl rfl)
theorem dX1_loudestRecording_82 : decode cX1_loudestRecording 82 = .ok (.iload_n 1, 1) := dk_27 (dk_at dksX1_loudestRecording_3 11 rfl rfl)
theorem dX1_loudestRecording_83 : decode cX1_loudestRecording 83 = .ok (.ireturn, 1) := dk_172 (dk_at dksX1_loudestRecording_3 12 rfl rfl)
abbrev cX1_requireElement : ByteArray := prog_1_method_4_code
def yX1_requireElement : MethodName := ⟨RX1, "requireElement", "(Z)V"⟩
def dkwX1_requireElement_0 : List UInt8 := [26, 154, 0, 11, 187, 0, 13, 89, 183, 0, 15, 191, 177]
abbrev dktX1_requireElement_0 : List UInt8 := dkwX1_requireElement_0 ++ []
theorem dksX1_requireElement_0 : cX1_requireElement.data.toList.drop 0 = dktX1_requireElement_0 := by decide +kernel
theorem dX1_requireElement_0 : decode cX1_requireElement 0 = .ok (.iload_n 0, 1) := dk_26 (dk_at dksX1_requireElement_0 0 rfl rfl)
theorem dX1_requireElement_1 : decode cX1_requireElement 1 = .ok (.ifCond .ne 11, 3) := dk_154 0 11 (dk_at dksX1_requireElement_0 1 rfl rfl)
theorem dX1_requireElement_4 : decode cX1_requireElement 4 = .ok (.new 13, 3) := dk_187 0 13 (dk_at dksX1_requireElement_0 4 rfl rfl)
theorem dX1_requireElement_7 : decode cX1_requireElement 7 = .ok (.dup, 1) := dk_89 (dk_at dksX1_requireElement_0 7 rfl rfl)
theorem dX1_requireElement_8 : decode cX1_requireElement 8 = .ok (.invokespecial 15, 3) := dk_183 0 15 (dk_at dksX1_requireElement_0 8 rfl rfl)
theorem dX1_requireElement_11 : decode cX1_requireElement 11 = .ok (.athrow, 1) := dk_191 (dk_at dksX1_requireElement_0 11 rfl rfl)
theorem dX1_requireElement_12 : decode cX1_requireElement 12 = .ok (.return_, 1) := dk_177 (dk_at dksX1_requireElement_0 12 rfl rfl)
abbrev cX1_walsh : ByteArray := prog_1_method_32_code
def yX1_walsh : MethodName := ⟨RX1, "walsh", "(III)I"⟩
def dkwX1_walsh_0 : List UInt8 := [27, 28, 184, 0, 210, 27, 29, 184, 0, 210, 28, 29, 184, 0, 214, 172]
abbrev dktX1_walsh_0 : List UInt8 := dkwX1_walsh_0 ++ []
theorem dksX1_walsh_0 : cX1_walsh.data.toList.drop 0 = dktX1_walsh_0 := by decide +kernel
theorem dX1_walsh_0 : decode cX1_walsh 0 = .ok (.iload_n 1, 1) := dk_27 (dk_at dksX1_walsh_0 0 rfl rfl)
theorem dX1_walsh_1 : decode cX1_walsh 1 = .ok (.iload_n 2, 1) := dk_28 (dk_at dksX1_walsh_0 1 rfl rfl)
theorem dX1_walsh_2 : decode cX1_walsh 2 = .ok (.invokestatic 210, 3) := dk_184 0 210 (dk_at dksX1_walsh_0 2 rfl rfl)
theorem dX1_walsh_5 : decode cX1_walsh 5 = .ok (.iload_n 1, 1) := dk_27 (dk_at dksX1_walsh_0 5 rfl rfl)
theorem dX1_walsh_6 : decode cX1_walsh 6 = .ok (.iload_n 3, 1) := dk_29 (dk_at dksX1_walsh_0 6 rfl rfl)
theorem dX1_walsh_7 : decode cX1_walsh 7 = .ok (.invokestatic 210, 3) := dk_184 0 210 (dk_at dksX1_walsh_0 7 rfl rfl)
theorem dX1_walsh_10 : decode cX1_walsh 10 = .ok (.iload_n 2, 1) := dk_28 (dk_at dksX1_walsh_0 10 rfl rfl)
theorem dX1_walsh_11 : decode cX1_walsh 11 = .ok (.iload_n 3, 1) := dk_29 (dk_at dksX1_walsh_0 11 rfl rfl)
theorem dX1_walsh_12 : decode cX1_walsh 12 = .ok (.invokestatic 214, 3) := dk_184 0 214 (dk_at dksX1_walsh_0 12 rfl rfl)
theorem dX1_walsh_15 : decode cX1_walsh 15 = .ok (.ireturn, 1) := dk_172 (dk_at dksX1_walsh_0 15 rfl rfl)
abbrev cX1_requireFunction : ByteArray := prog_1_method_31_code
def yX1_requireFunction : MethodName := ⟨RX1, "requireFunction", "(II)V"⟩
def dkwX1_requireFunction_1 : List UInt8 := [184, 0, 73, 177]
abbrev dktX1_requireFunction_1 : List UInt8 := dkwX1_requireFunction_1 ++ []
def dkwX1_requireFunction_0 : List UInt8 := [26, 184, 0, 207, 153, 0, 18, 27, 3, 26, 4, 100, 184, 0, 18, 153, 0, 7, 4, 167, 0, 4, 3]
abbrev dktX1_requireFunction_0 : List UInt8 := dkwX1_requireFunction_0 ++ dktX1_requireFunction_1
theorem dksX1_requireFunction_0 : cX1_requireFunction.data.toList.drop 0 = dktX1_requireFunction_0 := by decide +kernel
theorem dksX1_requireFunction_1 : cX1_requireFunction.data.toList.drop 23 = dktX1_requireFunction_1 := dk_seg dksX1_requireFunction_0 23 rfl rfl
theorem dX1_requireFunction_0 : decode cX1_requireFunction 0 = .ok (.iload_n 0, 1) := dk_26 (dk_at dksX1_requireFunction_0 0 rfl rfl)
theorem dX1_requireFunction_1 : decode cX1_requireFunction 1 = .ok (.invokestatic 207, 3) := dk_184 0 207 (dk_at dksX1_requireFunction_0 1 rfl rfl)
theorem dX1_requireFunction_4 : decode cX1_requireFunction 4 = .ok (.ifCond .eq 18, 3) := dk_153 0 18 (dk_at dksX1_requireFunction_0 4 rfl rfl)
theorem dX1_requireFunction_7 : decode cX1_requireFunction 7 = .ok (.iload_n 1, 1) := dk_27 (dk_at dksX1_requireFunction_0 7 rfl rfl)
theorem dX1_requireFunction_8 : decode cX1_requireFunction 8 = .ok (.iconst 0, 1) := dk_3 (dk_at dksX1_requireFunction_0 8 rfl rfl)
theorem dX1_requireFunction_9 : decode cX1_requireFunction 9 = .ok (.iload_n 0, 1) := dk_26 (dk_at dksX1_requireFunction_0 9 rfl rfl)
theorem dX1_requireFunction_10 : decode cX1_requireFunction 10 = .ok (.iconst 1, 1) := dk_4 (dk_at dksX1_requireFunction_0 10 rfl rfl)
theorem dX1_requireFunction_11 : decode cX1_requireFunction 11 = .ok (.isub, 1) := dk_100 (dk_at dksX1_requireFunction_0 11 rfl rfl)
theorem dX1_requireFunction_12 : decode cX1_requireFunction 12 = .ok (.invokestatic 18, 3) := dk_184 0 18 (dk_at dksX1_requireFunction_0 12 rfl rfl)
theorem dX1_requireFunction_15 : decode cX1_requireFunction 15 = .ok (.ifCond .eq 7, 3) := dk_153 0 7 (dk_at dksX1_requireFunction_0 15 rfl rfl)
theorem dX1_requireFunction_18 : decode cX1_requireFunction 18 = .ok (.iconst 1, 1) := dk_4 (dk_at dksX1_requireFunction_0 18 rfl rfl)
theorem dX1_requireFunction_19 : decode cX1_requireFunction 19 = .ok (.goto 4, 3) := dk_167 0 4 (dk_at dksX1_requireFunction_0 19 rfl rfl)
theorem dX1_requireFunction_22 : decode cX1_requireFunction 22 = .ok (.iconst 0, 1) := dk_3 (dk_at dksX1_requireFunction_0 22 rfl rfl)
theorem dX1_requireFunction_23 : decode cX1_requireFunction 23 = .ok (.invokestatic 73, 3) := dk_184 0 73 (dk_at dksX1_requireFunction_1 0 rfl rfl)
theorem dX1_requireFunction_26 : decode cX1_requireFunction 26 = .ok (.return_, 1) := dk_177 (dk_at dksX1_requireFunction_1 3 rfl rfl)
abbrev cX1_sequency : ByteArray := prog_1_method_33_code
def yX1_sequency : MethodName := ⟨RX1, "sequency", "(II)I"⟩
def dkwX1_sequency_0 : List UInt8 := [27, 28, 184, 0, 210, 27, 28, 184, 0, 219, 172]
abbrev dktX1_sequency_0 : List UInt8 := dkwX1_sequency_0 ++ []
theorem dksX1_sequency_0 : cX1_sequency.data.toList.drop 0 = dktX1_sequency_0 := by decide +kernel
theorem dX1_sequency_0 : decode cX1_sequency 0 = .ok (.iload_n 1, 1) := dk_27 (dk_at dksX1_sequency_0 0 rfl rfl)
theorem dX1_sequency_1 : decode cX1_sequency 1 = .ok (.iload_n 2, 1) := dk_28 (dk_at dksX1_sequency_0 1 rfl rfl)
theorem dX1_sequency_2 : decode cX1_sequency 2 = .ok (.invokestatic 210, 3) := dk_184 0 210 (dk_at dksX1_sequency_0 2 rfl rfl)
theorem dX1_sequency_5 : decode cX1_sequency 5 = .ok (.iload_n 1, 1) := dk_27 (dk_at dksX1_sequency_0 5 rfl rfl)
theorem dX1_sequency_6 : decode cX1_sequency 6 = .ok (.iload_n 2, 1) := dk_28 (dk_at dksX1_sequency_0 6 rfl rfl)
theorem dX1_sequency_7 : decode cX1_sequency 7 = .ok (.invokestatic 219, 3) := dk_184 0 219 (dk_at dksX1_sequency_0 7 rfl rfl)
theorem dX1_sequency_10 : decode cX1_sequency 10 = .ok (.ireturn, 1) := dk_172 (dk_at dksX1_sequency_0 10 rfl rfl)
abbrev cX1_indexOfSequency : ByteArray := prog_1_method_34_code
def yX1_indexOfSequency : MethodName := ⟨RX1, "indexOfSequency", "(II)I"⟩
def dkwX1_indexOfSequency_0 : List UInt8 := [27, 28, 184, 0, 210, 27, 28, 184, 0, 222, 172]
abbrev dktX1_indexOfSequency_0 : List UInt8 := dkwX1_indexOfSequency_0 ++ []
theorem dksX1_indexOfSequency_0 : cX1_indexOfSequency.data.toList.drop 0 = dktX1_indexOfSequency_0 := by decide +kernel
theorem dX1_indexOfSequency_0 : decode cX1_indexOfSequency 0 = .ok (.iload_n 1, 1) := dk_27 (dk_at dksX1_indexOfSequency_0 0 rfl rfl)
theorem dX1_indexOfSequency_1 : decode cX1_indexOfSequency 1 = .ok (.iload_n 2, 1) := dk_28 (dk_at dksX1_indexOfSequency_0 1 rfl rfl)
theorem dX1_indexOfSequency_2 : decode cX1_indexOfSequency 2 = .ok (.invokestatic 210, 3) := dk_184 0 210 (dk_at dksX1_indexOfSequency_0 2 rfl rfl)
theorem dX1_indexOfSequency_5 : decode cX1_indexOfSequency 5 = .ok (.iload_n 1, 1) := dk_27 (dk_at dksX1_indexOfSequency_0 5 rfl rfl)
theorem dX1_indexOfSequency_6 : decode cX1_indexOfSequency 6 = .ok (.iload_n 2, 1) := dk_28 (dk_at dksX1_indexOfSequency_0 6 rfl rfl)
theorem dX1_indexOfSequency_7 : decode cX1_indexOfSequency 7 = .ok (.invokestatic 222, 3) := dk_184 0 222 (dk_at dksX1_indexOfSequency_0 7 rfl rfl)
theorem dX1_indexOfSequency_10 : decode cX1_indexOfSequency 10 = .ok (.ireturn, 1) := dk_172 (dk_at dksX1_indexOfSequency_0 10 rfl rfl)
abbrev cX1_coefficient : ByteArray := prog_1_method_35_code
def yX1_coefficient : MethodName := ⟨RX1, "coefficient", "(II)I"⟩
def dkwX1_coefficient_0 : List UInt8 := [42, 27, 28, 182, 0, 175, 182, 0, 225, 28, 46, 172]
abbrev dktX1_coefficient_0 : List UInt8 := dkwX1_coefficient_0 ++ []
theorem dksX1_coefficient_0 : cX1_coefficient.data.toList.drop 0 = dktX1_coefficient_0 := by decide +kernel
theorem dX1_coefficient_0 : decode cX1_coefficient 0 = .ok (.aload_n 0, 1) := dk_42 (dk_at dksX1_coefficient_0 0 rfl rfl)
theorem dX1_coefficient_1 : decode cX1_coefficient 1 = .ok (.iload_n 1, 1) := dk_27 (dk_at dksX1_coefficient_0 1 rfl rfl)
theorem dX1_coefficient_2 : decode cX1_coefficient 2 = .ok (.iload_n 2, 1) := dk_28 (dk_at dksX1_coefficient_0 2 rfl rfl)
theorem dX1_coefficient_3 : decode cX1_coefficient 3 = .ok (.invokevirtual 175, 3) := dk_182 0 175 (dk_at dksX1_coefficient_0 3 rfl rfl)
theorem dX1_coefficient_6 : decode cX1_coefficient 6 = .ok (.invokevirtual 225, 3) := dk_182 0 225 (dk_at dksX1_coefficient_0 6 rfl rfl)
theorem dX1_coefficient_9 : decode cX1_coefficient 9 = .ok (.iload_n 2, 1) := dk_28 (dk_at dksX1_coefficient_0 9 rfl rfl)
theorem dX1_coefficient_10 : decode cX1_coefficient 10 = .ok (.iaload, 1) := dk_46 (dk_at dksX1_coefficient_0 10 rfl rfl)
theorem dX1_coefficient_11 : decode cX1_coefficient 11 = .ok (.ireturn, 1) := dk_172 (dk_at dksX1_coefficient_0 11 rfl rfl)
abbrev cX1_tones : ByteArray := prog_1_method_36_code
def yX1_tones : MethodName := ⟨RX1, "tones", "(I)I"⟩
def dkwX1_tones_2 : List UInt8 := [172]
abbrev dktX1_tones_2 : List UInt8 := dkwX1_tones_2 ++ []
def dkwX1_tones_1 : List UInt8 := [162, 0, 23, 45, 21, 5, 46, 54, 6, 21, 6, 153, 0, 6, 132, 2, 1, 132, 5, 1, 167, 255, 232, 28]
abbrev dktX1_tones_1 : List UInt8 := dkwX1_tones_1 ++ dktX1_tones_2
def dkwX1_tones_0 : List UInt8 := [3, 61, 42, 27, 182, 0, 121, 182, 0, 225, 78, 45, 190, 54, 4, 3, 54, 5, 21, 5, 21, 4]
abbrev dktX1_tones_0 : List UInt8 := dkwX1_tones_0 ++ dktX1_tones_1
theorem dksX1_tones_0 : cX1_tones.data.toList.drop 0 = dktX1_tones_0 := by decide +kernel
theorem dksX1_tones_1 : cX1_tones.data.toList.drop 22 = dktX1_tones_1 := dk_seg dksX1_tones_0 22 rfl rfl
theorem dksX1_tones_2 : cX1_tones.data.toList.drop 46 = dktX1_tones_2 := dk_seg dksX1_tones_1 24 rfl rfl
theorem dX1_tones_0 : decode cX1_tones 0 = .ok (.iconst 0, 1) := dk_3 (dk_at dksX1_tones_0 0 rfl rfl)
theorem dX1_tones_1 : decode cX1_tones 1 = .ok (.istore_n 2, 1) := dk_61 (dk_at dksX1_tones_0 1 rfl rfl)
theorem dX1_tones_2 : decode cX1_tones 2 = .ok (.aload_n 0, 1) := dk_42 (dk_at dksX1_tones_0 2 rfl rfl)
theorem dX1_tones_3 : decode cX1_tones 3 = .ok (.iload_n 1, 1) := dk_27 (dk_at dksX1_tones_0 3 rfl rfl)
theorem dX1_tones_4 : decode cX1_tones 4 = .ok (.invokevirtual 121, 3) := dk_182 0 121 (dk_at dksX1_tones_0 4 rfl rfl)
theorem dX1_tones_7 : decode cX1_tones 7 = .ok (.invokevirtual 225, 3) := dk_182 0 225 (dk_at dksX1_tones_0 7 rfl rfl)
theorem dX1_tones_10 : decode cX1_tones 10 = .ok (.astore_n 3, 1) := dk_78 (dk_at dksX1_tones_0 10 rfl rfl)
theorem dX1_tones_11 : decode cX1_tones 11 = .ok (.aload_n 3, 1) := dk_45 (dk_at dksX1_tones_0 11 rfl rfl)
theorem dX1_tones_12 : decode cX1_tones 12 = .ok (.arraylength, 1) := dk_190 (dk_at dksX1_tones_0 12 rfl rfl)
theorem dX1_tones_13 : decode cX1_tones 13 = .ok (.istore 4, 2) := dk_54 4 (dk_at dksX1_tones_0 13 rfl rfl)
theorem dX1_tones_15 : decode cX1_tones 15 = .ok (.iconst 0, 1) := dk_3 (dk_at dksX1_tones_0 15 rfl rfl)
theorem dX1_tones_16 : decode cX1_tones 16 = .ok (.istore 5, 2) := dk_54 5 (dk_at dksX1_tones_0 16 rfl rfl)
theorem dX1_tones_18 : decode cX1_tones 18 = .ok (.iload 5, 2) := dk_21 5 (dk_at dksX1_tones_0 18 rfl rfl)
theorem dX1_tones_20 : decode cX1_tones 20 = .ok (.iload 4, 2) := dk_21 4 (dk_at dksX1_tones_0 20 rfl rfl)
theorem dX1_tones_22 : decode cX1_tones 22 = .ok (.if_icmp .ge 23, 3) := dk_162 0 23 (dk_at dksX1_tones_1 0 rfl rfl)
theorem dX1_tones_25 : decode cX1_tones 25 = .ok (.aload_n 3, 1) := dk_45 (dk_at dksX1_tones_1 3 rfl rfl)
theorem dX1_tones_26 : decode cX1_tones 26 = .ok (.iload 5, 2) := dk_21 5 (dk_at dksX1_tones_1 4 rfl rfl)
theorem dX1_tones_28 : decode cX1_tones 28 = .ok (.iaload, 1) := dk_46 (dk_at dksX1_tones_1 6 rfl rfl)
theorem dX1_tones_29 : decode cX1_tones 29 = .ok (.istore 6, 2) := dk_54 6 (dk_at dksX1_tones_1 7 rfl rfl)
theorem dX1_tones_31 : decode cX1_tones 31 = .ok (.iload 6, 2) := dk_21 6 (dk_at dksX1_tones_1 9 rfl rfl)
theorem dX1_tones_33 : decode cX1_tones 33 = .ok (.ifCond .eq 6, 3) := dk_153 0 6 (dk_at dksX1_tones_1 11 rfl rfl)
theorem dX1_tones_36 : decode cX1_tones 36 = .ok (.iinc 2 1, 3) := dk_132 2 1 (dk_at dksX1_tones_1 14 rfl rfl)
theorem dX1_tones_39 : decode cX1_tones 39 = .ok (.iinc 5 1, 3) := dk_132 5 1 (dk_at dksX1_tones_1 17 rfl rfl)
theorem dX1_tones_42 : decode cX1_tones 42 = .ok (.goto (-24), 3) := dk_167 255 232 (dk_at dksX1_tones_1 20 rfl rfl)
theorem dX1_tones_45 : decode cX1_tones 45 = .ok (.iload_n 2, 1) := dk_28 (dk_at dksX1_tones_1 23 rfl rfl)
theorem dX1_tones_46 : decode cX1_tones 46 = .ok (.ireturn, 1) := dk_172 (dk_at dksX1_tones_2 0 rfl rfl)
abbrev cX1_bandEnergy : ByteArray := prog_1_method_37_code
def yX1_bandEnergy : MethodName := ⟨RX1, "bandEnergy", "(III)J"⟩
def dkwX1_bandEnergy_1 : List UInt8 := [173]
abbrev dktX1_bandEnergy_1 : List UInt8 := dkwX1_bandEnergy_1 ++ []
def dkwX1_bandEnergy_0 : List UInt8 := [42, 27, 182, 0, 121, 58, 4, 25, 4, 28, 29, 182, 0, 228, 184, 0, 73, 25, 4, 28, 29, 182, 0, 232]
abbrev dktX1_bandEnergy_0 : List UInt8 := dkwX1_bandEnergy_0 ++ dktX1_bandEnergy_1
theorem dksX1_bandEnergy_0 : cX1_bandEnergy.data.toList.drop 0 = dktX1_bandEnergy_0 := by decide +kernel
theorem dksX1_bandEnergy_1 : cX1_bandEnergy.data.toList.drop 24 = dktX1_bandEnergy_1 := dk_seg dksX1_bandEnergy_0 24 rfl rfl
theorem dX1_bandEnergy_0 : decode cX1_bandEnergy 0 = .ok (.aload_n 0, 1) := dk_42 (dk_at dksX1_bandEnergy_0 0 rfl rfl)
theorem dX1_bandEnergy_1 : decode cX1_bandEnergy 1 = .ok (.iload_n 1, 1) := dk_27 (dk_at dksX1_bandEnergy_0 1 rfl rfl)
theorem dX1_bandEnergy_2 : decode cX1_bandEnergy 2 = .ok (.invokevirtual 121, 3) := dk_182 0 121 (dk_at dksX1_bandEnergy_0 2 rfl rfl)
theorem dX1_bandEnergy_5 : decode cX1_bandEnergy 5 = .ok (.astore 4, 2) := dk_58 4 (dk_at dksX1_bandEnergy_0 5 rfl rfl)
theorem dX1_bandEnergy_7 : decode cX1_bandEnergy 7 = .ok (.aload 4, 2) := dk_25 4 (dk_at dksX1_bandEnergy_0 7 rfl rfl)
theorem dX1_bandEnergy_9 : decode cX1_bandEnergy 9 = .ok (.iload_n 2, 1) := dk_28 (dk_at dksX1_bandEnergy_0 9 rfl rfl)
theorem dX1_bandEnergy_10 : decode cX1_bandEnergy 10 = .ok (.iload_n 3, 1) := dk_29 (dk_at dksX1_bandEnergy_0 10 rfl rfl)
theorem dX1_bandEnergy_11 : decode cX1_bandEnergy 11 = .ok (.invokevirtual 228, 3) := dk_182 0 228 (dk_at dksX1_bandEnergy_0 11 rfl rfl)
theorem dX1_bandEnergy_14 : decode cX1_bandEnergy 14 = .ok (.invokestatic 73, 3) := dk_184 0 73 (dk_at dksX1_bandEnergy_0 14 rfl rfl)
theorem dX1_bandEnergy_17 : decode cX1_bandEnergy 17 = .ok (.aload 4, 2) := dk_25 4 (dk_at dksX1_bandEnergy_0 17 rfl rfl)
theorem dX1_bandEnergy_19 : decode cX1_bandEnergy 19 = .ok (.iload_n 2, 1) := dk_28 (dk_at dksX1_bandEnergy_0 19 rfl rfl)
theorem dX1_bandEnergy_20 : decode cX1_bandEnergy 20 = .ok (.iload_n 3, 1) := dk_29 (dk_at dksX1_bandEnergy_0 20 rfl rfl)
theorem dX1_bandEnergy_21 : decode cX1_bandEnergy 21 = .ok (.invokevirtual 232, 3) := dk_182 0 232 (dk_at dksX1_bandEnergy_0 21 rfl rfl)
theorem dX1_bandEnergy_24 : decode cX1_bandEnergy 24 = .ok (.lreturn, 1) := dk_173 (dk_at dksX1_bandEnergy_1 0 rfl rfl)
abbrev cX1_strongestBand : ByteArray := prog_1_method_38_code
def yX1_strongestBand : MethodName := ⟨RX1, "strongestBand", "(II)I"⟩
def dkwX1_strongestBand_0 : List UInt8 := [42, 27, 182, 0, 121, 78, 28, 4, 45, 182, 0, 148, 184, 0, 18, 184, 0, 73, 45, 28, 182, 0, 236, 172]
abbrev dktX1_strongestBand_0 : List UInt8 := dkwX1_strongestBand_0 ++ []
theorem dksX1_strongestBand_0 : cX1_strongestBand.data.toList.drop 0 = dktX1_strongestBand_0 := by decide +kernel
theorem dX1_strongestBand_0 : decode cX1_strongestBand 0 = .ok (.aload_n 0, 1) := dk_42 (dk_at dksX1_strongestBand_0 0 rfl rfl)
theorem dX1_strongestBand_1 : decode cX1_strongestBand 1 = .ok (.iload_n 1, 1) := dk_27 (dk_at dksX1_strongestBand_0 1 rfl rfl)
theorem dX1_strongestBand_2 : decode cX1_strongestBand 2 = .ok (.invokevirtual 121, 3) := dk_182 0 121 (dk_at dksX1_strongestBand_0 2 rfl rfl)
theorem dX1_strongestBand_5 : decode cX1_strongestBand 5 = .ok (.astore_n 3, 1) := dk_78 (dk_at dksX1_strongestBand_0 5 rfl rfl)
theorem dX1_strongestBand_6 : decode cX1_strongestBand 6 = .ok (.iload_n 2, 1) := dk_28 (dk_at dksX1_strongestBand_0 6 rfl rfl)
theorem dX1_strongestBand_7 : decode cX1_strongestBand 7 = .ok (.iconst 1, 1) := dk_4 (dk_at dksX1_strongestBand_0 7 rfl rfl)
theorem dX1_strongestBand_8 : decode cX1_strongestBand 8 = .ok (.aload_n 3, 1) := dk_45 (dk_at dksX1_strongestBand_0 8 rfl rfl)
theorem dX1_strongestBand_9 : decode cX1_strongestBand 9 = .ok (.invokevirtual 148, 3) := dk_182 0 148 (dk_at dksX1_strongestBand_0 9 rfl rfl)
theorem dX1_strongestBand_12 : decode cX1_strongestBand 12 = .ok (.invokestatic 18, 3) := dk_184 0 18 (dk_at dksX1_strongestBand_0 12 rfl rfl)
theorem dX1_strongestBand_15 : decode cX1_strongestBand 15 = .ok (.invokestatic 73, 3) := dk_184 0 73 (dk_at dksX1_strongestBand_0 15 rfl rfl)
theorem dX1_strongestBand_18 : decode cX1_strongestBand 18 = .ok (.aload_n 3, 1) := dk_45 (dk_at dksX1_strongestBand_0 18 rfl rfl)
theorem dX1_strongestBand_19 : decode cX1_strongestBand 19 = .ok (.iload_n 2, 1) := dk_28 (dk_at dksX1_strongestBand_0 19 rfl rfl)
theorem dX1_strongestBand_20 : decode cX1_strongestBand 20 = .ok (.invokevirtual 236, 3) := dk_182 0 236 (dk_at dksX1_strongestBand_0 20 rfl rfl)
theorem dX1_strongestBand_23 : decode cX1_strongestBand 23 = .ok (.ireturn, 1) := dk_172 (dk_at dksX1_strongestBand_0 23 rfl rfl)
abbrev cX1_tonesAbove : ByteArray := prog_1_method_40_code
def yX1_tonesAbove : MethodName := ⟨RX1, "tonesAbove", "(II)I"⟩
def dkwX1_tonesAbove_0 : List UInt8 := [42, 27, 182, 0, 121, 78, 28, 184, 0, 240, 45, 28, 182, 0, 244, 172]
abbrev dktX1_tonesAbove_0 : List UInt8 := dkwX1_tonesAbove_0 ++ []
theorem dksX1_tonesAbove_0 : cX1_tonesAbove.data.toList.drop 0 = dktX1_tonesAbove_0 := by decide +kernel
theorem dX1_tonesAbove_0 : decode cX1_tonesAbove 0 = .ok (.aload_n 0, 1) := dk_42 (dk_at dksX1_tonesAbove_0 0 rfl rfl)
theorem dX1_tonesAbove_1 : decode cX1_tonesAbove 1 = .ok (.iload_n 1, 1) := dk_27 (dk_at dksX1_tonesAbove_0 1 rfl rfl)
theorem dX1_tonesAbove_2 : decode cX1_tonesAbove 2 = .ok (.invokevirtual 121, 3) := dk_182 0 121 (dk_at dksX1_tonesAbove_0 2 rfl rfl)
theorem dX1_tonesAbove_5 : decode cX1_tonesAbove 5 = .ok (.astore_n 3, 1) := dk_78 (dk_at dksX1_tonesAbove_0 5 rfl rfl)
theorem dX1_tonesAbove_6 : decode cX1_tonesAbove 6 = .ok (.iload_n 2, 1) := dk_28 (dk_at dksX1_tonesAbove_0 6 rfl rfl)
theorem dX1_tonesAbove_7 : decode cX1_tonesAbove 7 = .ok (.invokestatic 240, 3) := dk_184 0 240 (dk_at dksX1_tonesAbove_0 7 rfl rfl)
theorem dX1_tonesAbove_10 : decode cX1_tonesAbove 10 = .ok (.aload_n 3, 1) := dk_45 (dk_at dksX1_tonesAbove_0 10 rfl rfl)
theorem dX1_tonesAbove_11 : decode cX1_tonesAbove 11 = .ok (.iload_n 2, 1) := dk_28 (dk_at dksX1_tonesAbove_0 11 rfl rfl)
theorem dX1_tonesAbove_12 : decode cX1_tonesAbove 12 = .ok (.invokevirtual 244, 3) := dk_182 0 244 (dk_at dksX1_tonesAbove_0 12 rfl rfl)
theorem dX1_tonesAbove_15 : decode cX1_tonesAbove 15 = .ok (.ireturn, 1) := dk_172 (dk_at dksX1_tonesAbove_0 15 rfl rfl)
abbrev cX1_requireThreshold : ByteArray := prog_1_method_39_code
def yX1_requireThreshold : MethodName := ⟨RX1, "requireThreshold", "(I)V"⟩
def dkwX1_requireThreshold_0 : List UInt8 := [26, 3, 18, 239, 184, 0, 18, 184, 0, 73, 177]
abbrev dktX1_requireThreshold_0 : List UInt8 := dkwX1_requireThreshold_0 ++ []
theorem dksX1_requireThreshold_0 : cX1_requireThreshold.data.toList.drop 0 = dktX1_requireThreshold_0 := by decide +kernel
theorem dX1_requireThreshold_0 : decode cX1_requireThreshold 0 = .ok (.iload_n 0, 1) := dk_26 (dk_at dksX1_requireThreshold_0 0 rfl rfl)
theorem dX1_requireThreshold_1 : decode cX1_requireThreshold 1 = .ok (.iconst 0, 1) := dk_3 (dk_at dksX1_requireThreshold_0 1 rfl rfl)
theorem dX1_requireThreshold_2 : decode cX1_requireThreshold 2 = .ok (.ldc 239, 2) := dk_18 239 (dk_at dksX1_requireThreshold_0 2 rfl rfl)
theorem dX1_requireThreshold_4 : decode cX1_requireThreshold 4 = .ok (.invokestatic 18, 3) := dk_184 0 18 (dk_at dksX1_requireThreshold_0 4 rfl rfl)
theorem dX1_requireThreshold_7 : decode cX1_requireThreshold 7 = .ok (.invokestatic 73, 3) := dk_184 0 73 (dk_at dksX1_requireThreshold_0 7 rfl rfl)
theorem dX1_requireThreshold_10 : decode cX1_requireThreshold 10 = .ok (.return_, 1) := dk_177 (dk_at dksX1_requireThreshold_0 10 rfl rfl)
abbrev cX1_meanSequency : ByteArray := prog_1_method_41_code
def yX1_meanSequency : MethodName := ⟨RX1, "meanSequency", "(I)D"⟩
def dkwX1_meanSequency_2 : List UInt8 := [55, 5, 22, 5, 9, 148, 154, 0, 7, 14, 167, 0, 9, 33, 138, 22, 5, 138, 111, 175]
abbrev dktX1_meanSequency_2 : List UInt8 := dkwX1_meanSequency_2 ++ []
def dkwX1_meanSequency_1 : List UInt8 := [182, 0, 247, 133, 44, 21, 5, 182, 0, 249, 105, 97, 66, 132, 5, 1, 167, 255, 227, 44, 182, 0, 253]
abbrev dktX1_meanSequency_1 : List UInt8 := dkwX1_meanSequency_1 ++ dktX1_meanSequency_2
def dkwX1_meanSequency_0 : List UInt8 := [42, 27, 182, 0, 121, 77, 9, 66, 3, 54, 5, 21, 5, 44, 182, 0, 148, 162, 0, 26, 33, 44, 21, 5]
abbrev dktX1_meanSequency_0 : List UInt8 := dkwX1_meanSequency_0 ++ dktX1_meanSequency_1
theorem dksX1_meanSequency_0 : cX1_meanSequency.data.toList.drop 0 = dktX1_meanSequency_0 := by decide +kernel
theorem dksX1_meanSequency_1 : cX1_meanSequency.data.toList.drop 24 = dktX1_meanSequency_1 := dk_seg dksX1_meanSequency_0 24 rfl rfl
theorem dksX1_meanSequency_2 : cX1_meanSequency.data.toList.drop 47 = dktX1_meanSequency_2 := dk_seg dksX1_meanSequency_1 23 rfl rfl
theorem dX1_meanSequency_0 : decode cX1_meanSequency 0 = .ok (.aload_n 0, 1) := dk_42 (dk_at dksX1_meanSequency_0 0 rfl rfl)
theorem dX1_meanSequency_1 : decode cX1_meanSequency 1 = .ok (.iload_n 1, 1) := dk_27 (dk_at dksX1_meanSequency_0 1 rfl rfl)
theorem dX1_meanSequency_2 : decode cX1_meanSequency 2 = .ok (.invokevirtual 121, 3) := dk_182 0 121 (dk_at dksX1_meanSequency_0 2 rfl rfl)
theorem dX1_meanSequency_5 : decode cX1_meanSequency 5 = .ok (.astore_n 2, 1) := dk_77 (dk_at dksX1_meanSequency_0 5 rfl rfl)
theorem dX1_meanSequency_6 : decode cX1_meanSequency 6 = .ok (.lconst 0, 1) := dk_9 (dk_at dksX1_meanSequency_0 6 rfl rfl)
theorem dX1_meanSequency_7 : decode cX1_meanSequency 7 = .ok (.lstore_n 3, 1) := dk_66 (dk_at dksX1_meanSequency_0 7 rfl rfl)
theorem dX1_meanSequency_8 : decode cX1_meanSequency 8 = .ok (.iconst 0, 1) := dk_3 (dk_at dksX1_meanSequency_0 8 rfl rfl)
theorem dX1_meanSequency_9 : decode cX1_meanSequency 9 = .ok (.istore 5, 2) := dk_54 5 (dk_at dksX1_meanSequency_0 9 rfl rfl)
theorem dX1_meanSequency_11 : decode cX1_meanSequency 11 = .ok (.iload 5, 2) := dk_21 5 (dk_at dksX1_meanSequency_0 11 rfl rfl)
theorem dX1_meanSequency_13 : decode cX1_meanSequency 13 = .ok (.aload_n 2, 1) := dk_44 (dk_at dksX1_meanSequency_0 13 rfl rfl)
theorem dX1_meanSequency_14 : decode cX1_meanSequency 14 = .ok (.invokevirtual 148, 3) := dk_182 0 148 (dk_at dksX1_meanSequency_0 14 rfl rfl)
theorem dX1_meanSequency_17 : decode cX1_meanSequency 17 = .ok (.if_icmp .ge 26, 3) := dk_162 0 26 (dk_at dksX1_meanSequency_0 17 rfl rfl)
theorem dX1_meanSequency_20 : decode cX1_meanSequency 20 = .ok (.lload_n 3, 1) := dk_33 (dk_at dksX1_meanSequency_0 20 rfl rfl)
theorem dX1_meanSequency_21 : decode cX1_meanSequency 21 = .ok (.aload_n 2, 1) := dk_44 (dk_at dksX1_meanSequency_0 21 rfl rfl)
theorem dX1_meanSequency_22 : decode cX1_meanSequency 22 = .ok (.iload 5, 2) := dk_21 5 (dk_at dksX1_meanSequency_0 22 rfl rfl)
theorem dX1_meanSequency_24 : decode cX1_meanSequency 24 = .ok (.invokevirtual 247, 3) := dk_182 0 247 (dk_at dksX1_meanSequency_1 0 rfl rfl)
theorem dX1_meanSequency_27 : decode cX1_meanSequency 27 = .ok (.i2l, 1) := dk_133 (dk_at dksX1_meanSequency_1 3 rfl rfl)
theorem dX1_meanSequency_28 : decode cX1_meanSequency 28 = .ok (.aload_n 2, 1) := dk_44 (dk_at dksX1_meanSequency_1 4 rfl rfl)
theorem dX1_meanSequency_29 : decode cX1_meanSequency 29 = .ok (.iload 5, 2) := dk_21 5 (dk_at dksX1_meanSequency_1 5 rfl rfl)
theorem dX1_meanSequency_31 : decode cX1_meanSequency 31 = .ok (.invokevirtual 249, 3) := dk_182 0 249 (dk_at dksX1_meanSequency_1 7 rfl rfl)
theorem dX1_meanSequency_34 : decode cX1_meanSequency 34 = .ok (.lmul, 1) := dk_105 (dk_at dksX1_meanSequency_1 10 rfl rfl)
theorem dX1_meanSequency_35 : decode cX1_meanSequency 35 = .ok (.ladd, 1) := dk_97 (dk_at dksX1_meanSequency_1 11 rfl rfl)
theorem dX1_meanSequency_36 : decode cX1_meanSequency 36 = .ok (.lstore_n 3, 1) := dk_66 (dk_at dksX1_meanSequency_1 12 rfl rfl)
theorem dX1_meanSequency_37 : decode cX1_meanSequency 37 = .ok (.iinc 5 1, 3) := dk_132 5 1 (dk_at dksX1_meanSequency_1 13 rfl rfl)
theorem dX1_meanSequency_40 : decode cX1_meanSequency 40 = .ok (.goto (-29), 3) := dk_167 255 227 (dk_at dksX1_meanSequency_1 16 rfl rfl)
theorem dX1_meanSequency_43 : decode cX1_meanSequency 43 = .ok (.aload_n 2, 1) := dk_44 (dk_at dksX1_meanSequency_1 19 rfl rfl)
theorem dX1_meanSequency_44 : decode cX1_meanSequency 44 = .ok (.invokevirtual 253, 3) := dk_182 0 253 (dk_at dksX1_meanSequency_1 20 rfl rfl)
theorem dX1_meanSequency_47 : decode cX1_meanSequency 47 = .ok (.lstore 5, 2) := dk_55 5 (dk_at dksX1_meanSequency_2 0 rfl rfl)
theorem dX1_meanSequency_49 : decode cX1_meanSequency 49 = .ok (.lload 5, 2) := dk_22 5 (dk_at dksX1_meanSequency_2 2 rfl rfl)
theorem dX1_meanSequency_51 : decode cX1_meanSequency 51 = .ok (.lconst 0, 1) := dk_9 (dk_at dksX1_meanSequency_2 4 rfl rfl)
theorem dX1_meanSequency_52 : decode cX1_meanSequency 52 = .ok (.lcmp, 1) := dk_148 (dk_at dksX1_meanSequency_2 5 rfl rfl)
theorem dX1_meanSequency_53 : decode cX1_meanSequency 53 = .ok (.ifCond .ne 7, 3) := dk_154 0 7 (dk_at dksX1_meanSequency_2 6 rfl rfl)
theorem dX1_meanSequency_56 : decode cX1_meanSequency 56 = .ok (.dconst 0, 1) := dk_14 (dk_at dksX1_meanSequency_2 9 rfl rfl)
theorem dX1_meanSequency_57 : decode cX1_meanSequency 57 = .ok (.goto 9, 3) := dk_167 0 9 (dk_at dksX1_meanSequency_2 10 rfl rfl)
theorem dX1_meanSequency_60 : decode cX1_meanSequency 60 = .ok (.lload_n 3, 1) := dk_33 (dk_at dksX1_meanSequency_2 13 rfl rfl)
theorem dX1_meanSequency_61 : decode cX1_meanSequency 61 = .ok (.l2d, 1) := dk_138 (dk_at dksX1_meanSequency_2 14 rfl rfl)
theorem dX1_meanSequency_62 : decode cX1_meanSequency 62 = .ok (.lload 5, 2) := dk_22 5 (dk_at dksX1_meanSequency_2 15 rfl rfl)
theorem dX1_meanSequency_64 : decode cX1_meanSequency 64 = .ok (.l2d, 1) := dk_138 (dk_at dksX1_meanSequency_2 17 rfl rfl)
theorem dX1_meanSequency_65 : decode cX1_meanSequency 65 = .ok (.ddiv, 1) := dk_111 (dk_at dksX1_meanSequency_2 18 rfl rfl)
theorem dX1_meanSequency_66 : decode cX1_meanSequency 66 = .ok (.dreturn, 1) := dk_175 (dk_at dksX1_meanSequency_2 19 rfl rfl)
abbrev cX1_peak : ByteArray := prog_1_method_42_code
def yX1_peak : MethodName := ⟨RX1, "peak", "(II)I"⟩
def dkwX1_peak_0 : List UInt8 := [42, 27, 28, 182, 0, 175, 182, 1, 0, 28, 46, 172]
abbrev dktX1_peak_0 : List UInt8 := dkwX1_peak_0 ++ []
theorem dksX1_peak_0 : cX1_peak.data.toList.drop 0 = dktX1_peak_0 := by decide +kernel
theorem dX1_peak_0 : decode cX1_peak 0 = .ok (.aload_n 0, 1) := dk_42 (dk_at dksX1_peak_0 0 rfl rfl)
theorem dX1_peak_1 : decode cX1_peak 1 = .ok (.iload_n 1, 1) := dk_27 (dk_at dksX1_peak_0 1 rfl rfl)
theorem dX1_peak_2 : decode cX1_peak 2 = .ok (.iload_n 2, 1) := dk_28 (dk_at dksX1_peak_0 2 rfl rfl)
theorem dX1_peak_3 : decode cX1_peak 3 = .ok (.invokevirtual 175, 3) := dk_182 0 175 (dk_at dksX1_peak_0 3 rfl rfl)
theorem dX1_peak_6 : decode cX1_peak 6 = .ok (.invokevirtual 256, 3) := dk_182 1 0 (dk_at dksX1_peak_0 6 rfl rfl)
theorem dX1_peak_9 : decode cX1_peak 9 = .ok (.iload_n 2, 1) := dk_28 (dk_at dksX1_peak_0 9 rfl rfl)
theorem dX1_peak_10 : decode cX1_peak 10 = .ok (.iaload, 1) := dk_46 (dk_at dksX1_peak_0 10 rfl rfl)
theorem dX1_peak_11 : decode cX1_peak 11 = .ok (.ireturn, 1) := dk_172 (dk_at dksX1_peak_0 11 rfl rfl)
abbrev cX1_rank : ByteArray := prog_1_method_43_code
def yX1_rank : MethodName := ⟨RX1, "rank", "(II)I"⟩
def dkwX1_rank_0 : List UInt8 := [42, 27, 28, 182, 0, 175, 28, 182, 1, 3, 172]
abbrev dktX1_rank_0 : List UInt8 := dkwX1_rank_0 ++ []
theorem dksX1_rank_0 : cX1_rank.data.toList.drop 0 = dktX1_rank_0 := by decide +kernel
theorem dX1_rank_0 : decode cX1_rank 0 = .ok (.aload_n 0, 1) := dk_42 (dk_at dksX1_rank_0 0 rfl rfl)
theorem dX1_rank_1 : decode cX1_rank 1 = .ok (.iload_n 1, 1) := dk_27 (dk_at dksX1_rank_0 1 rfl rfl)
theorem dX1_rank_2 : decode cX1_rank 2 = .ok (.iload_n 2, 1) := dk_28 (dk_at dksX1_rank_0 2 rfl rfl)
theorem dX1_rank_3 : decode cX1_rank 3 = .ok (.invokevirtual 175, 3) := dk_182 0 175 (dk_at dksX1_rank_0 3 rfl rfl)
theorem dX1_rank_6 : decode cX1_rank 6 = .ok (.iload_n 2, 1) := dk_28 (dk_at dksX1_rank_0 6 rfl rfl)
theorem dX1_rank_7 : decode cX1_rank 7 = .ok (.invokevirtual 259, 3) := dk_182 1 3 (dk_at dksX1_rank_0 7 rfl rfl)
theorem dX1_rank_10 : decode cX1_rank 10 = .ok (.ireturn, 1) := dk_172 (dk_at dksX1_rank_0 10 rfl rfl)
abbrev cX1_peaksFor : ByteArray := prog_1_method_44_code
def yX1_peaksFor : MethodName := ⟨RX1, "peaksFor", "(II)I"⟩
def dkwX1_peaksFor_0 : List UInt8 := [42, 27, 182, 0, 121, 78, 28, 3, 16, 100, 184, 0, 18, 184, 0, 73, 45, 28, 182, 1, 6, 172]
abbrev dktX1_peaksFor_0 : List UInt8 := dkwX1_peaksFor_0 ++ []
theorem dksX1_peaksFor_0 : cX1_peaksFor.data.toList.drop 0 = dktX1_peaksFor_0 := by decide +kernel
theorem dX1_peaksFor_0 : decode cX1_peaksFor 0 = .ok (.aload_n 0, 1) := dk_42 (dk_at dksX1_peaksFor_0 0 rfl rfl)
theorem dX1_peaksFor_1 : decode cX1_peaksFor 1 = .ok (.iload_n 1, 1) := dk_27 (dk_at dksX1_peaksFor_0 1 rfl rfl)
theorem dX1_peaksFor_2 : decode cX1_peaksFor 2 = .ok (.invokevirtual 121, 3) := dk_182 0 121 (dk_at dksX1_peaksFor_0 2 rfl rfl)
theorem dX1_peaksFor_5 : decode cX1_peaksFor 5 = .ok (.astore_n 3, 1) := dk_78 (dk_at dksX1_peaksFor_0 5 rfl rfl)
theorem dX1_peaksFor_6 : decode cX1_peaksFor 6 = .ok (.iload_n 2, 1) := dk_28 (dk_at dksX1_peaksFor_0 6 rfl rfl)
theorem dX1_peaksFor_7 : decode cX1_peaksFor 7 = .ok (.iconst 0, 1) := dk_3 (dk_at dksX1_peaksFor_0 7 rfl rfl)
theorem dX1_peaksFor_8 : decode cX1_peaksFor 8 = .ok (.bipush 100, 2) := dk_16 100 (dk_at dksX1_peaksFor_0 8 rfl rfl)
theorem dX1_peaksFor_10 : decode cX1_peaksFor 10 = .ok (.invokestatic 18, 3) := dk_184 0 18 (dk_at dksX1_peaksFor_0 10 rfl rfl)
theorem dX1_peaksFor_13 : decode cX1_peaksFor 13 = .ok (.invokestatic 73, 3) := dk_184 0 73 (dk_at dksX1_peaksFor_0 13 rfl rfl)
theorem dX1_peaksFor_16 : decode cX1_peaksFor 16 = .ok (.aload_n 3, 1) := dk_45 (dk_at dksX1_peaksFor_0 16 rfl rfl)
theorem dX1_peaksFor_17 : decode cX1_peaksFor 17 = .ok (.iload_n 2, 1) := dk_28 (dk_at dksX1_peaksFor_0 17 rfl rfl)
theorem dX1_peaksFor_18 : decode cX1_peaksFor 18 = .ok (.invokevirtual 262, 3) := dk_182 1 6 (dk_at dksX1_peaksFor_0 18 rfl rfl)
theorem dX1_peaksFor_21 : decode cX1_peaksFor 21 = .ok (.ireturn, 1) := dk_172 (dk_at dksX1_peaksFor_0 21 rfl rfl)
abbrev cX1_purity : ByteArray := prog_1_method_45_code
def yX1_purity : MethodName := ⟨RX1, "purity", "(I)F"⟩
def dkwX1_purity_1 : List UInt8 := [182, 1, 0, 3, 46, 182, 0, 249, 137, 33, 137, 110, 174]
abbrev dktX1_purity_1 : List UInt8 := dkwX1_purity_1 ++ []
def dkwX1_purity_0 : List UInt8 := [42, 27, 182, 0, 121, 77, 44, 182, 0, 253, 66, 33, 9, 148, 154, 0, 7, 11, 167, 0, 17, 44, 44]
abbrev dktX1_purity_0 : List UInt8 := dkwX1_purity_0 ++ dktX1_purity_1
theorem dksX1_purity_0 : cX1_purity.data.toList.drop 0 = dktX1_purity_0 := by decide +kernel
theorem dksX1_purity_1 : cX1_purity.data.toList.drop 23 = dktX1_purity_1 := dk_seg dksX1_purity_0 23 rfl rfl
theorem dX1_purity_0 : decode cX1_purity 0 = .ok (.aload_n 0, 1) := dk_42 (dk_at dksX1_purity_0 0 rfl rfl)
theorem dX1_purity_1 : decode cX1_purity 1 = .ok (.iload_n 1, 1) := dk_27 (dk_at dksX1_purity_0 1 rfl rfl)
theorem dX1_purity_2 : decode cX1_purity 2 = .ok (.invokevirtual 121, 3) := dk_182 0 121 (dk_at dksX1_purity_0 2 rfl rfl)
theorem dX1_purity_5 : decode cX1_purity 5 = .ok (.astore_n 2, 1) := dk_77 (dk_at dksX1_purity_0 5 rfl rfl)
theorem dX1_purity_6 : decode cX1_purity 6 = .ok (.aload_n 2, 1) := dk_44 (dk_at dksX1_purity_0 6 rfl rfl)
theorem dX1_purity_7 : decode cX1_purity 7 = .ok (.invokevirtual 253, 3) := dk_182 0 253 (dk_at dksX1_purity_0 7 rfl rfl)
theorem dX1_purity_10 : decode cX1_purity 10 = .ok (.lstore_n 3, 1) := dk_66 (dk_at dksX1_purity_0 10 rfl rfl)
theorem dX1_purity_11 : decode cX1_purity 11 = .ok (.lload_n 3, 1) := dk_33 (dk_at dksX1_purity_0 11 rfl rfl)
theorem dX1_purity_12 : decode cX1_purity 12 = .ok (.lconst 0, 1) := dk_9 (dk_at dksX1_purity_0 12 rfl rfl)
theorem dX1_purity_13 : decode cX1_purity 13 = .ok (.lcmp, 1) := dk_148 (dk_at dksX1_purity_0 13 rfl rfl)
theorem dX1_purity_14 : decode cX1_purity 14 = .ok (.ifCond .ne 7, 3) := dk_154 0 7 (dk_at dksX1_purity_0 14 rfl rfl)
theorem dX1_purity_17 : decode cX1_purity 17 = .ok (.fconst 0, 1) := dk_11 (dk_at dksX1_purity_0 17 rfl rfl)
theorem dX1_purity_18 : decode cX1_purity 18 = .ok (.goto 17, 3) := dk_167 0 17 (dk_at dksX1_purity_0 18 rfl rfl)
theorem dX1_purity_21 : decode cX1_purity 21 = .ok (.aload_n 2, 1) := dk_44 (dk_at dksX1_purity_0 21 rfl rfl)
theorem dX1_purity_22 : decode cX1_purity 22 = .ok (.aload_n 2, 1) := dk_44 (dk_at dksX1_purity_0 22 rfl rfl)
theorem dX1_purity_23 : decode cX1_purity 23 = .ok (.invokevirtual 256, 3) := dk_182 1 0 (dk_at dksX1_purity_1 0 rfl rfl)
theorem dX1_purity_26 : decode cX1_purity 26 = .ok (.iconst 0, 1) := dk_3 (dk_at dksX1_purity_1 3 rfl rfl)
theorem dX1_purity_27 : decode cX1_purity 27 = .ok (.iaload, 1) := dk_46 (dk_at dksX1_purity_1 4 rfl rfl)
theorem dX1_purity_28 : decode cX1_purity 28 = .ok (.invokevirtual 249, 3) := dk_182 0 249 (dk_at dksX1_purity_1 5 rfl rfl)
theorem dX1_purity_31 : decode cX1_purity 31 = .ok (.l2f, 1) := dk_137 (dk_at dksX1_purity_1 8 rfl rfl)
theorem dX1_purity_32 : decode cX1_purity 32 = .ok (.lload_n 3, 1) := dk_33 (dk_at dksX1_purity_1 9 rfl rfl)
theorem dX1_purity_33 : decode cX1_purity 33 = .ok (.l2f, 1) := dk_137 (dk_at dksX1_purity_1 10 rfl rfl)
theorem dX1_purity_34 : decode cX1_purity 34 = .ok (.fdiv, 1) := dk_110 (dk_at dksX1_purity_1 11 rfl rfl)
theorem dX1_purity_35 : decode cX1_purity 35 = .ok (.freturn, 1) := dk_174 (dk_at dksX1_purity_1 12 rfl rfl)
abbrev cX1_distance : ByteArray := prog_1_method_47_code
def yX1_distance : MethodName := ⟨RX1, "distance", "(II)I"⟩
def dkwX1_distance_0 : List UInt8 := [42, 27, 28, 182, 1, 9, 78, 42, 27, 182, 0, 121, 45, 182, 1, 12, 172]
abbrev dktX1_distance_0 : List UInt8 := dkwX1_distance_0 ++ []
theorem dksX1_distance_0 : cX1_distance.data.toList.drop 0 = dktX1_distance_0 := by decide +kernel
theorem dX1_distance_0 : decode cX1_distance 0 = .ok (.aload_n 0, 1) := dk_42 (dk_at dksX1_distance_0 0 rfl rfl)
theorem dX1_distance_1 : decode cX1_distance 1 = .ok (.iload_n 1, 1) := dk_27 (dk_at dksX1_distance_0 1 rfl rfl)
theorem dX1_distance_2 : decode cX1_distance 2 = .ok (.iload_n 2, 1) := dk_28 (dk_at dksX1_distance_0 2 rfl rfl)
theorem dX1_distance_3 : decode cX1_distance 3 = .ok (.invokevirtual 265, 3) := dk_182 1 9 (dk_at dksX1_distance_0 3 rfl rfl)
theorem dX1_distance_6 : decode cX1_distance 6 = .ok (.astore_n 3, 1) := dk_78 (dk_at dksX1_distance_0 6 rfl rfl)
theorem dX1_distance_7 : decode cX1_distance 7 = .ok (.aload_n 0, 1) := dk_42 (dk_at dksX1_distance_0 7 rfl rfl)
theorem dX1_distance_8 : decode cX1_distance 8 = .ok (.iload_n 1, 1) := dk_27 (dk_at dksX1_distance_0 8 rfl rfl)
theorem dX1_distance_9 : decode cX1_distance 9 = .ok (.invokevirtual 121, 3) := dk_182 0 121 (dk_at dksX1_distance_0 9 rfl rfl)
theorem dX1_distance_12 : decode cX1_distance 12 = .ok (.aload_n 3, 1) := dk_45 (dk_at dksX1_distance_0 12 rfl rfl)
theorem dX1_distance_13 : decode cX1_distance 13 = .ok (.invokevirtual 268, 3) := dk_182 1 12 (dk_at dksX1_distance_0 13 rfl rfl)
theorem dX1_distance_16 : decode cX1_distance 16 = .ok (.ireturn, 1) := dk_172 (dk_at dksX1_distance_0 16 rfl rfl)
abbrev cX1_getSameLength : ByteArray := prog_1_method_46_code
def yX1_getSameLength : MethodName := ⟨RX1, "getSameLength", "(II)LWalshAnalyzer$Recording;"⟩
def dkwX1_getSameLength_1 : List UInt8 := [160, 0, 7, 4, 167, 0, 4, 3, 184, 0, 73, 25, 4, 176]
abbrev dktX1_getSameLength_1 : List UInt8 := dkwX1_getSameLength_1 ++ []
def dkwX1_getSameLength_0 : List UInt8 := [42, 27, 182, 0, 121, 78, 42, 28, 182, 0, 121, 58, 4, 45, 182, 0, 148, 25, 4, 182, 0, 148]
abbrev dktX1_getSameLength_0 : List UInt8 := dkwX1_getSameLength_0 ++ dktX1_getSameLength_1
theorem dksX1_getSameLength_0 : cX1_getSameLength.data.toList.drop 0 = dktX1_getSameLength_0 := by decide +kernel
theorem dksX1_getSameLength_1 : cX1_getSameLength.data.toList.drop 22 = dktX1_getSameLength_1 := dk_seg dksX1_getSameLength_0 22 rfl rfl
theorem dX1_getSameLength_0 : decode cX1_getSameLength 0 = .ok (.aload_n 0, 1) := dk_42 (dk_at dksX1_getSameLength_0 0 rfl rfl)
theorem dX1_getSameLength_1 : decode cX1_getSameLength 1 = .ok (.iload_n 1, 1) := dk_27 (dk_at dksX1_getSameLength_0 1 rfl rfl)
theorem dX1_getSameLength_2 : decode cX1_getSameLength 2 = .ok (.invokevirtual 121, 3) := dk_182 0 121 (dk_at dksX1_getSameLength_0 2 rfl rfl)
theorem dX1_getSameLength_5 : decode cX1_getSameLength 5 = .ok (.astore_n 3, 1) := dk_78 (dk_at dksX1_getSameLength_0 5 rfl rfl)
theorem dX1_getSameLength_6 : decode cX1_getSameLength 6 = .ok (.aload_n 0, 1) := dk_42 (dk_at dksX1_getSameLength_0 6 rfl rfl)
theorem dX1_getSameLength_7 : decode cX1_getSameLength 7 = .ok (.iload_n 2, 1) := dk_28 (dk_at dksX1_getSameLength_0 7 rfl rfl)
theorem dX1_getSameLength_8 : decode cX1_getSameLength 8 = .ok (.invokevirtual 121, 3) := dk_182 0 121 (dk_at dksX1_getSameLength_0 8 rfl rfl)
theorem dX1_getSameLength_11 : decode cX1_getSameLength 11 = .ok (.astore 4, 2) := dk_58 4 (dk_at dksX1_getSameLength_0 11 rfl rfl)
theorem dX1_getSameLength_13 : decode cX1_getSameLength 13 = .ok (.aload_n 3, 1) := dk_45 (dk_at dksX1_getSameLength_0 13 rfl rfl)
theorem dX1_getSameLength_14 : decode cX1_getSameLength 14 = .ok (.invokevirtual 148, 3) := dk_182 0 148 (dk_at dksX1_getSameLength_0 14 rfl rfl)
theorem dX1_getSameLength_17 : decode cX1_getSameLength 17 = .ok (.aload 4, 2) := dk_25 4 (dk_at dksX1_getSameLength_0 17 rfl rfl)
theorem dX1_getSameLength_19 : decode cX1_getSameLength 19 = .ok (.invokevirtual 148, 3) := dk_182 0 148 (dk_at dksX1_getSameLength_0 19 rfl rfl)
theorem dX1_getSameLength_22 : decode cX1_getSameLength 22 = .ok (.if_icmp .ne 7, 3) := dk_160 0 7 (dk_at dksX1_getSameLength_1 0 rfl rfl)
theorem dX1_getSameLength_25 : decode cX1_getSameLength 25 = .ok (.iconst 1, 1) := dk_4 (dk_at dksX1_getSameLength_1 3 rfl rfl)
theorem dX1_getSameLength_26 : decode cX1_getSameLength 26 = .ok (.goto 4, 3) := dk_167 0 4 (dk_at dksX1_getSameLength_1 4 rfl rfl)
theorem dX1_getSameLength_29 : decode cX1_getSameLength 29 = .ok (.iconst 0, 1) := dk_3 (dk_at dksX1_getSameLength_1 7 rfl rfl)
theorem dX1_getSameLength_30 : decode cX1_getSameLength 30 = .ok (.invokestatic 73, 3) := dk_184 0 73 (dk_at dksX1_getSameLength_1 8 rfl rfl)
theorem dX1_getSameLength_33 : decode cX1_getSameLength 33 = .ok (.aload 4, 2) := dk_25 4 (dk_at dksX1_getSameLength_1 11 rfl rfl)
theorem dX1_getSameLength_35 : decode cX1_getSameLength 35 = .ok (.areturn, 1) := dk_176 (dk_at dksX1_getSameLength_1 13 rfl rfl)
abbrev cX1_similarity : ByteArray := prog_1_method_48_code
def yX1_similarity : MethodName := ⟨RX1, "similarity", "(II)D"⟩
def dkwX1_similarity_2 : List UInt8 := [22, 5, 138, 111, 175]
abbrev dktX1_similarity_2 : List UInt8 := dkwX1_similarity_2 ++ []
def dkwX1_similarity_1 : List UInt8 := [184, 1, 16, 55, 5, 22, 5, 9, 148, 154, 0, 7, 14, 167, 0, 15, 25, 4, 45, 3, 182, 1, 19, 138]
abbrev dktX1_similarity_1 : List UInt8 := dkwX1_similarity_1 ++ dktX1_similarity_2
def dkwX1_similarity_0 : List UInt8 := [42, 27, 28, 182, 1, 9, 78, 42, 27, 182, 0, 121, 58, 4, 25, 4, 182, 0, 182, 45, 182, 0, 182]
abbrev dktX1_similarity_0 : List UInt8 := dkwX1_similarity_0 ++ dktX1_similarity_1
theorem dksX1_similarity_0 : cX1_similarity.data.toList.drop 0 = dktX1_similarity_0 := by decide +kernel
theorem dksX1_similarity_1 : cX1_similarity.data.toList.drop 23 = dktX1_similarity_1 := dk_seg dksX1_similarity_0 23 rfl rfl
theorem dksX1_similarity_2 : cX1_similarity.data.toList.drop 47 = dktX1_similarity_2 := dk_seg dksX1_similarity_1 24 rfl rfl
theorem dX1_similarity_0 : decode cX1_similarity 0 = .ok (.aload_n 0, 1) := dk_42 (dk_at dksX1_similarity_0 0 rfl rfl)
theorem dX1_similarity_1 : decode cX1_similarity 1 = .ok (.iload_n 1, 1) := dk_27 (dk_at dksX1_similarity_0 1 rfl rfl)
theorem dX1_similarity_2 : decode cX1_similarity 2 = .ok (.iload_n 2, 1) := dk_28 (dk_at dksX1_similarity_0 2 rfl rfl)
theorem dX1_similarity_3 : decode cX1_similarity 3 = .ok (.invokevirtual 265, 3) := dk_182 1 9 (dk_at dksX1_similarity_0 3 rfl rfl)
theorem dX1_similarity_6 : decode cX1_similarity 6 = .ok (.astore_n 3, 1) := dk_78 (dk_at dksX1_similarity_0 6 rfl rfl)
theorem dX1_similarity_7 : decode cX1_similarity 7 = .ok (.aload_n 0, 1) := dk_42 (dk_at dksX1_similarity_0 7 rfl rfl)
theorem dX1_similarity_8 : decode cX1_similarity 8 = .ok (.iload_n 1, 1) := dk_27 (dk_at dksX1_similarity_0 8 rfl rfl)
theorem dX1_similarity_9 : decode cX1_similarity 9 = .ok (.invokevirtual 121, 3) := dk_182 0 121 (dk_at dksX1_similarity_0 9 rfl rfl)
theorem dX1_similarity_12 : decode cX1_similarity 12 = .ok (.astore 4, 2) := dk_58 4 (dk_at dksX1_similarity_0 12 rfl rfl)
theorem dX1_similarity_14 : decode cX1_similarity 14 = .ok (.aload 4, 2) := dk_25 4 (dk_at dksX1_similarity_0 14 rfl rfl)
theorem dX1_similarity_16 : decode cX1_similarity 16 = .ok (.invokevirtual 182, 3) := dk_182 0 182 (dk_at dksX1_similarity_0 16 rfl rfl)
theorem dX1_similarity_19 : decode cX1_similarity 19 = .ok (.aload_n 3, 1) := dk_45 (dk_at dksX1_similarity_0 19 rfl rfl)
theorem dX1_similarity_20 : decode cX1_similarity 20 = .ok (.invokevirtual 182, 3) := dk_182 0 182 (dk_at dksX1_similarity_0 20 rfl rfl)
theorem dX1_similarity_23 : decode cX1_similarity 23 = .ok (.invokestatic 272, 3) := dk_184 1 16 (dk_at dksX1_similarity_1 0 rfl rfl)
theorem dX1_similarity_26 : decode cX1_similarity 26 = .ok (.lstore 5, 2) := dk_55 5 (dk_at dksX1_similarity_1 3 rfl rfl)
theorem dX1_similarity_28 : decode cX1_similarity 28 = .ok (.lload 5, 2) := dk_22 5 (dk_at dksX1_similarity_1 5 rfl rfl)
theorem dX1_similarity_30 : decode cX1_similarity 30 = .ok (.lconst 0, 1) := dk_9 (dk_at dksX1_similarity_1 7 rfl rfl)
theorem dX1_similarity_31 : decode cX1_similarity 31 = .ok (.lcmp, 1) := dk_148 (dk_at dksX1_similarity_1 8 rfl rfl)
theorem dX1_similarity_32 : decode cX1_similarity 32 = .ok (.ifCond .ne 7, 3) := dk_154 0 7 (dk_at dksX1_similarity_1 9 rfl rfl)
theorem dX1_similarity_35 : decode cX1_similarity 35 = .ok (.dconst 0, 1) := dk_14 (dk_at dksX1_similarity_1 12 rfl rfl)
theorem dX1_similarity_36 : decode cX1_similarity 36 = .ok (.goto 15, 3) := dk_167 0 15 (dk_at dksX1_similarity_1 13 rfl rfl)
theorem dX1_similarity_39 : decode cX1_similarity 39 = .ok (.aload 4, 2) := dk_25 4 (dk_at dksX1_similarity_1 16 rfl rfl)
theorem dX1_similarity_41 : decode cX1_similarity 41 = .ok (.aload_n 3, 1) := dk_45 (dk_at dksX1_similarity_1 18 rfl rfl)
theorem dX1_similarity_42 : decode cX1_similarity 42 = .ok (.iconst 0, 1) := dk_3 (dk_at dksX1_similarity_1 19 rfl rfl)
theorem dX1_similarity_43 : decode cX1_similarity 43 = .ok (.invokevirtual 275, 3) := dk_182 1 19 (dk_at dksX1_similarity_1 20 rfl rfl)
theorem dX1_similarity_46 : decode cX1_similarity 46 = .ok (.l2d, 1) := dk_138 (dk_at dksX1_similarity_1 23 rfl rfl)
theorem dX1_similarity_47 : decode cX1_similarity 47 = .ok (.lload 5, 2) := dk_22 5 (dk_at dksX1_similarity_2 0 rfl rfl)
theorem dX1_similarity_49 : decode cX1_similarity 49 = .ok (.l2d, 1) := dk_138 (dk_at dksX1_similarity_2 2 rfl rfl)
theorem dX1_similarity_50 : decode cX1_similarity 50 = .ok (.ddiv, 1) := dk_111 (dk_at dksX1_similarity_2 3 rfl rfl)
theorem dX1_similarity_51 : decode cX1_similarity 51 = .ok (.dreturn, 1) := dk_175 (dk_at dksX1_similarity_2 4 rfl rfl)
abbrev cX1_nearest : ByteArray := prog_1_method_49_code
def yX1_nearest : MethodName := ⟨RX1, "nearest", "(I)I"⟩
def dkwX1_nearest_5 : List UInt8 := [172]
abbrev dktX1_nearest_5 : List UInt8 := dkwX1_nearest_5 ++ []
def dkwX1_nearest_4 : List UInt8 := [21, 7, 54, 4, 132, 5, 1, 167, 255, 170, 29, 2, 159, 0, 7, 4, 167, 0, 4, 3, 184, 0, 204, 29]
abbrev dktX1_nearest_4 : List UInt8 := dkwX1_nearest_4 ++ dktX1_nearest_5
def dkwX1_nearest_3 : List UInt8 := [182, 1, 12, 54, 7, 29, 2, 159, 0, 13, 21, 7, 21, 4, 161, 0, 6, 167, 0, 10, 21, 5, 62]
abbrev dktX1_nearest_3 : List UInt8 := dkwX1_nearest_3 ++ dktX1_nearest_4
def dkwX1_nearest_2 : List UInt8 := [21, 5, 27, 159, 0, 48, 25, 6, 182, 0, 148, 44, 182, 0, 148, 159, 0, 6, 167, 0, 33, 44, 25, 6]
abbrev dktX1_nearest_2 : List UInt8 := dkwX1_nearest_2 ++ dktX1_nearest_3
def dkwX1_nearest_1 : List UInt8 := [182, 0, 106, 162, 0, 77, 42, 180, 0, 45, 180, 0, 102, 21, 5, 182, 0, 115, 192, 0, 119, 58, 6]
abbrev dktX1_nearest_1 : List UInt8 := dkwX1_nearest_1 ++ dktX1_nearest_2
def dkwX1_nearest_0 : List UInt8 := [42, 27, 182, 0, 121, 77, 2, 62, 3, 54, 4, 3, 54, 5, 21, 5, 42, 180, 0, 45, 180, 0, 102]
abbrev dktX1_nearest_0 : List UInt8 := dkwX1_nearest_0 ++ dktX1_nearest_1
theorem dksX1_nearest_0 : cX1_nearest.data.toList.drop 0 = dktX1_nearest_0 := by decide +kernel
theorem dksX1_nearest_1 : cX1_nearest.data.toList.drop 23 = dktX1_nearest_1 := dk_seg dksX1_nearest_0 23 rfl rfl
theorem dksX1_nearest_2 : cX1_nearest.data.toList.drop 46 = dktX1_nearest_2 := dk_seg dksX1_nearest_1 23 rfl rfl
theorem dksX1_nearest_3 : cX1_nearest.data.toList.drop 70 = dktX1_nearest_3 := dk_seg dksX1_nearest_2 24 rfl rfl
theorem dksX1_nearest_4 : cX1_nearest.data.toList.drop 93 = dktX1_nearest_4 := dk_seg dksX1_nearest_3 23 rfl rfl
theorem dksX1_nearest_5 : cX1_nearest.data.toList.drop 117 = dktX1_nearest_5 := dk_seg dksX1_nearest_4 24 rfl rfl
theorem dX1_nearest_0 : decode cX1_nearest 0 = .ok (.aload_n 0, 1) := dk_42 (dk_at dksX1_nearest_0 0 rfl rfl)
theorem dX1_nearest_1 : decode cX1_nearest 1 = .ok (.iload_n 1, 1) := dk_27 (dk_at dksX1_nearest_0 1 rfl rfl)
theorem dX1_nearest_2 : decode cX1_nearest 2 = .ok (.invokevirtual 121, 3) := dk_182 0 121 (dk_at dksX1_nearest_0 2 rfl rfl)
theorem dX1_nearest_5 : decode cX1_nearest 5 = .ok (.astore_n 2, 1) := dk_77 (dk_at dksX1_nearest_0 5 rfl rfl)
theorem dX1_nearest_6 : decode cX1_nearest 6 = .ok (.iconst (-1), 1) := dk_2 (dk_at dksX1_nearest_0 6 rfl rfl)
theorem dX1_nearest_7 : decode cX1_nearest 7 = .ok (.istore_n 3, 1) := dk_62 (dk_at dksX1_nearest_0 7 rfl rfl)
theorem dX1_nearest_8 : decode cX1_nearest 8 = .ok (.iconst 0, 1) := dk_3 (dk_at dksX1_nearest_0 8 rfl rfl)
theorem dX1_nearest_9 : decode cX1_nearest 9 = .ok (.istore 4, 2) := dk_54 4 (dk_at dksX1_nearest_0 9 rfl rfl)
theorem dX1_nearest_11 : decode cX1_nearest 11 = .ok (.iconst 0, 1) := dk_3 (dk_at dksX1_nearest_0 11 rfl rfl)
theorem dX1_nearest_12 : decode cX1_nearest 12 = .ok (.istore 5, 2) := dk_54 5 (dk_at dksX1_nearest_0 12 rfl rfl)
theorem dX1_nearest_14 : decode cX1_nearest 14 = .ok (.iload 5, 2) := dk_21 5 (dk_at dksX1_nearest_0 14 rfl rfl)
theorem dX1_nearest_16 : decode cX1_nearest 16 = .ok (.aload_n 0, 1) := dk_42 (dk_at dksX1_nearest_0 16 rfl rfl)
theorem dX1_nearest_17 : decode cX1_nearest 17 = .ok (.getfield 45, 3) := dk_180 0 45 (dk_at dksX1_nearest_0 17 rfl rfl)
theorem dX1_nearest_20 : decode cX1_nearest 20 = .ok (.getfield 102, 3) := dk_180 0 102 (dk_at dksX1_nearest_0 20 rfl rfl)
theorem dX1_nearest_23 : decode cX1_nearest 23 = .ok (.invokevirtual 106, 3) := dk_182 0 106 (dk_at dksX1_nearest_1 0 rfl rfl)
theorem dX1_nearest_26 : decode cX1_nearest 26 = .ok (.if_icmp .ge 77, 3) := dk_162 0 77 (dk_at dksX1_nearest_1 3 rfl rfl)
theorem dX1_nearest_29 : decode cX1_nearest 29 = .ok (.aload_n 0, 1) := dk_42 (dk_at dksX1_nearest_1 6 rfl rfl)
theorem dX1_nearest_30 : decode cX1_nearest 30 = .ok (.getfield 45, 3) := dk_180 0 45 (dk_at dksX1_nearest_1 7 rfl rfl)
theorem dX1_nearest_33 : decode cX1_nearest 33 = .ok (.getfield 102, 3) := dk_180 0 102 (dk_at dksX1_nearest_1 10 rfl rfl)
theorem dX1_nearest_36 : decode cX1_nearest 36 = .ok (.iload 5, 2) := dk_21 5 (dk_at dksX1_nearest_1 13 rfl rfl)
theorem dX1_nearest_38 : decode cX1_nearest 38 = .ok (.invokevirtual 115, 3) := dk_182 0 115 (dk_at dksX1_nearest_1 15 rfl rfl)
theorem dX1_nearest_41 : decode cX1_nearest 41 = .ok (.checkcast 119, 3) := dk_192 0 119 (dk_at dksX1_nearest_1 18 rfl rfl)
theorem dX1_nearest_44 : decode cX1_nearest 44 = .ok (.astore 6, 2) := dk_58 6 (dk_at dksX1_nearest_1 21 rfl rfl)
theorem dX1_nearest_46 : decode cX1_nearest 46 = .ok (.iload 5, 2) := dk_21 5 (dk_at dksX1_nearest_2 0 rfl rfl)
theorem dX1_nearest_48 : decode cX1_nearest 48 = .ok (.iload_n 1, 1) := dk_27 (dk_at dksX1_nearest_2 2 rfl rfl)
theorem dX1_nearest_49 : decode cX1_nearest 49 = .ok (.if_icmp .eq 48, 3) := dk_159 0 48 (dk_at dksX1_nearest_2 3 rfl rfl)
theorem dX1_nearest_52 : decode cX1_nearest 52 = .ok (.aload 6, 2) := dk_25 6 (dk_at dksX1_nearest_2 6 rfl rfl)
theorem dX1_nearest_54 : decode cX1_nearest 54 = .ok (.invokevirtual 148, 3) := dk_182 0 148 (dk_at dksX1_nearest_2 8 rfl rfl)
theorem dX1_nearest_57 : decode cX1_nearest 57 = .ok (.aload_n 2, 1) := dk_44 (dk_at dksX1_nearest_2 11 rfl rfl)
theorem dX1_nearest_58 : decode cX1_nearest 58 = .ok (.invokevirtual 148, 3) := dk_182 0 148 (dk_at dksX1_nearest_2 12 rfl rfl)
theorem dX1_nearest_61 : decode cX1_nearest 61 = .ok (.if_icmp .eq 6, 3) := dk_159 0 6 (dk_at dksX1_nearest_2 15 rfl rfl)
theorem dX1_nearest_64 : decode cX1_nearest 64 = .ok (.goto 33, 3) := dk_167 0 33 (dk_at dksX1_nearest_2 18 rfl rfl)
theorem dX1_nearest_67 : decode cX1_nearest 67 = .ok (.aload_n 2, 1) := dk_44 (dk_at dksX1_nearest_2 21 rfl rfl)
theorem dX1_nearest_68 : decode cX1_nearest 68 = .ok (.aload 6, 2) := dk_25 6 (dk_at dksX1_nearest_2 22 rfl rfl)
theorem dX1_nearest_70 : decode cX1_nearest 70 = .ok (.invokevirtual 268, 3) := dk_182 1 12 (dk_at dksX1_nearest_3 0 rfl rfl)
theorem dX1_nearest_73 : decode cX1_nearest 73 = .ok (.istore 7, 2) := dk_54 7 (dk_at dksX1_nearest_3 3 rfl rfl)
theorem dX1_nearest_75 : decode cX1_nearest 75 = .ok (.iload_n 3, 1) := dk_29 (dk_at dksX1_nearest_3 5 rfl rfl)
theorem dX1_nearest_76 : decode cX1_nearest 76 = .ok (.iconst (-1), 1) := dk_2 (dk_at dksX1_nearest_3 6 rfl rfl)
theorem dX1_nearest_77 : decode cX1_nearest 77 = .ok (.if_icmp .eq 13, 3) := dk_159 0 13 (dk_at dksX1_nearest_3 7 rfl rfl)
theorem dX1_nearest_80 : decode cX1_nearest 80 = .ok (.iload 7, 2) := dk_21 7 (dk_at dksX1_nearest_3 10 rfl rfl)
theorem dX1_nearest_82 : decode cX1_nearest 82 = .ok (.iload 4, 2) := dk_21 4 (dk_at dksX1_nearest_3 12 rfl rfl)
theorem dX1_nearest_84 : decode cX1_nearest 84 = .ok (.if_icmp .lt 6, 3) := dk_161 0 6 (dk_at dksX1_nearest_3 14 rfl rfl)
theorem dX1_nearest_87 : decode cX1_nearest 87 = .ok (.goto 10, 3) := dk_167 0 10 (dk_at dksX1_nearest_3 17 rfl rfl)
theorem dX1_nearest_90 : decode cX1_nearest 90 = .ok (.iload 5, 2) := dk_21 5 (dk_at dksX1_nearest_3 20 rfl rfl)
theorem dX1_nearest_92 : decode cX1_nearest 92 = .ok (.istore_n 3, 1) := dk_62 (dk_at dksX1_nearest_3 22 rfl rfl)
theorem dX1_nearest_93 : decode cX1_nearest 93 = .ok (.iload 7, 2) := dk_21 7 (dk_at dksX1_nearest_4 0 rfl rfl)
theorem dX1_nearest_95 : decode cX1_nearest 95 = .ok (.istore 4, 2) := dk_54 4 (dk_at dksX1_nearest_4 2 rfl rfl)
theorem dX1_nearest_97 : decode cX1_nearest 97 = .ok (.iinc 5 1, 3) := dk_132 5 1 (dk_at dksX1_nearest_4 4 rfl rfl)
theorem dX1_nearest_100 : decode cX1_nearest 100 = .ok (.goto (-86), 3) := dk_167 255 170 (dk_at dksX1_nearest_4 7 rfl rfl)
theorem dX1_nearest_103 : decode cX1_nearest 103 = .ok (.iload_n 3, 1) := dk_29 (dk_at dksX1_nearest_4 10 rfl rfl)
theorem dX1_nearest_104 : decode cX1_nearest 104 = .ok (.iconst (-1), 1) := dk_2 (dk_at dksX1_nearest_4 11 rfl rfl)
theorem dX1_nearest_105 : decode cX1_nearest 105 = .ok (.if_icmp .eq 7, 3) := dk_159 0 7 (dk_at dksX1_nearest_4 12 rfl rfl)
theorem dX1_nearest_108 : decode cX1_nearest 108 = .ok (.iconst 1, 1) := dk_4 (dk_at dksX1_nearest_4 15 rfl rfl)
theorem dX1_nearest_109 : decode cX1_nearest 109 = .ok (.goto 4, 3) := dk_167 0 4 (dk_at dksX1_nearest_4 16 rfl rfl)
theorem dX1_nearest_112 : decode cX1_nearest 112 = .ok (.iconst 0, 1) := dk_3 (dk_at dksX1_nearest_4 19 rfl rfl)
theorem dX1_nearest_113 : decode cX1_nearest 113 = .ok (.invokestatic 204, 3) := dk_184 0 204 (dk_at dksX1_nearest_4 20 rfl rfl)
theorem dX1_nearest_116 : decode cX1_nearest 116 = .ok (.iload_n 3, 1) := dk_29 (dk_at dksX1_nearest_4 23 rfl rfl)
theorem dX1_nearest_117 : decode cX1_nearest 117 = .ok (.ireturn, 1) := dk_172 (dk_at dksX1_nearest_5 0 rfl rfl)
abbrev cX1_correlation : ByteArray := prog_1_method_50_code
def yX1_correlation : MethodName := ⟨RX1, "correlation", "(III)J"⟩
def dkwX1_correlation_1 : List UInt8 := [29, 182, 1, 19, 173]
abbrev dktX1_correlation_1 : List UInt8 := dkwX1_correlation_1 ++ []
def dkwX1_correlation_0 : List UInt8 := [42, 27, 28, 182, 1, 9, 58, 4, 25, 4, 29, 182, 0, 124, 184, 0, 73, 42, 27, 182, 0, 121, 25, 4]
abbrev dktX1_correlation_0 : List UInt8 := dkwX1_correlation_0 ++ dktX1_correlation_1
theorem dksX1_correlation_0 : cX1_correlation.data.toList.drop 0 = dktX1_correlation_0 := by decide +kernel
theorem dksX1_correlation_1 : cX1_correlation.data.toList.drop 24 = dktX1_correlation_1 := dk_seg dksX1_correlation_0 24 rfl rfl
theorem dX1_correlation_0 : decode cX1_correlation 0 = .ok (.aload_n 0, 1) := dk_42 (dk_at dksX1_correlation_0 0 rfl rfl)
theorem dX1_correlation_1 : decode cX1_correlation 1 = .ok (.iload_n 1, 1) := dk_27 (dk_at dksX1_correlation_0 1 rfl rfl)
theorem dX1_correlation_2 : decode cX1_correlation 2 = .ok (.iload_n 2, 1) := dk_28 (dk_at dksX1_correlation_0 2 rfl rfl)
theorem dX1_correlation_3 : decode cX1_correlation 3 = .ok (.invokevirtual 265, 3) := dk_182 1 9 (dk_at dksX1_correlation_0 3 rfl rfl)
theorem dX1_correlation_6 : decode cX1_correlation 6 = .ok (.astore 4, 2) := dk_58 4 (dk_at dksX1_correlation_0 6 rfl rfl)
theorem dX1_correlation_8 : decode cX1_correlation 8 = .ok (.aload 4, 2) := dk_25 4 (dk_at dksX1_correlation_0 8 rfl rfl)
theorem dX1_correlation_10 : decode cX1_correlation 10 = .ok (.iload_n 3, 1) := dk_29 (dk_at dksX1_correlation_0 10 rfl rfl)
theorem dX1_correlation_11 : decode cX1_correlation 11 = .ok (.invokevirtual 124, 3) := dk_182 0 124 (dk_at dksX1_correlation_0 11 rfl rfl)
theorem dX1_correlation_14 : decode cX1_correlation 14 = .ok (.invokestatic 73, 3) := dk_184 0 73 (dk_at dksX1_correlation_0 14 rfl rfl)
theorem dX1_correlation_17 : decode cX1_correlation 17 = .ok (.aload_n 0, 1) := dk_42 (dk_at dksX1_correlation_0 17 rfl rfl)
theorem dX1_correlation_18 : decode cX1_correlation 18 = .ok (.iload_n 1, 1) := dk_27 (dk_at dksX1_correlation_0 18 rfl rfl)
theorem dX1_correlation_19 : decode cX1_correlation 19 = .ok (.invokevirtual 121, 3) := dk_182 0 121 (dk_at dksX1_correlation_0 19 rfl rfl)
theorem dX1_correlation_22 : decode cX1_correlation 22 = .ok (.aload 4, 2) := dk_25 4 (dk_at dksX1_correlation_0 22 rfl rfl)
theorem dX1_correlation_24 : decode cX1_correlation 24 = .ok (.iload_n 3, 1) := dk_29 (dk_at dksX1_correlation_1 0 rfl rfl)
theorem dX1_correlation_25 : decode cX1_correlation 25 = .ok (.invokevirtual 275, 3) := dk_182 1 19 (dk_at dksX1_correlation_1 1 rfl rfl)
theorem dX1_correlation_28 : decode cX1_correlation 28 = .ok (.lreturn, 1) := dk_173 (dk_at dksX1_correlation_1 4 rfl rfl)
abbrev cX1_bestShift : ByteArray := prog_1_method_51_code
def yX1_bestShift : MethodName := ⟨RX1, "bestShift", "(II)I"⟩
def dkwX1_bestShift_0 : List UInt8 := [42, 27, 28, 182, 1, 9, 78, 42, 27, 182, 0, 121, 45, 182, 1, 23, 172]
abbrev dktX1_bestShift_0 : List UInt8 := dkwX1_bestShift_0 ++ []
theorem dksX1_bestShift_0 : cX1_bestShift.data.toList.drop 0 = dktX1_bestShift_0 := by decide +kernel
theorem dX1_bestShift_0 : decode cX1_bestShift 0 = .ok (.aload_n 0, 1) := dk_42 (dk_at dksX1_bestShift_0 0 rfl rfl)
theorem dX1_bestShift_1 : decode cX1_bestShift 1 = .ok (.iload_n 1, 1) := dk_27 (dk_at dksX1_bestShift_0 1 rfl rfl)
theorem dX1_bestShift_2 : decode cX1_bestShift 2 = .ok (.iload_n 2, 1) := dk_28 (dk_at dksX1_bestShift_0 2 rfl rfl)
theorem dX1_bestShift_3 : decode cX1_bestShift 3 = .ok (.invokevirtual 265, 3) := dk_182 1 9 (dk_at dksX1_bestShift_0 3 rfl rfl)
theorem dX1_bestShift_6 : decode cX1_bestShift 6 = .ok (.astore_n 3, 1) := dk_78 (dk_at dksX1_bestShift_0 6 rfl rfl)
theorem dX1_bestShift_7 : decode cX1_bestShift 7 = .ok (.aload_n 0, 1) := dk_42 (dk_at dksX1_bestShift_0 7 rfl rfl)
theorem dX1_bestShift_8 : decode cX1_bestShift 8 = .ok (.iload_n 1, 1) := dk_27 (dk_at dksX1_bestShift_0 8 rfl rfl)
theorem dX1_bestShift_9 : decode cX1_bestShift 9 = .ok (.invokevirtual 121, 3) := dk_182 0 121 (dk_at dksX1_bestShift_0 9 rfl rfl)
theorem dX1_bestShift_12 : decode cX1_bestShift 12 = .ok (.aload_n 3, 1) := dk_45 (dk_at dksX1_bestShift_0 12 rfl rfl)
theorem dX1_bestShift_13 : decode cX1_bestShift 13 = .ok (.invokevirtual 279, 3) := dk_182 1 23 (dk_at dksX1_bestShift_0 13 rfl rfl)
theorem dX1_bestShift_16 : decode cX1_bestShift 16 = .ok (.ireturn, 1) := dk_172 (dk_at dksX1_bestShift_0 16 rfl rfl)
abbrev cX1_commonPeaks : ByteArray := prog_1_method_53_code
def yX1_commonPeaks : MethodName := ⟨RX1, "commonPeaks", "(III)I"⟩
def dkwX1_commonPeaks_1 : List UInt8 := [182, 1, 30, 172]
abbrev dktX1_commonPeaks_1 : List UInt8 := dkwX1_commonPeaks_1 ++ []
def dkwX1_commonPeaks_0 : List UInt8 := [42, 27, 28, 182, 1, 9, 58, 4, 25, 4, 29, 184, 1, 26, 42, 27, 182, 0, 121, 25, 4, 29]
abbrev dktX1_commonPeaks_0 : List UInt8 := dkwX1_commonPeaks_0 ++ dktX1_commonPeaks_1
theorem dksX1_commonPeaks_0 : cX1_commonPeaks.data.toList.drop 0 = dktX1_commonPeaks_0 := by decide +kernel
theorem dksX1_commonPeaks_1 : cX1_commonPeaks.data.toList.drop 22 = dktX1_commonPeaks_1 := dk_seg dksX1_commonPeaks_0 22 rfl rfl
theorem dX1_commonPeaks_0 : decode cX1_commonPeaks 0 = .ok (.aload_n 0, 1) := dk_42 (dk_at dksX1_commonPeaks_0 0 rfl rfl)
theorem dX1_commonPeaks_1 : decode cX1_commonPeaks 1 = .ok (.iload_n 1, 1) := dk_27 (dk_at dksX1_commonPeaks_0 1 rfl rfl)
theorem dX1_commonPeaks_2 : decode cX1_commonPeaks 2 = .ok (.iload_n 2, 1) := dk_28 (dk_at dksX1_commonPeaks_0 2 rfl rfl)
theorem dX1_commonPeaks_3 : decode cX1_commonPeaks 3 = .ok (.invokevirtual 265, 3) := dk_182 1 9 (dk_at dksX1_commonPeaks_0 3 rfl rfl)
theorem dX1_commonPeaks_6 : decode cX1_commonPeaks 6 = .ok (.astore 4, 2) := dk_58 4 (dk_at dksX1_commonPeaks_0 6 rfl rfl)
theorem dX1_commonPeaks_8 : decode cX1_commonPeaks 8 = .ok (.aload 4, 2) := dk_25 4 (dk_at dksX1_commonPeaks_0 8 rfl rfl)
theorem dX1_commonPeaks_10 : decode cX1_commonPeaks 10 = .ok (.iload_n 3, 1) := dk_29 (dk_at dksX1_commonPeaks_0 10 rfl rfl)
theorem dX1_commonPeaks_11 : decode cX1_commonPeaks 11 = .ok (.invokestatic 282, 3) := dk_184 1 26 (dk_at dksX1_commonPeaks_0 11 rfl rfl)
theorem dX1_commonPeaks_14 : decode cX1_commonPeaks 14 = .ok (.aload_n 0, 1) := dk_42 (dk_at dksX1_commonPeaks_0 14 rfl rfl)
theorem dX1_commonPeaks_15 : decode cX1_commonPeaks 15 = .ok (.iload_n 1, 1) := dk_27 (dk_at dksX1_commonPeaks_0 15 rfl rfl)
theorem dX1_commonPeaks_16 : decode cX1_commonPeaks 16 = .ok (.invokevirtual 121, 3) := dk_182 0 121 (dk_at dksX1_commonPeaks_0 16 rfl rfl)
theorem dX1_commonPeaks_19 : decode cX1_commonPeaks 19 = .ok (.aload 4, 2) := dk_25 4 (dk_at dksX1_commonPeaks_0 19 rfl rfl)
theorem dX1_commonPeaks_21 : decode cX1_commonPeaks 21 = .ok (.iload_n 3, 1) := dk_29 (dk_at dksX1_commonPeaks_0 21 rfl rfl)
theorem dX1_commonPeaks_22 : decode cX1_commonPeaks 22 = .ok (.invokevirtual 286, 3) := dk_182 1 30 (dk_at dksX1_commonPeaks_1 0 rfl rfl)
theorem dX1_commonPeaks_25 : decode cX1_commonPeaks 25 = .ok (.ireturn, 1) := dk_172 (dk_at dksX1_commonPeaks_1 3 rfl rfl)
abbrev cX1_requireCount : ByteArray := prog_1_method_52_code
def yX1_requireCount : MethodName := ⟨RX1, "requireCount", "(LWalshAnalyzer$Recording;I)V"⟩
def dkwX1_requireCount_0 : List UInt8 := [27, 3, 42, 182, 0, 148, 184, 0, 18, 184, 0, 73, 177]
abbrev dktX1_requireCount_0 : List UInt8 := dkwX1_requireCount_0 ++ []
theorem dksX1_requireCount_0 : cX1_requireCount.data.toList.drop 0 = dktX1_requireCount_0 := by decide +kernel
theorem dX1_requireCount_0 : decode cX1_requireCount 0 = .ok (.iload_n 1, 1) := dk_27 (dk_at dksX1_requireCount_0 0 rfl rfl)
theorem dX1_requireCount_1 : decode cX1_requireCount 1 = .ok (.iconst 0, 1) := dk_3 (dk_at dksX1_requireCount_0 1 rfl rfl)
theorem dX1_requireCount_2 : decode cX1_requireCount 2 = .ok (.aload_n 0, 1) := dk_42 (dk_at dksX1_requireCount_0 2 rfl rfl)
theorem dX1_requireCount_3 : decode cX1_requireCount 3 = .ok (.invokevirtual 148, 3) := dk_182 0 148 (dk_at dksX1_requireCount_0 3 rfl rfl)
theorem dX1_requireCount_6 : decode cX1_requireCount 6 = .ok (.invokestatic 18, 3) := dk_184 0 18 (dk_at dksX1_requireCount_0 6 rfl rfl)
theorem dX1_requireCount_9 : decode cX1_requireCount 9 = .ok (.invokestatic 73, 3) := dk_184 0 73 (dk_at dksX1_requireCount_0 9 rfl rfl)
theorem dX1_requireCount_12 : decode cX1_requireCount 12 = .ok (.return_, 1) := dk_177 (dk_at dksX1_requireCount_0 12 rfl rfl)
abbrev cX1_errorOfPeaks : ByteArray := prog_1_method_54_code
def yX1_errorOfPeaks : MethodName := ⟨RX1, "errorOfPeaks", "(II)J"⟩
def dkwX1_errorOfPeaks_0 : List UInt8 := [42, 27, 182, 0, 121, 78, 45, 28, 184, 1, 26, 45, 45, 28, 182, 1, 34, 182, 1, 38, 173]
abbrev dktX1_errorOfPeaks_0 : List UInt8 := dkwX1_errorOfPeaks_0 ++ []
theorem dksX1_errorOfPeaks_0 : cX1_errorOfPeaks.data.toList.drop 0 = dktX1_errorOfPeaks_0 := by decide +kernel
theorem dX1_errorOfPeaks_0 : decode cX1_errorOfPeaks 0 = .ok (.aload_n 0, 1) := dk_42 (dk_at dksX1_errorOfPeaks_0 0 rfl rfl)
theorem dX1_errorOfPeaks_1 : decode cX1_errorOfPeaks 1 = .ok (.iload_n 1, 1) := dk_27 (dk_at dksX1_errorOfPeaks_0 1 rfl rfl)
theorem dX1_errorOfPeaks_2 : decode cX1_errorOfPeaks 2 = .ok (.invokevirtual 121, 3) := dk_182 0 121 (dk_at dksX1_errorOfPeaks_0 2 rfl rfl)
theorem dX1_errorOfPeaks_5 : decode cX1_errorOfPeaks 5 = .ok (.astore_n 3, 1) := dk_78 (dk_at dksX1_errorOfPeaks_0 5 rfl rfl)
theorem dX1_errorOfPeaks_6 : decode cX1_errorOfPeaks 6 = .ok (.aload_n 3, 1) := dk_45 (dk_at dksX1_errorOfPeaks_0 6 rfl rfl)
theorem dX1_errorOfPeaks_7 : decode cX1_errorOfPeaks 7 = .ok (.iload_n 2, 1) := dk_28 (dk_at dksX1_errorOfPeaks_0 7 rfl rfl)
theorem dX1_errorOfPeaks_8 : decode cX1_errorOfPeaks 8 = .ok (.invokestatic 282, 3) := dk_184 1 26 (dk_at dksX1_errorOfPeaks_0 8 rfl rfl)
theorem dX1_errorOfPeaks_11 : decode cX1_errorOfPeaks 11 = .ok (.aload_n 3, 1) := dk_45 (dk_at dksX1_errorOfPeaks_0 11 rfl rfl)
theorem dX1_errorOfPeaks_12 : decode cX1_errorOfPeaks 12 = .ok (.aload_n 3, 1) := dk_45 (dk_at dksX1_errorOfPeaks_0 12 rfl rfl)
theorem dX1_errorOfPeaks_13 : decode cX1_errorOfPeaks 13 = .ok (.iload_n 2, 1) := dk_28 (dk_at dksX1_errorOfPeaks_0 13 rfl rfl)
theorem dX1_errorOfPeaks_14 : decode cX1_errorOfPeaks 14 = .ok (.invokevirtual 290, 3) := dk_182 1 34 (dk_at dksX1_errorOfPeaks_0 14 rfl rfl)
theorem dX1_errorOfPeaks_17 : decode cX1_errorOfPeaks 17 = .ok (.invokevirtual 294, 3) := dk_182 1 38 (dk_at dksX1_errorOfPeaks_0 17 rfl rfl)
theorem dX1_errorOfPeaks_20 : decode cX1_errorOfPeaks 20 = .ok (.lreturn, 1) := dk_173 (dk_at dksX1_errorOfPeaks_0 20 rfl rfl)
abbrev cX1_limited : ByteArray := prog_1_method_7_code
def yX1_limited : MethodName := ⟨RX1, "limited", "(I)I"⟩
def dkwX1_limited_0 : List UInt8 := [17, 216, 241, 17, 39, 15, 26, 184, 0, 22, 184, 0, 28, 172]
abbrev dktX1_limited_0 : List UInt8 := dkwX1_limited_0 ++ []
theorem dksX1_limited_0 : cX1_limited.data.toList.drop 0 = dktX1_limited_0 := by decide +kernel
theorem dX1_limited_0 : decode cX1_limited 0 = .ok (.sipush (-9999), 3) := dk_17 216 241 (dk_at dksX1_limited_0 0 rfl rfl)
theorem dX1_limited_3 : decode cX1_limited 3 = .ok (.sipush 9999, 3) := dk_17 39 15 (dk_at dksX1_limited_0 3 rfl rfl)
theorem dX1_limited_6 : decode cX1_limited 6 = .ok (.iload_n 0, 1) := dk_26 (dk_at dksX1_limited_0 6 rfl rfl)
theorem dX1_limited_7 : decode cX1_limited 7 = .ok (.invokestatic 22, 3) := dk_184 0 22 (dk_at dksX1_limited_0 7 rfl rfl)
theorem dX1_limited_10 : decode cX1_limited 10 = .ok (.invokestatic 28, 3) := dk_184 0 28 (dk_at dksX1_limited_0 10 rfl rfl)
theorem dX1_limited_13 : decode cX1_limited 13 = .ok (.ireturn, 1) := dk_172 (dk_at dksX1_limited_0 13 rfl rfl)
abbrev cX1_addSilence : ByteArray := prog_1_method_59_code
def yX1_addSilence : MethodName := ⟨RX1, "addSilence", "(I)I"⟩
def dkwX1_addSilence_0 : List UInt8 := [42, 182, 1, 71, 77, 27, 184, 0, 207, 184, 0, 73, 42, 44, 27, 188, 10, 182, 1, 75, 172]
abbrev dktX1_addSilence_0 : List UInt8 := dkwX1_addSilence_0 ++ []
theorem dksX1_addSilence_0 : cX1_addSilence.data.toList.drop 0 = dktX1_addSilence_0 := by decide +kernel
theorem dX1_addSilence_0 : decode cX1_addSilence 0 = .ok (.aload_n 0, 1) := dk_42 (dk_at dksX1_addSilence_0 0 rfl rfl)
theorem dX1_addSilence_1 : decode cX1_addSilence 1 = .ok (.invokevirtual 327, 3) := dk_182 1 71 (dk_at dksX1_addSilence_0 1 rfl rfl)
theorem dX1_addSilence_4 : decode cX1_addSilence 4 = .ok (.astore_n 2, 1) := dk_77 (dk_at dksX1_addSilence_0 4 rfl rfl)
theorem dX1_addSilence_5 : decode cX1_addSilence 5 = .ok (.iload_n 1, 1) := dk_27 (dk_at dksX1_addSilence_0 5 rfl rfl)
theorem dX1_addSilence_6 : decode cX1_addSilence 6 = .ok (.invokestatic 207, 3) := dk_184 0 207 (dk_at dksX1_addSilence_0 6 rfl rfl)
theorem dX1_addSilence_9 : decode cX1_addSilence 9 = .ok (.invokestatic 73, 3) := dk_184 0 73 (dk_at dksX1_addSilence_0 9 rfl rfl)
theorem dX1_addSilence_12 : decode cX1_addSilence 12 = .ok (.aload_n 0, 1) := dk_42 (dk_at dksX1_addSilence_0 12 rfl rfl)
theorem dX1_addSilence_13 : decode cX1_addSilence 13 = .ok (.aload_n 2, 1) := dk_44 (dk_at dksX1_addSilence_0 13 rfl rfl)
theorem dX1_addSilence_14 : decode cX1_addSilence 14 = .ok (.iload_n 1, 1) := dk_27 (dk_at dksX1_addSilence_0 14 rfl rfl)
theorem dX1_addSilence_15 : decode cX1_addSilence 15 = .ok (.newarray .int, 2) := dk_188_10 (dk_at dksX1_addSilence_0 15 rfl rfl)
theorem dX1_addSilence_17 : decode cX1_addSilence 17 = .ok (.invokevirtual 331, 3) := dk_182 1 75 (dk_at dksX1_addSilence_0 17 rfl rfl)
theorem dX1_addSilence_20 : decode cX1_addSilence 20 = .ok (.ireturn, 1) := dk_172 (dk_at dksX1_addSilence_0 20 rfl rfl)
abbrev cX1_newName : ByteArray := prog_1_method_57_code
def yX1_newName : MethodName := ⟨RX1, "newName", "()LWalshAnalyzer$Name;"⟩
def dkwX1_newName_1 : List UInt8 := [182, 0, 168, 154, 0, 7, 4, 167, 0, 4, 3, 184, 0, 73, 187, 0, 154, 89, 43, 183, 0, 161, 176]
abbrev dktX1_newName_1 : List UInt8 := dkwX1_newName_1 ++ []
def dkwX1_newName_0 : List UInt8 := [42, 182, 0, 158, 76, 43, 184, 0, 164, 153, 0, 25, 42, 180, 0, 45, 187, 0, 154, 89, 43, 183, 0, 161]
abbrev dktX1_newName_0 : List UInt8 := dkwX1_newName_0 ++ dktX1_newName_1
theorem dksX1_newName_0 : cX1_newName.data.toList.drop 0 = dktX1_newName_0 := by decide +kernel
theorem dksX1_newName_1 : cX1_newName.data.toList.drop 24 = dktX1_newName_1 := dk_seg dksX1_newName_0 24 rfl rfl
theorem dX1_newName_0 : decode cX1_newName 0 = .ok (.aload_n 0, 1) := dk_42 (dk_at dksX1_newName_0 0 rfl rfl)
theorem dX1_newName_1 : decode cX1_newName 1 = .ok (.invokevirtual 158, 3) := dk_182 0 158 (dk_at dksX1_newName_0 1 rfl rfl)
theorem dX1_newName_4 : decode cX1_newName 4 = .ok (.astore_n 1, 1) := dk_76 (dk_at dksX1_newName_0 4 rfl rfl)
theorem dX1_newName_5 : decode cX1_newName 5 = .ok (.aload_n 1, 1) := dk_43 (dk_at dksX1_newName_0 5 rfl rfl)
theorem dX1_newName_6 : decode cX1_newName 6 = .ok (.invokestatic 164, 3) := dk_184 0 164 (dk_at dksX1_newName_0 6 rfl rfl)
theorem dX1_newName_9 : decode cX1_newName 9 = .ok (.ifCond .eq 25, 3) := dk_153 0 25 (dk_at dksX1_newName_0 9 rfl rfl)
theorem dX1_newName_12 : decode cX1_newName 12 = .ok (.aload_n 0, 1) := dk_42 (dk_at dksX1_newName_0 12 rfl rfl)
theorem dX1_newName_13 : decode cX1_newName 13 = .ok (.getfield 45, 3) := dk_180 0 45 (dk_at dksX1_newName_0 13 rfl rfl)
theorem dX1_newName_16 : decode cX1_newName 16 = .ok (.new 154, 3) := dk_187 0 154 (dk_at dksX1_newName_0 16 rfl rfl)
theorem dX1_newName_19 : decode cX1_newName 19 = .ok (.dup, 1) := dk_89 (dk_at dksX1_newName_0 19 rfl rfl)
theorem dX1_newName_20 : decode cX1_newName 20 = .ok (.aload_n 1, 1) := dk_43 (dk_at dksX1_newName_0 20 rfl rfl)
theorem dX1_newName_21 : decode cX1_newName 21 = .ok (.invokespecial 161, 3) := dk_183 0 161 (dk_at dksX1_newName_0 21 rfl rfl)
theorem dX1_newName_24 : decode cX1_newName 24 = .ok (.invokevirtual 168, 3) := dk_182 0 168 (dk_at dksX1_newName_1 0 rfl rfl)
theorem dX1_newName_27 : decode cX1_newName 27 = .ok (.ifCond .ne 7, 3) := dk_154 0 7 (dk_at dksX1_newName_1 3 rfl rfl)
theorem dX1_newName_30 : decode cX1_newName 30 = .ok (.iconst 1, 1) := dk_4 (dk_at dksX1_newName_1 6 rfl rfl)
theorem dX1_newName_31 : decode cX1_newName 31 = .ok (.goto 4, 3) := dk_167 0 4 (dk_at dksX1_newName_1 7 rfl rfl)
theorem dX1_newName_34 : decode cX1_newName 34 = .ok (.iconst 0, 1) := dk_3 (dk_at dksX1_newName_1 10 rfl rfl)
theorem dX1_newName_35 : decode cX1_newName 35 = .ok (.invokestatic 73, 3) := dk_184 0 73 (dk_at dksX1_newName_1 11 rfl rfl)
theorem dX1_newName_38 : decode cX1_newName 38 = .ok (.new 154, 3) := dk_187 0 154 (dk_at dksX1_newName_1 14 rfl rfl)
theorem dX1_newName_41 : decode cX1_newName 41 = .ok (.dup, 1) := dk_89 (dk_at dksX1_newName_1 17 rfl rfl)
theorem dX1_newName_42 : decode cX1_newName 42 = .ok (.aload_n 1, 1) := dk_43 (dk_at dksX1_newName_1 18 rfl rfl)
theorem dX1_newName_43 : decode cX1_newName 43 = .ok (.invokespecial 161, 3) := dk_183 0 161 (dk_at dksX1_newName_1 19 rfl rfl)
theorem dX1_newName_46 : decode cX1_newName 46 = .ok (.areturn, 1) := dk_176 (dk_at dksX1_newName_1 22 rfl rfl)
abbrev cX1_add : ByteArray := prog_1_method_58_code
def yX1_add : MethodName := ⟨RX1, "add", "(LWalshAnalyzer$Name;[I)I"⟩
def dkwX1_add_1 : List UInt8 := [181, 0, 62, 42, 180, 0, 45, 187, 0, 119, 89, 43, 44, 183, 1, 65, 182, 1, 68, 172]
abbrev dktX1_add_1 : List UInt8 := dkwX1_add_1 ++ []
def dkwX1_add_0 : List UInt8 := [42, 180, 0, 45, 182, 1, 61, 154, 0, 7, 4, 167, 0, 4, 3, 184, 0, 65, 42, 182, 1, 54, 42, 3]
abbrev dktX1_add_0 : List UInt8 := dkwX1_add_0 ++ dktX1_add_1
theorem dksX1_add_0 : cX1_add.data.toList.drop 0 = dktX1_add_0 := by decide +kernel
theorem dksX1_add_1 : cX1_add.data.toList.drop 24 = dktX1_add_1 := dk_seg dksX1_add_0 24 rfl rfl
theorem dX1_add_0 : decode cX1_add 0 = .ok (.aload_n 0, 1) := dk_42 (dk_at dksX1_add_0 0 rfl rfl)
theorem dX1_add_1 : decode cX1_add 1 = .ok (.getfield 45, 3) := dk_180 0 45 (dk_at dksX1_add_0 1 rfl rfl)
theorem dX1_add_4 : decode cX1_add 4 = .ok (.invokevirtual 317, 3) := dk_182 1 61 (dk_at dksX1_add_0 4 rfl rfl)
theorem dX1_add_7 : decode cX1_add 7 = .ok (.ifCond .ne 7, 3) := dk_154 0 7 (dk_at dksX1_add_0 7 rfl rfl)
theorem dX1_add_10 : decode cX1_add 10 = .ok (.iconst 1, 1) := dk_4 (dk_at dksX1_add_0 10 rfl rfl)
theorem dX1_add_11 : decode cX1_add 11 = .ok (.goto 4, 3) := dk_167 0 4 (dk_at dksX1_add_0 11 rfl rfl)
theorem dX1_add_14 : decode cX1_add 14 = .ok (.iconst 0, 1) := dk_3 (dk_at dksX1_add_0 14 rfl rfl)
theorem dX1_add_15 : decode cX1_add 15 = .ok (.invokestatic 65, 3) := dk_184 0 65 (dk_at dksX1_add_0 15 rfl rfl)
theorem dX1_add_18 : decode cX1_add 18 = .ok (.aload_n 0, 1) := dk_42 (dk_at dksX1_add_0 18 rfl rfl)
theorem dX1_add_19 : decode cX1_add 19 = .ok (.invokevirtual 310, 3) := dk_182 1 54 (dk_at dksX1_add_0 19 rfl rfl)
theorem dX1_add_22 : decode cX1_add 22 = .ok (.aload_n 0, 1) := dk_42 (dk_at dksX1_add_0 22 rfl rfl)
theorem dX1_add_23 : decode cX1_add 23 = .ok (.iconst 0, 1) := dk_3 (dk_at dksX1_add_0 23 rfl rfl)
theorem dX1_add_24 : decode cX1_add 24 = .ok (.putfield 62, 3) := dk_181 0 62 (dk_at dksX1_add_1 0 rfl rfl)
theorem dX1_add_27 : decode cX1_add 27 = .ok (.aload_n 0, 1) := dk_42 (dk_at dksX1_add_1 3 rfl rfl)
theorem dX1_add_28 : decode cX1_add 28 = .ok (.getfield 45, 3) := dk_180 0 45 (dk_at dksX1_add_1 4 rfl rfl)
theorem dX1_add_31 : decode cX1_add 31 = .ok (.new 119, 3) := dk_187 0 119 (dk_at dksX1_add_1 7 rfl rfl)
theorem dX1_add_34 : decode cX1_add 34 = .ok (.dup, 1) := dk_89 (dk_at dksX1_add_1 10 rfl rfl)
theorem dX1_add_35 : decode cX1_add 35 = .ok (.aload_n 1, 1) := dk_43 (dk_at dksX1_add_1 11 rfl rfl)
theorem dX1_add_36 : decode cX1_add 36 = .ok (.aload_n 2, 1) := dk_44 (dk_at dksX1_add_1 12 rfl rfl)
theorem dX1_add_37 : decode cX1_add 37 = .ok (.invokespecial 321, 3) := dk_183 1 65 (dk_at dksX1_add_1 13 rfl rfl)
theorem dX1_add_40 : decode cX1_add 40 = .ok (.invokevirtual 324, 3) := dk_182 1 68 (dk_at dksX1_add_1 16 rfl rfl)
theorem dX1_add_43 : decode cX1_add 43 = .ok (.ireturn, 1) := dk_172 (dk_at dksX1_add_1 19 rfl rfl)
abbrev cX1_beginEdit : ByteArray := prog_1_method_55_code
def yX1_beginEdit : MethodName := ⟨RX1, "beginEdit", "()V"⟩
def dkwX1_beginEdit_1 : List UInt8 := [42, 180, 0, 45, 182, 1, 47, 182, 1, 50, 177]
abbrev dktX1_beginEdit_1 : List UInt8 := dkwX1_beginEdit_1 ++ []
def dkwX1_beginEdit_0 : List UInt8 := [42, 180, 0, 52, 182, 1, 42, 16, 8, 160, 0, 11, 42, 180, 0, 52, 182, 1, 43, 87, 42, 180, 0, 52]
abbrev dktX1_beginEdit_0 : List UInt8 := dkwX1_beginEdit_0 ++ dktX1_beginEdit_1
theorem dksX1_beginEdit_0 : cX1_beginEdit.data.toList.drop 0 = dktX1_beginEdit_0 := by decide +kernel
theorem dksX1_beginEdit_1 : cX1_beginEdit.data.toList.drop 24 = dktX1_beginEdit_1 := dk_seg dksX1_beginEdit_0 24 rfl rfl
theorem dX1_beginEdit_0 : decode cX1_beginEdit 0 = .ok (.aload_n 0, 1) := dk_42 (dk_at dksX1_beginEdit_0 0 rfl rfl)
theorem dX1_beginEdit_1 : decode cX1_beginEdit 1 = .ok (.getfield 52, 3) := dk_180 0 52 (dk_at dksX1_beginEdit_0 1 rfl rfl)
theorem dX1_beginEdit_4 : decode cX1_beginEdit 4 = .ok (.invokevirtual 298, 3) := dk_182 1 42 (dk_at dksX1_beginEdit_0 4 rfl rfl)
theorem dX1_beginEdit_7 : decode cX1_beginEdit 7 = .ok (.bipush 8, 2) := dk_16 8 (dk_at dksX1_beginEdit_0 7 rfl rfl)
theorem dX1_beginEdit_9 : decode cX1_beginEdit 9 = .ok (.if_icmp .ne 11, 3) := dk_160 0 11 (dk_at dksX1_beginEdit_0 9 rfl rfl)
theorem dX1_beginEdit_12 : decode cX1_beginEdit 12 = .ok (.aload_n 0, 1) := dk_42 (dk_at dksX1_beginEdit_0 12 rfl rfl)
theorem dX1_beginEdit_13 : decode cX1_beginEdit 13 = .ok (.getfield 52, 3) := dk_180 0 52 (dk_at dksX1_beginEdit_0 13 rfl rfl)
theorem dX1_beginEdit_16 : decode cX1_beginEdit 16 = .ok (.invokevirtual 299, 3) := dk_182 1 43 (dk_at dksX1_beginEdit_0 16 rfl rfl)
theorem dX1_beginEdit_19 : decode cX1_beginEdit 19 = .ok (.pop, 1) := dk_87 (dk_at dksX1_beginEdit_0 19 rfl rfl)
theorem dX1_beginEdit_20 : decode cX1_beginEdit 20 = .ok (.aload_n 0, 1) := dk_42 (dk_at dksX1_beginEdit_0 20 rfl rfl)
theorem dX1_beginEdit_21 : decode cX1_beginEdit 21 = .ok (.getfield 52, 3) := dk_180 0 52 (dk_at dksX1_beginEdit_0 21 rfl rfl)
theorem dX1_beginEdit_24 : decode cX1_beginEdit 24 = .ok (.aload_n 0, 1) := dk_42 (dk_at dksX1_beginEdit_1 0 rfl rfl)
theorem dX1_beginEdit_25 : decode cX1_beginEdit 25 = .ok (.getfield 45, 3) := dk_180 0 45 (dk_at dksX1_beginEdit_1 1 rfl rfl)
theorem dX1_beginEdit_28 : decode cX1_beginEdit 28 = .ok (.invokevirtual 303, 3) := dk_182 1 47 (dk_at dksX1_beginEdit_1 4 rfl rfl)
theorem dX1_beginEdit_31 : decode cX1_beginEdit 31 = .ok (.invokevirtual 306, 3) := dk_182 1 50 (dk_at dksX1_beginEdit_1 7 rfl rfl)
theorem dX1_beginEdit_34 : decode cX1_beginEdit 34 = .ok (.return_, 1) := dk_177 (dk_at dksX1_beginEdit_1 10 rfl rfl)
abbrev cX1_copyRecording : ByteArray := prog_1_method_60_code
def yX1_copyRecording : MethodName := ⟨RX1, "copyRecording", "(I)I"⟩
def dkwX1_copyRecording_0 : List UInt8 := [42, 27, 182, 0, 121, 77, 42, 42, 182, 1, 71, 44, 182, 1, 78, 182, 1, 75, 172]
abbrev dktX1_copyRecording_0 : List UInt8 := dkwX1_copyRecording_0 ++ []
theorem dksX1_copyRecording_0 : cX1_copyRecording.data.toList.drop 0 = dktX1_copyRecording_0 := by decide +kernel
theorem dX1_copyRecording_0 : decode cX1_copyRecording 0 = .ok (.aload_n 0, 1) := dk_42 (dk_at dksX1_copyRecording_0 0 rfl rfl)
theorem dX1_copyRecording_1 : decode cX1_copyRecording 1 = .ok (.iload_n 1, 1) := dk_27 (dk_at dksX1_copyRecording_0 1 rfl rfl)
theorem dX1_copyRecording_2 : decode cX1_copyRecording 2 = .ok (.invokevirtual 121, 3) := dk_182 0 121 (dk_at dksX1_copyRecording_0 2 rfl rfl)
theorem dX1_copyRecording_5 : decode cX1_copyRecording 5 = .ok (.astore_n 2, 1) := dk_77 (dk_at dksX1_copyRecording_0 5 rfl rfl)
theorem dX1_copyRecording_6 : decode cX1_copyRecording 6 = .ok (.aload_n 0, 1) := dk_42 (dk_at dksX1_copyRecording_0 6 rfl rfl)
theorem dX1_copyRecording_7 : decode cX1_copyRecording 7 = .ok (.aload_n 0, 1) := dk_42 (dk_at dksX1_copyRecording_0 7 rfl rfl)
theorem dX1_copyRecording_8 : decode cX1_copyRecording 8 = .ok (.invokevirtual 327, 3) := dk_182 1 71 (dk_at dksX1_copyRecording_0 8 rfl rfl)
theorem dX1_copyRecording_11 : decode cX1_copyRecording 11 = .ok (.aload_n 2, 1) := dk_44 (dk_at dksX1_copyRecording_0 11 rfl rfl)
theorem dX1_copyRecording_12 : decode cX1_copyRecording 12 = .ok (.invokevirtual 334, 3) := dk_182 1 78 (dk_at dksX1_copyRecording_0 12 rfl rfl)
theorem dX1_copyRecording_15 : decode cX1_copyRecording 15 = .ok (.invokevirtual 331, 3) := dk_182 1 75 (dk_at dksX1_copyRecording_0 15 rfl rfl)
theorem dX1_copyRecording_18 : decode cX1_copyRecording 18 = .ok (.ireturn, 1) := dk_172 (dk_at dksX1_copyRecording_0 18 rfl rfl)
abbrev cX1_rename : ByteArray := prog_1_method_61_code
def yX1_rename : MethodName := ⟨RX1, "rename", "(I)I"⟩
def dkwX1_rename_1 : List UInt8 := [27, 44, 182, 1, 81, 44, 180, 0, 153, 182, 0, 139, 172]
abbrev dktX1_rename_1 : List UInt8 := dkwX1_rename_1 ++ []
def dkwX1_rename_0 : List UInt8 := [42, 27, 182, 0, 121, 87, 42, 182, 1, 71, 77, 42, 182, 1, 54, 42, 3, 181, 0, 62, 42, 180, 0, 45]
abbrev dktX1_rename_0 : List UInt8 := dkwX1_rename_0 ++ dktX1_rename_1
theorem dksX1_rename_0 : cX1_rename.data.toList.drop 0 = dktX1_rename_0 := by decide +kernel
theorem dksX1_rename_1 : cX1_rename.data.toList.drop 24 = dktX1_rename_1 := dk_seg dksX1_rename_0 24 rfl rfl
theorem dX1_rename_0 : decode cX1_rename 0 = .ok (.aload_n 0, 1) := dk_42 (dk_at dksX1_rename_0 0 rfl rfl)
theorem dX1_rename_1 : decode cX1_rename 1 = .ok (.iload_n 1, 1) := dk_27 (dk_at dksX1_rename_0 1 rfl rfl)
theorem dX1_rename_2 : decode cX1_rename 2 = .ok (.invokevirtual 121, 3) := dk_182 0 121 (dk_at dksX1_rename_0 2 rfl rfl)
theorem dX1_rename_5 : decode cX1_rename 5 = .ok (.pop, 1) := dk_87 (dk_at dksX1_rename_0 5 rfl rfl)
theorem dX1_rename_6 : decode cX1_rename 6 = .ok (.aload_n 0, 1) := dk_42 (dk_at dksX1_rename_0 6 rfl rfl)
theorem dX1_rename_7 : decode cX1_rename 7 = .ok (.invokevirtual 327, 3) := dk_182 1 71 (dk_at dksX1_rename_0 7 rfl rfl)
theorem dX1_rename_10 : decode cX1_rename 10 = .ok (.astore_n 2, 1) := dk_77 (dk_at dksX1_rename_0 10 rfl rfl)
theorem dX1_rename_11 : decode cX1_rename 11 = .ok (.aload_n 0, 1) := dk_42 (dk_at dksX1_rename_0 11 rfl rfl)
theorem dX1_rename_12 : decode cX1_rename 12 = .ok (.invokevirtual 310, 3) := dk_182 1 54 (dk_at dksX1_rename_0 12 rfl rfl)
theorem dX1_rename_15 : decode cX1_rename 15 = .ok (.aload_n 0, 1) := dk_42 (dk_at dksX1_rename_0 15 rfl rfl)
theorem dX1_rename_16 : decode cX1_rename 16 = .ok (.iconst 0, 1) := dk_3 (dk_at dksX1_rename_0 16 rfl rfl)
theorem dX1_rename_17 : decode cX1_rename 17 = .ok (.putfield 62, 3) := dk_181 0 62 (dk_at dksX1_rename_0 17 rfl rfl)
theorem dX1_rename_20 : decode cX1_rename 20 = .ok (.aload_n 0, 1) := dk_42 (dk_at dksX1_rename_0 20 rfl rfl)
theorem dX1_rename_21 : decode cX1_rename 21 = .ok (.getfield 45, 3) := dk_180 0 45 (dk_at dksX1_rename_0 21 rfl rfl)
theorem dX1_rename_24 : decode cX1_rename 24 = .ok (.iload_n 1, 1) := dk_27 (dk_at dksX1_rename_1 0 rfl rfl)
theorem dX1_rename_25 : decode cX1_rename 25 = .ok (.aload_n 2, 1) := dk_44 (dk_at dksX1_rename_1 1 rfl rfl)
theorem dX1_rename_26 : decode cX1_rename 26 = .ok (.invokevirtual 337, 3) := dk_182 1 81 (dk_at dksX1_rename_1 2 rfl rfl)
theorem dX1_rename_29 : decode cX1_rename 29 = .ok (.aload_n 2, 1) := dk_44 (dk_at dksX1_rename_1 5 rfl rfl)
theorem dX1_rename_30 : decode cX1_rename 30 = .ok (.getfield 153, 3) := dk_180 0 153 (dk_at dksX1_rename_1 6 rfl rfl)
theorem dX1_rename_33 : decode cX1_rename 33 = .ok (.invokevirtual 139, 3) := dk_182 0 139 (dk_at dksX1_rename_1 9 rfl rfl)
theorem dX1_rename_36 : decode cX1_rename 36 = .ok (.ireturn, 1) := dk_172 (dk_at dksX1_rename_1 12 rfl rfl)
abbrev cX1_removeRecording : ByteArray := prog_1_method_62_code
def yX1_removeRecording : MethodName := ⟨RX1, "removeRecording", "(I)I"⟩
def dkwX1_removeRecording_1 : List UInt8 := [180, 0, 102, 182, 0, 106, 172]
abbrev dktX1_removeRecording_1 : List UInt8 := dkwX1_removeRecording_1 ++ []
def dkwX1_removeRecording_0 : List UInt8 := [42, 27, 182, 0, 121, 87, 42, 182, 1, 54, 42, 180, 0, 45, 27, 182, 1, 85, 42, 180, 0, 45]
abbrev dktX1_removeRecording_0 : List UInt8 := dkwX1_removeRecording_0 ++ dktX1_removeRecording_1
theorem dksX1_removeRecording_0 : cX1_removeRecording.data.toList.drop 0 = dktX1_removeRecording_0 := by decide +kernel
theorem dksX1_removeRecording_1 : cX1_removeRecording.data.toList.drop 22 = dktX1_removeRecording_1 := dk_seg dksX1_removeRecording_0 22 rfl rfl
theorem dX1_removeRecording_0 : decode cX1_removeRecording 0 = .ok (.aload_n 0, 1) := dk_42 (dk_at dksX1_removeRecording_0 0 rfl rfl)
theorem dX1_removeRecording_1 : decode cX1_removeRecording 1 = .ok (.iload_n 1, 1) := dk_27 (dk_at dksX1_removeRecording_0 1 rfl rfl)
theorem dX1_removeRecording_2 : decode cX1_removeRecording 2 = .ok (.invokevirtual 121, 3) := dk_182 0 121 (dk_at dksX1_removeRecording_0 2 rfl rfl)
theorem dX1_removeRecording_5 : decode cX1_removeRecording 5 = .ok (.pop, 1) := dk_87 (dk_at dksX1_removeRecording_0 5 rfl rfl)
theorem dX1_removeRecording_6 : decode cX1_removeRecording 6 = .ok (.aload_n 0, 1) := dk_42 (dk_at dksX1_removeRecording_0 6 rfl rfl)
theorem dX1_removeRecording_7 : decode cX1_removeRecording 7 = .ok (.invokevirtual 310, 3) := dk_182 1 54 (dk_at dksX1_removeRecording_0 7 rfl rfl)
theorem dX1_removeRecording_10 : decode cX1_removeRecording 10 = .ok (.aload_n 0, 1) := dk_42 (dk_at dksX1_removeRecording_0 10 rfl rfl)
theorem dX1_removeRecording_11 : decode cX1_removeRecording 11 = .ok (.getfield 45, 3) := dk_180 0 45 (dk_at dksX1_removeRecording_0 11 rfl rfl)
theorem dX1_removeRecording_14 : decode cX1_removeRecording 14 = .ok (.iload_n 1, 1) := dk_27 (dk_at dksX1_removeRecording_0 14 rfl rfl)
theorem dX1_removeRecording_15 : decode cX1_removeRecording 15 = .ok (.invokevirtual 341, 3) := dk_182 1 85 (dk_at dksX1_removeRecording_0 15 rfl rfl)
theorem dX1_removeRecording_18 : decode cX1_removeRecording 18 = .ok (.aload_n 0, 1) := dk_42 (dk_at dksX1_removeRecording_0 18 rfl rfl)
theorem dX1_removeRecording_19 : decode cX1_removeRecording 19 = .ok (.getfield 45, 3) := dk_180 0 45 (dk_at dksX1_removeRecording_0 19 rfl rfl)
theorem dX1_removeRecording_22 : decode cX1_removeRecording 22 = .ok (.getfield 102, 3) := dk_180 0 102 (dk_at dksX1_removeRecording_1 0 rfl rfl)
theorem dX1_removeRecording_25 : decode cX1_removeRecording 25 = .ok (.invokevirtual 106, 3) := dk_182 0 106 (dk_at dksX1_removeRecording_1 3 rfl rfl)
theorem dX1_removeRecording_28 : decode cX1_removeRecording 28 = .ok (.ireturn, 1) := dk_172 (dk_at dksX1_removeRecording_1 6 rfl rfl)
abbrev cX1_setSample : ByteArray := prog_1_method_63_code
def yX1_setSample : MethodName := ⟨RX1, "setSample", "(III)I"⟩
def dkwX1_setSample_1 : List UInt8 := [25, 4, 28, 29, 182, 1, 88, 182, 1, 92, 87, 25, 4, 180, 0, 178, 28, 46, 172]
abbrev dktX1_setSample_1 : List UInt8 := dkwX1_setSample_1 ++ []
def dkwX1_setSample_0 : List UInt8 := [42, 27, 28, 182, 0, 175, 58, 4, 29, 17, 216, 241, 17, 39, 15, 184, 0, 18, 184, 0, 73, 42, 27]
abbrev dktX1_setSample_0 : List UInt8 := dkwX1_setSample_0 ++ dktX1_setSample_1
theorem dksX1_setSample_0 : cX1_setSample.data.toList.drop 0 = dktX1_setSample_0 := by decide +kernel
theorem dksX1_setSample_1 : cX1_setSample.data.toList.drop 23 = dktX1_setSample_1 := dk_seg dksX1_setSample_0 23 rfl rfl
theorem dX1_setSample_0 : decode cX1_setSample 0 = .ok (.aload_n 0, 1) := dk_42 (dk_at dksX1_setSample_0 0 rfl rfl)
theorem dX1_setSample_1 : decode cX1_setSample 1 = .ok (.iload_n 1, 1) := dk_27 (dk_at dksX1_setSample_0 1 rfl rfl)
theorem dX1_setSample_2 : decode cX1_setSample 2 = .ok (.iload_n 2, 1) := dk_28 (dk_at dksX1_setSample_0 2 rfl rfl)
theorem dX1_setSample_3 : decode cX1_setSample 3 = .ok (.invokevirtual 175, 3) := dk_182 0 175 (dk_at dksX1_setSample_0 3 rfl rfl)
theorem dX1_setSample_6 : decode cX1_setSample 6 = .ok (.astore 4, 2) := dk_58 4 (dk_at dksX1_setSample_0 6 rfl rfl)
theorem dX1_setSample_8 : decode cX1_setSample 8 = .ok (.iload_n 3, 1) := dk_29 (dk_at dksX1_setSample_0 8 rfl rfl)
theorem dX1_setSample_9 : decode cX1_setSample 9 = .ok (.sipush (-9999), 3) := dk_17 216 241 (dk_at dksX1_setSample_0 9 rfl rfl)
theorem dX1_setSample_12 : decode cX1_setSample 12 = .ok (.sipush 9999, 3) := dk_17 39 15 (dk_at dksX1_setSample_0 12 rfl rfl)
theorem dX1_setSample_15 : decode cX1_setSample 15 = .ok (.invokestatic 18, 3) := dk_184 0 18 (dk_at dksX1_setSample_0 15 rfl rfl)
theorem dX1_setSample_18 : decode cX1_setSample 18 = .ok (.invokestatic 73, 3) := dk_184 0 73 (dk_at dksX1_setSample_0 18 rfl rfl)
theorem dX1_setSample_21 : decode cX1_setSample 21 = .ok (.aload_n 0, 1) := dk_42 (dk_at dksX1_setSample_0 21 rfl rfl)
theorem dX1_setSample_22 : decode cX1_setSample 22 = .ok (.iload_n 1, 1) := dk_27 (dk_at dksX1_setSample_0 22 rfl rfl)
theorem dX1_setSample_23 : decode cX1_setSample 23 = .ok (.aload 4, 2) := dk_25 4 (dk_at dksX1_setSample_1 0 rfl rfl)
theorem dX1_setSample_25 : decode cX1_setSample 25 = .ok (.iload_n 2, 1) := dk_28 (dk_at dksX1_setSample_1 2 rfl rfl)
theorem dX1_setSample_26 : decode cX1_setSample 26 = .ok (.iload_n 3, 1) := dk_29 (dk_at dksX1_setSample_1 3 rfl rfl)
theorem dX1_setSample_27 : decode cX1_setSample 27 = .ok (.invokevirtual 344, 3) := dk_182 1 88 (dk_at dksX1_setSample_1 4 rfl rfl)
theorem dX1_setSample_30 : decode cX1_setSample 30 = .ok (.invokevirtual 348, 3) := dk_182 1 92 (dk_at dksX1_setSample_1 7 rfl rfl)
theorem dX1_setSample_33 : decode cX1_setSample 33 = .ok (.pop, 1) := dk_87 (dk_at dksX1_setSample_1 10 rfl rfl)
theorem dX1_setSample_34 : decode cX1_setSample 34 = .ok (.aload 4, 2) := dk_25 4 (dk_at dksX1_setSample_1 11 rfl rfl)
theorem dX1_setSample_36 : decode cX1_setSample 36 = .ok (.getfield 178, 3) := dk_180 0 178 (dk_at dksX1_setSample_1 13 rfl rfl)
theorem dX1_setSample_39 : decode cX1_setSample 39 = .ok (.iload_n 2, 1) := dk_28 (dk_at dksX1_setSample_1 16 rfl rfl)
theorem dX1_setSample_40 : decode cX1_setSample 40 = .ok (.iaload, 1) := dk_46 (dk_at dksX1_setSample_1 17 rfl rfl)
theorem dX1_setSample_41 : decode cX1_setSample 41 = .ok (.ireturn, 1) := dk_172 (dk_at dksX1_setSample_1 18 rfl rfl)
abbrev cX1_replace : ByteArray := prog_1_method_56_code
def yX1_replace : MethodName := ⟨RX1, "replace", "(I[I)I"⟩
def dkwX1_replace_0 : List UInt8 := [42, 182, 1, 54, 42, 180, 0, 45, 27, 44, 182, 1, 57, 172]
abbrev dktX1_replace_0 : List UInt8 := dkwX1_replace_0 ++ []
theorem dksX1_replace_0 : cX1_replace.data.toList.drop 0 = dktX1_replace_0 := by decide +kernel
theorem dX1_replace_0 : decode cX1_replace 0 = .ok (.aload_n 0, 1) := dk_42 (dk_at dksX1_replace_0 0 rfl rfl)
theorem dX1_replace_1 : decode cX1_replace 1 = .ok (.invokevirtual 310, 3) := dk_182 1 54 (dk_at dksX1_replace_0 1 rfl rfl)
theorem dX1_replace_4 : decode cX1_replace 4 = .ok (.aload_n 0, 1) := dk_42 (dk_at dksX1_replace_0 4 rfl rfl)
theorem dX1_replace_5 : decode cX1_replace 5 = .ok (.getfield 45, 3) := dk_180 0 45 (dk_at dksX1_replace_0 5 rfl rfl)
theorem dX1_replace_8 : decode cX1_replace 8 = .ok (.iload_n 1, 1) := dk_27 (dk_at dksX1_replace_0 8 rfl rfl)
theorem dX1_replace_9 : decode cX1_replace 9 = .ok (.aload_n 2, 1) := dk_44 (dk_at dksX1_replace_0 9 rfl rfl)
theorem dX1_replace_10 : decode cX1_replace 10 = .ok (.invokevirtual 313, 3) := dk_182 1 57 (dk_at dksX1_replace_0 10 rfl rfl)
theorem dX1_replace_13 : decode cX1_replace 13 = .ok (.ireturn, 1) := dk_172 (dk_at dksX1_replace_0 13 rfl rfl)
abbrev cX1_addRecording : ByteArray := prog_1_method_64_code
def yX1_addRecording : MethodName := ⟨RX1, "addRecording", "(III)I"⟩
def dkwX1_addRecording_4 : List UInt8 := [182, 1, 92, 87, 21, 6, 172]
abbrev dktX1_addRecording_4 : List UInt8 := dkwX1_addRecording_4 ++ []
def dkwX1_addRecording_3 : List UInt8 := [25, 5, 21, 7, 46, 21, 8, 159, 0, 6, 132, 6, 1, 132, 7, 1, 167, 255, 204, 42, 27, 25, 5]
abbrev dktX1_addRecording_3 : List UInt8 := dkwX1_addRecording_3 ++ dktX1_addRecording_4
def dkwX1_addRecording_2 : List UInt8 := [29, 25, 4, 180, 0, 178, 21, 7, 46, 104, 96, 54, 8, 25, 5, 21, 7, 21, 8, 184, 1, 93, 79]
abbrev dktX1_addRecording_2 : List UInt8 := dkwX1_addRecording_2 ++ dktX1_addRecording_3
def dkwX1_addRecording_1 : List UInt8 := [182, 1, 78, 58, 5, 3, 54, 6, 3, 54, 7, 21, 7, 25, 5, 190, 162, 0, 50, 25, 5, 21, 7, 46]
abbrev dktX1_addRecording_1 : List UInt8 := dkwX1_addRecording_1 ++ dktX1_addRecording_2
def dkwX1_addRecording_0 : List UInt8 := [42, 27, 28, 182, 1, 9, 58, 4, 29, 16, 247, 16, 9, 184, 0, 18, 184, 0, 73, 42, 27, 182, 0, 121]
abbrev dktX1_addRecording_0 : List UInt8 := dkwX1_addRecording_0 ++ dktX1_addRecording_1
theorem dksX1_addRecording_0 : cX1_addRecording.data.toList.drop 0 = dktX1_addRecording_0 := by decide +kernel
theorem dksX1_addRecording_1 : cX1_addRecording.data.toList.drop 24 = dktX1_addRecording_1 := dk_seg dksX1_addRecording_0 24 rfl rfl
theorem dksX1_addRecording_2 : cX1_addRecording.data.toList.drop 48 = dktX1_addRecording_2 := dk_seg dksX1_addRecording_1 24 rfl rfl
theorem dksX1_addRecording_3 : cX1_addRecording.data.toList.drop 71 = dktX1_addRecording_3 := dk_seg dksX1_addRecording_2 23 rfl rfl
theorem dksX1_addRecording_4 : cX1_addRecording.data.toList.drop 94 = dktX1_addRecording_4 := dk_seg dksX1_addRecording_3 23 rfl rfl
theorem dX1_addRecording_0 : decode cX1_addRecording 0 = .ok (.aload_n 0, 1) := dk_42 (dk_at dksX1_addRecording_0 0 rfl rfl)
theorem dX1_addRecording_1 : decode cX1_addRecording 1 = .ok (.iload_n 1, 1) := dk_27 (dk_at dksX1_addRecording_0 1 rfl rfl)
theorem dX1_addRecording_2 : decode cX1_addRecording 2 = .ok (.iload_n 2, 1) := dk_28 (dk_at dksX1_addRecording_0 2 rfl rfl)
theorem dX1_addRecording_3 : decode cX1_addRecording 3 = .ok (.invokevirtual 265, 3) := dk_182 1 9 (dk_at dksX1_addRecording_0 3 rfl rfl)
theorem dX1_addRecording_6 : decode cX1_addRecording 6 = .ok (.astore 4, 2) := dk_58 4 (dk_at dksX1_addRecording_0 6 rfl rfl)
theorem dX1_addRecording_8 : decode cX1_addRecording 8 = .ok (.iload_n 3, 1) := dk_29 (dk_at dksX1_addRecording_0 8 rfl rfl)
theorem dX1_addRecording_9 : decode cX1_addRecording 9 = .ok (.bipush (-9), 2) := dk_16 247 (dk_at dksX1_addRecording_0 9 rfl rfl)
theorem dX1_addRecording_11 : decode cX1_addRecording 11 = .ok (.bipush 9, 2) := dk_16 9 (dk_at dksX1_addRecording_0 11 rfl rfl)
theorem dX1_addRecording_13 : decode cX1_addRecording 13 = .ok (.invokestatic 18, 3) := dk_184 0 18 (dk_at dksX1_addRecording_0 13 rfl rfl)
theorem dX1_addRecording_16 : decode cX1_addRecording 16 = .ok (.invokestatic 73, 3) := dk_184 0 73 (dk_at dksX1_addRecording_0 16 rfl rfl)
theorem dX1_addRecording_19 : decode cX1_addRecording 19 = .ok (.aload_n 0, 1) := dk_42 (dk_at dksX1_addRecording_0 19 rfl rfl)
theorem dX1_addRecording_20 : decode cX1_addRecording 20 = .ok (.iload_n 1, 1) := dk_27 (dk_at dksX1_addRecording_0 20 rfl rfl)
theorem dX1_addRecording_21 : decode cX1_addRecording 21 = .ok (.invokevirtual 121, 3) := dk_182 0 121 (dk_at dksX1_addRecording_0 21 rfl rfl)
theorem dX1_addRecording_24 : decode cX1_addRecording 24 = .ok (.invokevirtual 334, 3) := dk_182 1 78 (dk_at dksX1_addRecording_1 0 rfl rfl)
theorem dX1_addRecording_27 : decode cX1_addRecording 27 = .ok (.astore 5, 2) := dk_58 5 (dk_at dksX1_addRecording_1 3 rfl rfl)
theorem dX1_addRecording_29 : decode cX1_addRecording 29 = .ok (.iconst 0, 1) := dk_3 (dk_at dksX1_addRecording_1 5 rfl rfl)
theorem dX1_addRecording_30 : decode cX1_addRecording 30 = .ok (.istore 6, 2) := dk_54 6 (dk_at dksX1_addRecording_1 6 rfl rfl)
theorem dX1_addRecording_32 : decode cX1_addRecording 32 = .ok (.iconst 0, 1) := dk_3 (dk_at dksX1_addRecording_1 8 rfl rfl)
theorem dX1_addRecording_33 : decode cX1_addRecording 33 = .ok (.istore 7, 2) := dk_54 7 (dk_at dksX1_addRecording_1 9 rfl rfl)
theorem dX1_addRecording_35 : decode cX1_addRecording 35 = .ok (.iload 7, 2) := dk_21 7 (dk_at dksX1_addRecording_1 11 rfl rfl)
theorem dX1_addRecording_37 : decode cX1_addRecording 37 = .ok (.aload 5, 2) := dk_25 5 (dk_at dksX1_addRecording_1 13 rfl rfl)
theorem dX1_addRecording_39 : decode cX1_addRecording 39 = .ok (.arraylength, 1) := dk_190 (dk_at dksX1_addRecording_1 15 rfl rfl)
theorem dX1_addRecording_40 : decode cX1_addRecording 40 = .ok (.if_icmp .ge 50, 3) := dk_162 0 50 (dk_at dksX1_addRecording_1 16 rfl rfl)
theorem dX1_addRecording_43 : decode cX1_addRecording 43 = .ok (.aload 5, 2) := dk_25 5 (dk_at dksX1_addRecording_1 19 rfl rfl)
theorem dX1_addRecording_45 : decode cX1_addRecording 45 = .ok (.iload 7, 2) := dk_21 7 (dk_at dksX1_addRecording_1 21 rfl rfl)
theorem dX1_addRecording_47 : decode cX1_addRecording 47 = .ok (.iaload, 1) := dk_46 (dk_at dksX1_addRecording_1 23 rfl rfl)
theorem dX1_addRecording_48 : decode cX1_addRecording 48 = .ok (.iload_n 3, 1) := dk_29 (dk_at dksX1_addRecording_2 0 rfl rfl)
theorem dX1_addRecording_49 : decode cX1_addRecording 49 = .ok (.aload 4, 2) := dk_25 4 (dk_at dksX1_addRecording_2 1 rfl rfl)
theorem dX1_addRecording_51 : decode cX1_addRecording 51 = .ok (.getfield 178, 3) := dk_180 0 178 (dk_at dksX1_addRecording_2 3 rfl rfl)
theorem dX1_addRecording_54 : decode cX1_addRecording 54 = .ok (.iload 7, 2) := dk_21 7 (dk_at dksX1_addRecording_2 6 rfl rfl)
theorem dX1_addRecording_56 : decode cX1_addRecording 56 = .ok (.iaload, 1) := dk_46 (dk_at dksX1_addRecording_2 8 rfl rfl)
theorem dX1_addRecording_57 : decode cX1_addRecording 57 = .ok (.imul, 1) := dk_104 (dk_at dksX1_addRecording_2 9 rfl rfl)
theorem dX1_addRecording_58 : decode cX1_addRecording 58 = .ok (.iadd, 1) := dk_96 (dk_at dksX1_addRecording_2 10 rfl rfl)
theorem dX1_addRecording_59 : decode cX1_addRecording 59 = .ok (.istore 8, 2) := dk_54 8 (dk_at dksX1_addRecording_2 11 rfl rfl)
theorem dX1_addRecording_61 : decode cX1_addRecording 61 = .ok (.aload 5, 2) := dk_25 5 (dk_at dksX1_addRecording_2 13 rfl rfl)
theorem dX1_addRecording_63 : decode cX1_addRecording 63 = .ok (.iload 7, 2) := dk_21 7 (dk_at dksX1_addRecording_2 15 rfl rfl)
theorem dX1_addRecording_65 : decode cX1_addRecording 65 = .ok (.iload 8, 2) := dk_21 8 (dk_at dksX1_addRecording_2 17 rfl rfl)
theorem dX1_addRecording_67 : decode cX1_addRecording 67 = .ok (.invokestatic 349, 3) := dk_184 1 93 (dk_at dksX1_addRecording_2 19 rfl rfl)
theorem dX1_addRecording_70 : decode cX1_addRecording 70 = .ok (.iastore, 1) := dk_79 (dk_at dksX1_addRecording_2 22 rfl rfl)
theorem dX1_addRecording_71 : decode cX1_addRecording 71 = .ok (.aload 5, 2) := dk_25 5 (dk_at dksX1_addRecording_3 0 rfl rfl)
theorem dX1_addRecording_73 : decode cX1_addRecording 73 = .ok (.iload 7, 2) := dk_21 7 (dk_at dksX1_addRecording_3 2 rfl rfl)
theorem dX1_addRecording_75 : decode cX1_addRecording 75 = .ok (.iaload, 1) := dk_46 (dk_at dksX1_addRecording_3 4 rfl rfl)
theorem dX1_addRecording_76 : decode cX1_addRecording 76 = .ok (.iload 8, 2) := dk_21 8 (dk_at dksX1_addRecording_3 5 rfl rfl)
theorem dX1_addRecording_78 : decode cX1_addRecording 78 = .ok (.if_icmp .eq 6, 3) := dk_159 0 6 (dk_at dksX1_addRecording_3 7 rfl rfl)
theorem dX1_addRecording_81 : decode cX1_addRecording 81 = .ok (.iinc 6 1, 3) := dk_132 6 1 (dk_at dksX1_addRecording_3 10 rfl rfl)
theorem dX1_addRecording_84 : decode cX1_addRecording 84 = .ok (.iinc 7 1, 3) := dk_132 7 1 (dk_at dksX1_addRecording_3 13 rfl rfl)
theorem dX1_addRecording_87 : decode cX1_addRecording 87 = .ok (.goto (-52), 3) := dk_167 255 204 (dk_at dksX1_addRecording_3 16 rfl rfl)
theorem dX1_addRecording_90 : decode cX1_addRecording 90 = .ok (.aload_n 0, 1) := dk_42 (dk_at dksX1_addRecording_3 19 rfl rfl)
theorem dX1_addRecording_91 : decode cX1_addRecording 91 = .ok (.iload_n 1, 1) := dk_27 (dk_at dksX1_addRecording_3 20 rfl rfl)
theorem dX1_addRecording_92 : decode cX1_addRecording 92 = .ok (.aload 5, 2) := dk_25 5 (dk_at dksX1_addRecording_3 21 rfl rfl)
theorem dX1_addRecording_94 : decode cX1_addRecording 94 = .ok (.invokevirtual 348, 3) := dk_182 1 92 (dk_at dksX1_addRecording_4 0 rfl rfl)
theorem dX1_addRecording_97 : decode cX1_addRecording 97 = .ok (.pop, 1) := dk_87 (dk_at dksX1_addRecording_4 3 rfl rfl)
theorem dX1_addRecording_98 : decode cX1_addRecording 98 = .ok (.iload 6, 2) := dk_21 6 (dk_at dksX1_addRecording_4 4 rfl rfl)
theorem dX1_addRecording_100 : decode cX1_addRecording 100 = .ok (.ireturn, 1) := dk_172 (dk_at dksX1_addRecording_4 6 rfl rfl)
abbrev cX1_appendRecording : ByteArray := prog_1_method_66_code
def yX1_appendRecording : MethodName := ⟨RX1, "appendRecording", "(II)I"⟩
def dkwX1_appendRecording_1 : List UInt8 := [182, 1, 92, 172]
abbrev dktX1_appendRecording_1 : List UInt8 := dkwX1_appendRecording_1 ++ []
def dkwX1_appendRecording_0 : List UInt8 := [42, 27, 28, 182, 1, 9, 78, 45, 184, 1, 96, 42, 27, 42, 27, 182, 0, 121, 45, 182, 1, 100]
abbrev dktX1_appendRecording_0 : List UInt8 := dkwX1_appendRecording_0 ++ dktX1_appendRecording_1
theorem dksX1_appendRecording_0 : cX1_appendRecording.data.toList.drop 0 = dktX1_appendRecording_0 := by decide +kernel
theorem dksX1_appendRecording_1 : cX1_appendRecording.data.toList.drop 22 = dktX1_appendRecording_1 := dk_seg dksX1_appendRecording_0 22 rfl rfl
theorem dX1_appendRecording_0 : decode cX1_appendRecording 0 = .ok (.aload_n 0, 1) := dk_42 (dk_at dksX1_appendRecording_0 0 rfl rfl)
theorem dX1_appendRecording_1 : decode cX1_appendRecording 1 = .ok (.iload_n 1, 1) := dk_27 (dk_at dksX1_appendRecording_0 1 rfl rfl)
theorem dX1_appendRecording_2 : decode cX1_appendRecording 2 = .ok (.iload_n 2, 1) := dk_28 (dk_at dksX1_appendRecording_0 2 rfl rfl)
theorem dX1_appendRecording_3 : decode cX1_appendRecording 3 = .ok (.invokevirtual 265, 3) := dk_182 1 9 (dk_at dksX1_appendRecording_0 3 rfl rfl)
theorem dX1_appendRecording_6 : decode cX1_appendRecording 6 = .ok (.astore_n 3, 1) := dk_78 (dk_at dksX1_appendRecording_0 6 rfl rfl)
theorem dX1_appendRecording_7 : decode cX1_appendRecording 7 = .ok (.aload_n 3, 1) := dk_45 (dk_at dksX1_appendRecording_0 7 rfl rfl)
theorem dX1_appendRecording_8 : decode cX1_appendRecording 8 = .ok (.invokestatic 352, 3) := dk_184 1 96 (dk_at dksX1_appendRecording_0 8 rfl rfl)
theorem dX1_appendRecording_11 : decode cX1_appendRecording 11 = .ok (.aload_n 0, 1) := dk_42 (dk_at dksX1_appendRecording_0 11 rfl rfl)
theorem dX1_appendRecording_12 : decode cX1_appendRecording 12 = .ok (.iload_n 1, 1) := dk_27 (dk_at dksX1_appendRecording_0 12 rfl rfl)
theorem dX1_appendRecording_13 : decode cX1_appendRecording 13 = .ok (.aload_n 0, 1) := dk_42 (dk_at dksX1_appendRecording_0 13 rfl rfl)
theorem dX1_appendRecording_14 : decode cX1_appendRecording 14 = .ok (.iload_n 1, 1) := dk_27 (dk_at dksX1_appendRecording_0 14 rfl rfl)
theorem dX1_appendRecording_15 : decode cX1_appendRecording 15 = .ok (.invokevirtual 121, 3) := dk_182 0 121 (dk_at dksX1_appendRecording_0 15 rfl rfl)
theorem dX1_appendRecording_18 : decode cX1_appendRecording 18 = .ok (.aload_n 3, 1) := dk_45 (dk_at dksX1_appendRecording_0 18 rfl rfl)
theorem dX1_appendRecording_19 : decode cX1_appendRecording 19 = .ok (.invokevirtual 356, 3) := dk_182 1 100 (dk_at dksX1_appendRecording_0 19 rfl rfl)
theorem dX1_appendRecording_22 : decode cX1_appendRecording 22 = .ok (.invokevirtual 348, 3) := dk_182 1 92 (dk_at dksX1_appendRecording_1 0 rfl rfl)
theorem dX1_appendRecording_25 : decode cX1_appendRecording 25 = .ok (.ireturn, 1) := dk_172 (dk_at dksX1_appendRecording_1 3 rfl rfl)
abbrev cX1_requireShort : ByteArray := prog_1_method_65_code
def yX1_requireShort : MethodName := ⟨RX1, "requireShort", "(LWalshAnalyzer$Recording;)V"⟩
def dkwX1_requireShort_0 : List UInt8 := [42, 182, 0, 148, 16, 64, 162, 0, 7, 4, 167, 0, 4, 3, 184, 0, 65, 177]
abbrev dktX1_requireShort_0 : List UInt8 := dkwX1_requireShort_0 ++ []
theorem dksX1_requireShort_0 : cX1_requireShort.data.toList.drop 0 = dktX1_requireShort_0 := by decide +kernel
theorem dX1_requireShort_0 : decode cX1_requireShort 0 = .ok (.aload_n 0, 1) := dk_42 (dk_at dksX1_requireShort_0 0 rfl rfl)
theorem dX1_requireShort_1 : decode cX1_requireShort 1 = .ok (.invokevirtual 148, 3) := dk_182 0 148 (dk_at dksX1_requireShort_0 1 rfl rfl)
theorem dX1_requireShort_4 : decode cX1_requireShort 4 = .ok (.bipush 64, 2) := dk_16 64 (dk_at dksX1_requireShort_0 4 rfl rfl)
theorem dX1_requireShort_6 : decode cX1_requireShort 6 = .ok (.if_icmp .ge 7, 3) := dk_162 0 7 (dk_at dksX1_requireShort_0 6 rfl rfl)
theorem dX1_requireShort_9 : decode cX1_requireShort 9 = .ok (.iconst 1, 1) := dk_4 (dk_at dksX1_requireShort_0 9 rfl rfl)
theorem dX1_requireShort_10 : decode cX1_requireShort 10 = .ok (.goto 4, 3) := dk_167 0 4 (dk_at dksX1_requireShort_0 10 rfl rfl)
theorem dX1_requireShort_13 : decode cX1_requireShort 13 = .ok (.iconst 0, 1) := dk_3 (dk_at dksX1_requireShort_0 13 rfl rfl)
theorem dX1_requireShort_14 : decode cX1_requireShort 14 = .ok (.invokestatic 65, 3) := dk_184 0 65 (dk_at dksX1_requireShort_0 14 rfl rfl)
theorem dX1_requireShort_17 : decode cX1_requireShort 17 = .ok (.return_, 1) := dk_177 (dk_at dksX1_requireShort_0 17 rfl rfl)
abbrev cX1_keepAbove : ByteArray := prog_1_method_67_code
def yX1_keepAbove : MethodName := ⟨RX1, "keepAbove", "(II)I"⟩
def dkwX1_keepAbove_0 : List UInt8 := [42, 27, 182, 0, 121, 78, 28, 184, 0, 240, 42, 27, 45, 28, 182, 1, 104, 182, 1, 92, 172]
abbrev dktX1_keepAbove_0 : List UInt8 := dkwX1_keepAbove_0 ++ []
theorem dksX1_keepAbove_0 : cX1_keepAbove.data.toList.drop 0 = dktX1_keepAbove_0 := by decide +kernel
theorem dX1_keepAbove_0 : decode cX1_keepAbove 0 = .ok (.aload_n 0, 1) := dk_42 (dk_at dksX1_keepAbove_0 0 rfl rfl)
theorem dX1_keepAbove_1 : decode cX1_keepAbove 1 = .ok (.iload_n 1, 1) := dk_27 (dk_at dksX1_keepAbove_0 1 rfl rfl)
theorem dX1_keepAbove_2 : decode cX1_keepAbove 2 = .ok (.invokevirtual 121, 3) := dk_182 0 121 (dk_at dksX1_keepAbove_0 2 rfl rfl)
theorem dX1_keepAbove_5 : decode cX1_keepAbove 5 = .ok (.astore_n 3, 1) := dk_78 (dk_at dksX1_keepAbove_0 5 rfl rfl)
theorem dX1_keepAbove_6 : decode cX1_keepAbove 6 = .ok (.iload_n 2, 1) := dk_28 (dk_at dksX1_keepAbove_0 6 rfl rfl)
theorem dX1_keepAbove_7 : decode cX1_keepAbove 7 = .ok (.invokestatic 240, 3) := dk_184 0 240 (dk_at dksX1_keepAbove_0 7 rfl rfl)
theorem dX1_keepAbove_10 : decode cX1_keepAbove 10 = .ok (.aload_n 0, 1) := dk_42 (dk_at dksX1_keepAbove_0 10 rfl rfl)
theorem dX1_keepAbove_11 : decode cX1_keepAbove 11 = .ok (.iload_n 1, 1) := dk_27 (dk_at dksX1_keepAbove_0 11 rfl rfl)
theorem dX1_keepAbove_12 : decode cX1_keepAbove 12 = .ok (.aload_n 3, 1) := dk_45 (dk_at dksX1_keepAbove_0 12 rfl rfl)
theorem dX1_keepAbove_13 : decode cX1_keepAbove 13 = .ok (.iload_n 2, 1) := dk_28 (dk_at dksX1_keepAbove_0 13 rfl rfl)
theorem dX1_keepAbove_14 : decode cX1_keepAbove 14 = .ok (.invokevirtual 360, 3) := dk_182 1 104 (dk_at dksX1_keepAbove_0 14 rfl rfl)
theorem dX1_keepAbove_17 : decode cX1_keepAbove 17 = .ok (.invokevirtual 348, 3) := dk_182 1 92 (dk_at dksX1_keepAbove_0 17 rfl rfl)
theorem dX1_keepAbove_20 : decode cX1_keepAbove 20 = .ok (.ireturn, 1) := dk_172 (dk_at dksX1_keepAbove_0 20 rfl rfl)
abbrev cX1_scaleBand : ByteArray := prog_1_method_68_code
def yX1_scaleBand : MethodName := ⟨RX1, "scaleBand", "(IIII)I"⟩
def dkwX1_scaleBand_2 : List UInt8 := [182, 1, 107, 182, 1, 92, 172]
abbrev dktX1_scaleBand_2 : List UInt8 := dkwX1_scaleBand_2 ++ []
def dkwX1_scaleBand_1 : List UInt8 := [184, 0, 18, 153, 0, 7, 4, 167, 0, 4, 3, 184, 0, 73, 42, 27, 25, 5, 28, 29, 21, 4]
abbrev dktX1_scaleBand_1 : List UInt8 := dkwX1_scaleBand_1 ++ dktX1_scaleBand_2
def dkwX1_scaleBand_0 : List UInt8 := [42, 27, 182, 0, 121, 58, 5, 25, 5, 28, 29, 182, 0, 228, 153, 0, 19, 21, 4, 16, 247, 16, 9]
abbrev dktX1_scaleBand_0 : List UInt8 := dkwX1_scaleBand_0 ++ dktX1_scaleBand_1
theorem dksX1_scaleBand_0 : cX1_scaleBand.data.toList.drop 0 = dktX1_scaleBand_0 := by decide +kernel
theorem dksX1_scaleBand_1 : cX1_scaleBand.data.toList.drop 23 = dktX1_scaleBand_1 := dk_seg dksX1_scaleBand_0 23 rfl rfl
theorem dksX1_scaleBand_2 : cX1_scaleBand.data.toList.drop 45 = dktX1_scaleBand_2 := dk_seg dksX1_scaleBand_1 22 rfl rfl
theorem dX1_scaleBand_0 : decode cX1_scaleBand 0 = .ok (.aload_n 0, 1) := dk_42 (dk_at dksX1_scaleBand_0 0 rfl rfl)
theorem dX1_scaleBand_1 : decode cX1_scaleBand 1 = .ok (.iload_n 1, 1) := dk_27 (dk_at dksX1_scaleBand_0 1 rfl rfl)
theorem dX1_scaleBand_2 : decode cX1_scaleBand 2 = .ok (.invokevirtual 121, 3) := dk_182 0 121 (dk_at dksX1_scaleBand_0 2 rfl rfl)
theorem dX1_scaleBand_5 : decode cX1_scaleBand 5 = .ok (.astore 5, 2) := dk_58 5 (dk_at dksX1_scaleBand_0 5 rfl rfl)
theorem dX1_scaleBand_7 : decode cX1_scaleBand 7 = .ok (.aload 5, 2) := dk_25 5 (dk_at dksX1_scaleBand_0 7 rfl rfl)
theorem dX1_scaleBand_9 : decode cX1_scaleBand 9 = .ok (.iload_n 2, 1) := dk_28 (dk_at dksX1_scaleBand_0 9 rfl rfl)
theorem dX1_scaleBand_10 : decode cX1_scaleBand 10 = .ok (.iload_n 3, 1) := dk_29 (dk_at dksX1_scaleBand_0 10 rfl rfl)
theorem dX1_scaleBand_11 : decode cX1_scaleBand 11 = .ok (.invokevirtual 228, 3) := dk_182 0 228 (dk_at dksX1_scaleBand_0 11 rfl rfl)
theorem dX1_scaleBand_14 : decode cX1_scaleBand 14 = .ok (.ifCond .eq 19, 3) := dk_153 0 19 (dk_at dksX1_scaleBand_0 14 rfl rfl)
theorem dX1_scaleBand_17 : decode cX1_scaleBand 17 = .ok (.iload 4, 2) := dk_21 4 (dk_at dksX1_scaleBand_0 17 rfl rfl)
theorem dX1_scaleBand_19 : decode cX1_scaleBand 19 = .ok (.bipush (-9), 2) := dk_16 247 (dk_at dksX1_scaleBand_0 19 rfl rfl)
theorem dX1_scaleBand_21 : decode cX1_scaleBand 21 = .ok (.bipush 9, 2) := dk_16 9 (dk_at dksX1_scaleBand_0 21 rfl rfl)
theorem dX1_scaleBand_23 : decode cX1_scaleBand 23 = .ok (.invokestatic 18, 3) := dk_184 0 18 (dk_at dksX1_scaleBand_1 0 rfl rfl)
theorem dX1_scaleBand_26 : decode cX1_scaleBand 26 = .ok (.ifCond .eq 7, 3) := dk_153 0 7 (dk_at dksX1_scaleBand_1 3 rfl rfl)
theorem dX1_scaleBand_29 : decode cX1_scaleBand 29 = .ok (.iconst 1, 1) := dk_4 (dk_at dksX1_scaleBand_1 6 rfl rfl)
theorem dX1_scaleBand_30 : decode cX1_scaleBand 30 = .ok (.goto 4, 3) := dk_167 0 4 (dk_at dksX1_scaleBand_1 7 rfl rfl)
theorem dX1_scaleBand_33 : decode cX1_scaleBand 33 = .ok (.iconst 0, 1) := dk_3 (dk_at dksX1_scaleBand_1 10 rfl rfl)
theorem dX1_scaleBand_34 : decode cX1_scaleBand 34 = .ok (.invokestatic 73, 3) := dk_184 0 73 (dk_at dksX1_scaleBand_1 11 rfl rfl)
theorem dX1_scaleBand_37 : decode cX1_scaleBand 37 = .ok (.aload_n 0, 1) := dk_42 (dk_at dksX1_scaleBand_1 14 rfl rfl)
theorem dX1_scaleBand_38 : decode cX1_scaleBand 38 = .ok (.iload_n 1, 1) := dk_27 (dk_at dksX1_scaleBand_1 15 rfl rfl)
theorem dX1_scaleBand_39 : decode cX1_scaleBand 39 = .ok (.aload 5, 2) := dk_25 5 (dk_at dksX1_scaleBand_1 16 rfl rfl)
theorem dX1_scaleBand_41 : decode cX1_scaleBand 41 = .ok (.iload_n 2, 1) := dk_28 (dk_at dksX1_scaleBand_1 18 rfl rfl)
theorem dX1_scaleBand_42 : decode cX1_scaleBand 42 = .ok (.iload_n 3, 1) := dk_29 (dk_at dksX1_scaleBand_1 19 rfl rfl)
theorem dX1_scaleBand_43 : decode cX1_scaleBand 43 = .ok (.iload 4, 2) := dk_21 4 (dk_at dksX1_scaleBand_1 20 rfl rfl)
theorem dX1_scaleBand_45 : decode cX1_scaleBand 45 = .ok (.invokevirtual 363, 3) := dk_182 1 107 (dk_at dksX1_scaleBand_2 0 rfl rfl)
theorem dX1_scaleBand_48 : decode cX1_scaleBand 48 = .ok (.invokevirtual 348, 3) := dk_182 1 92 (dk_at dksX1_scaleBand_2 3 rfl rfl)
theorem dX1_scaleBand_51 : decode cX1_scaleBand 51 = .ok (.ireturn, 1) := dk_172 (dk_at dksX1_scaleBand_2 6 rfl rfl)
abbrev cX1_keepPeaks : ByteArray := prog_1_method_69_code
def yX1_keepPeaks : MethodName := ⟨RX1, "keepPeaks", "(II)I"⟩
def dkwX1_keepPeaks_0 : List UInt8 := [42, 27, 182, 0, 121, 78, 45, 28, 184, 1, 26, 42, 27, 45, 28, 182, 1, 34, 182, 1, 92, 172]
abbrev dktX1_keepPeaks_0 : List UInt8 := dkwX1_keepPeaks_0 ++ []
theorem dksX1_keepPeaks_0 : cX1_keepPeaks.data.toList.drop 0 = dktX1_keepPeaks_0 := by decide +kernel
theorem dX1_keepPeaks_0 : decode cX1_keepPeaks 0 = .ok (.aload_n 0, 1) := dk_42 (dk_at dksX1_keepPeaks_0 0 rfl rfl)
theorem dX1_keepPeaks_1 : decode cX1_keepPeaks 1 = .ok (.iload_n 1, 1) := dk_27 (dk_at dksX1_keepPeaks_0 1 rfl rfl)
theorem dX1_keepPeaks_2 : decode cX1_keepPeaks 2 = .ok (.invokevirtual 121, 3) := dk_182 0 121 (dk_at dksX1_keepPeaks_0 2 rfl rfl)
theorem dX1_keepPeaks_5 : decode cX1_keepPeaks 5 = .ok (.astore_n 3, 1) := dk_78 (dk_at dksX1_keepPeaks_0 5 rfl rfl)
theorem dX1_keepPeaks_6 : decode cX1_keepPeaks 6 = .ok (.aload_n 3, 1) := dk_45 (dk_at dksX1_keepPeaks_0 6 rfl rfl)
theorem dX1_keepPeaks_7 : decode cX1_keepPeaks 7 = .ok (.iload_n 2, 1) := dk_28 (dk_at dksX1_keepPeaks_0 7 rfl rfl)
theorem dX1_keepPeaks_8 : decode cX1_keepPeaks 8 = .ok (.invokestatic 282, 3) := dk_184 1 26 (dk_at dksX1_keepPeaks_0 8 rfl rfl)
theorem dX1_keepPeaks_11 : decode cX1_keepPeaks 11 = .ok (.aload_n 0, 1) := dk_42 (dk_at dksX1_keepPeaks_0 11 rfl rfl)
theorem dX1_keepPeaks_12 : decode cX1_keepPeaks 12 = .ok (.iload_n 1, 1) := dk_27 (dk_at dksX1_keepPeaks_0 12 rfl rfl)
theorem dX1_keepPeaks_13 : decode cX1_keepPeaks 13 = .ok (.aload_n 3, 1) := dk_45 (dk_at dksX1_keepPeaks_0 13 rfl rfl)
theorem dX1_keepPeaks_14 : decode cX1_keepPeaks 14 = .ok (.iload_n 2, 1) := dk_28 (dk_at dksX1_keepPeaks_0 14 rfl rfl)
theorem dX1_keepPeaks_15 : decode cX1_keepPeaks 15 = .ok (.invokevirtual 290, 3) := dk_182 1 34 (dk_at dksX1_keepPeaks_0 15 rfl rfl)
theorem dX1_keepPeaks_18 : decode cX1_keepPeaks 18 = .ok (.invokevirtual 348, 3) := dk_182 1 92 (dk_at dksX1_keepPeaks_0 18 rfl rfl)
theorem dX1_keepPeaks_21 : decode cX1_keepPeaks 21 = .ok (.ireturn, 1) := dk_172 (dk_at dksX1_keepPeaks_0 21 rfl rfl)
abbrev cX1_removeBand : ByteArray := prog_1_method_70_code
def yX1_removeBand : MethodName := ⟨RX1, "removeBand", "(III)I"⟩
def dkwX1_removeBand_1 : List UInt8 := [182, 1, 111, 182, 1, 92, 172]
abbrev dktX1_removeBand_1 : List UInt8 := dkwX1_removeBand_1 ++ []
def dkwX1_removeBand_0 : List UInt8 := [42, 27, 182, 0, 121, 58, 4, 25, 4, 28, 29, 182, 0, 228, 184, 0, 73, 42, 27, 25, 4, 28, 29]
abbrev dktX1_removeBand_0 : List UInt8 := dkwX1_removeBand_0 ++ dktX1_removeBand_1
theorem dksX1_removeBand_0 : cX1_removeBand.data.toList.drop 0 = dktX1_removeBand_0 := by decide +kernel
theorem dksX1_removeBand_1 : cX1_removeBand.data.toList.drop 23 = dktX1_removeBand_1 := dk_seg dksX1_removeBand_0 23 rfl rfl
theorem dX1_removeBand_0 : decode cX1_removeBand 0 = .ok (.aload_n 0, 1) := dk_42 (dk_at dksX1_removeBand_0 0 rfl rfl)
theorem dX1_removeBand_1 : decode cX1_removeBand 1 = .ok (.iload_n 1, 1) := dk_27 (dk_at dksX1_removeBand_0 1 rfl rfl)
theorem dX1_removeBand_2 : decode cX1_removeBand 2 = .ok (.invokevirtual 121, 3) := dk_182 0 121 (dk_at dksX1_removeBand_0 2 rfl rfl)
theorem dX1_removeBand_5 : decode cX1_removeBand 5 = .ok (.astore 4, 2) := dk_58 4 (dk_at dksX1_removeBand_0 5 rfl rfl)
theorem dX1_removeBand_7 : decode cX1_removeBand 7 = .ok (.aload 4, 2) := dk_25 4 (dk_at dksX1_removeBand_0 7 rfl rfl)
theorem dX1_removeBand_9 : decode cX1_removeBand 9 = .ok (.iload_n 2, 1) := dk_28 (dk_at dksX1_removeBand_0 9 rfl rfl)
theorem dX1_removeBand_10 : decode cX1_removeBand 10 = .ok (.iload_n 3, 1) := dk_29 (dk_at dksX1_removeBand_0 10 rfl rfl)
theorem dX1_removeBand_11 : decode cX1_removeBand 11 = .ok (.invokevirtual 228, 3) := dk_182 0 228 (dk_at dksX1_removeBand_0 11 rfl rfl)
theorem dX1_removeBand_14 : decode cX1_removeBand 14 = .ok (.invokestatic 73, 3) := dk_184 0 73 (dk_at dksX1_removeBand_0 14 rfl rfl)
theorem dX1_removeBand_17 : decode cX1_removeBand 17 = .ok (.aload_n 0, 1) := dk_42 (dk_at dksX1_removeBand_0 17 rfl rfl)
theorem dX1_removeBand_18 : decode cX1_removeBand 18 = .ok (.iload_n 1, 1) := dk_27 (dk_at dksX1_removeBand_0 18 rfl rfl)
theorem dX1_removeBand_19 : decode cX1_removeBand 19 = .ok (.aload 4, 2) := dk_25 4 (dk_at dksX1_removeBand_0 19 rfl rfl)
theorem dX1_removeBand_21 : decode cX1_removeBand 21 = .ok (.iload_n 2, 1) := dk_28 (dk_at dksX1_removeBand_0 21 rfl rfl)
theorem dX1_removeBand_22 : decode cX1_removeBand 22 = .ok (.iload_n 3, 1) := dk_29 (dk_at dksX1_removeBand_0 22 rfl rfl)
theorem dX1_removeBand_23 : decode cX1_removeBand 23 = .ok (.invokevirtual 367, 3) := dk_182 1 111 (dk_at dksX1_removeBand_1 0 rfl rfl)
theorem dX1_removeBand_26 : decode cX1_removeBand 26 = .ok (.invokevirtual 348, 3) := dk_182 1 92 (dk_at dksX1_removeBand_1 3 rfl rfl)
theorem dX1_removeBand_29 : decode cX1_removeBand 29 = .ok (.ireturn, 1) := dk_172 (dk_at dksX1_removeBand_1 6 rfl rfl)
abbrev cX1_shift : ByteArray := prog_1_method_71_code
def yX1_shift : MethodName := ⟨RX1, "shift", "(II)I"⟩
def dkwX1_shift_1 : List UInt8 := [172]
abbrev dktX1_shift_1 : List UInt8 := dkwX1_shift_1 ++ []
def dkwX1_shift_0 : List UInt8 := [42, 27, 182, 0, 121, 78, 45, 28, 182, 0, 124, 184, 0, 73, 42, 27, 45, 28, 182, 1, 114, 182, 1, 92]
abbrev dktX1_shift_0 : List UInt8 := dkwX1_shift_0 ++ dktX1_shift_1
theorem dksX1_shift_0 : cX1_shift.data.toList.drop 0 = dktX1_shift_0 := by decide +kernel
theorem dksX1_shift_1 : cX1_shift.data.toList.drop 24 = dktX1_shift_1 := dk_seg dksX1_shift_0 24 rfl rfl
theorem dX1_shift_0 : decode cX1_shift 0 = .ok (.aload_n 0, 1) := dk_42 (dk_at dksX1_shift_0 0 rfl rfl)
theorem dX1_shift_1 : decode cX1_shift 1 = .ok (.iload_n 1, 1) := dk_27 (dk_at dksX1_shift_0 1 rfl rfl)
theorem dX1_shift_2 : decode cX1_shift 2 = .ok (.invokevirtual 121, 3) := dk_182 0 121 (dk_at dksX1_shift_0 2 rfl rfl)
theorem dX1_shift_5 : decode cX1_shift 5 = .ok (.astore_n 3, 1) := dk_78 (dk_at dksX1_shift_0 5 rfl rfl)
theorem dX1_shift_6 : decode cX1_shift 6 = .ok (.aload_n 3, 1) := dk_45 (dk_at dksX1_shift_0 6 rfl rfl)
theorem dX1_shift_7 : decode cX1_shift 7 = .ok (.iload_n 2, 1) := dk_28 (dk_at dksX1_shift_0 7 rfl rfl)
theorem dX1_shift_8 : decode cX1_shift 8 = .ok (.invokevirtual 124, 3) := dk_182 0 124 (dk_at dksX1_shift_0 8 rfl rfl)
theorem dX1_shift_11 : decode cX1_shift 11 = .ok (.invokestatic 73, 3) := dk_184 0 73 (dk_at dksX1_shift_0 11 rfl rfl)
theorem dX1_shift_14 : decode cX1_shift 14 = .ok (.aload_n 0, 1) := dk_42 (dk_at dksX1_shift_0 14 rfl rfl)
theorem dX1_shift_15 : decode cX1_shift 15 = .ok (.iload_n 1, 1) := dk_27 (dk_at dksX1_shift_0 15 rfl rfl)
theorem dX1_shift_16 : decode cX1_shift 16 = .ok (.aload_n 3, 1) := dk_45 (dk_at dksX1_shift_0 16 rfl rfl)
theorem dX1_shift_17 : decode cX1_shift 17 = .ok (.iload_n 2, 1) := dk_28 (dk_at dksX1_shift_0 17 rfl rfl)
theorem dX1_shift_18 : decode cX1_shift 18 = .ok (.invokevirtual 370, 3) := dk_182 1 114 (dk_at dksX1_shift_0 18 rfl rfl)
theorem dX1_shift_21 : decode cX1_shift 21 = .ok (.invokevirtual 348, 3) := dk_182 1 92 (dk_at dksX1_shift_0 21 rfl rfl)
theorem dX1_shift_24 : decode cX1_shift 24 = .ok (.ireturn, 1) := dk_172 (dk_at dksX1_shift_1 0 rfl rfl)
abbrev cX1_reverse : ByteArray := prog_1_method_72_code
def yX1_reverse : MethodName := ⟨RX1, "reverse", "(I)I"⟩
def dkwX1_reverse_0 : List UInt8 := [42, 27, 182, 0, 121, 77, 42, 27, 44, 182, 0, 196, 182, 1, 92, 172]
abbrev dktX1_reverse_0 : List UInt8 := dkwX1_reverse_0 ++ []
theorem dksX1_reverse_0 : cX1_reverse.data.toList.drop 0 = dktX1_reverse_0 := by decide +kernel
theorem dX1_reverse_0 : decode cX1_reverse 0 = .ok (.aload_n 0, 1) := dk_42 (dk_at dksX1_reverse_0 0 rfl rfl)
theorem dX1_reverse_1 : decode cX1_reverse 1 = .ok (.iload_n 1, 1) := dk_27 (dk_at dksX1_reverse_0 1 rfl rfl)
theorem dX1_reverse_2 : decode cX1_reverse 2 = .ok (.invokevirtual 121, 3) := dk_182 0 121 (dk_at dksX1_reverse_0 2 rfl rfl)
theorem dX1_reverse_5 : decode cX1_reverse 5 = .ok (.astore_n 2, 1) := dk_77 (dk_at dksX1_reverse_0 5 rfl rfl)
theorem dX1_reverse_6 : decode cX1_reverse 6 = .ok (.aload_n 0, 1) := dk_42 (dk_at dksX1_reverse_0 6 rfl rfl)
theorem dX1_reverse_7 : decode cX1_reverse 7 = .ok (.iload_n 1, 1) := dk_27 (dk_at dksX1_reverse_0 7 rfl rfl)
theorem dX1_reverse_8 : decode cX1_reverse 8 = .ok (.aload_n 2, 1) := dk_44 (dk_at dksX1_reverse_0 8 rfl rfl)
theorem dX1_reverse_9 : decode cX1_reverse 9 = .ok (.invokevirtual 196, 3) := dk_182 0 196 (dk_at dksX1_reverse_0 9 rfl rfl)
theorem dX1_reverse_12 : decode cX1_reverse 12 = .ok (.invokevirtual 348, 3) := dk_182 1 92 (dk_at dksX1_reverse_0 12 rfl rfl)
theorem dX1_reverse_15 : decode cX1_reverse 15 = .ok (.ireturn, 1) := dk_172 (dk_at dksX1_reverse_0 15 rfl rfl)
abbrev cX1_quantize : ByteArray := prog_1_method_73_code
def yX1_quantize : MethodName := ⟨RX1, "quantize", "(II)I"⟩
def dkwX1_quantize_1 : List UInt8 := [182, 1, 92, 172]
abbrev dktX1_quantize_1 : List UInt8 := dkwX1_quantize_1 ++ []
def dkwX1_quantize_0 : List UInt8 := [42, 27, 182, 0, 121, 78, 28, 4, 17, 3, 231, 184, 0, 18, 184, 0, 73, 42, 27, 45, 28, 182, 1, 117]
abbrev dktX1_quantize_0 : List UInt8 := dkwX1_quantize_0 ++ dktX1_quantize_1
theorem dksX1_quantize_0 : cX1_quantize.data.toList.drop 0 = dktX1_quantize_0 := by decide +kernel
theorem dksX1_quantize_1 : cX1_quantize.data.toList.drop 24 = dktX1_quantize_1 := dk_seg dksX1_quantize_0 24 rfl rfl
theorem dX1_quantize_0 : decode cX1_quantize 0 = .ok (.aload_n 0, 1) := dk_42 (dk_at dksX1_quantize_0 0 rfl rfl)
theorem dX1_quantize_1 : decode cX1_quantize 1 = .ok (.iload_n 1, 1) := dk_27 (dk_at dksX1_quantize_0 1 rfl rfl)
theorem dX1_quantize_2 : decode cX1_quantize 2 = .ok (.invokevirtual 121, 3) := dk_182 0 121 (dk_at dksX1_quantize_0 2 rfl rfl)
theorem dX1_quantize_5 : decode cX1_quantize 5 = .ok (.astore_n 3, 1) := dk_78 (dk_at dksX1_quantize_0 5 rfl rfl)
theorem dX1_quantize_6 : decode cX1_quantize 6 = .ok (.iload_n 2, 1) := dk_28 (dk_at dksX1_quantize_0 6 rfl rfl)
theorem dX1_quantize_7 : decode cX1_quantize 7 = .ok (.iconst 1, 1) := dk_4 (dk_at dksX1_quantize_0 7 rfl rfl)
theorem dX1_quantize_8 : decode cX1_quantize 8 = .ok (.sipush 999, 3) := dk_17 3 231 (dk_at dksX1_quantize_0 8 rfl rfl)
theorem dX1_quantize_11 : decode cX1_quantize 11 = .ok (.invokestatic 18, 3) := dk_184 0 18 (dk_at dksX1_quantize_0 11 rfl rfl)
theorem dX1_quantize_14 : decode cX1_quantize 14 = .ok (.invokestatic 73, 3) := dk_184 0 73 (dk_at dksX1_quantize_0 14 rfl rfl)
theorem dX1_quantize_17 : decode cX1_quantize 17 = .ok (.aload_n 0, 1) := dk_42 (dk_at dksX1_quantize_0 17 rfl rfl)
theorem dX1_quantize_18 : decode cX1_quantize 18 = .ok (.iload_n 1, 1) := dk_27 (dk_at dksX1_quantize_0 18 rfl rfl)
theorem dX1_quantize_19 : decode cX1_quantize 19 = .ok (.aload_n 3, 1) := dk_45 (dk_at dksX1_quantize_0 19 rfl rfl)
theorem dX1_quantize_20 : decode cX1_quantize 20 = .ok (.iload_n 2, 1) := dk_28 (dk_at dksX1_quantize_0 20 rfl rfl)
theorem dX1_quantize_21 : decode cX1_quantize 21 = .ok (.invokevirtual 373, 3) := dk_182 1 117 (dk_at dksX1_quantize_0 21 rfl rfl)
theorem dX1_quantize_24 : decode cX1_quantize 24 = .ok (.invokevirtual 348, 3) := dk_182 1 92 (dk_at dksX1_quantize_1 0 rfl rfl)
theorem dX1_quantize_27 : decode cX1_quantize 27 = .ok (.ireturn, 1) := dk_172 (dk_at dksX1_quantize_1 3 rfl rfl)
abbrev cX1_normalize : ByteArray := prog_1_method_74_code
def yX1_normalize : MethodName := ⟨RX1, "normalize", "(II)I"⟩
def dkwX1_normalize_1 : List UInt8 := [4, 167, 0, 4, 3, 184, 0, 65, 42, 27, 45, 28, 182, 1, 123, 182, 1, 92, 87, 45, 182, 1, 120, 172]
abbrev dktX1_normalize_1 : List UInt8 := dkwX1_normalize_1 ++ []
def dkwX1_normalize_0 : List UInt8 := [42, 27, 182, 0, 121, 78, 28, 4, 17, 39, 15, 184, 0, 18, 184, 0, 73, 45, 182, 1, 120, 158, 0, 7]
abbrev dktX1_normalize_0 : List UInt8 := dkwX1_normalize_0 ++ dktX1_normalize_1
theorem dksX1_normalize_0 : cX1_normalize.data.toList.drop 0 = dktX1_normalize_0 := by decide +kernel
theorem dksX1_normalize_1 : cX1_normalize.data.toList.drop 24 = dktX1_normalize_1 := dk_seg dksX1_normalize_0 24 rfl rfl
theorem dX1_normalize_0 : decode cX1_normalize 0 = .ok (.aload_n 0, 1) := dk_42 (dk_at dksX1_normalize_0 0 rfl rfl)
theorem dX1_normalize_1 : decode cX1_normalize 1 = .ok (.iload_n 1, 1) := dk_27 (dk_at dksX1_normalize_0 1 rfl rfl)
theorem dX1_normalize_2 : decode cX1_normalize 2 = .ok (.invokevirtual 121, 3) := dk_182 0 121 (dk_at dksX1_normalize_0 2 rfl rfl)
theorem dX1_normalize_5 : decode cX1_normalize 5 = .ok (.astore_n 3, 1) := dk_78 (dk_at dksX1_normalize_0 5 rfl rfl)
theorem dX1_normalize_6 : decode cX1_normalize 6 = .ok (.iload_n 2, 1) := dk_28 (dk_at dksX1_normalize_0 6 rfl rfl)
theorem dX1_normalize_7 : decode cX1_normalize 7 = .ok (.iconst 1, 1) := dk_4 (dk_at dksX1_normalize_0 7 rfl rfl)
theorem dX1_normalize_8 : decode cX1_normalize 8 = .ok (.sipush 9999, 3) := dk_17 39 15 (dk_at dksX1_normalize_0 8 rfl rfl)
theorem dX1_normalize_11 : decode cX1_normalize 11 = .ok (.invokestatic 18, 3) := dk_184 0 18 (dk_at dksX1_normalize_0 11 rfl rfl)
theorem dX1_normalize_14 : decode cX1_normalize 14 = .ok (.invokestatic 73, 3) := dk_184 0 73 (dk_at dksX1_normalize_0 14 rfl rfl)
theorem dX1_normalize_17 : decode cX1_normalize 17 = .ok (.aload_n 3, 1) := dk_45 (dk_at dksX1_normalize_0 17 rfl rfl)
theorem dX1_normalize_18 : decode cX1_normalize 18 = .ok (.invokevirtual 376, 3) := dk_182 1 120 (dk_at dksX1_normalize_0 18 rfl rfl)
theorem dX1_normalize_21 : decode cX1_normalize 21 = .ok (.ifCond .le 7, 3) := dk_158 0 7 (dk_at dksX1_normalize_0 21 rfl rfl)
theorem dX1_normalize_24 : decode cX1_normalize 24 = .ok (.iconst 1, 1) := dk_4 (dk_at dksX1_normalize_1 0 rfl rfl)
theorem dX1_normalize_25 : decode cX1_normalize 25 = .ok (.goto 4, 3) := dk_167 0 4 (dk_at dksX1_normalize_1 1 rfl rfl)
theorem dX1_normalize_28 : decode cX1_normalize 28 = .ok (.iconst 0, 1) := dk_3 (dk_at dksX1_normalize_1 4 rfl rfl)
theorem dX1_normalize_29 : decode cX1_normalize 29 = .ok (.invokestatic 65, 3) := dk_184 0 65 (dk_at dksX1_normalize_1 5 rfl rfl)
theorem dX1_normalize_32 : decode cX1_normalize 32 = .ok (.aload_n 0, 1) := dk_42 (dk_at dksX1_normalize_1 8 rfl rfl)
theorem dX1_normalize_33 : decode cX1_normalize 33 = .ok (.iload_n 1, 1) := dk_27 (dk_at dksX1_normalize_1 9 rfl rfl)
theorem dX1_normalize_34 : decode cX1_normalize 34 = .ok (.aload_n 3, 1) := dk_45 (dk_at dksX1_normalize_1 10 rfl rfl)
theorem dX1_normalize_35 : decode cX1_normalize 35 = .ok (.iload_n 2, 1) := dk_28 (dk_at dksX1_normalize_1 11 rfl rfl)
theorem dX1_normalize_36 : decode cX1_normalize 36 = .ok (.invokevirtual 379, 3) := dk_182 1 123 (dk_at dksX1_normalize_1 12 rfl rfl)
theorem dX1_normalize_39 : decode cX1_normalize 39 = .ok (.invokevirtual 348, 3) := dk_182 1 92 (dk_at dksX1_normalize_1 15 rfl rfl)
theorem dX1_normalize_42 : decode cX1_normalize 42 = .ok (.pop, 1) := dk_87 (dk_at dksX1_normalize_1 18 rfl rfl)
theorem dX1_normalize_43 : decode cX1_normalize 43 = .ok (.aload_n 3, 1) := dk_45 (dk_at dksX1_normalize_1 19 rfl rfl)
theorem dX1_normalize_44 : decode cX1_normalize 44 = .ok (.invokevirtual 376, 3) := dk_182 1 120 (dk_at dksX1_normalize_1 20 rfl rfl)
theorem dX1_normalize_47 : decode cX1_normalize 47 = .ok (.ireturn, 1) := dk_172 (dk_at dksX1_normalize_1 23 rfl rfl)
abbrev cX1_interleave : ByteArray := prog_1_method_75_code
def yX1_interleave : MethodName := ⟨RX1, "interleave", "(II)I"⟩
def dkwX1_interleave_1 : List UInt8 := [182, 1, 92, 172]
abbrev dktX1_interleave_1 : List UInt8 := dkwX1_interleave_1 ++ []
def dkwX1_interleave_0 : List UInt8 := [42, 27, 28, 182, 1, 9, 78, 45, 184, 1, 96, 42, 27, 42, 27, 182, 0, 121, 45, 182, 1, 126]
abbrev dktX1_interleave_0 : List UInt8 := dkwX1_interleave_0 ++ dktX1_interleave_1
theorem dksX1_interleave_0 : cX1_interleave.data.toList.drop 0 = dktX1_interleave_0 := by decide +kernel
theorem dksX1_interleave_1 : cX1_interleave.data.toList.drop 22 = dktX1_interleave_1 := dk_seg dksX1_interleave_0 22 rfl rfl
theorem dX1_interleave_0 : decode cX1_interleave 0 = .ok (.aload_n 0, 1) := dk_42 (dk_at dksX1_interleave_0 0 rfl rfl)
theorem dX1_interleave_1 : decode cX1_interleave 1 = .ok (.iload_n 1, 1) := dk_27 (dk_at dksX1_interleave_0 1 rfl rfl)
theorem dX1_interleave_2 : decode cX1_interleave 2 = .ok (.iload_n 2, 1) := dk_28 (dk_at dksX1_interleave_0 2 rfl rfl)
theorem dX1_interleave_3 : decode cX1_interleave 3 = .ok (.invokevirtual 265, 3) := dk_182 1 9 (dk_at dksX1_interleave_0 3 rfl rfl)
theorem dX1_interleave_6 : decode cX1_interleave 6 = .ok (.astore_n 3, 1) := dk_78 (dk_at dksX1_interleave_0 6 rfl rfl)
theorem dX1_interleave_7 : decode cX1_interleave 7 = .ok (.aload_n 3, 1) := dk_45 (dk_at dksX1_interleave_0 7 rfl rfl)
theorem dX1_interleave_8 : decode cX1_interleave 8 = .ok (.invokestatic 352, 3) := dk_184 1 96 (dk_at dksX1_interleave_0 8 rfl rfl)
theorem dX1_interleave_11 : decode cX1_interleave 11 = .ok (.aload_n 0, 1) := dk_42 (dk_at dksX1_interleave_0 11 rfl rfl)
theorem dX1_interleave_12 : decode cX1_interleave 12 = .ok (.iload_n 1, 1) := dk_27 (dk_at dksX1_interleave_0 12 rfl rfl)
theorem dX1_interleave_13 : decode cX1_interleave 13 = .ok (.aload_n 0, 1) := dk_42 (dk_at dksX1_interleave_0 13 rfl rfl)
theorem dX1_interleave_14 : decode cX1_interleave 14 = .ok (.iload_n 1, 1) := dk_27 (dk_at dksX1_interleave_0 14 rfl rfl)
theorem dX1_interleave_15 : decode cX1_interleave 15 = .ok (.invokevirtual 121, 3) := dk_182 0 121 (dk_at dksX1_interleave_0 15 rfl rfl)
theorem dX1_interleave_18 : decode cX1_interleave 18 = .ok (.aload_n 3, 1) := dk_45 (dk_at dksX1_interleave_0 18 rfl rfl)
theorem dX1_interleave_19 : decode cX1_interleave 19 = .ok (.invokevirtual 382, 3) := dk_182 1 126 (dk_at dksX1_interleave_0 19 rfl rfl)
theorem dX1_interleave_22 : decode cX1_interleave 22 = .ok (.invokevirtual 348, 3) := dk_182 1 92 (dk_at dksX1_interleave_1 0 rfl rfl)
theorem dX1_interleave_25 : decode cX1_interleave 25 = .ok (.ireturn, 1) := dk_172 (dk_at dksX1_interleave_1 3 rfl rfl)
abbrev cX1_stretch : ByteArray := prog_1_method_76_code
def yX1_stretch : MethodName := ⟨RX1, "stretch", "(I)I"⟩
def dkwX1_stretch_0 : List UInt8 := [42, 27, 182, 0, 121, 77, 44, 184, 1, 96, 42, 27, 44, 182, 1, 129, 182, 1, 92, 172]
abbrev dktX1_stretch_0 : List UInt8 := dkwX1_stretch_0 ++ []
theorem dksX1_stretch_0 : cX1_stretch.data.toList.drop 0 = dktX1_stretch_0 := by decide +kernel
theorem dX1_stretch_0 : decode cX1_stretch 0 = .ok (.aload_n 0, 1) := dk_42 (dk_at dksX1_stretch_0 0 rfl rfl)
theorem dX1_stretch_1 : decode cX1_stretch 1 = .ok (.iload_n 1, 1) := dk_27 (dk_at dksX1_stretch_0 1 rfl rfl)
theorem dX1_stretch_2 : decode cX1_stretch 2 = .ok (.invokevirtual 121, 3) := dk_182 0 121 (dk_at dksX1_stretch_0 2 rfl rfl)
theorem dX1_stretch_5 : decode cX1_stretch 5 = .ok (.astore_n 2, 1) := dk_77 (dk_at dksX1_stretch_0 5 rfl rfl)
theorem dX1_stretch_6 : decode cX1_stretch 6 = .ok (.aload_n 2, 1) := dk_44 (dk_at dksX1_stretch_0 6 rfl rfl)
theorem dX1_stretch_7 : decode cX1_stretch 7 = .ok (.invokestatic 352, 3) := dk_184 1 96 (dk_at dksX1_stretch_0 7 rfl rfl)
theorem dX1_stretch_10 : decode cX1_stretch 10 = .ok (.aload_n 0, 1) := dk_42 (dk_at dksX1_stretch_0 10 rfl rfl)
theorem dX1_stretch_11 : decode cX1_stretch 11 = .ok (.iload_n 1, 1) := dk_27 (dk_at dksX1_stretch_0 11 rfl rfl)
theorem dX1_stretch_12 : decode cX1_stretch 12 = .ok (.aload_n 2, 1) := dk_44 (dk_at dksX1_stretch_0 12 rfl rfl)
theorem dX1_stretch_13 : decode cX1_stretch 13 = .ok (.invokevirtual 385, 3) := dk_182 1 129 (dk_at dksX1_stretch_0 13 rfl rfl)
theorem dX1_stretch_16 : decode cX1_stretch 16 = .ok (.invokevirtual 348, 3) := dk_182 1 92 (dk_at dksX1_stretch_0 16 rfl rfl)
theorem dX1_stretch_19 : decode cX1_stretch 19 = .ok (.ireturn, 1) := dk_172 (dk_at dksX1_stretch_0 19 rfl rfl)
abbrev cX1_fold : ByteArray := prog_1_method_77_code
def yX1_fold : MethodName := ⟨RX1, "fold", "(I)I"⟩
def dkwX1_fold_1 : List UInt8 := [44, 182, 1, 132, 182, 1, 92, 172]
abbrev dktX1_fold_1 : List UInt8 := dkwX1_fold_1 ++ []
def dkwX1_fold_0 : List UInt8 := [42, 27, 182, 0, 121, 77, 44, 182, 0, 148, 5, 164, 0, 7, 4, 167, 0, 4, 3, 184, 0, 65, 42, 27]
abbrev dktX1_fold_0 : List UInt8 := dkwX1_fold_0 ++ dktX1_fold_1
theorem dksX1_fold_0 : cX1_fold.data.toList.drop 0 = dktX1_fold_0 := by decide +kernel
theorem dksX1_fold_1 : cX1_fold.data.toList.drop 24 = dktX1_fold_1 := dk_seg dksX1_fold_0 24 rfl rfl
theorem dX1_fold_0 : decode cX1_fold 0 = .ok (.aload_n 0, 1) := dk_42 (dk_at dksX1_fold_0 0 rfl rfl)
theorem dX1_fold_1 : decode cX1_fold 1 = .ok (.iload_n 1, 1) := dk_27 (dk_at dksX1_fold_0 1 rfl rfl)
theorem dX1_fold_2 : decode cX1_fold 2 = .ok (.invokevirtual 121, 3) := dk_182 0 121 (dk_at dksX1_fold_0 2 rfl rfl)
theorem dX1_fold_5 : decode cX1_fold 5 = .ok (.astore_n 2, 1) := dk_77 (dk_at dksX1_fold_0 5 rfl rfl)
theorem dX1_fold_6 : decode cX1_fold 6 = .ok (.aload_n 2, 1) := dk_44 (dk_at dksX1_fold_0 6 rfl rfl)
theorem dX1_fold_7 : decode cX1_fold 7 = .ok (.invokevirtual 148, 3) := dk_182 0 148 (dk_at dksX1_fold_0 7 rfl rfl)
theorem dX1_fold_10 : decode cX1_fold 10 = .ok (.iconst 2, 1) := dk_5 (dk_at dksX1_fold_0 10 rfl rfl)
theorem dX1_fold_11 : decode cX1_fold 11 = .ok (.if_icmp .le 7, 3) := dk_164 0 7 (dk_at dksX1_fold_0 11 rfl rfl)
theorem dX1_fold_14 : decode cX1_fold 14 = .ok (.iconst 1, 1) := dk_4 (dk_at dksX1_fold_0 14 rfl rfl)
theorem dX1_fold_15 : decode cX1_fold 15 = .ok (.goto 4, 3) := dk_167 0 4 (dk_at dksX1_fold_0 15 rfl rfl)
theorem dX1_fold_18 : decode cX1_fold 18 = .ok (.iconst 0, 1) := dk_3 (dk_at dksX1_fold_0 18 rfl rfl)
theorem dX1_fold_19 : decode cX1_fold 19 = .ok (.invokestatic 65, 3) := dk_184 0 65 (dk_at dksX1_fold_0 19 rfl rfl)
theorem dX1_fold_22 : decode cX1_fold 22 = .ok (.aload_n 0, 1) := dk_42 (dk_at dksX1_fold_0 22 rfl rfl)
theorem dX1_fold_23 : decode cX1_fold 23 = .ok (.iload_n 1, 1) := dk_27 (dk_at dksX1_fold_0 23 rfl rfl)
theorem dX1_fold_24 : decode cX1_fold 24 = .ok (.aload_n 2, 1) := dk_44 (dk_at dksX1_fold_1 0 rfl rfl)
theorem dX1_fold_25 : decode cX1_fold 25 = .ok (.invokevirtual 388, 3) := dk_182 1 132 (dk_at dksX1_fold_1 1 rfl rfl)
theorem dX1_fold_28 : decode cX1_fold 28 = .ok (.invokevirtual 348, 3) := dk_182 1 92 (dk_at dksX1_fold_1 4 rfl rfl)
theorem dX1_fold_31 : decode cX1_fold 31 = .ok (.ireturn, 1) := dk_172 (dk_at dksX1_fold_1 7 rfl rfl)
abbrev cX1_undo : ByteArray := prog_1_method_78_code
def yX1_undo : MethodName := ⟨RX1, "undo", "()I"⟩
def dkwX1_undo_1 : List UInt8 := [182, 1, 138, 192, 0, 42, 181, 0, 45, 42, 180, 0, 52, 182, 1, 42, 172]
abbrev dktX1_undo_1 : List UInt8 := dkwX1_undo_1 ++ []
def dkwX1_undo_0 : List UInt8 := [42, 180, 0, 52, 182, 1, 135, 154, 0, 7, 4, 167, 0, 4, 3, 184, 0, 65, 42, 42, 180, 0, 52]
abbrev dktX1_undo_0 : List UInt8 := dkwX1_undo_0 ++ dktX1_undo_1
theorem dksX1_undo_0 : cX1_undo.data.toList.drop 0 = dktX1_undo_0 := by decide +kernel
theorem dksX1_undo_1 : cX1_undo.data.toList.drop 23 = dktX1_undo_1 := dk_seg dksX1_undo_0 23 rfl rfl
theorem dX1_undo_0 : decode cX1_undo 0 = .ok (.aload_n 0, 1) := dk_42 (dk_at dksX1_undo_0 0 rfl rfl)
theorem dX1_undo_1 : decode cX1_undo 1 = .ok (.getfield 52, 3) := dk_180 0 52 (dk_at dksX1_undo_0 1 rfl rfl)
theorem dX1_undo_4 : decode cX1_undo 4 = .ok (.invokevirtual 391, 3) := dk_182 1 135 (dk_at dksX1_undo_0 4 rfl rfl)
theorem dX1_undo_7 : decode cX1_undo 7 = .ok (.ifCond .ne 7, 3) := dk_154 0 7 (dk_at dksX1_undo_0 7 rfl rfl)
theorem dX1_undo_10 : decode cX1_undo 10 = .ok (.iconst 1, 1) := dk_4 (dk_at dksX1_undo_0 10 rfl rfl)
theorem dX1_undo_11 : decode cX1_undo 11 = .ok (.goto 4, 3) := dk_167 0 4 (dk_at dksX1_undo_0 11 rfl rfl)
theorem dX1_undo_14 : decode cX1_undo 14 = .ok (.iconst 0, 1) := dk_3 (dk_at dksX1_undo_0 14 rfl rfl)
theorem dX1_undo_15 : decode cX1_undo 15 = .ok (.invokestatic 65, 3) := dk_184 0 65 (dk_at dksX1_undo_0 15 rfl rfl)
theorem dX1_undo_18 : decode cX1_undo 18 = .ok (.aload_n 0, 1) := dk_42 (dk_at dksX1_undo_0 18 rfl rfl)
theorem dX1_undo_19 : decode cX1_undo 19 = .ok (.aload_n 0, 1) := dk_42 (dk_at dksX1_undo_0 19 rfl rfl)
theorem dX1_undo_20 : decode cX1_undo 20 = .ok (.getfield 52, 3) := dk_180 0 52 (dk_at dksX1_undo_0 20 rfl rfl)
theorem dX1_undo_23 : decode cX1_undo 23 = .ok (.invokevirtual 394, 3) := dk_182 1 138 (dk_at dksX1_undo_1 0 rfl rfl)
theorem dX1_undo_26 : decode cX1_undo 26 = .ok (.checkcast 42, 3) := dk_192 0 42 (dk_at dksX1_undo_1 3 rfl rfl)
theorem dX1_undo_29 : decode cX1_undo 29 = .ok (.putfield 45, 3) := dk_181 0 45 (dk_at dksX1_undo_1 6 rfl rfl)
theorem dX1_undo_32 : decode cX1_undo 32 = .ok (.aload_n 0, 1) := dk_42 (dk_at dksX1_undo_1 9 rfl rfl)
theorem dX1_undo_33 : decode cX1_undo 33 = .ok (.getfield 52, 3) := dk_180 0 52 (dk_at dksX1_undo_1 10 rfl rfl)
theorem dX1_undo_36 : decode cX1_undo 36 = .ok (.invokevirtual 298, 3) := dk_182 1 42 (dk_at dksX1_undo_1 13 rfl rfl)
theorem dX1_undo_39 : decode cX1_undo 39 = .ok (.ireturn, 1) := dk_172 (dk_at dksX1_undo_1 16 rfl rfl)
abbrev cX1_restore : ByteArray := prog_1_method_80_code
def yX1_restore : MethodName := ⟨RX1, "restore", "()I"⟩
def dkwX1_restore_1 : List UInt8 := [182, 1, 47, 181, 0, 45, 42, 180, 0, 45, 180, 0, 102, 182, 0, 106, 172]
abbrev dktX1_restore_1 : List UInt8 := dkwX1_restore_1 ++ []
def dkwX1_restore_0 : List UInt8 := [42, 180, 0, 99, 198, 0, 7, 4, 167, 0, 4, 3, 184, 0, 65, 42, 182, 1, 54, 42, 42, 180, 0, 99]
abbrev dktX1_restore_0 : List UInt8 := dkwX1_restore_0 ++ dktX1_restore_1
theorem dksX1_restore_0 : cX1_restore.data.toList.drop 0 = dktX1_restore_0 := by decide +kernel
theorem dksX1_restore_1 : cX1_restore.data.toList.drop 24 = dktX1_restore_1 := dk_seg dksX1_restore_0 24 rfl rfl
theorem dX1_restore_0 : decode cX1_restore 0 = .ok (.aload_n 0, 1) := dk_42 (dk_at dksX1_restore_0 0 rfl rfl)
theorem dX1_restore_1 : decode cX1_restore 1 = .ok (.getfield 99, 3) := dk_180 0 99 (dk_at dksX1_restore_0 1 rfl rfl)
theorem dX1_restore_4 : decode cX1_restore 4 = .ok (.ifnull 7, 3) := dk_198 0 7 (dk_at dksX1_restore_0 4 rfl rfl)
theorem dX1_restore_7 : decode cX1_restore 7 = .ok (.iconst 1, 1) := dk_4 (dk_at dksX1_restore_0 7 rfl rfl)
theorem dX1_restore_8 : decode cX1_restore 8 = .ok (.goto 4, 3) := dk_167 0 4 (dk_at dksX1_restore_0 8 rfl rfl)
theorem dX1_restore_11 : decode cX1_restore 11 = .ok (.iconst 0, 1) := dk_3 (dk_at dksX1_restore_0 11 rfl rfl)
theorem dX1_restore_12 : decode cX1_restore 12 = .ok (.invokestatic 65, 3) := dk_184 0 65 (dk_at dksX1_restore_0 12 rfl rfl)
theorem dX1_restore_15 : decode cX1_restore 15 = .ok (.aload_n 0, 1) := dk_42 (dk_at dksX1_restore_0 15 rfl rfl)
theorem dX1_restore_16 : decode cX1_restore 16 = .ok (.invokevirtual 310, 3) := dk_182 1 54 (dk_at dksX1_restore_0 16 rfl rfl)
theorem dX1_restore_19 : decode cX1_restore 19 = .ok (.aload_n 0, 1) := dk_42 (dk_at dksX1_restore_0 19 rfl rfl)
theorem dX1_restore_20 : decode cX1_restore 20 = .ok (.aload_n 0, 1) := dk_42 (dk_at dksX1_restore_0 20 rfl rfl)
theorem dX1_restore_21 : decode cX1_restore 21 = .ok (.getfield 99, 3) := dk_180 0 99 (dk_at dksX1_restore_0 21 rfl rfl)
theorem dX1_restore_24 : decode cX1_restore 24 = .ok (.invokevirtual 303, 3) := dk_182 1 47 (dk_at dksX1_restore_1 0 rfl rfl)
theorem dX1_restore_27 : decode cX1_restore 27 = .ok (.putfield 45, 3) := dk_181 0 45 (dk_at dksX1_restore_1 3 rfl rfl)
theorem dX1_restore_30 : decode cX1_restore 30 = .ok (.aload_n 0, 1) := dk_42 (dk_at dksX1_restore_1 6 rfl rfl)
theorem dX1_restore_31 : decode cX1_restore 31 = .ok (.getfield 45, 3) := dk_180 0 45 (dk_at dksX1_restore_1 7 rfl rfl)
theorem dX1_restore_34 : decode cX1_restore 34 = .ok (.getfield 102, 3) := dk_180 0 102 (dk_at dksX1_restore_1 10 rfl rfl)
theorem dX1_restore_37 : decode cX1_restore 37 = .ok (.invokevirtual 106, 3) := dk_182 0 106 (dk_at dksX1_restore_1 13 rfl rfl)
theorem dX1_restore_40 : decode cX1_restore 40 = .ok (.ireturn, 1) := dk_172 (dk_at dksX1_restore_1 16 rfl rfl)
abbrev cX1_formatSamples : ByteArray := prog_1_method_82_code
def yX1_formatSamples : MethodName := ⟨RX1, "formatSamples", "(I)I"⟩
def dkwX1_formatSamples_3 : List UInt8 := [182, 1, 145, 172]
abbrev dktX1_formatSamples_3 : List UInt8 := dkwX1_formatSamples_3 ++ []
def dkwX1_formatSamples_2 : List UInt8 := [46, 54, 7, 45, 16, 32, 182, 0, 131, 21, 7, 182, 1, 142, 87, 132, 6, 1, 167, 255, 227, 42, 45]
abbrev dktX1_formatSamples_2 : List UInt8 := dkwX1_formatSamples_2 ++ dktX1_formatSamples_3
def dkwX1_formatSamples_1 : List UInt8 := [180, 0, 178, 58, 4, 25, 4, 190, 54, 5, 3, 54, 6, 21, 6, 21, 5, 162, 0, 28, 25, 4, 21, 6]
abbrev dktX1_formatSamples_1 : List UInt8 := dkwX1_formatSamples_1 ++ dktX1_formatSamples_2
def dkwX1_formatSamples_0 : List UInt8 := [42, 27, 182, 0, 121, 77, 187, 0, 128, 89, 44, 180, 0, 149, 180, 0, 153, 183, 1, 141, 78, 44]
abbrev dktX1_formatSamples_0 : List UInt8 := dkwX1_formatSamples_0 ++ dktX1_formatSamples_1
theorem dksX1_formatSamples_0 : cX1_formatSamples.data.toList.drop 0 = dktX1_formatSamples_0 := by decide +kernel
theorem dksX1_formatSamples_1 : cX1_formatSamples.data.toList.drop 22 = dktX1_formatSamples_1 := dk_seg dksX1_formatSamples_0 22 rfl rfl
theorem dksX1_formatSamples_2 : cX1_formatSamples.data.toList.drop 46 = dktX1_formatSamples_2 := dk_seg dksX1_formatSamples_1 24 rfl rfl
theorem dksX1_formatSamples_3 : cX1_formatSamples.data.toList.drop 69 = dktX1_formatSamples_3 := dk_seg dksX1_formatSamples_2 23 rfl rfl
theorem dX1_formatSamples_0 : decode cX1_formatSamples 0 = .ok (.aload_n 0, 1) := dk_42 (dk_at dksX1_formatSamples_0 0 rfl rfl)
theorem dX1_formatSamples_1 : decode cX1_formatSamples 1 = .ok (.iload_n 1, 1) := dk_27 (dk_at dksX1_formatSamples_0 1 rfl rfl)
theorem dX1_formatSamples_2 : decode cX1_formatSamples 2 = .ok (.invokevirtual 121, 3) := dk_182 0 121 (dk_at dksX1_formatSamples_0 2 rfl rfl)
theorem dX1_formatSamples_5 : decode cX1_formatSamples 5 = .ok (.astore_n 2, 1) := dk_77 (dk_at dksX1_formatSamples_0 5 rfl rfl)
theorem dX1_formatSamples_6 : decode cX1_formatSamples 6 = .ok (.new 128, 3) := dk_187 0 128 (dk_at dksX1_formatSamples_0 6 rfl rfl)
theorem dX1_formatSamples_9 : decode cX1_formatSamples 9 = .ok (.dup, 1) := dk_89 (dk_at dksX1_formatSamples_0 9 rfl rfl)
theorem dX1_formatSamples_10 : decode cX1_formatSamples 10 = .ok (.aload_n 2, 1) := dk_44 (dk_at dksX1_formatSamples_0 10 rfl rfl)
theorem dX1_formatSamples_11 : decode cX1_formatSamples 11 = .ok (.getfield 149, 3) := dk_180 0 149 (dk_at dksX1_formatSamples_0 11 rfl rfl)
theorem dX1_formatSamples_14 : decode cX1_formatSamples 14 = .ok (.getfield 153, 3) := dk_180 0 153 (dk_at dksX1_formatSamples_0 14 rfl rfl)
theorem dX1_formatSamples_17 : decode cX1_formatSamples 17 = .ok (.invokespecial 397, 3) := dk_183 1 141 (dk_at dksX1_formatSamples_0 17 rfl rfl)
theorem dX1_formatSamples_20 : decode cX1_formatSamples 20 = .ok (.astore_n 3, 1) := dk_78 (dk_at dksX1_formatSamples_0 20 rfl rfl)
theorem dX1_formatSamples_21 : decode cX1_formatSamples 21 = .ok (.aload_n 2, 1) := dk_44 (dk_at dksX1_formatSamples_0 21 rfl rfl)
theorem dX1_formatSamples_22 : decode cX1_formatSamples 22 = .ok (.getfield 178, 3) := dk_180 0 178 (dk_at dksX1_formatSamples_1 0 rfl rfl)
theorem dX1_formatSamples_25 : decode cX1_formatSamples 25 = .ok (.astore 4, 2) := dk_58 4 (dk_at dksX1_formatSamples_1 3 rfl rfl)
theorem dX1_formatSamples_27 : decode cX1_formatSamples 27 = .ok (.aload 4, 2) := dk_25 4 (dk_at dksX1_formatSamples_1 5 rfl rfl)
theorem dX1_formatSamples_29 : decode cX1_formatSamples 29 = .ok (.arraylength, 1) := dk_190 (dk_at dksX1_formatSamples_1 7 rfl rfl)
theorem dX1_formatSamples_30 : decode cX1_formatSamples 30 = .ok (.istore 5, 2) := dk_54 5 (dk_at dksX1_formatSamples_1 8 rfl rfl)
theorem dX1_formatSamples_32 : decode cX1_formatSamples 32 = .ok (.iconst 0, 1) := dk_3 (dk_at dksX1_formatSamples_1 10 rfl rfl)
theorem dX1_formatSamples_33 : decode cX1_formatSamples 33 = .ok (.istore 6, 2) := dk_54 6 (dk_at dksX1_formatSamples_1 11 rfl rfl)
theorem dX1_formatSamples_35 : decode cX1_formatSamples 35 = .ok (.iload 6, 2) := dk_21 6 (dk_at dksX1_formatSamples_1 13 rfl rfl)
theorem dX1_formatSamples_37 : decode cX1_formatSamples 37 = .ok (.iload 5, 2) := dk_21 5 (dk_at dksX1_formatSamples_1 15 rfl rfl)
theorem dX1_formatSamples_39 : decode cX1_formatSamples 39 = .ok (.if_icmp .ge 28, 3) := dk_162 0 28 (dk_at dksX1_formatSamples_1 17 rfl rfl)
theorem dX1_formatSamples_42 : decode cX1_formatSamples 42 = .ok (.aload 4, 2) := dk_25 4 (dk_at dksX1_formatSamples_1 20 rfl rfl)
theorem dX1_formatSamples_44 : decode cX1_formatSamples 44 = .ok (.iload 6, 2) := dk_21 6 (dk_at dksX1_formatSamples_1 22 rfl rfl)
theorem dX1_formatSamples_46 : decode cX1_formatSamples 46 = .ok (.iaload, 1) := dk_46 (dk_at dksX1_formatSamples_2 0 rfl rfl)
theorem dX1_formatSamples_47 : decode cX1_formatSamples 47 = .ok (.istore 7, 2) := dk_54 7 (dk_at dksX1_formatSamples_2 1 rfl rfl)
theorem dX1_formatSamples_49 : decode cX1_formatSamples 49 = .ok (.aload_n 3, 1) := dk_45 (dk_at dksX1_formatSamples_2 3 rfl rfl)
theorem dX1_formatSamples_50 : decode cX1_formatSamples 50 = .ok (.bipush 32, 2) := dk_16 32 (dk_at dksX1_formatSamples_2 4 rfl rfl)
theorem dX1_formatSamples_52 : decode cX1_formatSamples 52 = .ok (.invokevirtual 131, 3) := dk_182 0 131 (dk_at dksX1_formatSamples_2 6 rfl rfl)
theorem dX1_formatSamples_55 : decode cX1_formatSamples 55 = .ok (.iload 7, 2) := dk_21 7 (dk_at dksX1_formatSamples_2 9 rfl rfl)
theorem dX1_formatSamples_57 : decode cX1_formatSamples 57 = .ok (.invokevirtual 398, 3) := dk_182 1 142 (dk_at dksX1_formatSamples_2 11 rfl rfl)
theorem dX1_formatSamples_60 : decode cX1_formatSamples 60 = .ok (.pop, 1) := dk_87 (dk_at dksX1_formatSamples_2 14 rfl rfl)
theorem dX1_formatSamples_61 : decode cX1_formatSamples 61 = .ok (.iinc 6 1, 3) := dk_132 6 1 (dk_at dksX1_formatSamples_2 15 rfl rfl)
theorem dX1_formatSamples_64 : decode cX1_formatSamples 64 = .ok (.goto (-29), 3) := dk_167 255 227 (dk_at dksX1_formatSamples_2 18 rfl rfl)
theorem dX1_formatSamples_67 : decode cX1_formatSamples 67 = .ok (.aload_n 0, 1) := dk_42 (dk_at dksX1_formatSamples_2 21 rfl rfl)
theorem dX1_formatSamples_68 : decode cX1_formatSamples 68 = .ok (.aload_n 3, 1) := dk_45 (dk_at dksX1_formatSamples_2 22 rfl rfl)
theorem dX1_formatSamples_69 : decode cX1_formatSamples 69 = .ok (.invokevirtual 401, 3) := dk_182 1 145 (dk_at dksX1_formatSamples_3 0 rfl rfl)
theorem dX1_formatSamples_72 : decode cX1_formatSamples 72 = .ok (.ireturn, 1) := dk_172 (dk_at dksX1_formatSamples_3 3 rfl rfl)
abbrev cX1_format : ByteArray := prog_1_method_81_code
def yX1_format : MethodName := ⟨RX1, "format", "(Ljava/lang/StringBuilder;)I"⟩
def dkwX1_format_0 : List UInt8 := [42, 43, 182, 0, 135, 181, 0, 58, 42, 180, 0, 58, 182, 0, 139, 172]
abbrev dktX1_format_0 : List UInt8 := dkwX1_format_0 ++ []
theorem dksX1_format_0 : cX1_format.data.toList.drop 0 = dktX1_format_0 := by decide +kernel
theorem dX1_format_0 : decode cX1_format 0 = .ok (.aload_n 0, 1) := dk_42 (dk_at dksX1_format_0 0 rfl rfl)
theorem dX1_format_1 : decode cX1_format 1 = .ok (.aload_n 1, 1) := dk_43 (dk_at dksX1_format_0 1 rfl rfl)
theorem dX1_format_2 : decode cX1_format 2 = .ok (.invokevirtual 135, 3) := dk_182 0 135 (dk_at dksX1_format_0 2 rfl rfl)
theorem dX1_format_5 : decode cX1_format 5 = .ok (.putfield 58, 3) := dk_181 0 58 (dk_at dksX1_format_0 5 rfl rfl)
theorem dX1_format_8 : decode cX1_format 8 = .ok (.aload_n 0, 1) := dk_42 (dk_at dksX1_format_0 8 rfl rfl)
theorem dX1_format_9 : decode cX1_format 9 = .ok (.getfield 58, 3) := dk_180 0 58 (dk_at dksX1_format_0 9 rfl rfl)
theorem dX1_format_12 : decode cX1_format 12 = .ok (.invokevirtual 139, 3) := dk_182 0 139 (dk_at dksX1_format_0 12 rfl rfl)
theorem dX1_format_15 : decode cX1_format 15 = .ok (.ireturn, 1) := dk_172 (dk_at dksX1_format_0 15 rfl rfl)
abbrev cX1_formatPeaks : ByteArray := prog_1_method_83_code
def yX1_formatPeaks : MethodName := ⟨RX1, "formatPeaks", "(II)I"⟩
def dkwX1_formatPeaks_5 : List UInt8 := [25, 4, 182, 1, 145, 172]
abbrev dktX1_formatPeaks_5 : List UInt8 := dkwX1_formatPeaks_5 ++ []
def dkwX1_formatPeaks_4 : List UInt8 := [87, 132, 5, 1, 167, 255, 182, 25, 4, 182, 1, 149, 154, 0, 11, 25, 4, 16, 45, 182, 0, 131, 87, 42]
abbrev dktX1_formatPeaks_4 : List UInt8 := dkwX1_formatPeaks_4 ++ dktX1_formatPeaks_5
def dkwX1_formatPeaks_3 : List UInt8 := [45, 21, 6, 182, 0, 247, 182, 1, 142, 16, 58, 182, 0, 131, 45, 182, 0, 225, 21, 6, 46, 182, 1, 142]
abbrev dktX1_formatPeaks_3 : List UInt8 := dkwX1_formatPeaks_3 ++ dktX1_formatPeaks_4
def dkwX1_formatPeaks_2 : List UInt8 := [154, 0, 6, 167, 0, 46, 25, 4, 182, 1, 149, 158, 0, 11, 25, 4, 16, 32, 182, 0, 131, 87, 25, 4]
abbrev dktX1_formatPeaks_2 : List UInt8 := dkwX1_formatPeaks_2 ++ dktX1_formatPeaks_3
def dkwX1_formatPeaks_1 : List UInt8 := [21, 5, 28, 162, 0, 74, 45, 182, 1, 0, 21, 5, 46, 54, 6, 45, 182, 0, 225, 21, 6, 46]
abbrev dktX1_formatPeaks_1 : List UInt8 := dkwX1_formatPeaks_1 ++ dktX1_formatPeaks_2
def dkwX1_formatPeaks_0 : List UInt8 := [42, 27, 182, 0, 121, 78, 45, 28, 184, 1, 26, 187, 0, 128, 89, 183, 0, 130, 58, 4, 3, 54, 5]
abbrev dktX1_formatPeaks_0 : List UInt8 := dkwX1_formatPeaks_0 ++ dktX1_formatPeaks_1
theorem dksX1_formatPeaks_0 : cX1_formatPeaks.data.toList.drop 0 = dktX1_formatPeaks_0 := by decide +kernel
theorem dksX1_formatPeaks_1 : cX1_formatPeaks.data.toList.drop 23 = dktX1_formatPeaks_1 := dk_seg dksX1_formatPeaks_0 23 rfl rfl
theorem dksX1_formatPeaks_2 : cX1_formatPeaks.data.toList.drop 45 = dktX1_formatPeaks_2 := dk_seg dksX1_formatPeaks_1 22 rfl rfl
theorem dksX1_formatPeaks_3 : cX1_formatPeaks.data.toList.drop 69 = dktX1_formatPeaks_3 := dk_seg dksX1_formatPeaks_2 24 rfl rfl
theorem dksX1_formatPeaks_4 : cX1_formatPeaks.data.toList.drop 93 = dktX1_formatPeaks_4 := dk_seg dksX1_formatPeaks_3 24 rfl rfl
theorem dksX1_formatPeaks_5 : cX1_formatPeaks.data.toList.drop 117 = dktX1_formatPeaks_5 := dk_seg dksX1_formatPeaks_4 24 rfl rfl
theorem dX1_formatPeaks_0 : decode cX1_formatPeaks 0 = .ok (.aload_n 0, 1) := dk_42 (dk_at dksX1_formatPeaks_0 0 rfl rfl)
theorem dX1_formatPeaks_1 : decode cX1_formatPeaks 1 = .ok (.iload_n 1, 1) := dk_27 (dk_at dksX1_formatPeaks_0 1 rfl rfl)
theorem dX1_formatPeaks_2 : decode cX1_formatPeaks 2 = .ok (.invokevirtual 121, 3) := dk_182 0 121 (dk_at dksX1_formatPeaks_0 2 rfl rfl)
theorem dX1_formatPeaks_5 : decode cX1_formatPeaks 5 = .ok (.astore_n 3, 1) := dk_78 (dk_at dksX1_formatPeaks_0 5 rfl rfl)
theorem dX1_formatPeaks_6 : decode cX1_formatPeaks 6 = .ok (.aload_n 3, 1) := dk_45 (dk_at dksX1_formatPeaks_0 6 rfl rfl)
theorem dX1_formatPeaks_7 : decode cX1_formatPeaks 7 = .ok (.iload_n 2, 1) := dk_28 (dk_at dksX1_formatPeaks_0 7 rfl rfl)
theorem dX1_formatPeaks_8 : decode cX1_formatPeaks 8 = .ok (.invokestatic 282, 3) := dk_184 1 26 (dk_at dksX1_formatPeaks_0 8 rfl rfl)
theorem dX1_formatPeaks_11 : decode cX1_formatPeaks 11 = .ok (.new 128, 3) := dk_187 0 128 (dk_at dksX1_formatPeaks_0 11 rfl rfl)
theorem dX1_formatPeaks_14 : decode cX1_formatPeaks 14 = .ok (.dup, 1) := dk_89 (dk_at dksX1_formatPeaks_0 14 rfl rfl)
theorem dX1_formatPeaks_15 : decode cX1_formatPeaks 15 = .ok (.invokespecial 130, 3) := dk_183 0 130 (dk_at dksX1_formatPeaks_0 15 rfl rfl)
theorem dX1_formatPeaks_18 : decode cX1_formatPeaks 18 = .ok (.astore 4, 2) := dk_58 4 (dk_at dksX1_formatPeaks_0 18 rfl rfl)
theorem dX1_formatPeaks_20 : decode cX1_formatPeaks 20 = .ok (.iconst 0, 1) := dk_3 (dk_at dksX1_formatPeaks_0 20 rfl rfl)
theorem dX1_formatPeaks_21 : decode cX1_formatPeaks 21 = .ok (.istore 5, 2) := dk_54 5 (dk_at dksX1_formatPeaks_0 21 rfl rfl)
theorem dX1_formatPeaks_23 : decode cX1_formatPeaks 23 = .ok (.iload 5, 2) := dk_21 5 (dk_at dksX1_formatPeaks_1 0 rfl rfl)
theorem dX1_formatPeaks_25 : decode cX1_formatPeaks 25 = .ok (.iload_n 2, 1) := dk_28 (dk_at dksX1_formatPeaks_1 2 rfl rfl)
theorem dX1_formatPeaks_26 : decode cX1_formatPeaks 26 = .ok (.if_icmp .ge 74, 3) := dk_162 0 74 (dk_at dksX1_formatPeaks_1 3 rfl rfl)
theorem dX1_formatPeaks_29 : decode cX1_formatPeaks 29 = .ok (.aload_n 3, 1) := dk_45 (dk_at dksX1_formatPeaks_1 6 rfl rfl)
theorem dX1_formatPeaks_30 : decode cX1_formatPeaks 30 = .ok (.invokevirtual 256, 3) := dk_182 1 0 (dk_at dksX1_formatPeaks_1 7 rfl rfl)
theorem dX1_formatPeaks_33 : decode cX1_formatPeaks 33 = .ok (.iload 5, 2) := dk_21 5 (dk_at dksX1_formatPeaks_1 10 rfl rfl)
theorem dX1_formatPeaks_35 : decode cX1_formatPeaks 35 = .ok (.iaload, 1) := dk_46 (dk_at dksX1_formatPeaks_1 12 rfl rfl)
theorem dX1_formatPeaks_36 : decode cX1_formatPeaks 36 = .ok (.istore 6, 2) := dk_54 6 (dk_at dksX1_formatPeaks_1 13 rfl rfl)
theorem dX1_formatPeaks_38 : decode cX1_formatPeaks 38 = .ok (.aload_n 3, 1) := dk_45 (dk_at dksX1_formatPeaks_1 15 rfl rfl)
theorem dX1_formatPeaks_39 : decode cX1_formatPeaks 39 = .ok (.invokevirtual 225, 3) := dk_182 0 225 (dk_at dksX1_formatPeaks_1 16 rfl rfl)
theorem dX1_formatPeaks_42 : decode cX1_formatPeaks 42 = .ok (.iload 6, 2) := dk_21 6 (dk_at dksX1_formatPeaks_1 19 rfl rfl)
theorem dX1_formatPeaks_44 : decode cX1_formatPeaks 44 = .ok (.iaload, 1) := dk_46 (dk_at dksX1_formatPeaks_1 21 rfl rfl)
theorem dX1_formatPeaks_45 : decode cX1_formatPeaks 45 = .ok (.ifCond .ne 6, 3) := dk_154 0 6 (dk_at dksX1_formatPeaks_2 0 rfl rfl)
theorem dX1_formatPeaks_48 : decode cX1_formatPeaks 48 = .ok (.goto 46, 3) := dk_167 0 46 (dk_at dksX1_formatPeaks_2 3 rfl rfl)
theorem dX1_formatPeaks_51 : decode cX1_formatPeaks 51 = .ok (.aload 4, 2) := dk_25 4 (dk_at dksX1_formatPeaks_2 6 rfl rfl)
theorem dX1_formatPeaks_53 : decode cX1_formatPeaks 53 = .ok (.invokevirtual 405, 3) := dk_182 1 149 (dk_at dksX1_formatPeaks_2 8 rfl rfl)
theorem dX1_formatPeaks_56 : decode cX1_formatPeaks 56 = .ok (.ifCond .le 11, 3) := dk_158 0 11 (dk_at dksX1_formatPeaks_2 11 rfl rfl)
theorem dX1_formatPeaks_59 : decode cX1_formatPeaks 59 = .ok (.aload 4, 2) := dk_25 4 (dk_at dksX1_formatPeaks_2 14 rfl rfl)
theorem dX1_formatPeaks_61 : decode cX1_formatPeaks 61 = .ok (.bipush 32, 2) := dk_16 32 (dk_at dksX1_formatPeaks_2 16 rfl rfl)
theorem dX1_formatPeaks_63 : decode cX1_formatPeaks 63 = .ok (.invokevirtual 131, 3) := dk_182 0 131 (dk_at dksX1_formatPeaks_2 18 rfl rfl)
theorem dX1_formatPeaks_66 : decode cX1_formatPeaks 66 = .ok (.pop, 1) := dk_87 (dk_at dksX1_formatPeaks_2 21 rfl rfl)
theorem dX1_formatPeaks_67 : decode cX1_formatPeaks 67 = .ok (.aload 4, 2) := dk_25 4 (dk_at dksX1_formatPeaks_2 22 rfl rfl)
theorem dX1_formatPeaks_69 : decode cX1_formatPeaks 69 = .ok (.aload_n 3, 1) := dk_45 (dk_at dksX1_formatPeaks_3 0 rfl rfl)
theorem dX1_formatPeaks_70 : decode cX1_formatPeaks 70 = .ok (.iload 6, 2) := dk_21 6 (dk_at dksX1_formatPeaks_3 1 rfl rfl)
theorem dX1_formatPeaks_72 : decode cX1_formatPeaks 72 = .ok (.invokevirtual 247, 3) := dk_182 0 247 (dk_at dksX1_formatPeaks_3 3 rfl rfl)
theorem dX1_formatPeaks_75 : decode cX1_formatPeaks 75 = .ok (.invokevirtual 398, 3) := dk_182 1 142 (dk_at dksX1_formatPeaks_3 6 rfl rfl)
theorem dX1_formatPeaks_78 : decode cX1_formatPeaks 78 = .ok (.bipush 58, 2) := dk_16 58 (dk_at dksX1_formatPeaks_3 9 rfl rfl)
theorem dX1_formatPeaks_80 : decode cX1_formatPeaks 80 = .ok (.invokevirtual 131, 3) := dk_182 0 131 (dk_at dksX1_formatPeaks_3 11 rfl rfl)
theorem dX1_formatPeaks_83 : decode cX1_formatPeaks 83 = .ok (.aload_n 3, 1) := dk_45 (dk_at dksX1_formatPeaks_3 14 rfl rfl)
theorem dX1_formatPeaks_84 : decode cX1_formatPeaks 84 = .ok (.invokevirtual 225, 3) := dk_182 0 225 (dk_at dksX1_formatPeaks_3 15 rfl rfl)
theorem dX1_formatPeaks_87 : decode cX1_formatPeaks 87 = .ok (.iload 6, 2) := dk_21 6 (dk_at dksX1_formatPeaks_3 18 rfl rfl)
theorem dX1_formatPeaks_89 : decode cX1_formatPeaks 89 = .ok (.iaload, 1) := dk_46 (dk_at dksX1_formatPeaks_3 20 rfl rfl)
theorem dX1_formatPeaks_90 : decode cX1_formatPeaks 90 = .ok (.invokevirtual 398, 3) := dk_182 1 142 (dk_at dksX1_formatPeaks_3 21 rfl rfl)
theorem dX1_formatPeaks_93 : decode cX1_formatPeaks 93 = .ok (.pop, 1) := dk_87 (dk_at dksX1_formatPeaks_4 0 rfl rfl)
theorem dX1_formatPeaks_94 : decode cX1_formatPeaks 94 = .ok (.iinc 5 1, 3) := dk_132 5 1 (dk_at dksX1_formatPeaks_4 1 rfl rfl)
theorem dX1_formatPeaks_97 : decode cX1_formatPeaks 97 = .ok (.goto (-74), 3) := dk_167 255 182 (dk_at dksX1_formatPeaks_4 4 rfl rfl)
theorem dX1_formatPeaks_100 : decode cX1_formatPeaks 100 = .ok (.aload 4, 2) := dk_25 4 (dk_at dksX1_formatPeaks_4 7 rfl rfl)
theorem dX1_formatPeaks_102 : decode cX1_formatPeaks 102 = .ok (.invokevirtual 405, 3) := dk_182 1 149 (dk_at dksX1_formatPeaks_4 9 rfl rfl)
theorem dX1_formatPeaks_105 : decode cX1_formatPeaks 105 = .ok (.ifCond .ne 11, 3) := dk_154 0 11 (dk_at dksX1_formatPeaks_4 12 rfl rfl)
theorem dX1_formatPeaks_108 : decode cX1_formatPeaks 108 = .ok (.aload 4, 2) := dk_25 4 (dk_at dksX1_formatPeaks_4 15 rfl rfl)
theorem dX1_formatPeaks_110 : decode cX1_formatPeaks 110 = .ok (.bipush 45, 2) := dk_16 45 (dk_at dksX1_formatPeaks_4 17 rfl rfl)
theorem dX1_formatPeaks_112 : decode cX1_formatPeaks 112 = .ok (.invokevirtual 131, 3) := dk_182 0 131 (dk_at dksX1_formatPeaks_4 19 rfl rfl)
theorem dX1_formatPeaks_115 : decode cX1_formatPeaks 115 = .ok (.pop, 1) := dk_87 (dk_at dksX1_formatPeaks_4 22 rfl rfl)
theorem dX1_formatPeaks_116 : decode cX1_formatPeaks 116 = .ok (.aload_n 0, 1) := dk_42 (dk_at dksX1_formatPeaks_4 23 rfl rfl)
theorem dX1_formatPeaks_117 : decode cX1_formatPeaks 117 = .ok (.aload 4, 2) := dk_25 4 (dk_at dksX1_formatPeaks_5 0 rfl rfl)
theorem dX1_formatPeaks_119 : decode cX1_formatPeaks 119 = .ok (.invokevirtual 401, 3) := dk_182 1 145 (dk_at dksX1_formatPeaks_5 2 rfl rfl)
theorem dX1_formatPeaks_122 : decode cX1_formatPeaks 122 = .ok (.ireturn, 1) := dk_172 (dk_at dksX1_formatPeaks_5 5 rfl rfl)
abbrev cX1_formattedCharacter : ByteArray := prog_1_method_84_code
def yX1_formattedCharacter : MethodName := ⟨RX1, "formattedCharacter", "(I)C"⟩
def dkwX1_formattedCharacter_1 : List UInt8 := [182, 0, 144, 172]
abbrev dktX1_formattedCharacter_1 : List UInt8 := dkwX1_formattedCharacter_1 ++ []
def dkwX1_formattedCharacter_0 : List UInt8 := [27, 3, 42, 180, 0, 58, 182, 0, 139, 4, 100, 184, 0, 18, 184, 0, 112, 42, 180, 0, 58, 27]
abbrev dktX1_formattedCharacter_0 : List UInt8 := dkwX1_formattedCharacter_0 ++ dktX1_formattedCharacter_1
theorem dksX1_formattedCharacter_0 : cX1_formattedCharacter.data.toList.drop 0 = dktX1_formattedCharacter_0 := by decide +kernel
theorem dksX1_formattedCharacter_1 : cX1_formattedCharacter.data.toList.drop 22 = dktX1_formattedCharacter_1 := dk_seg dksX1_formattedCharacter_0 22 rfl rfl
theorem dX1_formattedCharacter_0 : decode cX1_formattedCharacter 0 = .ok (.iload_n 1, 1) := dk_27 (dk_at dksX1_formattedCharacter_0 0 rfl rfl)
theorem dX1_formattedCharacter_1 : decode cX1_formattedCharacter 1 = .ok (.iconst 0, 1) := dk_3 (dk_at dksX1_formattedCharacter_0 1 rfl rfl)
theorem dX1_formattedCharacter_2 : decode cX1_formattedCharacter 2 = .ok (.aload_n 0, 1) := dk_42 (dk_at dksX1_formattedCharacter_0 2 rfl rfl)
theorem dX1_formattedCharacter_3 : decode cX1_formattedCharacter 3 = .ok (.getfield 58, 3) := dk_180 0 58 (dk_at dksX1_formattedCharacter_0 3 rfl rfl)
theorem dX1_formattedCharacter_6 : decode cX1_formattedCharacter 6 = .ok (.invokevirtual 139, 3) := dk_182 0 139 (dk_at dksX1_formattedCharacter_0 6 rfl rfl)
theorem dX1_formattedCharacter_9 : decode cX1_formattedCharacter 9 = .ok (.iconst 1, 1) := dk_4 (dk_at dksX1_formattedCharacter_0 9 rfl rfl)
theorem dX1_formattedCharacter_10 : decode cX1_formattedCharacter 10 = .ok (.isub, 1) := dk_100 (dk_at dksX1_formattedCharacter_0 10 rfl rfl)
theorem dX1_formattedCharacter_11 : decode cX1_formattedCharacter 11 = .ok (.invokestatic 18, 3) := dk_184 0 18 (dk_at dksX1_formattedCharacter_0 11 rfl rfl)
theorem dX1_formattedCharacter_14 : decode cX1_formattedCharacter 14 = .ok (.invokestatic 112, 3) := dk_184 0 112 (dk_at dksX1_formattedCharacter_0 14 rfl rfl)
theorem dX1_formattedCharacter_17 : decode cX1_formattedCharacter 17 = .ok (.aload_n 0, 1) := dk_42 (dk_at dksX1_formattedCharacter_0 17 rfl rfl)
theorem dX1_formattedCharacter_18 : decode cX1_formattedCharacter 18 = .ok (.getfield 58, 3) := dk_180 0 58 (dk_at dksX1_formattedCharacter_0 18 rfl rfl)
theorem dX1_formattedCharacter_21 : decode cX1_formattedCharacter 21 = .ok (.iload_n 1, 1) := dk_27 (dk_at dksX1_formattedCharacter_0 21 rfl rfl)
theorem dX1_formattedCharacter_22 : decode cX1_formattedCharacter 22 = .ok (.invokevirtual 144, 3) := dk_182 0 144 (dk_at dksX1_formattedCharacter_1 0 rfl rfl)
theorem dX1_formattedCharacter_25 : decode cX1_formattedCharacter 25 = .ok (.ireturn, 1) := dk_172 (dk_at dksX1_formattedCharacter_1 3 rfl rfl)

abbrev cX7_init : ByteArray := prog_7_method_1_code
def yX7_init : MethodName := ⟨RX7, "<init>", "(LWalshAnalyzer$Name;[I)V"⟩
def dkwX7_init_0 : List UInt8 := [42, 183, 0, 1, 42, 43, 181, 0, 7, 42, 44, 181, 0, 13, 177]
abbrev dktX7_init_0 : List UInt8 := dkwX7_init_0 ++ []
theorem dksX7_init_0 : cX7_init.data.toList.drop 0 = dktX7_init_0 := by decide +kernel
theorem dX7_init_0 : decode cX7_init 0 = .ok (.aload_n 0, 1) := dk_42 (dk_at dksX7_init_0 0 rfl rfl)
theorem dX7_init_1 : decode cX7_init 1 = .ok (.invokespecial 1, 3) := dk_183 0 1 (dk_at dksX7_init_0 1 rfl rfl)
theorem dX7_init_4 : decode cX7_init 4 = .ok (.aload_n 0, 1) := dk_42 (dk_at dksX7_init_0 4 rfl rfl)
theorem dX7_init_5 : decode cX7_init 5 = .ok (.aload_n 1, 1) := dk_43 (dk_at dksX7_init_0 5 rfl rfl)
theorem dX7_init_6 : decode cX7_init 6 = .ok (.putfield 7, 3) := dk_181 0 7 (dk_at dksX7_init_0 6 rfl rfl)
theorem dX7_init_9 : decode cX7_init 9 = .ok (.aload_n 0, 1) := dk_42 (dk_at dksX7_init_0 9 rfl rfl)
theorem dX7_init_10 : decode cX7_init 10 = .ok (.aload_n 2, 1) := dk_44 (dk_at dksX7_init_0 10 rfl rfl)
theorem dX7_init_11 : decode cX7_init 11 = .ok (.putfield 13, 3) := dk_181 0 13 (dk_at dksX7_init_0 11 rfl rfl)
theorem dX7_init_14 : decode cX7_init 14 = .ok (.return_, 1) := dk_177 (dk_at dksX7_init_0 14 rfl rfl)
abbrev cX7_length : ByteArray := prog_7_method_2_code
def yX7_length : MethodName := ⟨RX7, "length", "()I"⟩
def dkwX7_length_0 : List UInt8 := [42, 180, 0, 13, 190, 172]
abbrev dktX7_length_0 : List UInt8 := dkwX7_length_0 ++ []
theorem dksX7_length_0 : cX7_length.data.toList.drop 0 = dktX7_length_0 := by decide +kernel
theorem dX7_length_0 : decode cX7_length 0 = .ok (.aload_n 0, 1) := dk_42 (dk_at dksX7_length_0 0 rfl rfl)
theorem dX7_length_1 : decode cX7_length 1 = .ok (.getfield 13, 3) := dk_180 0 13 (dk_at dksX7_length_0 1 rfl rfl)
theorem dX7_length_4 : decode cX7_length 4 = .ok (.arraylength, 1) := dk_190 (dk_at dksX7_length_0 4 rfl rfl)
theorem dX7_length_5 : decode cX7_length 5 = .ok (.ireturn, 1) := dk_172 (dk_at dksX7_length_0 5 rfl rfl)
abbrev cX7_has : ByteArray := prog_7_method_3_code
def yX7_has : MethodName := ⟨RX7, "has", "(I)Z"⟩
def dkwX7_has_0 : List UInt8 := [27, 3, 42, 180, 0, 13, 190, 4, 100, 184, 0, 17, 172]
abbrev dktX7_has_0 : List UInt8 := dkwX7_has_0 ++ []
theorem dksX7_has_0 : cX7_has.data.toList.drop 0 = dktX7_has_0 := by decide +kernel
theorem dX7_has_0 : decode cX7_has 0 = .ok (.iload_n 1, 1) := dk_27 (dk_at dksX7_has_0 0 rfl rfl)
theorem dX7_has_1 : decode cX7_has 1 = .ok (.iconst 0, 1) := dk_3 (dk_at dksX7_has_0 1 rfl rfl)
theorem dX7_has_2 : decode cX7_has 2 = .ok (.aload_n 0, 1) := dk_42 (dk_at dksX7_has_0 2 rfl rfl)
theorem dX7_has_3 : decode cX7_has 3 = .ok (.getfield 13, 3) := dk_180 0 13 (dk_at dksX7_has_0 3 rfl rfl)
theorem dX7_has_6 : decode cX7_has 6 = .ok (.arraylength, 1) := dk_190 (dk_at dksX7_has_0 6 rfl rfl)
theorem dX7_has_7 : decode cX7_has 7 = .ok (.iconst 1, 1) := dk_4 (dk_at dksX7_has_0 7 rfl rfl)
theorem dX7_has_8 : decode cX7_has 8 = .ok (.isub, 1) := dk_100 (dk_at dksX7_has_0 8 rfl rfl)
theorem dX7_has_9 : decode cX7_has 9 = .ok (.invokestatic 17, 3) := dk_184 0 17 (dk_at dksX7_has_0 9 rfl rfl)
theorem dX7_has_12 : decode cX7_has 12 = .ok (.ireturn, 1) := dk_172 (dk_at dksX7_has_0 12 rfl rfl)
abbrev cX7_energy : ByteArray := prog_7_method_11_code
def yX7_energy : MethodName := ⟨RX7, "energy", "()J"⟩
def dkwX7_energy_1 : List UInt8 := [46, 54, 6, 31, 21, 6, 133, 21, 6, 133, 105, 97, 64, 132, 5, 1, 167, 255, 230, 31, 173]
abbrev dktX7_energy_1 : List UInt8 := dkwX7_energy_1 ++ []
def dkwX7_energy_0 : List UInt8 := [9, 64, 42, 180, 0, 13, 78, 45, 190, 54, 4, 3, 54, 5, 21, 5, 21, 4, 162, 0, 25, 45, 21, 5]
abbrev dktX7_energy_0 : List UInt8 := dkwX7_energy_0 ++ dktX7_energy_1
theorem dksX7_energy_0 : cX7_energy.data.toList.drop 0 = dktX7_energy_0 := by decide +kernel
theorem dksX7_energy_1 : cX7_energy.data.toList.drop 24 = dktX7_energy_1 := dk_seg dksX7_energy_0 24 rfl rfl
theorem dX7_energy_0 : decode cX7_energy 0 = .ok (.lconst 0, 1) := dk_9 (dk_at dksX7_energy_0 0 rfl rfl)
theorem dX7_energy_1 : decode cX7_energy 1 = .ok (.lstore_n 1, 1) := dk_64 (dk_at dksX7_energy_0 1 rfl rfl)
theorem dX7_energy_2 : decode cX7_energy 2 = .ok (.aload_n 0, 1) := dk_42 (dk_at dksX7_energy_0 2 rfl rfl)
theorem dX7_energy_3 : decode cX7_energy 3 = .ok (.getfield 13, 3) := dk_180 0 13 (dk_at dksX7_energy_0 3 rfl rfl)
theorem dX7_energy_6 : decode cX7_energy 6 = .ok (.astore_n 3, 1) := dk_78 (dk_at dksX7_energy_0 6 rfl rfl)
theorem dX7_energy_7 : decode cX7_energy 7 = .ok (.aload_n 3, 1) := dk_45 (dk_at dksX7_energy_0 7 rfl rfl)
theorem dX7_energy_8 : decode cX7_energy 8 = .ok (.arraylength, 1) := dk_190 (dk_at dksX7_energy_0 8 rfl rfl)
theorem dX7_energy_9 : decode cX7_energy 9 = .ok (.istore 4, 2) := dk_54 4 (dk_at dksX7_energy_0 9 rfl rfl)
theorem dX7_energy_11 : decode cX7_energy 11 = .ok (.iconst 0, 1) := dk_3 (dk_at dksX7_energy_0 11 rfl rfl)
theorem dX7_energy_12 : decode cX7_energy 12 = .ok (.istore 5, 2) := dk_54 5 (dk_at dksX7_energy_0 12 rfl rfl)
theorem dX7_energy_14 : decode cX7_energy 14 = .ok (.iload 5, 2) := dk_21 5 (dk_at dksX7_energy_0 14 rfl rfl)
theorem dX7_energy_16 : decode cX7_energy 16 = .ok (.iload 4, 2) := dk_21 4 (dk_at dksX7_energy_0 16 rfl rfl)
theorem dX7_energy_18 : decode cX7_energy 18 = .ok (.if_icmp .ge 25, 3) := dk_162 0 25 (dk_at dksX7_energy_0 18 rfl rfl)
theorem dX7_energy_21 : decode cX7_energy 21 = .ok (.aload_n 3, 1) := dk_45 (dk_at dksX7_energy_0 21 rfl rfl)
theorem dX7_energy_22 : decode cX7_energy 22 = .ok (.iload 5, 2) := dk_21 5 (dk_at dksX7_energy_0 22 rfl rfl)
theorem dX7_energy_24 : decode cX7_energy 24 = .ok (.iaload, 1) := dk_46 (dk_at dksX7_energy_1 0 rfl rfl)
theorem dX7_energy_25 : decode cX7_energy 25 = .ok (.istore 6, 2) := dk_54 6 (dk_at dksX7_energy_1 1 rfl rfl)
theorem dX7_energy_27 : decode cX7_energy 27 = .ok (.lload_n 1, 1) := dk_31 (dk_at dksX7_energy_1 3 rfl rfl)
theorem dX7_energy_28 : decode cX7_energy 28 = .ok (.iload 6, 2) := dk_21 6 (dk_at dksX7_energy_1 4 rfl rfl)
theorem dX7_energy_30 : decode cX7_energy 30 = .ok (.i2l, 1) := dk_133 (dk_at dksX7_energy_1 6 rfl rfl)
theorem dX7_energy_31 : decode cX7_energy 31 = .ok (.iload 6, 2) := dk_21 6 (dk_at dksX7_energy_1 7 rfl rfl)
theorem dX7_energy_33 : decode cX7_energy 33 = .ok (.i2l, 1) := dk_133 (dk_at dksX7_energy_1 9 rfl rfl)
theorem dX7_energy_34 : decode cX7_energy 34 = .ok (.lmul, 1) := dk_105 (dk_at dksX7_energy_1 10 rfl rfl)
theorem dX7_energy_35 : decode cX7_energy 35 = .ok (.ladd, 1) := dk_97 (dk_at dksX7_energy_1 11 rfl rfl)
theorem dX7_energy_36 : decode cX7_energy 36 = .ok (.lstore_n 1, 1) := dk_64 (dk_at dksX7_energy_1 12 rfl rfl)
theorem dX7_energy_37 : decode cX7_energy 37 = .ok (.iinc 5 1, 3) := dk_132 5 1 (dk_at dksX7_energy_1 13 rfl rfl)
theorem dX7_energy_40 : decode cX7_energy 40 = .ok (.goto (-26), 3) := dk_167 255 230 (dk_at dksX7_energy_1 16 rfl rfl)
theorem dX7_energy_43 : decode cX7_energy 43 = .ok (.lload_n 1, 1) := dk_31 (dk_at dksX7_energy_1 19 rfl rfl)
theorem dX7_energy_44 : decode cX7_energy 44 = .ok (.lreturn, 1) := dk_173 (dk_at dksX7_energy_1 20 rfl rfl)
abbrev cX7_signChanges : ByteArray := prog_7_method_24_code
def yX7_signChanges : MethodName := ⟨RX7, "signChanges", "()I"⟩
def dkwX7_signChanges_3 : List UInt8 := [132, 5, 1, 167, 255, 200, 27, 172]
abbrev dktX7_signChanges_3 : List UInt8 := dkwX7_signChanges_3 ++ []
def dkwX7_signChanges_2 : List UInt8 := [167, 0, 4, 3, 21, 6, 158, 0, 7, 4, 167, 0, 4, 3, 159, 0, 6, 132, 1, 1, 21, 6, 61]
abbrev dktX7_signChanges_2 : List UInt8 := dkwX7_signChanges_2 ++ dktX7_signChanges_3
def dkwX7_signChanges_1 : List UInt8 := [21, 5, 46, 54, 6, 21, 6, 154, 0, 6, 167, 0, 35, 28, 153, 0, 28, 28, 158, 0, 7, 4]
abbrev dktX7_signChanges_1 : List UInt8 := dkwX7_signChanges_1 ++ dktX7_signChanges_2
def dkwX7_signChanges_0 : List UInt8 := [3, 60, 3, 61, 42, 180, 0, 13, 78, 45, 190, 54, 4, 3, 54, 5, 21, 5, 21, 4, 162, 0, 55, 45]
abbrev dktX7_signChanges_0 : List UInt8 := dkwX7_signChanges_0 ++ dktX7_signChanges_1
theorem dksX7_signChanges_0 : cX7_signChanges.data.toList.drop 0 = dktX7_signChanges_0 := by decide +kernel
theorem dksX7_signChanges_1 : cX7_signChanges.data.toList.drop 24 = dktX7_signChanges_1 := dk_seg dksX7_signChanges_0 24 rfl rfl
theorem dksX7_signChanges_2 : cX7_signChanges.data.toList.drop 46 = dktX7_signChanges_2 := dk_seg dksX7_signChanges_1 22 rfl rfl
theorem dksX7_signChanges_3 : cX7_signChanges.data.toList.drop 69 = dktX7_signChanges_3 := dk_seg dksX7_signChanges_2 23 rfl rfl
theorem dX7_signChanges_0 : decode cX7_signChanges 0 = .ok (.iconst 0, 1) := dk_3 (dk_at dksX7_signChanges_0 0 rfl rfl)
theorem dX7_signChanges_1 : decode cX7_signChanges 1 = .ok (.istore_n 1, 1) := dk_60 (dk_at dksX7_signChanges_0 1 rfl rfl)
theorem dX7_signChanges_2 : decode cX7_signChanges 2 = .ok (.iconst 0, 1) := dk_3 (dk_at dksX7_signChanges_0 2 rfl rfl)
theorem dX7_signChanges_3 : decode cX7_signChanges 3 = .ok (.istore_n 2, 1) := dk_61 (dk_at dksX7_signChanges_0 3 rfl rfl)
theorem dX7_signChanges_4 : decode cX7_signChanges 4 = .ok (.aload_n 0, 1) := dk_42 (dk_at dksX7_signChanges_0 4 rfl rfl)
theorem dX7_signChanges_5 : decode cX7_signChanges 5 = .ok (.getfield 13, 3) := dk_180 0 13 (dk_at dksX7_signChanges_0 5 rfl rfl)
theorem dX7_signChanges_8 : decode cX7_signChanges 8 = .ok (.astore_n 3, 1) := dk_78 (dk_at dksX7_signChanges_0 8 rfl rfl)
theorem dX7_signChanges_9 : decode cX7_signChanges 9 = .ok (.aload_n 3, 1) := dk_45 (dk_at dksX7_signChanges_0 9 rfl rfl)
theorem dX7_signChanges_10 : decode cX7_signChanges 10 = .ok (.arraylength, 1) := dk_190 (dk_at dksX7_signChanges_0 10 rfl rfl)
theorem dX7_signChanges_11 : decode cX7_signChanges 11 = .ok (.istore 4, 2) := dk_54 4 (dk_at dksX7_signChanges_0 11 rfl rfl)
theorem dX7_signChanges_13 : decode cX7_signChanges 13 = .ok (.iconst 0, 1) := dk_3 (dk_at dksX7_signChanges_0 13 rfl rfl)
theorem dX7_signChanges_14 : decode cX7_signChanges 14 = .ok (.istore 5, 2) := dk_54 5 (dk_at dksX7_signChanges_0 14 rfl rfl)
theorem dX7_signChanges_16 : decode cX7_signChanges 16 = .ok (.iload 5, 2) := dk_21 5 (dk_at dksX7_signChanges_0 16 rfl rfl)
theorem dX7_signChanges_18 : decode cX7_signChanges 18 = .ok (.iload 4, 2) := dk_21 4 (dk_at dksX7_signChanges_0 18 rfl rfl)
theorem dX7_signChanges_20 : decode cX7_signChanges 20 = .ok (.if_icmp .ge 55, 3) := dk_162 0 55 (dk_at dksX7_signChanges_0 20 rfl rfl)
theorem dX7_signChanges_23 : decode cX7_signChanges 23 = .ok (.aload_n 3, 1) := dk_45 (dk_at dksX7_signChanges_0 23 rfl rfl)
theorem dX7_signChanges_24 : decode cX7_signChanges 24 = .ok (.iload 5, 2) := dk_21 5 (dk_at dksX7_signChanges_1 0 rfl rfl)
theorem dX7_signChanges_26 : decode cX7_signChanges 26 = .ok (.iaload, 1) := dk_46 (dk_at dksX7_signChanges_1 2 rfl rfl)
theorem dX7_signChanges_27 : decode cX7_signChanges 27 = .ok (.istore 6, 2) := dk_54 6 (dk_at dksX7_signChanges_1 3 rfl rfl)
theorem dX7_signChanges_29 : decode cX7_signChanges 29 = .ok (.iload 6, 2) := dk_21 6 (dk_at dksX7_signChanges_1 5 rfl rfl)
theorem dX7_signChanges_31 : decode cX7_signChanges 31 = .ok (.ifCond .ne 6, 3) := dk_154 0 6 (dk_at dksX7_signChanges_1 7 rfl rfl)
theorem dX7_signChanges_34 : decode cX7_signChanges 34 = .ok (.goto 35, 3) := dk_167 0 35 (dk_at dksX7_signChanges_1 10 rfl rfl)
theorem dX7_signChanges_37 : decode cX7_signChanges 37 = .ok (.iload_n 2, 1) := dk_28 (dk_at dksX7_signChanges_1 13 rfl rfl)
theorem dX7_signChanges_38 : decode cX7_signChanges 38 = .ok (.ifCond .eq 28, 3) := dk_153 0 28 (dk_at dksX7_signChanges_1 14 rfl rfl)
theorem dX7_signChanges_41 : decode cX7_signChanges 41 = .ok (.iload_n 2, 1) := dk_28 (dk_at dksX7_signChanges_1 17 rfl rfl)
theorem dX7_signChanges_42 : decode cX7_signChanges 42 = .ok (.ifCond .le 7, 3) := dk_158 0 7 (dk_at dksX7_signChanges_1 18 rfl rfl)
theorem dX7_signChanges_45 : decode cX7_signChanges 45 = .ok (.iconst 1, 1) := dk_4 (dk_at dksX7_signChanges_1 21 rfl rfl)
theorem dX7_signChanges_46 : decode cX7_signChanges 46 = .ok (.goto 4, 3) := dk_167 0 4 (dk_at dksX7_signChanges_2 0 rfl rfl)
theorem dX7_signChanges_49 : decode cX7_signChanges 49 = .ok (.iconst 0, 1) := dk_3 (dk_at dksX7_signChanges_2 3 rfl rfl)
theorem dX7_signChanges_50 : decode cX7_signChanges 50 = .ok (.iload 6, 2) := dk_21 6 (dk_at dksX7_signChanges_2 4 rfl rfl)
theorem dX7_signChanges_52 : decode cX7_signChanges 52 = .ok (.ifCond .le 7, 3) := dk_158 0 7 (dk_at dksX7_signChanges_2 6 rfl rfl)
theorem dX7_signChanges_55 : decode cX7_signChanges 55 = .ok (.iconst 1, 1) := dk_4 (dk_at dksX7_signChanges_2 9 rfl rfl)
theorem dX7_signChanges_56 : decode cX7_signChanges 56 = .ok (.goto 4, 3) := dk_167 0 4 (dk_at dksX7_signChanges_2 10 rfl rfl)
theorem dX7_signChanges_59 : decode cX7_signChanges 59 = .ok (.iconst 0, 1) := dk_3 (dk_at dksX7_signChanges_2 13 rfl rfl)
theorem dX7_signChanges_60 : decode cX7_signChanges 60 = .ok (.if_icmp .eq 6, 3) := dk_159 0 6 (dk_at dksX7_signChanges_2 14 rfl rfl)
theorem dX7_signChanges_63 : decode cX7_signChanges 63 = .ok (.iinc 1 1, 3) := dk_132 1 1 (dk_at dksX7_signChanges_2 17 rfl rfl)
theorem dX7_signChanges_66 : decode cX7_signChanges 66 = .ok (.iload 6, 2) := dk_21 6 (dk_at dksX7_signChanges_2 20 rfl rfl)
theorem dX7_signChanges_68 : decode cX7_signChanges 68 = .ok (.istore_n 2, 1) := dk_61 (dk_at dksX7_signChanges_2 22 rfl rfl)
theorem dX7_signChanges_69 : decode cX7_signChanges 69 = .ok (.iinc 5 1, 3) := dk_132 5 1 (dk_at dksX7_signChanges_3 0 rfl rfl)
theorem dX7_signChanges_72 : decode cX7_signChanges 72 = .ok (.goto (-56), 3) := dk_167 255 200 (dk_at dksX7_signChanges_3 3 rfl rfl)
theorem dX7_signChanges_75 : decode cX7_signChanges 75 = .ok (.iload_n 1, 1) := dk_27 (dk_at dksX7_signChanges_3 6 rfl rfl)
theorem dX7_signChanges_76 : decode cX7_signChanges 76 = .ok (.ireturn, 1) := dk_172 (dk_at dksX7_signChanges_3 7 rfl rfl)
abbrev cX7_samplesBetween : ByteArray := prog_7_method_31_code
def yX7_samplesBetween : MethodName := ⟨RX7, "samplesBetween", "(II)I"⟩
def dkwX7_samplesBetween_2 : List UInt8 := [167, 255, 226, 29, 172]
abbrev dktX7_samplesBetween_2 : List UInt8 := dkwX7_samplesBetween_2 ++ []
def dkwX7_samplesBetween_1 : List UInt8 := [25, 4, 21, 6, 46, 54, 7, 21, 7, 27, 28, 184, 0, 17, 153, 0, 6, 132, 3, 1, 132, 6, 1]
abbrev dktX7_samplesBetween_1 : List UInt8 := dkwX7_samplesBetween_1 ++ dktX7_samplesBetween_2
def dkwX7_samplesBetween_0 : List UInt8 := [3, 62, 42, 180, 0, 13, 58, 4, 25, 4, 190, 54, 5, 3, 54, 6, 21, 6, 21, 5, 162, 0, 29]
abbrev dktX7_samplesBetween_0 : List UInt8 := dkwX7_samplesBetween_0 ++ dktX7_samplesBetween_1
theorem dksX7_samplesBetween_0 : cX7_samplesBetween.data.toList.drop 0 = dktX7_samplesBetween_0 := by decide +kernel
theorem dksX7_samplesBetween_1 : cX7_samplesBetween.data.toList.drop 23 = dktX7_samplesBetween_1 := dk_seg dksX7_samplesBetween_0 23 rfl rfl
theorem dksX7_samplesBetween_2 : cX7_samplesBetween.data.toList.drop 46 = dktX7_samplesBetween_2 := dk_seg dksX7_samplesBetween_1 23 rfl rfl
theorem dX7_samplesBetween_0 : decode cX7_samplesBetween 0 = .ok (.iconst 0, 1) := dk_3 (dk_at dksX7_samplesBetween_0 0 rfl rfl)
theorem dX7_samplesBetween_1 : decode cX7_samplesBetween 1 = .ok (.istore_n 3, 1) := dk_62 (dk_at dksX7_samplesBetween_0 1 rfl rfl)
theorem dX7_samplesBetween_2 : decode cX7_samplesBetween 2 = .ok (.aload_n 0, 1) := dk_42 (dk_at dksX7_samplesBetween_0 2 rfl rfl)
theorem dX7_samplesBetween_3 : decode cX7_samplesBetween 3 = .ok (.getfield 13, 3) := dk_180 0 13 (dk_at dksX7_samplesBetween_0 3 rfl rfl)
theorem dX7_samplesBetween_6 : decode cX7_samplesBetween 6 = .ok (.astore 4, 2) := dk_58 4 (dk_at dksX7_samplesBetween_0 6 rfl rfl)
theorem dX7_samplesBetween_8 : decode cX7_samplesBetween 8 = .ok (.aload 4, 2) := dk_25 4 (dk_at dksX7_samplesBetween_0 8 rfl rfl)
theorem dX7_samplesBetween_10 : decode cX7_samplesBetween 10 = .ok (.arraylength, 1) := dk_190 (dk_at dksX7_samplesBetween_0 10 rfl rfl)
theorem dX7_samplesBetween_11 : decode cX7_samplesBetween 11 = .ok (.istore 5, 2) := dk_54 5 (dk_at dksX7_samplesBetween_0 11 rfl rfl)
theorem dX7_samplesBetween_13 : decode cX7_samplesBetween 13 = .ok (.iconst 0, 1) := dk_3 (dk_at dksX7_samplesBetween_0 13 rfl rfl)
theorem dX7_samplesBetween_14 : decode cX7_samplesBetween 14 = .ok (.istore 6, 2) := dk_54 6 (dk_at dksX7_samplesBetween_0 14 rfl rfl)
theorem dX7_samplesBetween_16 : decode cX7_samplesBetween 16 = .ok (.iload 6, 2) := dk_21 6 (dk_at dksX7_samplesBetween_0 16 rfl rfl)
theorem dX7_samplesBetween_18 : decode cX7_samplesBetween 18 = .ok (.iload 5, 2) := dk_21 5 (dk_at dksX7_samplesBetween_0 18 rfl rfl)
theorem dX7_samplesBetween_20 : decode cX7_samplesBetween 20 = .ok (.if_icmp .ge 29, 3) := dk_162 0 29 (dk_at dksX7_samplesBetween_0 20 rfl rfl)
theorem dX7_samplesBetween_23 : decode cX7_samplesBetween 23 = .ok (.aload 4, 2) := dk_25 4 (dk_at dksX7_samplesBetween_1 0 rfl rfl)
theorem dX7_samplesBetween_25 : decode cX7_samplesBetween 25 = .ok (.iload 6, 2) := dk_21 6 (dk_at dksX7_samplesBetween_1 2 rfl rfl)
theorem dX7_samplesBetween_27 : decode cX7_samplesBetween 27 = .ok (.iaload, 1) := dk_46 (dk_at dksX7_samplesBetween_1 4 rfl rfl)
theorem dX7_samplesBetween_28 : decode cX7_samplesBetween 28 = .ok (.istore 7, 2) := dk_54 7 (dk_at dksX7_samplesBetween_1 5 rfl rfl)
theorem dX7_samplesBetween_30 : decode cX7_samplesBetween 30 = .ok (.iload 7, 2) := dk_21 7 (dk_at dksX7_samplesBetween_1 7 rfl rfl)
theorem dX7_samplesBetween_32 : decode cX7_samplesBetween 32 = .ok (.iload_n 1, 1) := dk_27 (dk_at dksX7_samplesBetween_1 9 rfl rfl)
theorem dX7_samplesBetween_33 : decode cX7_samplesBetween 33 = .ok (.iload_n 2, 1) := dk_28 (dk_at dksX7_samplesBetween_1 10 rfl rfl)
theorem dX7_samplesBetween_34 : decode cX7_samplesBetween 34 = .ok (.invokestatic 17, 3) := dk_184 0 17 (dk_at dksX7_samplesBetween_1 11 rfl rfl)
theorem dX7_samplesBetween_37 : decode cX7_samplesBetween 37 = .ok (.ifCond .eq 6, 3) := dk_153 0 6 (dk_at dksX7_samplesBetween_1 14 rfl rfl)
theorem dX7_samplesBetween_40 : decode cX7_samplesBetween 40 = .ok (.iinc 3 1, 3) := dk_132 3 1 (dk_at dksX7_samplesBetween_1 17 rfl rfl)
theorem dX7_samplesBetween_43 : decode cX7_samplesBetween 43 = .ok (.iinc 6 1, 3) := dk_132 6 1 (dk_at dksX7_samplesBetween_1 20 rfl rfl)
theorem dX7_samplesBetween_46 : decode cX7_samplesBetween 46 = .ok (.goto (-30), 3) := dk_167 255 226 (dk_at dksX7_samplesBetween_2 0 rfl rfl)
theorem dX7_samplesBetween_49 : decode cX7_samplesBetween 49 = .ok (.iload_n 3, 1) := dk_29 (dk_at dksX7_samplesBetween_2 3 rfl rfl)
theorem dX7_samplesBetween_50 : decode cX7_samplesBetween 50 = .ok (.ireturn, 1) := dk_172 (dk_at dksX7_samplesBetween_2 4 rfl rfl)
abbrev cX7_reversed : ByteArray := prog_7_method_25_code
def yX7_reversed : MethodName := ⟨RX7, "reversed", "()[I"⟩
def dkwX7_reversed_1 : List UInt8 := [4, 100, 28, 100, 46, 79, 132, 2, 1, 167, 255, 233, 43, 176]
abbrev dktX7_reversed_1 : List UInt8 := dkwX7_reversed_1 ++ []
def dkwX7_reversed_0 : List UInt8 := [42, 180, 0, 13, 190, 188, 10, 76, 3, 61, 28, 43, 190, 162, 0, 23, 43, 28, 42, 180, 0, 13, 43, 190]
abbrev dktX7_reversed_0 : List UInt8 := dkwX7_reversed_0 ++ dktX7_reversed_1
theorem dksX7_reversed_0 : cX7_reversed.data.toList.drop 0 = dktX7_reversed_0 := by decide +kernel
theorem dksX7_reversed_1 : cX7_reversed.data.toList.drop 24 = dktX7_reversed_1 := dk_seg dksX7_reversed_0 24 rfl rfl
theorem dX7_reversed_0 : decode cX7_reversed 0 = .ok (.aload_n 0, 1) := dk_42 (dk_at dksX7_reversed_0 0 rfl rfl)
theorem dX7_reversed_1 : decode cX7_reversed 1 = .ok (.getfield 13, 3) := dk_180 0 13 (dk_at dksX7_reversed_0 1 rfl rfl)
theorem dX7_reversed_4 : decode cX7_reversed 4 = .ok (.arraylength, 1) := dk_190 (dk_at dksX7_reversed_0 4 rfl rfl)
theorem dX7_reversed_5 : decode cX7_reversed 5 = .ok (.newarray .int, 2) := dk_188_10 (dk_at dksX7_reversed_0 5 rfl rfl)
theorem dX7_reversed_7 : decode cX7_reversed 7 = .ok (.astore_n 1, 1) := dk_76 (dk_at dksX7_reversed_0 7 rfl rfl)
theorem dX7_reversed_8 : decode cX7_reversed 8 = .ok (.iconst 0, 1) := dk_3 (dk_at dksX7_reversed_0 8 rfl rfl)
theorem dX7_reversed_9 : decode cX7_reversed 9 = .ok (.istore_n 2, 1) := dk_61 (dk_at dksX7_reversed_0 9 rfl rfl)
theorem dX7_reversed_10 : decode cX7_reversed 10 = .ok (.iload_n 2, 1) := dk_28 (dk_at dksX7_reversed_0 10 rfl rfl)
theorem dX7_reversed_11 : decode cX7_reversed 11 = .ok (.aload_n 1, 1) := dk_43 (dk_at dksX7_reversed_0 11 rfl rfl)
theorem dX7_reversed_12 : decode cX7_reversed 12 = .ok (.arraylength, 1) := dk_190 (dk_at dksX7_reversed_0 12 rfl rfl)
theorem dX7_reversed_13 : decode cX7_reversed 13 = .ok (.if_icmp .ge 23, 3) := dk_162 0 23 (dk_at dksX7_reversed_0 13 rfl rfl)
theorem dX7_reversed_16 : decode cX7_reversed 16 = .ok (.aload_n 1, 1) := dk_43 (dk_at dksX7_reversed_0 16 rfl rfl)
theorem dX7_reversed_17 : decode cX7_reversed 17 = .ok (.iload_n 2, 1) := dk_28 (dk_at dksX7_reversed_0 17 rfl rfl)
theorem dX7_reversed_18 : decode cX7_reversed 18 = .ok (.aload_n 0, 1) := dk_42 (dk_at dksX7_reversed_0 18 rfl rfl)
theorem dX7_reversed_19 : decode cX7_reversed 19 = .ok (.getfield 13, 3) := dk_180 0 13 (dk_at dksX7_reversed_0 19 rfl rfl)
theorem dX7_reversed_22 : decode cX7_reversed 22 = .ok (.aload_n 1, 1) := dk_43 (dk_at dksX7_reversed_0 22 rfl rfl)
theorem dX7_reversed_23 : decode cX7_reversed 23 = .ok (.arraylength, 1) := dk_190 (dk_at dksX7_reversed_0 23 rfl rfl)
theorem dX7_reversed_24 : decode cX7_reversed 24 = .ok (.iconst 1, 1) := dk_4 (dk_at dksX7_reversed_1 0 rfl rfl)
theorem dX7_reversed_25 : decode cX7_reversed 25 = .ok (.isub, 1) := dk_100 (dk_at dksX7_reversed_1 1 rfl rfl)
theorem dX7_reversed_26 : decode cX7_reversed 26 = .ok (.iload_n 2, 1) := dk_28 (dk_at dksX7_reversed_1 2 rfl rfl)
theorem dX7_reversed_27 : decode cX7_reversed 27 = .ok (.isub, 1) := dk_100 (dk_at dksX7_reversed_1 3 rfl rfl)
theorem dX7_reversed_28 : decode cX7_reversed 28 = .ok (.iaload, 1) := dk_46 (dk_at dksX7_reversed_1 4 rfl rfl)
theorem dX7_reversed_29 : decode cX7_reversed 29 = .ok (.iastore, 1) := dk_79 (dk_at dksX7_reversed_1 5 rfl rfl)
theorem dX7_reversed_30 : decode cX7_reversed 30 = .ok (.iinc 2 1, 3) := dk_132 2 1 (dk_at dksX7_reversed_1 6 rfl rfl)
theorem dX7_reversed_33 : decode cX7_reversed 33 = .ok (.goto (-23), 3) := dk_167 255 233 (dk_at dksX7_reversed_1 9 rfl rfl)
theorem dX7_reversed_36 : decode cX7_reversed 36 = .ok (.aload_n 1, 1) := dk_43 (dk_at dksX7_reversed_1 12 rfl rfl)
theorem dX7_reversed_37 : decode cX7_reversed 37 = .ok (.areturn, 1) := dk_176 (dk_at dksX7_reversed_1 13 rfl rfl)
abbrev cX7_differences : ByteArray := prog_7_method_33_code
def yX7_differences : MethodName := ⟨RX7, "differences", "([I)I"⟩
def dkwX7_differences_1 : List UInt8 := [159, 0, 6, 132, 2, 1, 132, 3, 1, 167, 255, 229, 28, 172]
abbrev dktX7_differences_1 : List UInt8 := dkwX7_differences_1 ++ []
def dkwX7_differences_0 : List UInt8 := [3, 61, 3, 62, 29, 42, 180, 0, 13, 190, 162, 0, 24, 42, 180, 0, 13, 29, 46, 43, 29, 46]
abbrev dktX7_differences_0 : List UInt8 := dkwX7_differences_0 ++ dktX7_differences_1
theorem dksX7_differences_0 : cX7_differences.data.toList.drop 0 = dktX7_differences_0 := by decide +kernel
theorem dksX7_differences_1 : cX7_differences.data.toList.drop 22 = dktX7_differences_1 := dk_seg dksX7_differences_0 22 rfl rfl
theorem dX7_differences_0 : decode cX7_differences 0 = .ok (.iconst 0, 1) := dk_3 (dk_at dksX7_differences_0 0 rfl rfl)
theorem dX7_differences_1 : decode cX7_differences 1 = .ok (.istore_n 2, 1) := dk_61 (dk_at dksX7_differences_0 1 rfl rfl)
theorem dX7_differences_2 : decode cX7_differences 2 = .ok (.iconst 0, 1) := dk_3 (dk_at dksX7_differences_0 2 rfl rfl)
theorem dX7_differences_3 : decode cX7_differences 3 = .ok (.istore_n 3, 1) := dk_62 (dk_at dksX7_differences_0 3 rfl rfl)
theorem dX7_differences_4 : decode cX7_differences 4 = .ok (.iload_n 3, 1) := dk_29 (dk_at dksX7_differences_0 4 rfl rfl)
theorem dX7_differences_5 : decode cX7_differences 5 = .ok (.aload_n 0, 1) := dk_42 (dk_at dksX7_differences_0 5 rfl rfl)
theorem dX7_differences_6 : decode cX7_differences 6 = .ok (.getfield 13, 3) := dk_180 0 13 (dk_at dksX7_differences_0 6 rfl rfl)
theorem dX7_differences_9 : decode cX7_differences 9 = .ok (.arraylength, 1) := dk_190 (dk_at dksX7_differences_0 9 rfl rfl)
theorem dX7_differences_10 : decode cX7_differences 10 = .ok (.if_icmp .ge 24, 3) := dk_162 0 24 (dk_at dksX7_differences_0 10 rfl rfl)
theorem dX7_differences_13 : decode cX7_differences 13 = .ok (.aload_n 0, 1) := dk_42 (dk_at dksX7_differences_0 13 rfl rfl)
theorem dX7_differences_14 : decode cX7_differences 14 = .ok (.getfield 13, 3) := dk_180 0 13 (dk_at dksX7_differences_0 14 rfl rfl)
theorem dX7_differences_17 : decode cX7_differences 17 = .ok (.iload_n 3, 1) := dk_29 (dk_at dksX7_differences_0 17 rfl rfl)
theorem dX7_differences_18 : decode cX7_differences 18 = .ok (.iaload, 1) := dk_46 (dk_at dksX7_differences_0 18 rfl rfl)
theorem dX7_differences_19 : decode cX7_differences 19 = .ok (.aload_n 1, 1) := dk_43 (dk_at dksX7_differences_0 19 rfl rfl)
theorem dX7_differences_20 : decode cX7_differences 20 = .ok (.iload_n 3, 1) := dk_29 (dk_at dksX7_differences_0 20 rfl rfl)
theorem dX7_differences_21 : decode cX7_differences 21 = .ok (.iaload, 1) := dk_46 (dk_at dksX7_differences_0 21 rfl rfl)
theorem dX7_differences_22 : decode cX7_differences 22 = .ok (.if_icmp .eq 6, 3) := dk_159 0 6 (dk_at dksX7_differences_1 0 rfl rfl)
theorem dX7_differences_25 : decode cX7_differences 25 = .ok (.iinc 2 1, 3) := dk_132 2 1 (dk_at dksX7_differences_1 3 rfl rfl)
theorem dX7_differences_28 : decode cX7_differences 28 = .ok (.iinc 3 1, 3) := dk_132 3 1 (dk_at dksX7_differences_1 6 rfl rfl)
theorem dX7_differences_31 : decode cX7_differences 31 = .ok (.goto (-27), 3) := dk_167 255 229 (dk_at dksX7_differences_1 9 rfl rfl)
theorem dX7_differences_34 : decode cX7_differences 34 = .ok (.iload_n 2, 1) := dk_28 (dk_at dksX7_differences_1 12 rfl rfl)
theorem dX7_differences_35 : decode cX7_differences 35 = .ok (.ireturn, 1) := dk_172 (dk_at dksX7_differences_1 13 rfl rfl)
abbrev cX7_coefficients : ByteArray := prog_7_method_6_code
def yX7_coefficients : MethodName := ⟨RX7, "coefficients", "()[I"⟩
def dkwX7_coefficients_1 : List UInt8 := [180, 0, 29, 176]
abbrev dktX7_coefficients_1 : List UInt8 := dkwX7_coefficients_1 ++ []
def dkwX7_coefficients_0 : List UInt8 := [42, 180, 0, 29, 199, 0, 18, 42, 42, 182, 0, 32, 181, 0, 29, 42, 180, 0, 29, 184, 0, 36, 42]
abbrev dktX7_coefficients_0 : List UInt8 := dkwX7_coefficients_0 ++ dktX7_coefficients_1
theorem dksX7_coefficients_0 : cX7_coefficients.data.toList.drop 0 = dktX7_coefficients_0 := by decide +kernel
theorem dksX7_coefficients_1 : cX7_coefficients.data.toList.drop 23 = dktX7_coefficients_1 := dk_seg dksX7_coefficients_0 23 rfl rfl
theorem dX7_coefficients_0 : decode cX7_coefficients 0 = .ok (.aload_n 0, 1) := dk_42 (dk_at dksX7_coefficients_0 0 rfl rfl)
theorem dX7_coefficients_1 : decode cX7_coefficients 1 = .ok (.getfield 29, 3) := dk_180 0 29 (dk_at dksX7_coefficients_0 1 rfl rfl)
theorem dX7_coefficients_4 : decode cX7_coefficients 4 = .ok (.ifnonnull 18, 3) := dk_199 0 18 (dk_at dksX7_coefficients_0 4 rfl rfl)
theorem dX7_coefficients_7 : decode cX7_coefficients 7 = .ok (.aload_n 0, 1) := dk_42 (dk_at dksX7_coefficients_0 7 rfl rfl)
theorem dX7_coefficients_8 : decode cX7_coefficients 8 = .ok (.aload_n 0, 1) := dk_42 (dk_at dksX7_coefficients_0 8 rfl rfl)
theorem dX7_coefficients_9 : decode cX7_coefficients 9 = .ok (.invokevirtual 32, 3) := dk_182 0 32 (dk_at dksX7_coefficients_0 9 rfl rfl)
theorem dX7_coefficients_12 : decode cX7_coefficients 12 = .ok (.putfield 29, 3) := dk_181 0 29 (dk_at dksX7_coefficients_0 12 rfl rfl)
theorem dX7_coefficients_15 : decode cX7_coefficients 15 = .ok (.aload_n 0, 1) := dk_42 (dk_at dksX7_coefficients_0 15 rfl rfl)
theorem dX7_coefficients_16 : decode cX7_coefficients 16 = .ok (.getfield 29, 3) := dk_180 0 29 (dk_at dksX7_coefficients_0 16 rfl rfl)
theorem dX7_coefficients_19 : decode cX7_coefficients 19 = .ok (.invokestatic 36, 3) := dk_184 0 36 (dk_at dksX7_coefficients_0 19 rfl rfl)
theorem dX7_coefficients_22 : decode cX7_coefficients 22 = .ok (.aload_n 0, 1) := dk_42 (dk_at dksX7_coefficients_0 22 rfl rfl)
theorem dX7_coefficients_23 : decode cX7_coefficients 23 = .ok (.getfield 29, 3) := dk_180 0 29 (dk_at dksX7_coefficients_1 0 rfl rfl)
theorem dX7_coefficients_26 : decode cX7_coefficients 26 = .ok (.areturn, 1) := dk_176 (dk_at dksX7_coefficients_1 3 rfl rfl)
abbrev cX7_copyOfSamples : ByteArray := prog_7_method_5_code
def yX7_copyOfSamples : MethodName := ⟨RX7, "copyOfSamples", "()[I"⟩
def dkwX7_copyOfSamples_1 : List UInt8 := [176]
abbrev dktX7_copyOfSamples_1 : List UInt8 := dkwX7_copyOfSamples_1 ++ []
def dkwX7_copyOfSamples_0 : List UInt8 := [42, 180, 0, 13, 190, 188, 10, 76, 42, 180, 0, 13, 3, 43, 3, 42, 180, 0, 13, 190, 184, 0, 23, 43]
abbrev dktX7_copyOfSamples_0 : List UInt8 := dkwX7_copyOfSamples_0 ++ dktX7_copyOfSamples_1
theorem dksX7_copyOfSamples_0 : cX7_copyOfSamples.data.toList.drop 0 = dktX7_copyOfSamples_0 := by decide +kernel
theorem dksX7_copyOfSamples_1 : cX7_copyOfSamples.data.toList.drop 24 = dktX7_copyOfSamples_1 := dk_seg dksX7_copyOfSamples_0 24 rfl rfl
theorem dX7_copyOfSamples_0 : decode cX7_copyOfSamples 0 = .ok (.aload_n 0, 1) := dk_42 (dk_at dksX7_copyOfSamples_0 0 rfl rfl)
theorem dX7_copyOfSamples_1 : decode cX7_copyOfSamples 1 = .ok (.getfield 13, 3) := dk_180 0 13 (dk_at dksX7_copyOfSamples_0 1 rfl rfl)
theorem dX7_copyOfSamples_4 : decode cX7_copyOfSamples 4 = .ok (.arraylength, 1) := dk_190 (dk_at dksX7_copyOfSamples_0 4 rfl rfl)
theorem dX7_copyOfSamples_5 : decode cX7_copyOfSamples 5 = .ok (.newarray .int, 2) := dk_188_10 (dk_at dksX7_copyOfSamples_0 5 rfl rfl)
theorem dX7_copyOfSamples_7 : decode cX7_copyOfSamples 7 = .ok (.astore_n 1, 1) := dk_76 (dk_at dksX7_copyOfSamples_0 7 rfl rfl)
theorem dX7_copyOfSamples_8 : decode cX7_copyOfSamples 8 = .ok (.aload_n 0, 1) := dk_42 (dk_at dksX7_copyOfSamples_0 8 rfl rfl)
theorem dX7_copyOfSamples_9 : decode cX7_copyOfSamples 9 = .ok (.getfield 13, 3) := dk_180 0 13 (dk_at dksX7_copyOfSamples_0 9 rfl rfl)
theorem dX7_copyOfSamples_12 : decode cX7_copyOfSamples 12 = .ok (.iconst 0, 1) := dk_3 (dk_at dksX7_copyOfSamples_0 12 rfl rfl)
theorem dX7_copyOfSamples_13 : decode cX7_copyOfSamples 13 = .ok (.aload_n 1, 1) := dk_43 (dk_at dksX7_copyOfSamples_0 13 rfl rfl)
theorem dX7_copyOfSamples_14 : decode cX7_copyOfSamples 14 = .ok (.iconst 0, 1) := dk_3 (dk_at dksX7_copyOfSamples_0 14 rfl rfl)
theorem dX7_copyOfSamples_15 : decode cX7_copyOfSamples 15 = .ok (.aload_n 0, 1) := dk_42 (dk_at dksX7_copyOfSamples_0 15 rfl rfl)
theorem dX7_copyOfSamples_16 : decode cX7_copyOfSamples 16 = .ok (.getfield 13, 3) := dk_180 0 13 (dk_at dksX7_copyOfSamples_0 16 rfl rfl)
theorem dX7_copyOfSamples_19 : decode cX7_copyOfSamples 19 = .ok (.arraylength, 1) := dk_190 (dk_at dksX7_copyOfSamples_0 19 rfl rfl)
theorem dX7_copyOfSamples_20 : decode cX7_copyOfSamples 20 = .ok (.invokestatic 23, 3) := dk_184 0 23 (dk_at dksX7_copyOfSamples_0 20 rfl rfl)
theorem dX7_copyOfSamples_23 : decode cX7_copyOfSamples 23 = .ok (.aload_n 1, 1) := dk_43 (dk_at dksX7_copyOfSamples_0 23 rfl rfl)
theorem dX7_copyOfSamples_24 : decode cX7_copyOfSamples 24 = .ok (.areturn, 1) := dk_176 (dk_at dksX7_copyOfSamples_1 0 rfl rfl)
abbrev cX7_isBand : ByteArray := prog_7_method_4_code
def yX7_isBand : MethodName := ⟨RX7, "isBand", "(II)Z"⟩
def dkwX7_isBand_0 : List UInt8 := [27, 155, 0, 21, 28, 42, 180, 0, 13, 190, 162, 0, 12, 27, 28, 163, 0, 7, 4, 167, 0, 4, 3, 172]
abbrev dktX7_isBand_0 : List UInt8 := dkwX7_isBand_0 ++ []
theorem dksX7_isBand_0 : cX7_isBand.data.toList.drop 0 = dktX7_isBand_0 := by decide +kernel
theorem dX7_isBand_0 : decode cX7_isBand 0 = .ok (.iload_n 1, 1) := dk_27 (dk_at dksX7_isBand_0 0 rfl rfl)
theorem dX7_isBand_1 : decode cX7_isBand 1 = .ok (.ifCond .lt 21, 3) := dk_155 0 21 (dk_at dksX7_isBand_0 1 rfl rfl)
theorem dX7_isBand_4 : decode cX7_isBand 4 = .ok (.iload_n 2, 1) := dk_28 (dk_at dksX7_isBand_0 4 rfl rfl)
theorem dX7_isBand_5 : decode cX7_isBand 5 = .ok (.aload_n 0, 1) := dk_42 (dk_at dksX7_isBand_0 5 rfl rfl)
theorem dX7_isBand_6 : decode cX7_isBand 6 = .ok (.getfield 13, 3) := dk_180 0 13 (dk_at dksX7_isBand_0 6 rfl rfl)
theorem dX7_isBand_9 : decode cX7_isBand 9 = .ok (.arraylength, 1) := dk_190 (dk_at dksX7_isBand_0 9 rfl rfl)
theorem dX7_isBand_10 : decode cX7_isBand 10 = .ok (.if_icmp .ge 12, 3) := dk_162 0 12 (dk_at dksX7_isBand_0 10 rfl rfl)
theorem dX7_isBand_13 : decode cX7_isBand 13 = .ok (.iload_n 1, 1) := dk_27 (dk_at dksX7_isBand_0 13 rfl rfl)
theorem dX7_isBand_14 : decode cX7_isBand 14 = .ok (.iload_n 2, 1) := dk_28 (dk_at dksX7_isBand_0 14 rfl rfl)
theorem dX7_isBand_15 : decode cX7_isBand 15 = .ok (.if_icmp .gt 7, 3) := dk_163 0 7 (dk_at dksX7_isBand_0 15 rfl rfl)
theorem dX7_isBand_18 : decode cX7_isBand 18 = .ok (.iconst 1, 1) := dk_4 (dk_at dksX7_isBand_0 18 rfl rfl)
theorem dX7_isBand_19 : decode cX7_isBand 19 = .ok (.goto 4, 3) := dk_167 0 4 (dk_at dksX7_isBand_0 19 rfl rfl)
theorem dX7_isBand_22 : decode cX7_isBand 22 = .ok (.iconst 0, 1) := dk_3 (dk_at dksX7_isBand_0 22 rfl rfl)
theorem dX7_isBand_23 : decode cX7_isBand 23 = .ok (.ireturn, 1) := dk_172 (dk_at dksX7_isBand_0 23 rfl rfl)
abbrev cX7_bandEnergy : ByteArray := prog_7_method_14_code
def yX7_bandEnergy : MethodName := ⟨RX7, "bandEnergy", "(II)J"⟩
def dkwX7_bandEnergy_1 : List UInt8 := [184, 0, 17, 153, 0, 12, 33, 42, 21, 5, 182, 0, 69, 97, 66, 132, 5, 1, 167, 255, 220, 33, 173]
abbrev dktX7_bandEnergy_1 : List UInt8 := dkwX7_bandEnergy_1 ++ []
def dkwX7_bandEnergy_0 : List UInt8 := [9, 66, 3, 54, 5, 21, 5, 42, 180, 0, 13, 190, 162, 0, 32, 42, 21, 5, 182, 0, 67, 27, 28]
abbrev dktX7_bandEnergy_0 : List UInt8 := dkwX7_bandEnergy_0 ++ dktX7_bandEnergy_1
theorem dksX7_bandEnergy_0 : cX7_bandEnergy.data.toList.drop 0 = dktX7_bandEnergy_0 := by decide +kernel
theorem dksX7_bandEnergy_1 : cX7_bandEnergy.data.toList.drop 23 = dktX7_bandEnergy_1 := dk_seg dksX7_bandEnergy_0 23 rfl rfl
theorem dX7_bandEnergy_0 : decode cX7_bandEnergy 0 = .ok (.lconst 0, 1) := dk_9 (dk_at dksX7_bandEnergy_0 0 rfl rfl)
theorem dX7_bandEnergy_1 : decode cX7_bandEnergy 1 = .ok (.lstore_n 3, 1) := dk_66 (dk_at dksX7_bandEnergy_0 1 rfl rfl)
theorem dX7_bandEnergy_2 : decode cX7_bandEnergy 2 = .ok (.iconst 0, 1) := dk_3 (dk_at dksX7_bandEnergy_0 2 rfl rfl)
theorem dX7_bandEnergy_3 : decode cX7_bandEnergy 3 = .ok (.istore 5, 2) := dk_54 5 (dk_at dksX7_bandEnergy_0 3 rfl rfl)
theorem dX7_bandEnergy_5 : decode cX7_bandEnergy 5 = .ok (.iload 5, 2) := dk_21 5 (dk_at dksX7_bandEnergy_0 5 rfl rfl)
theorem dX7_bandEnergy_7 : decode cX7_bandEnergy 7 = .ok (.aload_n 0, 1) := dk_42 (dk_at dksX7_bandEnergy_0 7 rfl rfl)
theorem dX7_bandEnergy_8 : decode cX7_bandEnergy 8 = .ok (.getfield 13, 3) := dk_180 0 13 (dk_at dksX7_bandEnergy_0 8 rfl rfl)
theorem dX7_bandEnergy_11 : decode cX7_bandEnergy 11 = .ok (.arraylength, 1) := dk_190 (dk_at dksX7_bandEnergy_0 11 rfl rfl)
theorem dX7_bandEnergy_12 : decode cX7_bandEnergy 12 = .ok (.if_icmp .ge 32, 3) := dk_162 0 32 (dk_at dksX7_bandEnergy_0 12 rfl rfl)
theorem dX7_bandEnergy_15 : decode cX7_bandEnergy 15 = .ok (.aload_n 0, 1) := dk_42 (dk_at dksX7_bandEnergy_0 15 rfl rfl)
theorem dX7_bandEnergy_16 : decode cX7_bandEnergy 16 = .ok (.iload 5, 2) := dk_21 5 (dk_at dksX7_bandEnergy_0 16 rfl rfl)
theorem dX7_bandEnergy_18 : decode cX7_bandEnergy 18 = .ok (.invokevirtual 67, 3) := dk_182 0 67 (dk_at dksX7_bandEnergy_0 18 rfl rfl)
theorem dX7_bandEnergy_21 : decode cX7_bandEnergy 21 = .ok (.iload_n 1, 1) := dk_27 (dk_at dksX7_bandEnergy_0 21 rfl rfl)
theorem dX7_bandEnergy_22 : decode cX7_bandEnergy 22 = .ok (.iload_n 2, 1) := dk_28 (dk_at dksX7_bandEnergy_0 22 rfl rfl)
theorem dX7_bandEnergy_23 : decode cX7_bandEnergy 23 = .ok (.invokestatic 17, 3) := dk_184 0 17 (dk_at dksX7_bandEnergy_1 0 rfl rfl)
theorem dX7_bandEnergy_26 : decode cX7_bandEnergy 26 = .ok (.ifCond .eq 12, 3) := dk_153 0 12 (dk_at dksX7_bandEnergy_1 3 rfl rfl)
theorem dX7_bandEnergy_29 : decode cX7_bandEnergy 29 = .ok (.lload_n 3, 1) := dk_33 (dk_at dksX7_bandEnergy_1 6 rfl rfl)
theorem dX7_bandEnergy_30 : decode cX7_bandEnergy 30 = .ok (.aload_n 0, 1) := dk_42 (dk_at dksX7_bandEnergy_1 7 rfl rfl)
theorem dX7_bandEnergy_31 : decode cX7_bandEnergy 31 = .ok (.iload 5, 2) := dk_21 5 (dk_at dksX7_bandEnergy_1 8 rfl rfl)
theorem dX7_bandEnergy_33 : decode cX7_bandEnergy 33 = .ok (.invokevirtual 69, 3) := dk_182 0 69 (dk_at dksX7_bandEnergy_1 10 rfl rfl)
theorem dX7_bandEnergy_36 : decode cX7_bandEnergy 36 = .ok (.ladd, 1) := dk_97 (dk_at dksX7_bandEnergy_1 13 rfl rfl)
theorem dX7_bandEnergy_37 : decode cX7_bandEnergy 37 = .ok (.lstore_n 3, 1) := dk_66 (dk_at dksX7_bandEnergy_1 14 rfl rfl)
theorem dX7_bandEnergy_38 : decode cX7_bandEnergy 38 = .ok (.iinc 5 1, 3) := dk_132 5 1 (dk_at dksX7_bandEnergy_1 15 rfl rfl)
theorem dX7_bandEnergy_41 : decode cX7_bandEnergy 41 = .ok (.goto (-36), 3) := dk_167 255 220 (dk_at dksX7_bandEnergy_1 18 rfl rfl)
theorem dX7_bandEnergy_44 : decode cX7_bandEnergy 44 = .ok (.lload_n 3, 1) := dk_33 (dk_at dksX7_bandEnergy_1 21 rfl rfl)
theorem dX7_bandEnergy_45 : decode cX7_bandEnergy 45 = .ok (.lreturn, 1) := dk_173 (dk_at dksX7_bandEnergy_1 22 rfl rfl)
abbrev cX7_sequency : ByteArray := prog_7_method_7_code
def yX7_sequency : MethodName := ⟨RX7, "sequency", "(I)I"⟩
def dkwX7_sequency_0 : List UInt8 := [42, 180, 0, 13, 190, 27, 184, 0, 42, 172]
abbrev dktX7_sequency_0 : List UInt8 := dkwX7_sequency_0 ++ []
theorem dksX7_sequency_0 : cX7_sequency.data.toList.drop 0 = dktX7_sequency_0 := by decide +kernel
theorem dX7_sequency_0 : decode cX7_sequency 0 = .ok (.aload_n 0, 1) := dk_42 (dk_at dksX7_sequency_0 0 rfl rfl)
theorem dX7_sequency_1 : decode cX7_sequency 1 = .ok (.getfield 13, 3) := dk_180 0 13 (dk_at dksX7_sequency_0 1 rfl rfl)
theorem dX7_sequency_4 : decode cX7_sequency 4 = .ok (.arraylength, 1) := dk_190 (dk_at dksX7_sequency_0 4 rfl rfl)
theorem dX7_sequency_5 : decode cX7_sequency 5 = .ok (.iload_n 1, 1) := dk_27 (dk_at dksX7_sequency_0 5 rfl rfl)
theorem dX7_sequency_6 : decode cX7_sequency 6 = .ok (.invokestatic 42, 3) := dk_184 0 42 (dk_at dksX7_sequency_0 6 rfl rfl)
theorem dX7_sequency_9 : decode cX7_sequency 9 = .ok (.ireturn, 1) := dk_172 (dk_at dksX7_sequency_0 9 rfl rfl)
abbrev cX7_square : ByteArray := prog_7_method_12_code
def yX7_square : MethodName := ⟨RX7, "square", "(I)J"⟩
def dkwX7_square_0 : List UInt8 := [42, 182, 0, 46, 27, 46, 133, 42, 182, 0, 46, 27, 46, 133, 105, 173]
abbrev dktX7_square_0 : List UInt8 := dkwX7_square_0 ++ []
theorem dksX7_square_0 : cX7_square.data.toList.drop 0 = dktX7_square_0 := by decide +kernel
theorem dX7_square_0 : decode cX7_square 0 = .ok (.aload_n 0, 1) := dk_42 (dk_at dksX7_square_0 0 rfl rfl)
theorem dX7_square_1 : decode cX7_square 1 = .ok (.invokevirtual 46, 3) := dk_182 0 46 (dk_at dksX7_square_0 1 rfl rfl)
theorem dX7_square_4 : decode cX7_square 4 = .ok (.iload_n 1, 1) := dk_27 (dk_at dksX7_square_0 4 rfl rfl)
theorem dX7_square_5 : decode cX7_square 5 = .ok (.iaload, 1) := dk_46 (dk_at dksX7_square_0 5 rfl rfl)
theorem dX7_square_6 : decode cX7_square 6 = .ok (.i2l, 1) := dk_133 (dk_at dksX7_square_0 6 rfl rfl)
theorem dX7_square_7 : decode cX7_square 7 = .ok (.aload_n 0, 1) := dk_42 (dk_at dksX7_square_0 7 rfl rfl)
theorem dX7_square_8 : decode cX7_square 8 = .ok (.invokevirtual 46, 3) := dk_182 0 46 (dk_at dksX7_square_0 8 rfl rfl)
theorem dX7_square_11 : decode cX7_square 11 = .ok (.iload_n 1, 1) := dk_27 (dk_at dksX7_square_0 11 rfl rfl)
theorem dX7_square_12 : decode cX7_square 12 = .ok (.iaload, 1) := dk_46 (dk_at dksX7_square_0 12 rfl rfl)
theorem dX7_square_13 : decode cX7_square 13 = .ok (.i2l, 1) := dk_133 (dk_at dksX7_square_0 13 rfl rfl)
theorem dX7_square_14 : decode cX7_square 14 = .ok (.lmul, 1) := dk_105 (dk_at dksX7_square_0 14 rfl rfl)
theorem dX7_square_15 : decode cX7_square 15 = .ok (.lreturn, 1) := dk_173 (dk_at dksX7_square_0 15 rfl rfl)
abbrev cX7_strongestBand : ByteArray := prog_7_method_23_code
def yX7_strongestBand : MethodName := ⟨RX7, "strongestBand", "(I)I"⟩
def dkwX7_strongestBand_2 : List UInt8 := [167, 255, 216, 28, 172]
abbrev dktX7_strongestBand_2 : List UInt8 := dkwX7_strongestBand_2 ++ []
def dkwX7_strongestBand_1 : List UInt8 := [182, 0, 107, 42, 28, 28, 27, 96, 4, 100, 182, 0, 107, 148, 158, 0, 5, 29, 61, 132, 3, 1]
abbrev dktX7_strongestBand_1 : List UInt8 := dkwX7_strongestBand_1 ++ dktX7_strongestBand_2
def dkwX7_strongestBand_0 : List UInt8 := [3, 61, 4, 62, 29, 27, 96, 42, 180, 0, 13, 190, 163, 0, 35, 42, 29, 29, 27, 96, 4, 100]
abbrev dktX7_strongestBand_0 : List UInt8 := dkwX7_strongestBand_0 ++ dktX7_strongestBand_1
theorem dksX7_strongestBand_0 : cX7_strongestBand.data.toList.drop 0 = dktX7_strongestBand_0 := by decide +kernel
theorem dksX7_strongestBand_1 : cX7_strongestBand.data.toList.drop 22 = dktX7_strongestBand_1 := dk_seg dksX7_strongestBand_0 22 rfl rfl
theorem dksX7_strongestBand_2 : cX7_strongestBand.data.toList.drop 44 = dktX7_strongestBand_2 := dk_seg dksX7_strongestBand_1 22 rfl rfl
theorem dX7_strongestBand_0 : decode cX7_strongestBand 0 = .ok (.iconst 0, 1) := dk_3 (dk_at dksX7_strongestBand_0 0 rfl rfl)
theorem dX7_strongestBand_1 : decode cX7_strongestBand 1 = .ok (.istore_n 2, 1) := dk_61 (dk_at dksX7_strongestBand_0 1 rfl rfl)
theorem dX7_strongestBand_2 : decode cX7_strongestBand 2 = .ok (.iconst 1, 1) := dk_4 (dk_at dksX7_strongestBand_0 2 rfl rfl)
theorem dX7_strongestBand_3 : decode cX7_strongestBand 3 = .ok (.istore_n 3, 1) := dk_62 (dk_at dksX7_strongestBand_0 3 rfl rfl)
theorem dX7_strongestBand_4 : decode cX7_strongestBand 4 = .ok (.iload_n 3, 1) := dk_29 (dk_at dksX7_strongestBand_0 4 rfl rfl)
theorem dX7_strongestBand_5 : decode cX7_strongestBand 5 = .ok (.iload_n 1, 1) := dk_27 (dk_at dksX7_strongestBand_0 5 rfl rfl)
theorem dX7_strongestBand_6 : decode cX7_strongestBand 6 = .ok (.iadd, 1) := dk_96 (dk_at dksX7_strongestBand_0 6 rfl rfl)
theorem dX7_strongestBand_7 : decode cX7_strongestBand 7 = .ok (.aload_n 0, 1) := dk_42 (dk_at dksX7_strongestBand_0 7 rfl rfl)
theorem dX7_strongestBand_8 : decode cX7_strongestBand 8 = .ok (.getfield 13, 3) := dk_180 0 13 (dk_at dksX7_strongestBand_0 8 rfl rfl)
theorem dX7_strongestBand_11 : decode cX7_strongestBand 11 = .ok (.arraylength, 1) := dk_190 (dk_at dksX7_strongestBand_0 11 rfl rfl)
theorem dX7_strongestBand_12 : decode cX7_strongestBand 12 = .ok (.if_icmp .gt 35, 3) := dk_163 0 35 (dk_at dksX7_strongestBand_0 12 rfl rfl)
theorem dX7_strongestBand_15 : decode cX7_strongestBand 15 = .ok (.aload_n 0, 1) := dk_42 (dk_at dksX7_strongestBand_0 15 rfl rfl)
theorem dX7_strongestBand_16 : decode cX7_strongestBand 16 = .ok (.iload_n 3, 1) := dk_29 (dk_at dksX7_strongestBand_0 16 rfl rfl)
theorem dX7_strongestBand_17 : decode cX7_strongestBand 17 = .ok (.iload_n 3, 1) := dk_29 (dk_at dksX7_strongestBand_0 17 rfl rfl)
theorem dX7_strongestBand_18 : decode cX7_strongestBand 18 = .ok (.iload_n 1, 1) := dk_27 (dk_at dksX7_strongestBand_0 18 rfl rfl)
theorem dX7_strongestBand_19 : decode cX7_strongestBand 19 = .ok (.iadd, 1) := dk_96 (dk_at dksX7_strongestBand_0 19 rfl rfl)
theorem dX7_strongestBand_20 : decode cX7_strongestBand 20 = .ok (.iconst 1, 1) := dk_4 (dk_at dksX7_strongestBand_0 20 rfl rfl)
theorem dX7_strongestBand_21 : decode cX7_strongestBand 21 = .ok (.isub, 1) := dk_100 (dk_at dksX7_strongestBand_0 21 rfl rfl)
theorem dX7_strongestBand_22 : decode cX7_strongestBand 22 = .ok (.invokevirtual 107, 3) := dk_182 0 107 (dk_at dksX7_strongestBand_1 0 rfl rfl)
theorem dX7_strongestBand_25 : decode cX7_strongestBand 25 = .ok (.aload_n 0, 1) := dk_42 (dk_at dksX7_strongestBand_1 3 rfl rfl)
theorem dX7_strongestBand_26 : decode cX7_strongestBand 26 = .ok (.iload_n 2, 1) := dk_28 (dk_at dksX7_strongestBand_1 4 rfl rfl)
theorem dX7_strongestBand_27 : decode cX7_strongestBand 27 = .ok (.iload_n 2, 1) := dk_28 (dk_at dksX7_strongestBand_1 5 rfl rfl)
theorem dX7_strongestBand_28 : decode cX7_strongestBand 28 = .ok (.iload_n 1, 1) := dk_27 (dk_at dksX7_strongestBand_1 6 rfl rfl)
theorem dX7_strongestBand_29 : decode cX7_strongestBand 29 = .ok (.iadd, 1) := dk_96 (dk_at dksX7_strongestBand_1 7 rfl rfl)
theorem dX7_strongestBand_30 : decode cX7_strongestBand 30 = .ok (.iconst 1, 1) := dk_4 (dk_at dksX7_strongestBand_1 8 rfl rfl)
theorem dX7_strongestBand_31 : decode cX7_strongestBand 31 = .ok (.isub, 1) := dk_100 (dk_at dksX7_strongestBand_1 9 rfl rfl)
theorem dX7_strongestBand_32 : decode cX7_strongestBand 32 = .ok (.invokevirtual 107, 3) := dk_182 0 107 (dk_at dksX7_strongestBand_1 10 rfl rfl)
theorem dX7_strongestBand_35 : decode cX7_strongestBand 35 = .ok (.lcmp, 1) := dk_148 (dk_at dksX7_strongestBand_1 13 rfl rfl)
theorem dX7_strongestBand_36 : decode cX7_strongestBand 36 = .ok (.ifCond .le 5, 3) := dk_158 0 5 (dk_at dksX7_strongestBand_1 14 rfl rfl)
theorem dX7_strongestBand_39 : decode cX7_strongestBand 39 = .ok (.iload_n 3, 1) := dk_29 (dk_at dksX7_strongestBand_1 17 rfl rfl)
theorem dX7_strongestBand_40 : decode cX7_strongestBand 40 = .ok (.istore_n 2, 1) := dk_61 (dk_at dksX7_strongestBand_1 18 rfl rfl)
theorem dX7_strongestBand_41 : decode cX7_strongestBand 41 = .ok (.iinc 3 1, 3) := dk_132 3 1 (dk_at dksX7_strongestBand_1 19 rfl rfl)
theorem dX7_strongestBand_44 : decode cX7_strongestBand 44 = .ok (.goto (-40), 3) := dk_167 255 216 (dk_at dksX7_strongestBand_2 0 rfl rfl)
theorem dX7_strongestBand_47 : decode cX7_strongestBand 47 = .ok (.iload_n 2, 1) := dk_28 (dk_at dksX7_strongestBand_2 3 rfl rfl)
theorem dX7_strongestBand_48 : decode cX7_strongestBand 48 = .ok (.ireturn, 1) := dk_172 (dk_at dksX7_strongestBand_2 4 rfl rfl)
abbrev cX7_tonesAbove : ByteArray := prog_7_method_22_code
def yX7_tonesAbove : MethodName := ⟨RX7, "tonesAbove", "(I)I"⟩
def dkwX7_tonesAbove_1 : List UInt8 := [132, 2, 1, 132, 3, 1, 167, 255, 232, 28, 172]
abbrev dktX7_tonesAbove_1 : List UInt8 := dkwX7_tonesAbove_1 ++ []
def dkwX7_tonesAbove_0 : List UInt8 := [3, 61, 3, 62, 29, 42, 180, 0, 13, 190, 162, 0, 21, 42, 29, 27, 182, 0, 104, 153, 0, 6]
abbrev dktX7_tonesAbove_0 : List UInt8 := dkwX7_tonesAbove_0 ++ dktX7_tonesAbove_1
theorem dksX7_tonesAbove_0 : cX7_tonesAbove.data.toList.drop 0 = dktX7_tonesAbove_0 := by decide +kernel
theorem dksX7_tonesAbove_1 : cX7_tonesAbove.data.toList.drop 22 = dktX7_tonesAbove_1 := dk_seg dksX7_tonesAbove_0 22 rfl rfl
theorem dX7_tonesAbove_0 : decode cX7_tonesAbove 0 = .ok (.iconst 0, 1) := dk_3 (dk_at dksX7_tonesAbove_0 0 rfl rfl)
theorem dX7_tonesAbove_1 : decode cX7_tonesAbove 1 = .ok (.istore_n 2, 1) := dk_61 (dk_at dksX7_tonesAbove_0 1 rfl rfl)
theorem dX7_tonesAbove_2 : decode cX7_tonesAbove 2 = .ok (.iconst 0, 1) := dk_3 (dk_at dksX7_tonesAbove_0 2 rfl rfl)
theorem dX7_tonesAbove_3 : decode cX7_tonesAbove 3 = .ok (.istore_n 3, 1) := dk_62 (dk_at dksX7_tonesAbove_0 3 rfl rfl)
theorem dX7_tonesAbove_4 : decode cX7_tonesAbove 4 = .ok (.iload_n 3, 1) := dk_29 (dk_at dksX7_tonesAbove_0 4 rfl rfl)
theorem dX7_tonesAbove_5 : decode cX7_tonesAbove 5 = .ok (.aload_n 0, 1) := dk_42 (dk_at dksX7_tonesAbove_0 5 rfl rfl)
theorem dX7_tonesAbove_6 : decode cX7_tonesAbove 6 = .ok (.getfield 13, 3) := dk_180 0 13 (dk_at dksX7_tonesAbove_0 6 rfl rfl)
theorem dX7_tonesAbove_9 : decode cX7_tonesAbove 9 = .ok (.arraylength, 1) := dk_190 (dk_at dksX7_tonesAbove_0 9 rfl rfl)
theorem dX7_tonesAbove_10 : decode cX7_tonesAbove 10 = .ok (.if_icmp .ge 21, 3) := dk_162 0 21 (dk_at dksX7_tonesAbove_0 10 rfl rfl)
theorem dX7_tonesAbove_13 : decode cX7_tonesAbove 13 = .ok (.aload_n 0, 1) := dk_42 (dk_at dksX7_tonesAbove_0 13 rfl rfl)
theorem dX7_tonesAbove_14 : decode cX7_tonesAbove 14 = .ok (.iload_n 3, 1) := dk_29 (dk_at dksX7_tonesAbove_0 14 rfl rfl)
theorem dX7_tonesAbove_15 : decode cX7_tonesAbove 15 = .ok (.iload_n 1, 1) := dk_27 (dk_at dksX7_tonesAbove_0 15 rfl rfl)
theorem dX7_tonesAbove_16 : decode cX7_tonesAbove 16 = .ok (.invokevirtual 104, 3) := dk_182 0 104 (dk_at dksX7_tonesAbove_0 16 rfl rfl)
theorem dX7_tonesAbove_19 : decode cX7_tonesAbove 19 = .ok (.ifCond .eq 6, 3) := dk_153 0 6 (dk_at dksX7_tonesAbove_0 19 rfl rfl)
theorem dX7_tonesAbove_22 : decode cX7_tonesAbove 22 = .ok (.iinc 2 1, 3) := dk_132 2 1 (dk_at dksX7_tonesAbove_1 0 rfl rfl)
theorem dX7_tonesAbove_25 : decode cX7_tonesAbove 25 = .ok (.iinc 3 1, 3) := dk_132 3 1 (dk_at dksX7_tonesAbove_1 3 rfl rfl)
theorem dX7_tonesAbove_28 : decode cX7_tonesAbove 28 = .ok (.goto (-24), 3) := dk_167 255 232 (dk_at dksX7_tonesAbove_1 6 rfl rfl)
theorem dX7_tonesAbove_31 : decode cX7_tonesAbove 31 = .ok (.iload_n 2, 1) := dk_28 (dk_at dksX7_tonesAbove_1 9 rfl rfl)
theorem dX7_tonesAbove_32 : decode cX7_tonesAbove 32 = .ok (.ireturn, 1) := dk_172 (dk_at dksX7_tonesAbove_1 10 rfl rfl)
abbrev cX7_isAbove : ByteArray := prog_7_method_20_code
def yX7_isAbove : MethodName := ⟨RX7, "isAbove", "(II)Z"⟩
def dkwX7_isAbove_0 : List UInt8 := [42, 182, 0, 46, 27, 46, 184, 0, 48, 28, 161, 0, 7, 4, 167, 0, 4, 3, 172]
abbrev dktX7_isAbove_0 : List UInt8 := dkwX7_isAbove_0 ++ []
theorem dksX7_isAbove_0 : cX7_isAbove.data.toList.drop 0 = dktX7_isAbove_0 := by decide +kernel
theorem dX7_isAbove_0 : decode cX7_isAbove 0 = .ok (.aload_n 0, 1) := dk_42 (dk_at dksX7_isAbove_0 0 rfl rfl)
theorem dX7_isAbove_1 : decode cX7_isAbove 1 = .ok (.invokevirtual 46, 3) := dk_182 0 46 (dk_at dksX7_isAbove_0 1 rfl rfl)
theorem dX7_isAbove_4 : decode cX7_isAbove 4 = .ok (.iload_n 1, 1) := dk_27 (dk_at dksX7_isAbove_0 4 rfl rfl)
theorem dX7_isAbove_5 : decode cX7_isAbove 5 = .ok (.iaload, 1) := dk_46 (dk_at dksX7_isAbove_0 5 rfl rfl)
theorem dX7_isAbove_6 : decode cX7_isAbove 6 = .ok (.invokestatic 48, 3) := dk_184 0 48 (dk_at dksX7_isAbove_0 6 rfl rfl)
theorem dX7_isAbove_9 : decode cX7_isAbove 9 = .ok (.iload_n 2, 1) := dk_28 (dk_at dksX7_isAbove_0 9 rfl rfl)
theorem dX7_isAbove_10 : decode cX7_isAbove 10 = .ok (.if_icmp .lt 7, 3) := dk_161 0 7 (dk_at dksX7_isAbove_0 10 rfl rfl)
theorem dX7_isAbove_13 : decode cX7_isAbove 13 = .ok (.iconst 1, 1) := dk_4 (dk_at dksX7_isAbove_0 13 rfl rfl)
theorem dX7_isAbove_14 : decode cX7_isAbove 14 = .ok (.goto 4, 3) := dk_167 0 4 (dk_at dksX7_isAbove_0 14 rfl rfl)
theorem dX7_isAbove_17 : decode cX7_isAbove 17 = .ok (.iconst 0, 1) := dk_3 (dk_at dksX7_isAbove_0 17 rfl rfl)
theorem dX7_isAbove_18 : decode cX7_isAbove 18 = .ok (.ireturn, 1) := dk_172 (dk_at dksX7_isAbove_0 18 rfl rfl)
abbrev cX7_coefficientEnergy : ByteArray := prog_7_method_13_code
def yX7_coefficientEnergy : MethodName := ⟨RX7, "coefficientEnergy", "()J"⟩
def dkwX7_coefficientEnergy_0 : List UInt8 := [42, 182, 0, 63, 42, 180, 0, 13, 190, 133, 105, 173]
abbrev dktX7_coefficientEnergy_0 : List UInt8 := dkwX7_coefficientEnergy_0 ++ []
theorem dksX7_coefficientEnergy_0 : cX7_coefficientEnergy.data.toList.drop 0 = dktX7_coefficientEnergy_0 := by decide +kernel
theorem dX7_coefficientEnergy_0 : decode cX7_coefficientEnergy 0 = .ok (.aload_n 0, 1) := dk_42 (dk_at dksX7_coefficientEnergy_0 0 rfl rfl)
theorem dX7_coefficientEnergy_1 : decode cX7_coefficientEnergy 1 = .ok (.invokevirtual 63, 3) := dk_182 0 63 (dk_at dksX7_coefficientEnergy_0 1 rfl rfl)
theorem dX7_coefficientEnergy_4 : decode cX7_coefficientEnergy 4 = .ok (.aload_n 0, 1) := dk_42 (dk_at dksX7_coefficientEnergy_0 4 rfl rfl)
theorem dX7_coefficientEnergy_5 : decode cX7_coefficientEnergy 5 = .ok (.getfield 13, 3) := dk_180 0 13 (dk_at dksX7_coefficientEnergy_0 5 rfl rfl)
theorem dX7_coefficientEnergy_8 : decode cX7_coefficientEnergy 8 = .ok (.arraylength, 1) := dk_190 (dk_at dksX7_coefficientEnergy_0 8 rfl rfl)
theorem dX7_coefficientEnergy_9 : decode cX7_coefficientEnergy 9 = .ok (.i2l, 1) := dk_133 (dk_at dksX7_coefficientEnergy_0 9 rfl rfl)
theorem dX7_coefficientEnergy_10 : decode cX7_coefficientEnergy 10 = .ok (.lmul, 1) := dk_105 (dk_at dksX7_coefficientEnergy_0 10 rfl rfl)
theorem dX7_coefficientEnergy_11 : decode cX7_coefficientEnergy 11 = .ok (.lreturn, 1) := dk_173 (dk_at dksX7_coefficientEnergy_0 11 rfl rfl)
abbrev cX7_ranking : ByteArray := prog_7_method_9_code
def yX7_ranking : MethodName := ⟨RX7, "ranking", "()[I"⟩
def dkwX7_ranking_3 : List UInt8 := [132, 2, 255, 167, 255, 219, 42, 180, 0, 54, 28, 27, 79, 132, 1, 1, 167, 255, 195, 42, 180, 0, 54, 176]
abbrev dktX7_ranking_3 : List UInt8 := dkwX7_ranking_3 ++ []
def dkwX7_ranking_2 : List UInt8 := [100, 46, 182, 0, 57, 153, 0, 23, 42, 180, 0, 54, 28, 42, 180, 0, 54, 28, 4, 100, 46, 79]
abbrev dktX7_ranking_2 : List UInt8 := dkwX7_ranking_2 ++ dktX7_ranking_3
def dkwX7_ranking_1 : List UInt8 := [60, 27, 42, 180, 0, 13, 190, 162, 0, 58, 27, 61, 28, 158, 0, 39, 42, 27, 42, 180, 0, 54, 28, 4]
abbrev dktX7_ranking_1 : List UInt8 := dkwX7_ranking_1 ++ dktX7_ranking_2
def dkwX7_ranking_0 : List UInt8 := [42, 180, 0, 54, 198, 0, 8, 42, 180, 0, 54, 176, 42, 42, 180, 0, 13, 190, 188, 10, 181, 0, 54, 3]
abbrev dktX7_ranking_0 : List UInt8 := dkwX7_ranking_0 ++ dktX7_ranking_1
theorem dksX7_ranking_0 : cX7_ranking.data.toList.drop 0 = dktX7_ranking_0 := by decide +kernel
theorem dksX7_ranking_1 : cX7_ranking.data.toList.drop 24 = dktX7_ranking_1 := dk_seg dksX7_ranking_0 24 rfl rfl
theorem dksX7_ranking_2 : cX7_ranking.data.toList.drop 48 = dktX7_ranking_2 := dk_seg dksX7_ranking_1 24 rfl rfl
theorem dksX7_ranking_3 : cX7_ranking.data.toList.drop 70 = dktX7_ranking_3 := dk_seg dksX7_ranking_2 22 rfl rfl
theorem dX7_ranking_0 : decode cX7_ranking 0 = .ok (.aload_n 0, 1) := dk_42 (dk_at dksX7_ranking_0 0 rfl rfl)
theorem dX7_ranking_1 : decode cX7_ranking 1 = .ok (.getfield 54, 3) := dk_180 0 54 (dk_at dksX7_ranking_0 1 rfl rfl)
theorem dX7_ranking_4 : decode cX7_ranking 4 = .ok (.ifnull 8, 3) := dk_198 0 8 (dk_at dksX7_ranking_0 4 rfl rfl)
theorem dX7_ranking_7 : decode cX7_ranking 7 = .ok (.aload_n 0, 1) := dk_42 (dk_at dksX7_ranking_0 7 rfl rfl)
theorem dX7_ranking_8 : decode cX7_ranking 8 = .ok (.getfield 54, 3) := dk_180 0 54 (dk_at dksX7_ranking_0 8 rfl rfl)
theorem dX7_ranking_11 : decode cX7_ranking 11 = .ok (.areturn, 1) := dk_176 (dk_at dksX7_ranking_0 11 rfl rfl)
theorem dX7_ranking_12 : decode cX7_ranking 12 = .ok (.aload_n 0, 1) := dk_42 (dk_at dksX7_ranking_0 12 rfl rfl)
theorem dX7_ranking_13 : decode cX7_ranking 13 = .ok (.aload_n 0, 1) := dk_42 (dk_at dksX7_ranking_0 13 rfl rfl)
theorem dX7_ranking_14 : decode cX7_ranking 14 = .ok (.getfield 13, 3) := dk_180 0 13 (dk_at dksX7_ranking_0 14 rfl rfl)
theorem dX7_ranking_17 : decode cX7_ranking 17 = .ok (.arraylength, 1) := dk_190 (dk_at dksX7_ranking_0 17 rfl rfl)
theorem dX7_ranking_18 : decode cX7_ranking 18 = .ok (.newarray .int, 2) := dk_188_10 (dk_at dksX7_ranking_0 18 rfl rfl)
theorem dX7_ranking_20 : decode cX7_ranking 20 = .ok (.putfield 54, 3) := dk_181 0 54 (dk_at dksX7_ranking_0 20 rfl rfl)
theorem dX7_ranking_23 : decode cX7_ranking 23 = .ok (.iconst 0, 1) := dk_3 (dk_at dksX7_ranking_0 23 rfl rfl)
theorem dX7_ranking_24 : decode cX7_ranking 24 = .ok (.istore_n 1, 1) := dk_60 (dk_at dksX7_ranking_1 0 rfl rfl)
theorem dX7_ranking_25 : decode cX7_ranking 25 = .ok (.iload_n 1, 1) := dk_27 (dk_at dksX7_ranking_1 1 rfl rfl)
theorem dX7_ranking_26 : decode cX7_ranking 26 = .ok (.aload_n 0, 1) := dk_42 (dk_at dksX7_ranking_1 2 rfl rfl)
theorem dX7_ranking_27 : decode cX7_ranking 27 = .ok (.getfield 13, 3) := dk_180 0 13 (dk_at dksX7_ranking_1 3 rfl rfl)
theorem dX7_ranking_30 : decode cX7_ranking 30 = .ok (.arraylength, 1) := dk_190 (dk_at dksX7_ranking_1 6 rfl rfl)
theorem dX7_ranking_31 : decode cX7_ranking 31 = .ok (.if_icmp .ge 58, 3) := dk_162 0 58 (dk_at dksX7_ranking_1 7 rfl rfl)
theorem dX7_ranking_34 : decode cX7_ranking 34 = .ok (.iload_n 1, 1) := dk_27 (dk_at dksX7_ranking_1 10 rfl rfl)
theorem dX7_ranking_35 : decode cX7_ranking 35 = .ok (.istore_n 2, 1) := dk_61 (dk_at dksX7_ranking_1 11 rfl rfl)
theorem dX7_ranking_36 : decode cX7_ranking 36 = .ok (.iload_n 2, 1) := dk_28 (dk_at dksX7_ranking_1 12 rfl rfl)
theorem dX7_ranking_37 : decode cX7_ranking 37 = .ok (.ifCond .le 39, 3) := dk_158 0 39 (dk_at dksX7_ranking_1 13 rfl rfl)
theorem dX7_ranking_40 : decode cX7_ranking 40 = .ok (.aload_n 0, 1) := dk_42 (dk_at dksX7_ranking_1 16 rfl rfl)
theorem dX7_ranking_41 : decode cX7_ranking 41 = .ok (.iload_n 1, 1) := dk_27 (dk_at dksX7_ranking_1 17 rfl rfl)
theorem dX7_ranking_42 : decode cX7_ranking 42 = .ok (.aload_n 0, 1) := dk_42 (dk_at dksX7_ranking_1 18 rfl rfl)
theorem dX7_ranking_43 : decode cX7_ranking 43 = .ok (.getfield 54, 3) := dk_180 0 54 (dk_at dksX7_ranking_1 19 rfl rfl)
theorem dX7_ranking_46 : decode cX7_ranking 46 = .ok (.iload_n 2, 1) := dk_28 (dk_at dksX7_ranking_1 22 rfl rfl)
theorem dX7_ranking_47 : decode cX7_ranking 47 = .ok (.iconst 1, 1) := dk_4 (dk_at dksX7_ranking_1 23 rfl rfl)
theorem dX7_ranking_48 : decode cX7_ranking 48 = .ok (.isub, 1) := dk_100 (dk_at dksX7_ranking_2 0 rfl rfl)
theorem dX7_ranking_49 : decode cX7_ranking 49 = .ok (.iaload, 1) := dk_46 (dk_at dksX7_ranking_2 1 rfl rfl)
theorem dX7_ranking_50 : decode cX7_ranking 50 = .ok (.invokevirtual 57, 3) := dk_182 0 57 (dk_at dksX7_ranking_2 2 rfl rfl)
theorem dX7_ranking_53 : decode cX7_ranking 53 = .ok (.ifCond .eq 23, 3) := dk_153 0 23 (dk_at dksX7_ranking_2 5 rfl rfl)
theorem dX7_ranking_56 : decode cX7_ranking 56 = .ok (.aload_n 0, 1) := dk_42 (dk_at dksX7_ranking_2 8 rfl rfl)
theorem dX7_ranking_57 : decode cX7_ranking 57 = .ok (.getfield 54, 3) := dk_180 0 54 (dk_at dksX7_ranking_2 9 rfl rfl)
theorem dX7_ranking_60 : decode cX7_ranking 60 = .ok (.iload_n 2, 1) := dk_28 (dk_at dksX7_ranking_2 12 rfl rfl)
theorem dX7_ranking_61 : decode cX7_ranking 61 = .ok (.aload_n 0, 1) := dk_42 (dk_at dksX7_ranking_2 13 rfl rfl)
theorem dX7_ranking_62 : decode cX7_ranking 62 = .ok (.getfield 54, 3) := dk_180 0 54 (dk_at dksX7_ranking_2 14 rfl rfl)
theorem dX7_ranking_65 : decode cX7_ranking 65 = .ok (.iload_n 2, 1) := dk_28 (dk_at dksX7_ranking_2 17 rfl rfl)
theorem dX7_ranking_66 : decode cX7_ranking 66 = .ok (.iconst 1, 1) := dk_4 (dk_at dksX7_ranking_2 18 rfl rfl)
theorem dX7_ranking_67 : decode cX7_ranking 67 = .ok (.isub, 1) := dk_100 (dk_at dksX7_ranking_2 19 rfl rfl)
theorem dX7_ranking_68 : decode cX7_ranking 68 = .ok (.iaload, 1) := dk_46 (dk_at dksX7_ranking_2 20 rfl rfl)
theorem dX7_ranking_69 : decode cX7_ranking 69 = .ok (.iastore, 1) := dk_79 (dk_at dksX7_ranking_2 21 rfl rfl)
theorem dX7_ranking_70 : decode cX7_ranking 70 = .ok (.iinc 2 (-1), 3) := dk_132 2 255 (dk_at dksX7_ranking_3 0 rfl rfl)
theorem dX7_ranking_73 : decode cX7_ranking 73 = .ok (.goto (-37), 3) := dk_167 255 219 (dk_at dksX7_ranking_3 3 rfl rfl)
theorem dX7_ranking_76 : decode cX7_ranking 76 = .ok (.aload_n 0, 1) := dk_42 (dk_at dksX7_ranking_3 6 rfl rfl)
theorem dX7_ranking_77 : decode cX7_ranking 77 = .ok (.getfield 54, 3) := dk_180 0 54 (dk_at dksX7_ranking_3 7 rfl rfl)
theorem dX7_ranking_80 : decode cX7_ranking 80 = .ok (.iload_n 2, 1) := dk_28 (dk_at dksX7_ranking_3 10 rfl rfl)
theorem dX7_ranking_81 : decode cX7_ranking 81 = .ok (.iload_n 1, 1) := dk_27 (dk_at dksX7_ranking_3 11 rfl rfl)
theorem dX7_ranking_82 : decode cX7_ranking 82 = .ok (.iastore, 1) := dk_79 (dk_at dksX7_ranking_3 12 rfl rfl)
theorem dX7_ranking_83 : decode cX7_ranking 83 = .ok (.iinc 1 1, 3) := dk_132 1 1 (dk_at dksX7_ranking_3 13 rfl rfl)
theorem dX7_ranking_86 : decode cX7_ranking 86 = .ok (.goto (-61), 3) := dk_167 255 195 (dk_at dksX7_ranking_3 16 rfl rfl)
theorem dX7_ranking_89 : decode cX7_ranking 89 = .ok (.aload_n 0, 1) := dk_42 (dk_at dksX7_ranking_3 19 rfl rfl)
theorem dX7_ranking_90 : decode cX7_ranking 90 = .ok (.getfield 54, 3) := dk_180 0 54 (dk_at dksX7_ranking_3 20 rfl rfl)
theorem dX7_ranking_93 : decode cX7_ranking 93 = .ok (.areturn, 1) := dk_176 (dk_at dksX7_ranking_3 23 rfl rfl)
abbrev cX7_isHigher : ByteArray := prog_7_method_8_code
def yX7_isHigher : MethodName := ⟨RX7, "isHigher", "(II)Z"⟩
def dkwX7_isHigher_1 : List UInt8 := [163, 0, 14, 29, 21, 4, 160, 0, 12, 27, 28, 162, 0, 7, 4, 167, 0, 4, 3, 172]
abbrev dktX7_isHigher_1 : List UInt8 := dkwX7_isHigher_1 ++ []
def dkwX7_isHigher_0 : List UInt8 := [42, 182, 0, 46, 27, 46, 184, 0, 48, 62, 42, 182, 0, 46, 28, 46, 184, 0, 48, 54, 4, 29, 21, 4]
abbrev dktX7_isHigher_0 : List UInt8 := dkwX7_isHigher_0 ++ dktX7_isHigher_1
theorem dksX7_isHigher_0 : cX7_isHigher.data.toList.drop 0 = dktX7_isHigher_0 := by decide +kernel
theorem dksX7_isHigher_1 : cX7_isHigher.data.toList.drop 24 = dktX7_isHigher_1 := dk_seg dksX7_isHigher_0 24 rfl rfl
theorem dX7_isHigher_0 : decode cX7_isHigher 0 = .ok (.aload_n 0, 1) := dk_42 (dk_at dksX7_isHigher_0 0 rfl rfl)
theorem dX7_isHigher_1 : decode cX7_isHigher 1 = .ok (.invokevirtual 46, 3) := dk_182 0 46 (dk_at dksX7_isHigher_0 1 rfl rfl)
theorem dX7_isHigher_4 : decode cX7_isHigher 4 = .ok (.iload_n 1, 1) := dk_27 (dk_at dksX7_isHigher_0 4 rfl rfl)
theorem dX7_isHigher_5 : decode cX7_isHigher 5 = .ok (.iaload, 1) := dk_46 (dk_at dksX7_isHigher_0 5 rfl rfl)
theorem dX7_isHigher_6 : decode cX7_isHigher 6 = .ok (.invokestatic 48, 3) := dk_184 0 48 (dk_at dksX7_isHigher_0 6 rfl rfl)
theorem dX7_isHigher_9 : decode cX7_isHigher 9 = .ok (.istore_n 3, 1) := dk_62 (dk_at dksX7_isHigher_0 9 rfl rfl)
theorem dX7_isHigher_10 : decode cX7_isHigher 10 = .ok (.aload_n 0, 1) := dk_42 (dk_at dksX7_isHigher_0 10 rfl rfl)
theorem dX7_isHigher_11 : decode cX7_isHigher 11 = .ok (.invokevirtual 46, 3) := dk_182 0 46 (dk_at dksX7_isHigher_0 11 rfl rfl)
theorem dX7_isHigher_14 : decode cX7_isHigher 14 = .ok (.iload_n 2, 1) := dk_28 (dk_at dksX7_isHigher_0 14 rfl rfl)
theorem dX7_isHigher_15 : decode cX7_isHigher 15 = .ok (.iaload, 1) := dk_46 (dk_at dksX7_isHigher_0 15 rfl rfl)
theorem dX7_isHigher_16 : decode cX7_isHigher 16 = .ok (.invokestatic 48, 3) := dk_184 0 48 (dk_at dksX7_isHigher_0 16 rfl rfl)
theorem dX7_isHigher_19 : decode cX7_isHigher 19 = .ok (.istore 4, 2) := dk_54 4 (dk_at dksX7_isHigher_0 19 rfl rfl)
theorem dX7_isHigher_21 : decode cX7_isHigher 21 = .ok (.iload_n 3, 1) := dk_29 (dk_at dksX7_isHigher_0 21 rfl rfl)
theorem dX7_isHigher_22 : decode cX7_isHigher 22 = .ok (.iload 4, 2) := dk_21 4 (dk_at dksX7_isHigher_0 22 rfl rfl)
theorem dX7_isHigher_24 : decode cX7_isHigher 24 = .ok (.if_icmp .gt 14, 3) := dk_163 0 14 (dk_at dksX7_isHigher_1 0 rfl rfl)
theorem dX7_isHigher_27 : decode cX7_isHigher 27 = .ok (.iload_n 3, 1) := dk_29 (dk_at dksX7_isHigher_1 3 rfl rfl)
theorem dX7_isHigher_28 : decode cX7_isHigher 28 = .ok (.iload 4, 2) := dk_21 4 (dk_at dksX7_isHigher_1 4 rfl rfl)
theorem dX7_isHigher_30 : decode cX7_isHigher 30 = .ok (.if_icmp .ne 12, 3) := dk_160 0 12 (dk_at dksX7_isHigher_1 6 rfl rfl)
theorem dX7_isHigher_33 : decode cX7_isHigher 33 = .ok (.iload_n 1, 1) := dk_27 (dk_at dksX7_isHigher_1 9 rfl rfl)
theorem dX7_isHigher_34 : decode cX7_isHigher 34 = .ok (.iload_n 2, 1) := dk_28 (dk_at dksX7_isHigher_1 10 rfl rfl)
theorem dX7_isHigher_35 : decode cX7_isHigher 35 = .ok (.if_icmp .ge 7, 3) := dk_162 0 7 (dk_at dksX7_isHigher_1 11 rfl rfl)
theorem dX7_isHigher_38 : decode cX7_isHigher 38 = .ok (.iconst 1, 1) := dk_4 (dk_at dksX7_isHigher_1 14 rfl rfl)
theorem dX7_isHigher_39 : decode cX7_isHigher 39 = .ok (.goto 4, 3) := dk_167 0 4 (dk_at dksX7_isHigher_1 15 rfl rfl)
theorem dX7_isHigher_42 : decode cX7_isHigher 42 = .ok (.iconst 0, 1) := dk_3 (dk_at dksX7_isHigher_1 18 rfl rfl)
theorem dX7_isHigher_43 : decode cX7_isHigher 43 = .ok (.ireturn, 1) := dk_172 (dk_at dksX7_isHigher_1 19 rfl rfl)
abbrev cX7_rank : ByteArray := prog_7_method_10_code
def yX7_rank : MethodName := ⟨RX7, "rank", "(I)I"⟩
def dkwX7_rank_0 : List UInt8 := [3, 61, 42, 182, 0, 61, 28, 46, 27, 159, 0, 9, 132, 2, 1, 167, 255, 243, 28, 172]
abbrev dktX7_rank_0 : List UInt8 := dkwX7_rank_0 ++ []
theorem dksX7_rank_0 : cX7_rank.data.toList.drop 0 = dktX7_rank_0 := by decide +kernel
theorem dX7_rank_0 : decode cX7_rank 0 = .ok (.iconst 0, 1) := dk_3 (dk_at dksX7_rank_0 0 rfl rfl)
theorem dX7_rank_1 : decode cX7_rank 1 = .ok (.istore_n 2, 1) := dk_61 (dk_at dksX7_rank_0 1 rfl rfl)
theorem dX7_rank_2 : decode cX7_rank 2 = .ok (.aload_n 0, 1) := dk_42 (dk_at dksX7_rank_0 2 rfl rfl)
theorem dX7_rank_3 : decode cX7_rank 3 = .ok (.invokevirtual 61, 3) := dk_182 0 61 (dk_at dksX7_rank_0 3 rfl rfl)
theorem dX7_rank_6 : decode cX7_rank 6 = .ok (.iload_n 2, 1) := dk_28 (dk_at dksX7_rank_0 6 rfl rfl)
theorem dX7_rank_7 : decode cX7_rank 7 = .ok (.iaload, 1) := dk_46 (dk_at dksX7_rank_0 7 rfl rfl)
theorem dX7_rank_8 : decode cX7_rank 8 = .ok (.iload_n 1, 1) := dk_27 (dk_at dksX7_rank_0 8 rfl rfl)
theorem dX7_rank_9 : decode cX7_rank 9 = .ok (.if_icmp .eq 9, 3) := dk_159 0 9 (dk_at dksX7_rank_0 9 rfl rfl)
theorem dX7_rank_12 : decode cX7_rank 12 = .ok (.iinc 2 1, 3) := dk_132 2 1 (dk_at dksX7_rank_0 12 rfl rfl)
theorem dX7_rank_15 : decode cX7_rank 15 = .ok (.goto (-13), 3) := dk_167 255 243 (dk_at dksX7_rank_0 15 rfl rfl)
theorem dX7_rank_18 : decode cX7_rank 18 = .ok (.iload_n 2, 1) := dk_28 (dk_at dksX7_rank_0 18 rfl rfl)
theorem dX7_rank_19 : decode cX7_rank 19 = .ok (.ireturn, 1) := dk_172 (dk_at dksX7_rank_0 19 rfl rfl)
abbrev cX7_peaksFor : ByteArray := prog_7_method_15_code
def yX7_peaksFor : MethodName := ⟨RX7, "peaksFor", "(I)I"⟩
def dkwX7_peaksFor_2 : List UInt8 := [167, 255, 226, 21, 6, 172]
abbrev dktX7_peaksFor_2 : List UInt8 := dkwX7_peaksFor_2 ++ []
def dkwX7_peaksFor_1 : List UInt8 := [156, 0, 25, 22, 4, 42, 42, 182, 0, 61, 21, 6, 46, 182, 0, 69, 97, 55, 4, 132, 6, 1]
abbrev dktX7_peaksFor_1 : List UInt8 := dkwX7_peaksFor_1 ++ dktX7_peaksFor_2
def dkwX7_peaksFor_0 : List UInt8 := [27, 133, 42, 182, 0, 73, 105, 65, 9, 55, 4, 3, 54, 6, 20, 0, 76, 22, 4, 105, 32, 148]
abbrev dktX7_peaksFor_0 : List UInt8 := dkwX7_peaksFor_0 ++ dktX7_peaksFor_1
theorem dksX7_peaksFor_0 : cX7_peaksFor.data.toList.drop 0 = dktX7_peaksFor_0 := by decide +kernel
theorem dksX7_peaksFor_1 : cX7_peaksFor.data.toList.drop 22 = dktX7_peaksFor_1 := dk_seg dksX7_peaksFor_0 22 rfl rfl
theorem dksX7_peaksFor_2 : cX7_peaksFor.data.toList.drop 44 = dktX7_peaksFor_2 := dk_seg dksX7_peaksFor_1 22 rfl rfl
theorem dX7_peaksFor_0 : decode cX7_peaksFor 0 = .ok (.iload_n 1, 1) := dk_27 (dk_at dksX7_peaksFor_0 0 rfl rfl)
theorem dX7_peaksFor_1 : decode cX7_peaksFor 1 = .ok (.i2l, 1) := dk_133 (dk_at dksX7_peaksFor_0 1 rfl rfl)
theorem dX7_peaksFor_2 : decode cX7_peaksFor 2 = .ok (.aload_n 0, 1) := dk_42 (dk_at dksX7_peaksFor_0 2 rfl rfl)
theorem dX7_peaksFor_3 : decode cX7_peaksFor 3 = .ok (.invokevirtual 73, 3) := dk_182 0 73 (dk_at dksX7_peaksFor_0 3 rfl rfl)
theorem dX7_peaksFor_6 : decode cX7_peaksFor 6 = .ok (.lmul, 1) := dk_105 (dk_at dksX7_peaksFor_0 6 rfl rfl)
theorem dX7_peaksFor_7 : decode cX7_peaksFor 7 = .ok (.lstore_n 2, 1) := dk_65 (dk_at dksX7_peaksFor_0 7 rfl rfl)
theorem dX7_peaksFor_8 : decode cX7_peaksFor 8 = .ok (.lconst 0, 1) := dk_9 (dk_at dksX7_peaksFor_0 8 rfl rfl)
theorem dX7_peaksFor_9 : decode cX7_peaksFor 9 = .ok (.lstore 4, 2) := dk_55 4 (dk_at dksX7_peaksFor_0 9 rfl rfl)
theorem dX7_peaksFor_11 : decode cX7_peaksFor 11 = .ok (.iconst 0, 1) := dk_3 (dk_at dksX7_peaksFor_0 11 rfl rfl)
theorem dX7_peaksFor_12 : decode cX7_peaksFor 12 = .ok (.istore 6, 2) := dk_54 6 (dk_at dksX7_peaksFor_0 12 rfl rfl)
theorem dX7_peaksFor_14 : decode cX7_peaksFor 14 = .ok (.ldc2_w 76, 3) := dk_20 0 76 (dk_at dksX7_peaksFor_0 14 rfl rfl)
theorem dX7_peaksFor_17 : decode cX7_peaksFor 17 = .ok (.lload 4, 2) := dk_22 4 (dk_at dksX7_peaksFor_0 17 rfl rfl)
theorem dX7_peaksFor_19 : decode cX7_peaksFor 19 = .ok (.lmul, 1) := dk_105 (dk_at dksX7_peaksFor_0 19 rfl rfl)
theorem dX7_peaksFor_20 : decode cX7_peaksFor 20 = .ok (.lload_n 2, 1) := dk_32 (dk_at dksX7_peaksFor_0 20 rfl rfl)
theorem dX7_peaksFor_21 : decode cX7_peaksFor 21 = .ok (.lcmp, 1) := dk_148 (dk_at dksX7_peaksFor_0 21 rfl rfl)
theorem dX7_peaksFor_22 : decode cX7_peaksFor 22 = .ok (.ifCond .ge 25, 3) := dk_156 0 25 (dk_at dksX7_peaksFor_1 0 rfl rfl)
theorem dX7_peaksFor_25 : decode cX7_peaksFor 25 = .ok (.lload 4, 2) := dk_22 4 (dk_at dksX7_peaksFor_1 3 rfl rfl)
theorem dX7_peaksFor_27 : decode cX7_peaksFor 27 = .ok (.aload_n 0, 1) := dk_42 (dk_at dksX7_peaksFor_1 5 rfl rfl)
theorem dX7_peaksFor_28 : decode cX7_peaksFor 28 = .ok (.aload_n 0, 1) := dk_42 (dk_at dksX7_peaksFor_1 6 rfl rfl)
theorem dX7_peaksFor_29 : decode cX7_peaksFor 29 = .ok (.invokevirtual 61, 3) := dk_182 0 61 (dk_at dksX7_peaksFor_1 7 rfl rfl)
theorem dX7_peaksFor_32 : decode cX7_peaksFor 32 = .ok (.iload 6, 2) := dk_21 6 (dk_at dksX7_peaksFor_1 10 rfl rfl)
theorem dX7_peaksFor_34 : decode cX7_peaksFor 34 = .ok (.iaload, 1) := dk_46 (dk_at dksX7_peaksFor_1 12 rfl rfl)
theorem dX7_peaksFor_35 : decode cX7_peaksFor 35 = .ok (.invokevirtual 69, 3) := dk_182 0 69 (dk_at dksX7_peaksFor_1 13 rfl rfl)
theorem dX7_peaksFor_38 : decode cX7_peaksFor 38 = .ok (.ladd, 1) := dk_97 (dk_at dksX7_peaksFor_1 16 rfl rfl)
theorem dX7_peaksFor_39 : decode cX7_peaksFor 39 = .ok (.lstore 4, 2) := dk_55 4 (dk_at dksX7_peaksFor_1 17 rfl rfl)
theorem dX7_peaksFor_41 : decode cX7_peaksFor 41 = .ok (.iinc 6 1, 3) := dk_132 6 1 (dk_at dksX7_peaksFor_1 19 rfl rfl)
theorem dX7_peaksFor_44 : decode cX7_peaksFor 44 = .ok (.goto (-30), 3) := dk_167 255 226 (dk_at dksX7_peaksFor_2 0 rfl rfl)
theorem dX7_peaksFor_47 : decode cX7_peaksFor 47 = .ok (.iload 6, 2) := dk_21 6 (dk_at dksX7_peaksFor_2 3 rfl rfl)
theorem dX7_peaksFor_49 : decode cX7_peaksFor 49 = .ok (.ireturn, 1) := dk_172 (dk_at dksX7_peaksFor_2 5 rfl rfl)
abbrev cX7_distance : ByteArray := prog_7_method_38_code
def yX7_distance : MethodName := ⟨RX7, "distance", "(LWalshAnalyzer$Recording;)I"⟩
def dkwX7_distance_1 : List UInt8 := [29, 46, 100, 184, 0, 48, 96, 61, 132, 3, 1, 167, 255, 225, 28, 172]
abbrev dktX7_distance_1 : List UInt8 := dkwX7_distance_1 ++ []
def dkwX7_distance_0 : List UInt8 := [3, 61, 3, 62, 29, 42, 180, 0, 13, 190, 162, 0, 28, 28, 42, 182, 0, 46, 29, 46, 43, 182, 0, 46]
abbrev dktX7_distance_0 : List UInt8 := dkwX7_distance_0 ++ dktX7_distance_1
theorem dksX7_distance_0 : cX7_distance.data.toList.drop 0 = dktX7_distance_0 := by decide +kernel
theorem dksX7_distance_1 : cX7_distance.data.toList.drop 24 = dktX7_distance_1 := dk_seg dksX7_distance_0 24 rfl rfl
theorem dX7_distance_0 : decode cX7_distance 0 = .ok (.iconst 0, 1) := dk_3 (dk_at dksX7_distance_0 0 rfl rfl)
theorem dX7_distance_1 : decode cX7_distance 1 = .ok (.istore_n 2, 1) := dk_61 (dk_at dksX7_distance_0 1 rfl rfl)
theorem dX7_distance_2 : decode cX7_distance 2 = .ok (.iconst 0, 1) := dk_3 (dk_at dksX7_distance_0 2 rfl rfl)
theorem dX7_distance_3 : decode cX7_distance 3 = .ok (.istore_n 3, 1) := dk_62 (dk_at dksX7_distance_0 3 rfl rfl)
theorem dX7_distance_4 : decode cX7_distance 4 = .ok (.iload_n 3, 1) := dk_29 (dk_at dksX7_distance_0 4 rfl rfl)
theorem dX7_distance_5 : decode cX7_distance 5 = .ok (.aload_n 0, 1) := dk_42 (dk_at dksX7_distance_0 5 rfl rfl)
theorem dX7_distance_6 : decode cX7_distance 6 = .ok (.getfield 13, 3) := dk_180 0 13 (dk_at dksX7_distance_0 6 rfl rfl)
theorem dX7_distance_9 : decode cX7_distance 9 = .ok (.arraylength, 1) := dk_190 (dk_at dksX7_distance_0 9 rfl rfl)
theorem dX7_distance_10 : decode cX7_distance 10 = .ok (.if_icmp .ge 28, 3) := dk_162 0 28 (dk_at dksX7_distance_0 10 rfl rfl)
theorem dX7_distance_13 : decode cX7_distance 13 = .ok (.iload_n 2, 1) := dk_28 (dk_at dksX7_distance_0 13 rfl rfl)
theorem dX7_distance_14 : decode cX7_distance 14 = .ok (.aload_n 0, 1) := dk_42 (dk_at dksX7_distance_0 14 rfl rfl)
theorem dX7_distance_15 : decode cX7_distance 15 = .ok (.invokevirtual 46, 3) := dk_182 0 46 (dk_at dksX7_distance_0 15 rfl rfl)
theorem dX7_distance_18 : decode cX7_distance 18 = .ok (.iload_n 3, 1) := dk_29 (dk_at dksX7_distance_0 18 rfl rfl)
theorem dX7_distance_19 : decode cX7_distance 19 = .ok (.iaload, 1) := dk_46 (dk_at dksX7_distance_0 19 rfl rfl)
theorem dX7_distance_20 : decode cX7_distance 20 = .ok (.aload_n 1, 1) := dk_43 (dk_at dksX7_distance_0 20 rfl rfl)
theorem dX7_distance_21 : decode cX7_distance 21 = .ok (.invokevirtual 46, 3) := dk_182 0 46 (dk_at dksX7_distance_0 21 rfl rfl)
theorem dX7_distance_24 : decode cX7_distance 24 = .ok (.iload_n 3, 1) := dk_29 (dk_at dksX7_distance_1 0 rfl rfl)
theorem dX7_distance_25 : decode cX7_distance 25 = .ok (.iaload, 1) := dk_46 (dk_at dksX7_distance_1 1 rfl rfl)
theorem dX7_distance_26 : decode cX7_distance 26 = .ok (.isub, 1) := dk_100 (dk_at dksX7_distance_1 2 rfl rfl)
theorem dX7_distance_27 : decode cX7_distance 27 = .ok (.invokestatic 48, 3) := dk_184 0 48 (dk_at dksX7_distance_1 3 rfl rfl)
theorem dX7_distance_30 : decode cX7_distance 30 = .ok (.iadd, 1) := dk_96 (dk_at dksX7_distance_1 6 rfl rfl)
theorem dX7_distance_31 : decode cX7_distance 31 = .ok (.istore_n 2, 1) := dk_61 (dk_at dksX7_distance_1 7 rfl rfl)
theorem dX7_distance_32 : decode cX7_distance 32 = .ok (.iinc 3 1, 3) := dk_132 3 1 (dk_at dksX7_distance_1 8 rfl rfl)
theorem dX7_distance_35 : decode cX7_distance 35 = .ok (.goto (-31), 3) := dk_167 255 225 (dk_at dksX7_distance_1 11 rfl rfl)
theorem dX7_distance_38 : decode cX7_distance 38 = .ok (.iload_n 2, 1) := dk_28 (dk_at dksX7_distance_1 14 rfl rfl)
theorem dX7_distance_39 : decode cX7_distance 39 = .ok (.ireturn, 1) := dk_172 (dk_at dksX7_distance_1 15 rfl rfl)
abbrev cX7_correlation : ByteArray := prog_7_method_39_code
def yX7_correlation : MethodName := ⟨RX7, "correlation", "(LWalshAnalyzer$Recording;I)J"⟩
def dkwX7_correlation_1 : List UInt8 := [43, 180, 0, 13, 21, 5, 28, 130, 46, 133, 105, 97, 66, 132, 5, 1, 167, 255, 221, 33, 173]
abbrev dktX7_correlation_1 : List UInt8 := dkwX7_correlation_1 ++ []
def dkwX7_correlation_0 : List UInt8 := [9, 66, 3, 54, 5, 21, 5, 42, 180, 0, 13, 190, 162, 0, 31, 33, 42, 180, 0, 13, 21, 5, 46, 133]
abbrev dktX7_correlation_0 : List UInt8 := dkwX7_correlation_0 ++ dktX7_correlation_1
theorem dksX7_correlation_0 : cX7_correlation.data.toList.drop 0 = dktX7_correlation_0 := by decide +kernel
theorem dksX7_correlation_1 : cX7_correlation.data.toList.drop 24 = dktX7_correlation_1 := dk_seg dksX7_correlation_0 24 rfl rfl
theorem dX7_correlation_0 : decode cX7_correlation 0 = .ok (.lconst 0, 1) := dk_9 (dk_at dksX7_correlation_0 0 rfl rfl)
theorem dX7_correlation_1 : decode cX7_correlation 1 = .ok (.lstore_n 3, 1) := dk_66 (dk_at dksX7_correlation_0 1 rfl rfl)
theorem dX7_correlation_2 : decode cX7_correlation 2 = .ok (.iconst 0, 1) := dk_3 (dk_at dksX7_correlation_0 2 rfl rfl)
theorem dX7_correlation_3 : decode cX7_correlation 3 = .ok (.istore 5, 2) := dk_54 5 (dk_at dksX7_correlation_0 3 rfl rfl)
theorem dX7_correlation_5 : decode cX7_correlation 5 = .ok (.iload 5, 2) := dk_21 5 (dk_at dksX7_correlation_0 5 rfl rfl)
theorem dX7_correlation_7 : decode cX7_correlation 7 = .ok (.aload_n 0, 1) := dk_42 (dk_at dksX7_correlation_0 7 rfl rfl)
theorem dX7_correlation_8 : decode cX7_correlation 8 = .ok (.getfield 13, 3) := dk_180 0 13 (dk_at dksX7_correlation_0 8 rfl rfl)
theorem dX7_correlation_11 : decode cX7_correlation 11 = .ok (.arraylength, 1) := dk_190 (dk_at dksX7_correlation_0 11 rfl rfl)
theorem dX7_correlation_12 : decode cX7_correlation 12 = .ok (.if_icmp .ge 31, 3) := dk_162 0 31 (dk_at dksX7_correlation_0 12 rfl rfl)
theorem dX7_correlation_15 : decode cX7_correlation 15 = .ok (.lload_n 3, 1) := dk_33 (dk_at dksX7_correlation_0 15 rfl rfl)
theorem dX7_correlation_16 : decode cX7_correlation 16 = .ok (.aload_n 0, 1) := dk_42 (dk_at dksX7_correlation_0 16 rfl rfl)
theorem dX7_correlation_17 : decode cX7_correlation 17 = .ok (.getfield 13, 3) := dk_180 0 13 (dk_at dksX7_correlation_0 17 rfl rfl)
theorem dX7_correlation_20 : decode cX7_correlation 20 = .ok (.iload 5, 2) := dk_21 5 (dk_at dksX7_correlation_0 20 rfl rfl)
theorem dX7_correlation_22 : decode cX7_correlation 22 = .ok (.iaload, 1) := dk_46 (dk_at dksX7_correlation_0 22 rfl rfl)
theorem dX7_correlation_23 : decode cX7_correlation 23 = .ok (.i2l, 1) := dk_133 (dk_at dksX7_correlation_0 23 rfl rfl)
theorem dX7_correlation_24 : decode cX7_correlation 24 = .ok (.aload_n 1, 1) := dk_43 (dk_at dksX7_correlation_1 0 rfl rfl)
theorem dX7_correlation_25 : decode cX7_correlation 25 = .ok (.getfield 13, 3) := dk_180 0 13 (dk_at dksX7_correlation_1 1 rfl rfl)
theorem dX7_correlation_28 : decode cX7_correlation 28 = .ok (.iload 5, 2) := dk_21 5 (dk_at dksX7_correlation_1 4 rfl rfl)
theorem dX7_correlation_30 : decode cX7_correlation 30 = .ok (.iload_n 2, 1) := dk_28 (dk_at dksX7_correlation_1 6 rfl rfl)
theorem dX7_correlation_31 : decode cX7_correlation 31 = .ok (.ixor, 1) := dk_130 (dk_at dksX7_correlation_1 7 rfl rfl)
theorem dX7_correlation_32 : decode cX7_correlation 32 = .ok (.iaload, 1) := dk_46 (dk_at dksX7_correlation_1 8 rfl rfl)
theorem dX7_correlation_33 : decode cX7_correlation 33 = .ok (.i2l, 1) := dk_133 (dk_at dksX7_correlation_1 9 rfl rfl)
theorem dX7_correlation_34 : decode cX7_correlation 34 = .ok (.lmul, 1) := dk_105 (dk_at dksX7_correlation_1 10 rfl rfl)
theorem dX7_correlation_35 : decode cX7_correlation 35 = .ok (.ladd, 1) := dk_97 (dk_at dksX7_correlation_1 11 rfl rfl)
theorem dX7_correlation_36 : decode cX7_correlation 36 = .ok (.lstore_n 3, 1) := dk_66 (dk_at dksX7_correlation_1 12 rfl rfl)
theorem dX7_correlation_37 : decode cX7_correlation 37 = .ok (.iinc 5 1, 3) := dk_132 5 1 (dk_at dksX7_correlation_1 13 rfl rfl)
theorem dX7_correlation_40 : decode cX7_correlation 40 = .ok (.goto (-35), 3) := dk_167 255 221 (dk_at dksX7_correlation_1 16 rfl rfl)
theorem dX7_correlation_43 : decode cX7_correlation 43 = .ok (.lload_n 3, 1) := dk_33 (dk_at dksX7_correlation_1 19 rfl rfl)
theorem dX7_correlation_44 : decode cX7_correlation 44 = .ok (.lreturn, 1) := dk_173 (dk_at dksX7_correlation_1 20 rfl rfl)
abbrev cX7_bestShift : ByteArray := prog_7_method_40_code
def yX7_bestShift : MethodName := ⟨RX7, "bestShift", "(LWalshAnalyzer$Recording;)I"⟩
def dkwX7_bestShift_1 : List UInt8 := [182, 0, 122, 148, 158, 0, 5, 29, 61, 132, 3, 1, 167, 255, 226, 28, 172]
abbrev dktX7_bestShift_1 : List UInt8 := dkwX7_bestShift_1 ++ []
def dkwX7_bestShift_0 : List UInt8 := [3, 61, 4, 62, 29, 42, 180, 0, 13, 190, 162, 0, 27, 42, 43, 29, 182, 0, 122, 42, 43, 28]
abbrev dktX7_bestShift_0 : List UInt8 := dkwX7_bestShift_0 ++ dktX7_bestShift_1
theorem dksX7_bestShift_0 : cX7_bestShift.data.toList.drop 0 = dktX7_bestShift_0 := by decide +kernel
theorem dksX7_bestShift_1 : cX7_bestShift.data.toList.drop 22 = dktX7_bestShift_1 := dk_seg dksX7_bestShift_0 22 rfl rfl
theorem dX7_bestShift_0 : decode cX7_bestShift 0 = .ok (.iconst 0, 1) := dk_3 (dk_at dksX7_bestShift_0 0 rfl rfl)
theorem dX7_bestShift_1 : decode cX7_bestShift 1 = .ok (.istore_n 2, 1) := dk_61 (dk_at dksX7_bestShift_0 1 rfl rfl)
theorem dX7_bestShift_2 : decode cX7_bestShift 2 = .ok (.iconst 1, 1) := dk_4 (dk_at dksX7_bestShift_0 2 rfl rfl)
theorem dX7_bestShift_3 : decode cX7_bestShift 3 = .ok (.istore_n 3, 1) := dk_62 (dk_at dksX7_bestShift_0 3 rfl rfl)
theorem dX7_bestShift_4 : decode cX7_bestShift 4 = .ok (.iload_n 3, 1) := dk_29 (dk_at dksX7_bestShift_0 4 rfl rfl)
theorem dX7_bestShift_5 : decode cX7_bestShift 5 = .ok (.aload_n 0, 1) := dk_42 (dk_at dksX7_bestShift_0 5 rfl rfl)
theorem dX7_bestShift_6 : decode cX7_bestShift 6 = .ok (.getfield 13, 3) := dk_180 0 13 (dk_at dksX7_bestShift_0 6 rfl rfl)
theorem dX7_bestShift_9 : decode cX7_bestShift 9 = .ok (.arraylength, 1) := dk_190 (dk_at dksX7_bestShift_0 9 rfl rfl)
theorem dX7_bestShift_10 : decode cX7_bestShift 10 = .ok (.if_icmp .ge 27, 3) := dk_162 0 27 (dk_at dksX7_bestShift_0 10 rfl rfl)
theorem dX7_bestShift_13 : decode cX7_bestShift 13 = .ok (.aload_n 0, 1) := dk_42 (dk_at dksX7_bestShift_0 13 rfl rfl)
theorem dX7_bestShift_14 : decode cX7_bestShift 14 = .ok (.aload_n 1, 1) := dk_43 (dk_at dksX7_bestShift_0 14 rfl rfl)
theorem dX7_bestShift_15 : decode cX7_bestShift 15 = .ok (.iload_n 3, 1) := dk_29 (dk_at dksX7_bestShift_0 15 rfl rfl)
theorem dX7_bestShift_16 : decode cX7_bestShift 16 = .ok (.invokevirtual 122, 3) := dk_182 0 122 (dk_at dksX7_bestShift_0 16 rfl rfl)
theorem dX7_bestShift_19 : decode cX7_bestShift 19 = .ok (.aload_n 0, 1) := dk_42 (dk_at dksX7_bestShift_0 19 rfl rfl)
theorem dX7_bestShift_20 : decode cX7_bestShift 20 = .ok (.aload_n 1, 1) := dk_43 (dk_at dksX7_bestShift_0 20 rfl rfl)
theorem dX7_bestShift_21 : decode cX7_bestShift 21 = .ok (.iload_n 2, 1) := dk_28 (dk_at dksX7_bestShift_0 21 rfl rfl)
theorem dX7_bestShift_22 : decode cX7_bestShift 22 = .ok (.invokevirtual 122, 3) := dk_182 0 122 (dk_at dksX7_bestShift_1 0 rfl rfl)
theorem dX7_bestShift_25 : decode cX7_bestShift 25 = .ok (.lcmp, 1) := dk_148 (dk_at dksX7_bestShift_1 3 rfl rfl)
theorem dX7_bestShift_26 : decode cX7_bestShift 26 = .ok (.ifCond .le 5, 3) := dk_158 0 5 (dk_at dksX7_bestShift_1 4 rfl rfl)
theorem dX7_bestShift_29 : decode cX7_bestShift 29 = .ok (.iload_n 3, 1) := dk_29 (dk_at dksX7_bestShift_1 7 rfl rfl)
theorem dX7_bestShift_30 : decode cX7_bestShift 30 = .ok (.istore_n 2, 1) := dk_61 (dk_at dksX7_bestShift_1 8 rfl rfl)
theorem dX7_bestShift_31 : decode cX7_bestShift 31 = .ok (.iinc 3 1, 3) := dk_132 3 1 (dk_at dksX7_bestShift_1 9 rfl rfl)
theorem dX7_bestShift_34 : decode cX7_bestShift 34 = .ok (.goto (-30), 3) := dk_167 255 226 (dk_at dksX7_bestShift_1 12 rfl rfl)
theorem dX7_bestShift_37 : decode cX7_bestShift 37 = .ok (.iload_n 2, 1) := dk_28 (dk_at dksX7_bestShift_1 15 rfl rfl)
theorem dX7_bestShift_38 : decode cX7_bestShift 38 = .ok (.ireturn, 1) := dk_172 (dk_at dksX7_bestShift_1 16 rfl rfl)
abbrev cX7_commonPeaks : ByteArray := prog_7_method_41_code
def yX7_commonPeaks : MethodName := ⟨RX7, "commonPeaks", "(LWalshAnalyzer$Recording;I)I"⟩
def dkwX7_commonPeaks_1 : List UInt8 := [162, 0, 6, 132, 3, 1, 132, 4, 1, 167, 255, 229, 29, 172]
abbrev dktX7_commonPeaks_1 : List UInt8 := dkwX7_commonPeaks_1 ++ []
def dkwX7_commonPeaks_0 : List UInt8 := [3, 62, 3, 54, 4, 21, 4, 28, 162, 0, 27, 43, 42, 182, 0, 61, 21, 4, 46, 182, 0, 126, 28]
abbrev dktX7_commonPeaks_0 : List UInt8 := dkwX7_commonPeaks_0 ++ dktX7_commonPeaks_1
theorem dksX7_commonPeaks_0 : cX7_commonPeaks.data.toList.drop 0 = dktX7_commonPeaks_0 := by decide +kernel
theorem dksX7_commonPeaks_1 : cX7_commonPeaks.data.toList.drop 23 = dktX7_commonPeaks_1 := dk_seg dksX7_commonPeaks_0 23 rfl rfl
theorem dX7_commonPeaks_0 : decode cX7_commonPeaks 0 = .ok (.iconst 0, 1) := dk_3 (dk_at dksX7_commonPeaks_0 0 rfl rfl)
theorem dX7_commonPeaks_1 : decode cX7_commonPeaks 1 = .ok (.istore_n 3, 1) := dk_62 (dk_at dksX7_commonPeaks_0 1 rfl rfl)
theorem dX7_commonPeaks_2 : decode cX7_commonPeaks 2 = .ok (.iconst 0, 1) := dk_3 (dk_at dksX7_commonPeaks_0 2 rfl rfl)
theorem dX7_commonPeaks_3 : decode cX7_commonPeaks 3 = .ok (.istore 4, 2) := dk_54 4 (dk_at dksX7_commonPeaks_0 3 rfl rfl)
theorem dX7_commonPeaks_5 : decode cX7_commonPeaks 5 = .ok (.iload 4, 2) := dk_21 4 (dk_at dksX7_commonPeaks_0 5 rfl rfl)
theorem dX7_commonPeaks_7 : decode cX7_commonPeaks 7 = .ok (.iload_n 2, 1) := dk_28 (dk_at dksX7_commonPeaks_0 7 rfl rfl)
theorem dX7_commonPeaks_8 : decode cX7_commonPeaks 8 = .ok (.if_icmp .ge 27, 3) := dk_162 0 27 (dk_at dksX7_commonPeaks_0 8 rfl rfl)
theorem dX7_commonPeaks_11 : decode cX7_commonPeaks 11 = .ok (.aload_n 1, 1) := dk_43 (dk_at dksX7_commonPeaks_0 11 rfl rfl)
theorem dX7_commonPeaks_12 : decode cX7_commonPeaks 12 = .ok (.aload_n 0, 1) := dk_42 (dk_at dksX7_commonPeaks_0 12 rfl rfl)
theorem dX7_commonPeaks_13 : decode cX7_commonPeaks 13 = .ok (.invokevirtual 61, 3) := dk_182 0 61 (dk_at dksX7_commonPeaks_0 13 rfl rfl)
theorem dX7_commonPeaks_16 : decode cX7_commonPeaks 16 = .ok (.iload 4, 2) := dk_21 4 (dk_at dksX7_commonPeaks_0 16 rfl rfl)
theorem dX7_commonPeaks_18 : decode cX7_commonPeaks 18 = .ok (.iaload, 1) := dk_46 (dk_at dksX7_commonPeaks_0 18 rfl rfl)
theorem dX7_commonPeaks_19 : decode cX7_commonPeaks 19 = .ok (.invokevirtual 126, 3) := dk_182 0 126 (dk_at dksX7_commonPeaks_0 19 rfl rfl)
theorem dX7_commonPeaks_22 : decode cX7_commonPeaks 22 = .ok (.iload_n 2, 1) := dk_28 (dk_at dksX7_commonPeaks_0 22 rfl rfl)
theorem dX7_commonPeaks_23 : decode cX7_commonPeaks 23 = .ok (.if_icmp .ge 6, 3) := dk_162 0 6 (dk_at dksX7_commonPeaks_1 0 rfl rfl)
theorem dX7_commonPeaks_26 : decode cX7_commonPeaks 26 = .ok (.iinc 3 1, 3) := dk_132 3 1 (dk_at dksX7_commonPeaks_1 3 rfl rfl)
theorem dX7_commonPeaks_29 : decode cX7_commonPeaks 29 = .ok (.iinc 4 1, 3) := dk_132 4 1 (dk_at dksX7_commonPeaks_1 6 rfl rfl)
theorem dX7_commonPeaks_32 : decode cX7_commonPeaks 32 = .ok (.goto (-27), 3) := dk_167 255 229 (dk_at dksX7_commonPeaks_1 9 rfl rfl)
theorem dX7_commonPeaks_35 : decode cX7_commonPeaks 35 = .ok (.iload_n 3, 1) := dk_29 (dk_at dksX7_commonPeaks_1 12 rfl rfl)
theorem dX7_commonPeaks_36 : decode cX7_commonPeaks 36 = .ok (.ireturn, 1) := dk_172 (dk_at dksX7_commonPeaks_1 13 rfl rfl)
abbrev cX7_synthesisOfPeaks : ByteArray := prog_7_method_17_code
def yX7_synthesisOfPeaks : MethodName := ⟨RX7, "synthesisOfPeaks", "(I)[I"⟩
def dkwX7_synthesisOfPeaks_0 : List UInt8 := [42, 42, 27, 186, 0, 89, 0, 0, 182, 0, 92, 176]
abbrev dktX7_synthesisOfPeaks_0 : List UInt8 := dkwX7_synthesisOfPeaks_0 ++ []
theorem dksX7_synthesisOfPeaks_0 : cX7_synthesisOfPeaks.data.toList.drop 0 = dktX7_synthesisOfPeaks_0 := by decide +kernel
theorem dX7_synthesisOfPeaks_0 : decode cX7_synthesisOfPeaks 0 = .ok (.aload_n 0, 1) := dk_42 (dk_at dksX7_synthesisOfPeaks_0 0 rfl rfl)
theorem dX7_synthesisOfPeaks_1 : decode cX7_synthesisOfPeaks 1 = .ok (.aload_n 0, 1) := dk_42 (dk_at dksX7_synthesisOfPeaks_0 1 rfl rfl)
theorem dX7_synthesisOfPeaks_2 : decode cX7_synthesisOfPeaks 2 = .ok (.iload_n 1, 1) := dk_27 (dk_at dksX7_synthesisOfPeaks_0 2 rfl rfl)
theorem dX7_synthesisOfPeaks_3 : decode cX7_synthesisOfPeaks 3 = .ok (.invokedynamic 89, 5) := by decide +kernel
theorem dX7_synthesisOfPeaks_8 : decode cX7_synthesisOfPeaks 8 = .ok (.invokevirtual 92, 3) := dk_182 0 92 (dk_at dksX7_synthesisOfPeaks_0 8 rfl rfl)
theorem dX7_synthesisOfPeaks_11 : decode cX7_synthesisOfPeaks 11 = .ok (.areturn, 1) := dk_176 (dk_at dksX7_synthesisOfPeaks_0 11 rfl rfl)
abbrev cX7_lambda_synthesisOfPeaks_0 : ByteArray := prog_7_method_44_code
def yX7_lambda_synthesisOfPeaks_0 : MethodName := ⟨RX7, "lambda$synthesisOfPeaks$0", "(II)I"⟩
def dkwX7_lambda_synthesisOfPeaks_0_0 : List UInt8 := [42, 28, 182, 0, 126, 27, 162, 0, 7, 4, 167, 0, 4, 3, 184, 0, 129, 172]
abbrev dktX7_lambda_synthesisOfPeaks_0_0 : List UInt8 := dkwX7_lambda_synthesisOfPeaks_0_0 ++ []
theorem dksX7_lambda_synthesisOfPeaks_0_0 : cX7_lambda_synthesisOfPeaks_0.data.toList.drop 0 = dktX7_lambda_synthesisOfPeaks_0_0 := by decide +kernel
theorem dX7_lambda_synthesisOfPeaks_0_0 : decode cX7_lambda_synthesisOfPeaks_0 0 = .ok (.aload_n 0, 1) := dk_42 (dk_at dksX7_lambda_synthesisOfPeaks_0_0 0 rfl rfl)
theorem dX7_lambda_synthesisOfPeaks_0_1 : decode cX7_lambda_synthesisOfPeaks_0 1 = .ok (.iload_n 2, 1) := dk_28 (dk_at dksX7_lambda_synthesisOfPeaks_0_0 1 rfl rfl)
theorem dX7_lambda_synthesisOfPeaks_0_2 : decode cX7_lambda_synthesisOfPeaks_0 2 = .ok (.invokevirtual 126, 3) := dk_182 0 126 (dk_at dksX7_lambda_synthesisOfPeaks_0_0 2 rfl rfl)
theorem dX7_lambda_synthesisOfPeaks_0_5 : decode cX7_lambda_synthesisOfPeaks_0 5 = .ok (.iload_n 1, 1) := dk_27 (dk_at dksX7_lambda_synthesisOfPeaks_0_0 5 rfl rfl)
theorem dX7_lambda_synthesisOfPeaks_0_6 : decode cX7_lambda_synthesisOfPeaks_0 6 = .ok (.if_icmp .ge 7, 3) := dk_162 0 7 (dk_at dksX7_lambda_synthesisOfPeaks_0_0 6 rfl rfl)
theorem dX7_lambda_synthesisOfPeaks_0_9 : decode cX7_lambda_synthesisOfPeaks_0 9 = .ok (.iconst 1, 1) := dk_4 (dk_at dksX7_lambda_synthesisOfPeaks_0_0 9 rfl rfl)
theorem dX7_lambda_synthesisOfPeaks_0_10 : decode cX7_lambda_synthesisOfPeaks_0 10 = .ok (.goto 4, 3) := dk_167 0 4 (dk_at dksX7_lambda_synthesisOfPeaks_0_0 10 rfl rfl)
theorem dX7_lambda_synthesisOfPeaks_0_13 : decode cX7_lambda_synthesisOfPeaks_0 13 = .ok (.iconst 0, 1) := dk_3 (dk_at dksX7_lambda_synthesisOfPeaks_0_0 13 rfl rfl)
theorem dX7_lambda_synthesisOfPeaks_0_14 : decode cX7_lambda_synthesisOfPeaks_0 14 = .ok (.invokestatic 129, 3) := dk_184 0 129 (dk_at dksX7_lambda_synthesisOfPeaks_0_0 14 rfl rfl)
theorem dX7_lambda_synthesisOfPeaks_0_17 : decode cX7_lambda_synthesisOfPeaks_0 17 = .ok (.ireturn, 1) := dk_172 (dk_at dksX7_lambda_synthesisOfPeaks_0_0 17 rfl rfl)
abbrev cX7_synthesis : ByteArray := prog_7_method_16_code
def yX7_synthesis : MethodName := ⟨RX7, "synthesis", "(LWalshAnalyzer$Filter;)[I"⟩
def dkwX7_synthesis_3 : List UInt8 := [167, 255, 233, 44, 176]
abbrev dktX7_synthesis_3 : List UInt8 := dkwX7_synthesis_3 ++ []
def dkwX7_synthesis_2 : List UInt8 := [62, 29, 44, 190, 162, 0, 23, 44, 29, 44, 29, 46, 44, 190, 184, 0, 83, 184, 0, 86, 79, 132, 3, 1]
abbrev dktX7_synthesis_2 : List UInt8 := dkwX7_synthesis_2 ++ dktX7_synthesis_3
def dkwX7_synthesis_1 : List UInt8 := [185, 0, 78, 2, 0, 42, 182, 0, 46, 29, 46, 104, 79, 132, 3, 1, 167, 255, 230, 44, 184, 0, 36, 3]
abbrev dktX7_synthesis_1 : List UInt8 := dkwX7_synthesis_1 ++ dktX7_synthesis_2
def dkwX7_synthesis_0 : List UInt8 := [42, 180, 0, 13, 190, 188, 10, 77, 3, 62, 29, 44, 190, 162, 0, 26, 44, 29, 43, 29]
abbrev dktX7_synthesis_0 : List UInt8 := dkwX7_synthesis_0 ++ dktX7_synthesis_1
theorem dksX7_synthesis_0 : cX7_synthesis.data.toList.drop 0 = dktX7_synthesis_0 := by decide +kernel
theorem dksX7_synthesis_1 : cX7_synthesis.data.toList.drop 20 = dktX7_synthesis_1 := dk_seg dksX7_synthesis_0 20 rfl rfl
theorem dksX7_synthesis_2 : cX7_synthesis.data.toList.drop 44 = dktX7_synthesis_2 := dk_seg dksX7_synthesis_1 24 rfl rfl
theorem dksX7_synthesis_3 : cX7_synthesis.data.toList.drop 68 = dktX7_synthesis_3 := dk_seg dksX7_synthesis_2 24 rfl rfl
theorem dX7_synthesis_0 : decode cX7_synthesis 0 = .ok (.aload_n 0, 1) := dk_42 (dk_at dksX7_synthesis_0 0 rfl rfl)
theorem dX7_synthesis_1 : decode cX7_synthesis 1 = .ok (.getfield 13, 3) := dk_180 0 13 (dk_at dksX7_synthesis_0 1 rfl rfl)
theorem dX7_synthesis_4 : decode cX7_synthesis 4 = .ok (.arraylength, 1) := dk_190 (dk_at dksX7_synthesis_0 4 rfl rfl)
theorem dX7_synthesis_5 : decode cX7_synthesis 5 = .ok (.newarray .int, 2) := dk_188_10 (dk_at dksX7_synthesis_0 5 rfl rfl)
theorem dX7_synthesis_7 : decode cX7_synthesis 7 = .ok (.astore_n 2, 1) := dk_77 (dk_at dksX7_synthesis_0 7 rfl rfl)
theorem dX7_synthesis_8 : decode cX7_synthesis 8 = .ok (.iconst 0, 1) := dk_3 (dk_at dksX7_synthesis_0 8 rfl rfl)
theorem dX7_synthesis_9 : decode cX7_synthesis 9 = .ok (.istore_n 3, 1) := dk_62 (dk_at dksX7_synthesis_0 9 rfl rfl)
theorem dX7_synthesis_10 : decode cX7_synthesis 10 = .ok (.iload_n 3, 1) := dk_29 (dk_at dksX7_synthesis_0 10 rfl rfl)
theorem dX7_synthesis_11 : decode cX7_synthesis 11 = .ok (.aload_n 2, 1) := dk_44 (dk_at dksX7_synthesis_0 11 rfl rfl)
theorem dX7_synthesis_12 : decode cX7_synthesis 12 = .ok (.arraylength, 1) := dk_190 (dk_at dksX7_synthesis_0 12 rfl rfl)
theorem dX7_synthesis_13 : decode cX7_synthesis 13 = .ok (.if_icmp .ge 26, 3) := dk_162 0 26 (dk_at dksX7_synthesis_0 13 rfl rfl)
theorem dX7_synthesis_16 : decode cX7_synthesis 16 = .ok (.aload_n 2, 1) := dk_44 (dk_at dksX7_synthesis_0 16 rfl rfl)
theorem dX7_synthesis_17 : decode cX7_synthesis 17 = .ok (.iload_n 3, 1) := dk_29 (dk_at dksX7_synthesis_0 17 rfl rfl)
theorem dX7_synthesis_18 : decode cX7_synthesis 18 = .ok (.aload_n 1, 1) := dk_43 (dk_at dksX7_synthesis_0 18 rfl rfl)
theorem dX7_synthesis_19 : decode cX7_synthesis 19 = .ok (.iload_n 3, 1) := dk_29 (dk_at dksX7_synthesis_0 19 rfl rfl)
theorem dX7_synthesis_20 : decode cX7_synthesis 20 = .ok (.invokeinterface 78 2, 5) := by decide +kernel
theorem dX7_synthesis_25 : decode cX7_synthesis 25 = .ok (.aload_n 0, 1) := dk_42 (dk_at dksX7_synthesis_1 5 rfl rfl)
theorem dX7_synthesis_26 : decode cX7_synthesis 26 = .ok (.invokevirtual 46, 3) := dk_182 0 46 (dk_at dksX7_synthesis_1 6 rfl rfl)
theorem dX7_synthesis_29 : decode cX7_synthesis 29 = .ok (.iload_n 3, 1) := dk_29 (dk_at dksX7_synthesis_1 9 rfl rfl)
theorem dX7_synthesis_30 : decode cX7_synthesis 30 = .ok (.iaload, 1) := dk_46 (dk_at dksX7_synthesis_1 10 rfl rfl)
theorem dX7_synthesis_31 : decode cX7_synthesis 31 = .ok (.imul, 1) := dk_104 (dk_at dksX7_synthesis_1 11 rfl rfl)
theorem dX7_synthesis_32 : decode cX7_synthesis 32 = .ok (.iastore, 1) := dk_79 (dk_at dksX7_synthesis_1 12 rfl rfl)
theorem dX7_synthesis_33 : decode cX7_synthesis 33 = .ok (.iinc 3 1, 3) := dk_132 3 1 (dk_at dksX7_synthesis_1 13 rfl rfl)
theorem dX7_synthesis_36 : decode cX7_synthesis 36 = .ok (.goto (-26), 3) := dk_167 255 230 (dk_at dksX7_synthesis_1 16 rfl rfl)
theorem dX7_synthesis_39 : decode cX7_synthesis 39 = .ok (.aload_n 2, 1) := dk_44 (dk_at dksX7_synthesis_1 19 rfl rfl)
theorem dX7_synthesis_40 : decode cX7_synthesis 40 = .ok (.invokestatic 36, 3) := dk_184 0 36 (dk_at dksX7_synthesis_1 20 rfl rfl)
theorem dX7_synthesis_43 : decode cX7_synthesis 43 = .ok (.iconst 0, 1) := dk_3 (dk_at dksX7_synthesis_1 23 rfl rfl)
theorem dX7_synthesis_44 : decode cX7_synthesis 44 = .ok (.istore_n 3, 1) := dk_62 (dk_at dksX7_synthesis_2 0 rfl rfl)
theorem dX7_synthesis_45 : decode cX7_synthesis 45 = .ok (.iload_n 3, 1) := dk_29 (dk_at dksX7_synthesis_2 1 rfl rfl)
theorem dX7_synthesis_46 : decode cX7_synthesis 46 = .ok (.aload_n 2, 1) := dk_44 (dk_at dksX7_synthesis_2 2 rfl rfl)
theorem dX7_synthesis_47 : decode cX7_synthesis 47 = .ok (.arraylength, 1) := dk_190 (dk_at dksX7_synthesis_2 3 rfl rfl)
theorem dX7_synthesis_48 : decode cX7_synthesis 48 = .ok (.if_icmp .ge 23, 3) := dk_162 0 23 (dk_at dksX7_synthesis_2 4 rfl rfl)
theorem dX7_synthesis_51 : decode cX7_synthesis 51 = .ok (.aload_n 2, 1) := dk_44 (dk_at dksX7_synthesis_2 7 rfl rfl)
theorem dX7_synthesis_52 : decode cX7_synthesis 52 = .ok (.iload_n 3, 1) := dk_29 (dk_at dksX7_synthesis_2 8 rfl rfl)
theorem dX7_synthesis_53 : decode cX7_synthesis 53 = .ok (.aload_n 2, 1) := dk_44 (dk_at dksX7_synthesis_2 9 rfl rfl)
theorem dX7_synthesis_54 : decode cX7_synthesis 54 = .ok (.iload_n 3, 1) := dk_29 (dk_at dksX7_synthesis_2 10 rfl rfl)
theorem dX7_synthesis_55 : decode cX7_synthesis 55 = .ok (.iaload, 1) := dk_46 (dk_at dksX7_synthesis_2 11 rfl rfl)
theorem dX7_synthesis_56 : decode cX7_synthesis 56 = .ok (.aload_n 2, 1) := dk_44 (dk_at dksX7_synthesis_2 12 rfl rfl)
theorem dX7_synthesis_57 : decode cX7_synthesis 57 = .ok (.arraylength, 1) := dk_190 (dk_at dksX7_synthesis_2 13 rfl rfl)
theorem dX7_synthesis_58 : decode cX7_synthesis 58 = .ok (.invokestatic 83, 3) := dk_184 0 83 (dk_at dksX7_synthesis_2 14 rfl rfl)
theorem dX7_synthesis_61 : decode cX7_synthesis 61 = .ok (.invokestatic 86, 3) := dk_184 0 86 (dk_at dksX7_synthesis_2 17 rfl rfl)
theorem dX7_synthesis_64 : decode cX7_synthesis 64 = .ok (.iastore, 1) := dk_79 (dk_at dksX7_synthesis_2 20 rfl rfl)
theorem dX7_synthesis_65 : decode cX7_synthesis 65 = .ok (.iinc 3 1, 3) := dk_132 3 1 (dk_at dksX7_synthesis_2 21 rfl rfl)
theorem dX7_synthesis_68 : decode cX7_synthesis 68 = .ok (.goto (-23), 3) := dk_167 255 233 (dk_at dksX7_synthesis_3 0 rfl rfl)
theorem dX7_synthesis_71 : decode cX7_synthesis 71 = .ok (.aload_n 2, 1) := dk_44 (dk_at dksX7_synthesis_3 3 rfl rfl)
theorem dX7_synthesis_72 : decode cX7_synthesis 72 = .ok (.areturn, 1) := dk_176 (dk_at dksX7_synthesis_3 4 rfl rfl)
abbrev cX7_squareError : ByteArray := prog_7_method_34_code
def yX7_squareError : MethodName := ⟨RX7, "squareError", "([I)J"⟩
def dkwX7_squareError_1 : List UInt8 := [21, 4, 46, 100, 133, 55, 5, 32, 22, 5, 22, 5, 105, 97, 65, 132, 4, 1, 167, 255, 220, 32, 173]
abbrev dktX7_squareError_1 : List UInt8 := dkwX7_squareError_1 ++ []
def dkwX7_squareError_0 : List UInt8 := [9, 65, 3, 54, 4, 21, 4, 42, 180, 0, 13, 190, 162, 0, 32, 42, 180, 0, 13, 21, 4, 46, 43]
abbrev dktX7_squareError_0 : List UInt8 := dkwX7_squareError_0 ++ dktX7_squareError_1
theorem dksX7_squareError_0 : cX7_squareError.data.toList.drop 0 = dktX7_squareError_0 := by decide +kernel
theorem dksX7_squareError_1 : cX7_squareError.data.toList.drop 23 = dktX7_squareError_1 := dk_seg dksX7_squareError_0 23 rfl rfl
theorem dX7_squareError_0 : decode cX7_squareError 0 = .ok (.lconst 0, 1) := dk_9 (dk_at dksX7_squareError_0 0 rfl rfl)
theorem dX7_squareError_1 : decode cX7_squareError 1 = .ok (.lstore_n 2, 1) := dk_65 (dk_at dksX7_squareError_0 1 rfl rfl)
theorem dX7_squareError_2 : decode cX7_squareError 2 = .ok (.iconst 0, 1) := dk_3 (dk_at dksX7_squareError_0 2 rfl rfl)
theorem dX7_squareError_3 : decode cX7_squareError 3 = .ok (.istore 4, 2) := dk_54 4 (dk_at dksX7_squareError_0 3 rfl rfl)
theorem dX7_squareError_5 : decode cX7_squareError 5 = .ok (.iload 4, 2) := dk_21 4 (dk_at dksX7_squareError_0 5 rfl rfl)
theorem dX7_squareError_7 : decode cX7_squareError 7 = .ok (.aload_n 0, 1) := dk_42 (dk_at dksX7_squareError_0 7 rfl rfl)
theorem dX7_squareError_8 : decode cX7_squareError 8 = .ok (.getfield 13, 3) := dk_180 0 13 (dk_at dksX7_squareError_0 8 rfl rfl)
theorem dX7_squareError_11 : decode cX7_squareError 11 = .ok (.arraylength, 1) := dk_190 (dk_at dksX7_squareError_0 11 rfl rfl)
theorem dX7_squareError_12 : decode cX7_squareError 12 = .ok (.if_icmp .ge 32, 3) := dk_162 0 32 (dk_at dksX7_squareError_0 12 rfl rfl)
theorem dX7_squareError_15 : decode cX7_squareError 15 = .ok (.aload_n 0, 1) := dk_42 (dk_at dksX7_squareError_0 15 rfl rfl)
theorem dX7_squareError_16 : decode cX7_squareError 16 = .ok (.getfield 13, 3) := dk_180 0 13 (dk_at dksX7_squareError_0 16 rfl rfl)
theorem dX7_squareError_19 : decode cX7_squareError 19 = .ok (.iload 4, 2) := dk_21 4 (dk_at dksX7_squareError_0 19 rfl rfl)
theorem dX7_squareError_21 : decode cX7_squareError 21 = .ok (.iaload, 1) := dk_46 (dk_at dksX7_squareError_0 21 rfl rfl)
theorem dX7_squareError_22 : decode cX7_squareError 22 = .ok (.aload_n 1, 1) := dk_43 (dk_at dksX7_squareError_0 22 rfl rfl)
theorem dX7_squareError_23 : decode cX7_squareError 23 = .ok (.iload 4, 2) := dk_21 4 (dk_at dksX7_squareError_1 0 rfl rfl)
theorem dX7_squareError_25 : decode cX7_squareError 25 = .ok (.iaload, 1) := dk_46 (dk_at dksX7_squareError_1 2 rfl rfl)
theorem dX7_squareError_26 : decode cX7_squareError 26 = .ok (.isub, 1) := dk_100 (dk_at dksX7_squareError_1 3 rfl rfl)
theorem dX7_squareError_27 : decode cX7_squareError 27 = .ok (.i2l, 1) := dk_133 (dk_at dksX7_squareError_1 4 rfl rfl)
theorem dX7_squareError_28 : decode cX7_squareError 28 = .ok (.lstore 5, 2) := dk_55 5 (dk_at dksX7_squareError_1 5 rfl rfl)
theorem dX7_squareError_30 : decode cX7_squareError 30 = .ok (.lload_n 2, 1) := dk_32 (dk_at dksX7_squareError_1 7 rfl rfl)
theorem dX7_squareError_31 : decode cX7_squareError 31 = .ok (.lload 5, 2) := dk_22 5 (dk_at dksX7_squareError_1 8 rfl rfl)
theorem dX7_squareError_33 : decode cX7_squareError 33 = .ok (.lload 5, 2) := dk_22 5 (dk_at dksX7_squareError_1 10 rfl rfl)
theorem dX7_squareError_35 : decode cX7_squareError 35 = .ok (.lmul, 1) := dk_105 (dk_at dksX7_squareError_1 12 rfl rfl)
theorem dX7_squareError_36 : decode cX7_squareError 36 = .ok (.ladd, 1) := dk_97 (dk_at dksX7_squareError_1 13 rfl rfl)
theorem dX7_squareError_37 : decode cX7_squareError 37 = .ok (.lstore_n 2, 1) := dk_65 (dk_at dksX7_squareError_1 14 rfl rfl)
theorem dX7_squareError_38 : decode cX7_squareError 38 = .ok (.iinc 4 1, 3) := dk_132 4 1 (dk_at dksX7_squareError_1 15 rfl rfl)
theorem dX7_squareError_41 : decode cX7_squareError 41 = .ok (.goto (-36), 3) := dk_167 255 220 (dk_at dksX7_squareError_1 18 rfl rfl)
theorem dX7_squareError_44 : decode cX7_squareError 44 = .ok (.lload_n 2, 1) := dk_32 (dk_at dksX7_squareError_1 21 rfl rfl)
theorem dX7_squareError_45 : decode cX7_squareError 45 = .ok (.lreturn, 1) := dk_173 (dk_at dksX7_squareError_1 22 rfl rfl)
abbrev cX7_withSample : ByteArray := prog_7_method_37_code
def yX7_withSample : MethodName := ⟨RX7, "withSample", "(II)[I"⟩
def dkwX7_withSample_0 : List UInt8 := [42, 182, 0, 32, 78, 45, 27, 28, 79, 45, 176]
abbrev dktX7_withSample_0 : List UInt8 := dkwX7_withSample_0 ++ []
theorem dksX7_withSample_0 : cX7_withSample.data.toList.drop 0 = dktX7_withSample_0 := by decide +kernel
theorem dX7_withSample_0 : decode cX7_withSample 0 = .ok (.aload_n 0, 1) := dk_42 (dk_at dksX7_withSample_0 0 rfl rfl)
theorem dX7_withSample_1 : decode cX7_withSample 1 = .ok (.invokevirtual 32, 3) := dk_182 0 32 (dk_at dksX7_withSample_0 1 rfl rfl)
theorem dX7_withSample_4 : decode cX7_withSample 4 = .ok (.astore_n 3, 1) := dk_78 (dk_at dksX7_withSample_0 4 rfl rfl)
theorem dX7_withSample_5 : decode cX7_withSample 5 = .ok (.aload_n 3, 1) := dk_45 (dk_at dksX7_withSample_0 5 rfl rfl)
theorem dX7_withSample_6 : decode cX7_withSample 6 = .ok (.iload_n 1, 1) := dk_27 (dk_at dksX7_withSample_0 6 rfl rfl)
theorem dX7_withSample_7 : decode cX7_withSample 7 = .ok (.iload_n 2, 1) := dk_28 (dk_at dksX7_withSample_0 7 rfl rfl)
theorem dX7_withSample_8 : decode cX7_withSample 8 = .ok (.iastore, 1) := dk_79 (dk_at dksX7_withSample_0 8 rfl rfl)
theorem dX7_withSample_9 : decode cX7_withSample 9 = .ok (.aload_n 3, 1) := dk_45 (dk_at dksX7_withSample_0 9 rfl rfl)
theorem dX7_withSample_10 : decode cX7_withSample 10 = .ok (.areturn, 1) := dk_176 (dk_at dksX7_withSample_0 10 rfl rfl)
abbrev cX7_followedBy : ByteArray := prog_7_method_32_code
def yX7_followedBy : MethodName := ⟨RX7, "followedBy", "(LWalshAnalyzer$Recording;)[I"⟩
def dkwX7_followedBy_1 : List UInt8 := [184, 0, 23, 43, 180, 0, 13, 3, 44, 42, 180, 0, 13, 190, 42, 180, 0, 13, 190, 184, 0, 23, 44, 176]
abbrev dktX7_followedBy_1 : List UInt8 := dkwX7_followedBy_1 ++ []
def dkwX7_followedBy_0 : List UInt8 := [5, 42, 180, 0, 13, 190, 104, 188, 10, 77, 42, 180, 0, 13, 3, 44, 3, 42, 180, 0, 13, 190]
abbrev dktX7_followedBy_0 : List UInt8 := dkwX7_followedBy_0 ++ dktX7_followedBy_1
theorem dksX7_followedBy_0 : cX7_followedBy.data.toList.drop 0 = dktX7_followedBy_0 := by decide +kernel
theorem dksX7_followedBy_1 : cX7_followedBy.data.toList.drop 22 = dktX7_followedBy_1 := dk_seg dksX7_followedBy_0 22 rfl rfl
theorem dX7_followedBy_0 : decode cX7_followedBy 0 = .ok (.iconst 2, 1) := dk_5 (dk_at dksX7_followedBy_0 0 rfl rfl)
theorem dX7_followedBy_1 : decode cX7_followedBy 1 = .ok (.aload_n 0, 1) := dk_42 (dk_at dksX7_followedBy_0 1 rfl rfl)
theorem dX7_followedBy_2 : decode cX7_followedBy 2 = .ok (.getfield 13, 3) := dk_180 0 13 (dk_at dksX7_followedBy_0 2 rfl rfl)
theorem dX7_followedBy_5 : decode cX7_followedBy 5 = .ok (.arraylength, 1) := dk_190 (dk_at dksX7_followedBy_0 5 rfl rfl)
theorem dX7_followedBy_6 : decode cX7_followedBy 6 = .ok (.imul, 1) := dk_104 (dk_at dksX7_followedBy_0 6 rfl rfl)
theorem dX7_followedBy_7 : decode cX7_followedBy 7 = .ok (.newarray .int, 2) := dk_188_10 (dk_at dksX7_followedBy_0 7 rfl rfl)
theorem dX7_followedBy_9 : decode cX7_followedBy 9 = .ok (.astore_n 2, 1) := dk_77 (dk_at dksX7_followedBy_0 9 rfl rfl)
theorem dX7_followedBy_10 : decode cX7_followedBy 10 = .ok (.aload_n 0, 1) := dk_42 (dk_at dksX7_followedBy_0 10 rfl rfl)
theorem dX7_followedBy_11 : decode cX7_followedBy 11 = .ok (.getfield 13, 3) := dk_180 0 13 (dk_at dksX7_followedBy_0 11 rfl rfl)
theorem dX7_followedBy_14 : decode cX7_followedBy 14 = .ok (.iconst 0, 1) := dk_3 (dk_at dksX7_followedBy_0 14 rfl rfl)
theorem dX7_followedBy_15 : decode cX7_followedBy 15 = .ok (.aload_n 2, 1) := dk_44 (dk_at dksX7_followedBy_0 15 rfl rfl)
theorem dX7_followedBy_16 : decode cX7_followedBy 16 = .ok (.iconst 0, 1) := dk_3 (dk_at dksX7_followedBy_0 16 rfl rfl)
theorem dX7_followedBy_17 : decode cX7_followedBy 17 = .ok (.aload_n 0, 1) := dk_42 (dk_at dksX7_followedBy_0 17 rfl rfl)
theorem dX7_followedBy_18 : decode cX7_followedBy 18 = .ok (.getfield 13, 3) := dk_180 0 13 (dk_at dksX7_followedBy_0 18 rfl rfl)
theorem dX7_followedBy_21 : decode cX7_followedBy 21 = .ok (.arraylength, 1) := dk_190 (dk_at dksX7_followedBy_0 21 rfl rfl)
theorem dX7_followedBy_22 : decode cX7_followedBy 22 = .ok (.invokestatic 23, 3) := dk_184 0 23 (dk_at dksX7_followedBy_1 0 rfl rfl)
theorem dX7_followedBy_25 : decode cX7_followedBy 25 = .ok (.aload_n 1, 1) := dk_43 (dk_at dksX7_followedBy_1 3 rfl rfl)
theorem dX7_followedBy_26 : decode cX7_followedBy 26 = .ok (.getfield 13, 3) := dk_180 0 13 (dk_at dksX7_followedBy_1 4 rfl rfl)
theorem dX7_followedBy_29 : decode cX7_followedBy 29 = .ok (.iconst 0, 1) := dk_3 (dk_at dksX7_followedBy_1 7 rfl rfl)
theorem dX7_followedBy_30 : decode cX7_followedBy 30 = .ok (.aload_n 2, 1) := dk_44 (dk_at dksX7_followedBy_1 8 rfl rfl)
theorem dX7_followedBy_31 : decode cX7_followedBy 31 = .ok (.aload_n 0, 1) := dk_42 (dk_at dksX7_followedBy_1 9 rfl rfl)
theorem dX7_followedBy_32 : decode cX7_followedBy 32 = .ok (.getfield 13, 3) := dk_180 0 13 (dk_at dksX7_followedBy_1 10 rfl rfl)
theorem dX7_followedBy_35 : decode cX7_followedBy 35 = .ok (.arraylength, 1) := dk_190 (dk_at dksX7_followedBy_1 13 rfl rfl)
theorem dX7_followedBy_36 : decode cX7_followedBy 36 = .ok (.aload_n 0, 1) := dk_42 (dk_at dksX7_followedBy_1 14 rfl rfl)
theorem dX7_followedBy_37 : decode cX7_followedBy 37 = .ok (.getfield 13, 3) := dk_180 0 13 (dk_at dksX7_followedBy_1 15 rfl rfl)
theorem dX7_followedBy_40 : decode cX7_followedBy 40 = .ok (.arraylength, 1) := dk_190 (dk_at dksX7_followedBy_1 18 rfl rfl)
theorem dX7_followedBy_41 : decode cX7_followedBy 41 = .ok (.invokestatic 23, 3) := dk_184 0 23 (dk_at dksX7_followedBy_1 19 rfl rfl)
theorem dX7_followedBy_44 : decode cX7_followedBy 44 = .ok (.aload_n 2, 1) := dk_44 (dk_at dksX7_followedBy_1 22 rfl rfl)
theorem dX7_followedBy_45 : decode cX7_followedBy 45 = .ok (.areturn, 1) := dk_176 (dk_at dksX7_followedBy_1 23 rfl rfl)
abbrev cX7_synthesisAbove : ByteArray := prog_7_method_21_code
def yX7_synthesisAbove : MethodName := ⟨RX7, "synthesisAbove", "(I)[I"⟩
def dkwX7_synthesisAbove_0 : List UInt8 := [42, 42, 27, 186, 0, 103, 0, 0, 182, 0, 92, 176]
abbrev dktX7_synthesisAbove_0 : List UInt8 := dkwX7_synthesisAbove_0 ++ []
theorem dksX7_synthesisAbove_0 : cX7_synthesisAbove.data.toList.drop 0 = dktX7_synthesisAbove_0 := by decide +kernel
theorem dX7_synthesisAbove_0 : decode cX7_synthesisAbove 0 = .ok (.aload_n 0, 1) := dk_42 (dk_at dksX7_synthesisAbove_0 0 rfl rfl)
theorem dX7_synthesisAbove_1 : decode cX7_synthesisAbove 1 = .ok (.aload_n 0, 1) := dk_42 (dk_at dksX7_synthesisAbove_0 1 rfl rfl)
theorem dX7_synthesisAbove_2 : decode cX7_synthesisAbove 2 = .ok (.iload_n 1, 1) := dk_27 (dk_at dksX7_synthesisAbove_0 2 rfl rfl)
theorem dX7_synthesisAbove_3 : decode cX7_synthesisAbove 3 = .ok (.invokedynamic 103, 5) := by decide +kernel
theorem dX7_synthesisAbove_8 : decode cX7_synthesisAbove 8 = .ok (.invokevirtual 92, 3) := dk_182 0 92 (dk_at dksX7_synthesisAbove_0 8 rfl rfl)
theorem dX7_synthesisAbove_11 : decode cX7_synthesisAbove 11 = .ok (.areturn, 1) := dk_176 (dk_at dksX7_synthesisAbove_0 11 rfl rfl)
abbrev cX7_lambda_synthesisAbove_2 : ByteArray := prog_7_method_42_code
def yX7_lambda_synthesisAbove_2 : MethodName := ⟨RX7, "lambda$synthesisAbove$2", "(II)I"⟩
def dkwX7_lambda_synthesisAbove_2_0 : List UInt8 := [42, 28, 27, 182, 0, 104, 184, 0, 129, 172]
abbrev dktX7_lambda_synthesisAbove_2_0 : List UInt8 := dkwX7_lambda_synthesisAbove_2_0 ++ []
theorem dksX7_lambda_synthesisAbove_2_0 : cX7_lambda_synthesisAbove_2.data.toList.drop 0 = dktX7_lambda_synthesisAbove_2_0 := by decide +kernel
theorem dX7_lambda_synthesisAbove_2_0 : decode cX7_lambda_synthesisAbove_2 0 = .ok (.aload_n 0, 1) := dk_42 (dk_at dksX7_lambda_synthesisAbove_2_0 0 rfl rfl)
theorem dX7_lambda_synthesisAbove_2_1 : decode cX7_lambda_synthesisAbove_2 1 = .ok (.iload_n 2, 1) := dk_28 (dk_at dksX7_lambda_synthesisAbove_2_0 1 rfl rfl)
theorem dX7_lambda_synthesisAbove_2_2 : decode cX7_lambda_synthesisAbove_2 2 = .ok (.iload_n 1, 1) := dk_27 (dk_at dksX7_lambda_synthesisAbove_2_0 2 rfl rfl)
theorem dX7_lambda_synthesisAbove_2_3 : decode cX7_lambda_synthesisAbove_2 3 = .ok (.invokevirtual 104, 3) := dk_182 0 104 (dk_at dksX7_lambda_synthesisAbove_2_0 3 rfl rfl)
theorem dX7_lambda_synthesisAbove_2_6 : decode cX7_lambda_synthesisAbove_2 6 = .ok (.invokestatic 129, 3) := dk_184 0 129 (dk_at dksX7_lambda_synthesisAbove_2_0 6 rfl rfl)
theorem dX7_lambda_synthesisAbove_2_9 : decode cX7_lambda_synthesisAbove_2 9 = .ok (.ireturn, 1) := dk_172 (dk_at dksX7_lambda_synthesisAbove_2_0 9 rfl rfl)
abbrev cX7_synthesisOfBand : ByteArray := prog_7_method_19_code
def yX7_synthesisOfBand : MethodName := ⟨RX7, "synthesisOfBand", "(III)[I"⟩
def dkwX7_synthesisOfBand_0 : List UInt8 := [42, 42, 27, 28, 29, 186, 0, 100, 0, 0, 182, 0, 92, 176]
abbrev dktX7_synthesisOfBand_0 : List UInt8 := dkwX7_synthesisOfBand_0 ++ []
theorem dksX7_synthesisOfBand_0 : cX7_synthesisOfBand.data.toList.drop 0 = dktX7_synthesisOfBand_0 := by decide +kernel
theorem dX7_synthesisOfBand_0 : decode cX7_synthesisOfBand 0 = .ok (.aload_n 0, 1) := dk_42 (dk_at dksX7_synthesisOfBand_0 0 rfl rfl)
theorem dX7_synthesisOfBand_1 : decode cX7_synthesisOfBand 1 = .ok (.aload_n 0, 1) := dk_42 (dk_at dksX7_synthesisOfBand_0 1 rfl rfl)
theorem dX7_synthesisOfBand_2 : decode cX7_synthesisOfBand 2 = .ok (.iload_n 1, 1) := dk_27 (dk_at dksX7_synthesisOfBand_0 2 rfl rfl)
theorem dX7_synthesisOfBand_3 : decode cX7_synthesisOfBand 3 = .ok (.iload_n 2, 1) := dk_28 (dk_at dksX7_synthesisOfBand_0 3 rfl rfl)
theorem dX7_synthesisOfBand_4 : decode cX7_synthesisOfBand 4 = .ok (.iload_n 3, 1) := dk_29 (dk_at dksX7_synthesisOfBand_0 4 rfl rfl)
theorem dX7_synthesisOfBand_5 : decode cX7_synthesisOfBand 5 = .ok (.invokedynamic 100, 5) := by decide +kernel
theorem dX7_synthesisOfBand_10 : decode cX7_synthesisOfBand 10 = .ok (.invokevirtual 92, 3) := dk_182 0 92 (dk_at dksX7_synthesisOfBand_0 10 rfl rfl)
theorem dX7_synthesisOfBand_13 : decode cX7_synthesisOfBand 13 = .ok (.areturn, 1) := dk_176 (dk_at dksX7_synthesisOfBand_0 13 rfl rfl)
abbrev cX7_lambda_synthesisOfBand_1 : ByteArray := prog_7_method_43_code
def yX7_lambda_synthesisOfBand_1 : MethodName := ⟨RX7, "lambda$synthesisOfBand$1", "(IIII)I"⟩
def dkwX7_lambda_synthesisOfBand_1_0 : List UInt8 := [42, 21, 4, 182, 0, 67, 27, 28, 184, 0, 17, 153, 0, 7, 29, 167, 0, 4, 4, 172]
abbrev dktX7_lambda_synthesisOfBand_1_0 : List UInt8 := dkwX7_lambda_synthesisOfBand_1_0 ++ []
theorem dksX7_lambda_synthesisOfBand_1_0 : cX7_lambda_synthesisOfBand_1.data.toList.drop 0 = dktX7_lambda_synthesisOfBand_1_0 := by decide +kernel
theorem dX7_lambda_synthesisOfBand_1_0 : decode cX7_lambda_synthesisOfBand_1 0 = .ok (.aload_n 0, 1) := dk_42 (dk_at dksX7_lambda_synthesisOfBand_1_0 0 rfl rfl)
theorem dX7_lambda_synthesisOfBand_1_1 : decode cX7_lambda_synthesisOfBand_1 1 = .ok (.iload 4, 2) := dk_21 4 (dk_at dksX7_lambda_synthesisOfBand_1_0 1 rfl rfl)
theorem dX7_lambda_synthesisOfBand_1_3 : decode cX7_lambda_synthesisOfBand_1 3 = .ok (.invokevirtual 67, 3) := dk_182 0 67 (dk_at dksX7_lambda_synthesisOfBand_1_0 3 rfl rfl)
theorem dX7_lambda_synthesisOfBand_1_6 : decode cX7_lambda_synthesisOfBand_1 6 = .ok (.iload_n 1, 1) := dk_27 (dk_at dksX7_lambda_synthesisOfBand_1_0 6 rfl rfl)
theorem dX7_lambda_synthesisOfBand_1_7 : decode cX7_lambda_synthesisOfBand_1 7 = .ok (.iload_n 2, 1) := dk_28 (dk_at dksX7_lambda_synthesisOfBand_1_0 7 rfl rfl)
theorem dX7_lambda_synthesisOfBand_1_8 : decode cX7_lambda_synthesisOfBand_1 8 = .ok (.invokestatic 17, 3) := dk_184 0 17 (dk_at dksX7_lambda_synthesisOfBand_1_0 8 rfl rfl)
theorem dX7_lambda_synthesisOfBand_1_11 : decode cX7_lambda_synthesisOfBand_1 11 = .ok (.ifCond .eq 7, 3) := dk_153 0 7 (dk_at dksX7_lambda_synthesisOfBand_1_0 11 rfl rfl)
theorem dX7_lambda_synthesisOfBand_1_14 : decode cX7_lambda_synthesisOfBand_1 14 = .ok (.iload_n 3, 1) := dk_29 (dk_at dksX7_lambda_synthesisOfBand_1_0 14 rfl rfl)
theorem dX7_lambda_synthesisOfBand_1_15 : decode cX7_lambda_synthesisOfBand_1 15 = .ok (.goto 4, 3) := dk_167 0 4 (dk_at dksX7_lambda_synthesisOfBand_1_0 15 rfl rfl)
theorem dX7_lambda_synthesisOfBand_1_18 : decode cX7_lambda_synthesisOfBand_1 18 = .ok (.iconst 1, 1) := dk_4 (dk_at dksX7_lambda_synthesisOfBand_1_0 18 rfl rfl)
theorem dX7_lambda_synthesisOfBand_1_19 : decode cX7_lambda_synthesisOfBand_1 19 = .ok (.ireturn, 1) := dk_172 (dk_at dksX7_lambda_synthesisOfBand_1_0 19 rfl rfl)
abbrev cX7_synthesisWithoutBand : ByteArray := prog_7_method_18_code
def yX7_synthesisWithoutBand : MethodName := ⟨RX7, "synthesisWithoutBand", "(II)[I"⟩
def dkwX7_synthesisWithoutBand_0 : List UInt8 := [42, 27, 28, 3, 182, 0, 96, 176]
abbrev dktX7_synthesisWithoutBand_0 : List UInt8 := dkwX7_synthesisWithoutBand_0 ++ []
theorem dksX7_synthesisWithoutBand_0 : cX7_synthesisWithoutBand.data.toList.drop 0 = dktX7_synthesisWithoutBand_0 := by decide +kernel
theorem dX7_synthesisWithoutBand_0 : decode cX7_synthesisWithoutBand 0 = .ok (.aload_n 0, 1) := dk_42 (dk_at dksX7_synthesisWithoutBand_0 0 rfl rfl)
theorem dX7_synthesisWithoutBand_1 : decode cX7_synthesisWithoutBand 1 = .ok (.iload_n 1, 1) := dk_27 (dk_at dksX7_synthesisWithoutBand_0 1 rfl rfl)
theorem dX7_synthesisWithoutBand_2 : decode cX7_synthesisWithoutBand 2 = .ok (.iload_n 2, 1) := dk_28 (dk_at dksX7_synthesisWithoutBand_0 2 rfl rfl)
theorem dX7_synthesisWithoutBand_3 : decode cX7_synthesisWithoutBand 3 = .ok (.iconst 0, 1) := dk_3 (dk_at dksX7_synthesisWithoutBand_0 3 rfl rfl)
theorem dX7_synthesisWithoutBand_4 : decode cX7_synthesisWithoutBand 4 = .ok (.invokevirtual 96, 3) := dk_182 0 96 (dk_at dksX7_synthesisWithoutBand_0 4 rfl rfl)
theorem dX7_synthesisWithoutBand_7 : decode cX7_synthesisWithoutBand 7 = .ok (.areturn, 1) := dk_176 (dk_at dksX7_synthesisWithoutBand_0 7 rfl rfl)
abbrev cX7_shifted : ByteArray := prog_7_method_35_code
def yX7_shifted : MethodName := ⟨RX7, "shifted", "(I)[I"⟩
def dkwX7_shifted_1 : List UInt8 := [29, 46, 79, 132, 3, 1, 167, 255, 236, 44, 176]
abbrev dktX7_shifted_1 : List UInt8 := dkwX7_shifted_1 ++ []
def dkwX7_shifted_0 : List UInt8 := [42, 180, 0, 13, 190, 188, 10, 77, 3, 62, 29, 44, 190, 162, 0, 20, 44, 29, 27, 130, 42, 180, 0, 13]
abbrev dktX7_shifted_0 : List UInt8 := dkwX7_shifted_0 ++ dktX7_shifted_1
theorem dksX7_shifted_0 : cX7_shifted.data.toList.drop 0 = dktX7_shifted_0 := by decide +kernel
theorem dksX7_shifted_1 : cX7_shifted.data.toList.drop 24 = dktX7_shifted_1 := dk_seg dksX7_shifted_0 24 rfl rfl
theorem dX7_shifted_0 : decode cX7_shifted 0 = .ok (.aload_n 0, 1) := dk_42 (dk_at dksX7_shifted_0 0 rfl rfl)
theorem dX7_shifted_1 : decode cX7_shifted 1 = .ok (.getfield 13, 3) := dk_180 0 13 (dk_at dksX7_shifted_0 1 rfl rfl)
theorem dX7_shifted_4 : decode cX7_shifted 4 = .ok (.arraylength, 1) := dk_190 (dk_at dksX7_shifted_0 4 rfl rfl)
theorem dX7_shifted_5 : decode cX7_shifted 5 = .ok (.newarray .int, 2) := dk_188_10 (dk_at dksX7_shifted_0 5 rfl rfl)
theorem dX7_shifted_7 : decode cX7_shifted 7 = .ok (.astore_n 2, 1) := dk_77 (dk_at dksX7_shifted_0 7 rfl rfl)
theorem dX7_shifted_8 : decode cX7_shifted 8 = .ok (.iconst 0, 1) := dk_3 (dk_at dksX7_shifted_0 8 rfl rfl)
theorem dX7_shifted_9 : decode cX7_shifted 9 = .ok (.istore_n 3, 1) := dk_62 (dk_at dksX7_shifted_0 9 rfl rfl)
theorem dX7_shifted_10 : decode cX7_shifted 10 = .ok (.iload_n 3, 1) := dk_29 (dk_at dksX7_shifted_0 10 rfl rfl)
theorem dX7_shifted_11 : decode cX7_shifted 11 = .ok (.aload_n 2, 1) := dk_44 (dk_at dksX7_shifted_0 11 rfl rfl)
theorem dX7_shifted_12 : decode cX7_shifted 12 = .ok (.arraylength, 1) := dk_190 (dk_at dksX7_shifted_0 12 rfl rfl)
theorem dX7_shifted_13 : decode cX7_shifted 13 = .ok (.if_icmp .ge 20, 3) := dk_162 0 20 (dk_at dksX7_shifted_0 13 rfl rfl)
theorem dX7_shifted_16 : decode cX7_shifted 16 = .ok (.aload_n 2, 1) := dk_44 (dk_at dksX7_shifted_0 16 rfl rfl)
theorem dX7_shifted_17 : decode cX7_shifted 17 = .ok (.iload_n 3, 1) := dk_29 (dk_at dksX7_shifted_0 17 rfl rfl)
theorem dX7_shifted_18 : decode cX7_shifted 18 = .ok (.iload_n 1, 1) := dk_27 (dk_at dksX7_shifted_0 18 rfl rfl)
theorem dX7_shifted_19 : decode cX7_shifted 19 = .ok (.ixor, 1) := dk_130 (dk_at dksX7_shifted_0 19 rfl rfl)
theorem dX7_shifted_20 : decode cX7_shifted 20 = .ok (.aload_n 0, 1) := dk_42 (dk_at dksX7_shifted_0 20 rfl rfl)
theorem dX7_shifted_21 : decode cX7_shifted 21 = .ok (.getfield 13, 3) := dk_180 0 13 (dk_at dksX7_shifted_0 21 rfl rfl)
theorem dX7_shifted_24 : decode cX7_shifted 24 = .ok (.iload_n 3, 1) := dk_29 (dk_at dksX7_shifted_1 0 rfl rfl)
theorem dX7_shifted_25 : decode cX7_shifted 25 = .ok (.iaload, 1) := dk_46 (dk_at dksX7_shifted_1 1 rfl rfl)
theorem dX7_shifted_26 : decode cX7_shifted 26 = .ok (.iastore, 1) := dk_79 (dk_at dksX7_shifted_1 2 rfl rfl)
theorem dX7_shifted_27 : decode cX7_shifted 27 = .ok (.iinc 3 1, 3) := dk_132 3 1 (dk_at dksX7_shifted_1 3 rfl rfl)
theorem dX7_shifted_30 : decode cX7_shifted 30 = .ok (.goto (-20), 3) := dk_167 255 236 (dk_at dksX7_shifted_1 6 rfl rfl)
theorem dX7_shifted_33 : decode cX7_shifted 33 = .ok (.aload_n 2, 1) := dk_44 (dk_at dksX7_shifted_1 9 rfl rfl)
theorem dX7_shifted_34 : decode cX7_shifted 34 = .ok (.areturn, 1) := dk_176 (dk_at dksX7_shifted_1 10 rfl rfl)
abbrev cX7_quantized : ByteArray := prog_7_method_28_code
def yX7_quantized : MethodName := ⟨RX7, "quantized", "(I)[I"⟩
def dkwX7_quantized_1 : List UInt8 := [184, 0, 86, 79, 132, 3, 1, 167, 255, 232, 44, 176]
abbrev dktX7_quantized_1 : List UInt8 := dkwX7_quantized_1 ++ []
def dkwX7_quantized_0 : List UInt8 := [42, 182, 0, 32, 77, 3, 62, 29, 44, 190, 162, 0, 24, 44, 29, 27, 44, 29, 46, 27, 184, 0, 83, 104]
abbrev dktX7_quantized_0 : List UInt8 := dkwX7_quantized_0 ++ dktX7_quantized_1
theorem dksX7_quantized_0 : cX7_quantized.data.toList.drop 0 = dktX7_quantized_0 := by decide +kernel
theorem dksX7_quantized_1 : cX7_quantized.data.toList.drop 24 = dktX7_quantized_1 := dk_seg dksX7_quantized_0 24 rfl rfl
theorem dX7_quantized_0 : decode cX7_quantized 0 = .ok (.aload_n 0, 1) := dk_42 (dk_at dksX7_quantized_0 0 rfl rfl)
theorem dX7_quantized_1 : decode cX7_quantized 1 = .ok (.invokevirtual 32, 3) := dk_182 0 32 (dk_at dksX7_quantized_0 1 rfl rfl)
theorem dX7_quantized_4 : decode cX7_quantized 4 = .ok (.astore_n 2, 1) := dk_77 (dk_at dksX7_quantized_0 4 rfl rfl)
theorem dX7_quantized_5 : decode cX7_quantized 5 = .ok (.iconst 0, 1) := dk_3 (dk_at dksX7_quantized_0 5 rfl rfl)
theorem dX7_quantized_6 : decode cX7_quantized 6 = .ok (.istore_n 3, 1) := dk_62 (dk_at dksX7_quantized_0 6 rfl rfl)
theorem dX7_quantized_7 : decode cX7_quantized 7 = .ok (.iload_n 3, 1) := dk_29 (dk_at dksX7_quantized_0 7 rfl rfl)
theorem dX7_quantized_8 : decode cX7_quantized 8 = .ok (.aload_n 2, 1) := dk_44 (dk_at dksX7_quantized_0 8 rfl rfl)
theorem dX7_quantized_9 : decode cX7_quantized 9 = .ok (.arraylength, 1) := dk_190 (dk_at dksX7_quantized_0 9 rfl rfl)
theorem dX7_quantized_10 : decode cX7_quantized 10 = .ok (.if_icmp .ge 24, 3) := dk_162 0 24 (dk_at dksX7_quantized_0 10 rfl rfl)
theorem dX7_quantized_13 : decode cX7_quantized 13 = .ok (.aload_n 2, 1) := dk_44 (dk_at dksX7_quantized_0 13 rfl rfl)
theorem dX7_quantized_14 : decode cX7_quantized 14 = .ok (.iload_n 3, 1) := dk_29 (dk_at dksX7_quantized_0 14 rfl rfl)
theorem dX7_quantized_15 : decode cX7_quantized 15 = .ok (.iload_n 1, 1) := dk_27 (dk_at dksX7_quantized_0 15 rfl rfl)
theorem dX7_quantized_16 : decode cX7_quantized 16 = .ok (.aload_n 2, 1) := dk_44 (dk_at dksX7_quantized_0 16 rfl rfl)
theorem dX7_quantized_17 : decode cX7_quantized 17 = .ok (.iload_n 3, 1) := dk_29 (dk_at dksX7_quantized_0 17 rfl rfl)
theorem dX7_quantized_18 : decode cX7_quantized 18 = .ok (.iaload, 1) := dk_46 (dk_at dksX7_quantized_0 18 rfl rfl)
theorem dX7_quantized_19 : decode cX7_quantized 19 = .ok (.iload_n 1, 1) := dk_27 (dk_at dksX7_quantized_0 19 rfl rfl)
theorem dX7_quantized_20 : decode cX7_quantized 20 = .ok (.invokestatic 83, 3) := dk_184 0 83 (dk_at dksX7_quantized_0 20 rfl rfl)
theorem dX7_quantized_23 : decode cX7_quantized 23 = .ok (.imul, 1) := dk_104 (dk_at dksX7_quantized_0 23 rfl rfl)
theorem dX7_quantized_24 : decode cX7_quantized 24 = .ok (.invokestatic 86, 3) := dk_184 0 86 (dk_at dksX7_quantized_1 0 rfl rfl)
theorem dX7_quantized_27 : decode cX7_quantized 27 = .ok (.iastore, 1) := dk_79 (dk_at dksX7_quantized_1 3 rfl rfl)
theorem dX7_quantized_28 : decode cX7_quantized 28 = .ok (.iinc 3 1, 3) := dk_132 3 1 (dk_at dksX7_quantized_1 4 rfl rfl)
theorem dX7_quantized_31 : decode cX7_quantized 31 = .ok (.goto (-24), 3) := dk_167 255 232 (dk_at dksX7_quantized_1 7 rfl rfl)
theorem dX7_quantized_34 : decode cX7_quantized 34 = .ok (.aload_n 2, 1) := dk_44 (dk_at dksX7_quantized_1 10 rfl rfl)
theorem dX7_quantized_35 : decode cX7_quantized 35 = .ok (.areturn, 1) := dk_176 (dk_at dksX7_quantized_1 11 rfl rfl)
abbrev cX7_greatestSize : ByteArray := prog_7_method_29_code
def yX7_greatestSize : MethodName := ⟨RX7, "greatestSize", "()I"⟩
def dkwX7_greatestSize_1 : List UInt8 := [54, 5, 27, 21, 5, 184, 0, 48, 184, 0, 115, 60, 132, 4, 1, 167, 255, 231, 27, 172]
abbrev dktX7_greatestSize_1 : List UInt8 := dkwX7_greatestSize_1 ++ []
def dkwX7_greatestSize_0 : List UInt8 := [3, 60, 42, 180, 0, 13, 77, 44, 190, 62, 3, 54, 4, 21, 4, 29, 162, 0, 25, 44, 21, 4, 46]
abbrev dktX7_greatestSize_0 : List UInt8 := dkwX7_greatestSize_0 ++ dktX7_greatestSize_1
theorem dksX7_greatestSize_0 : cX7_greatestSize.data.toList.drop 0 = dktX7_greatestSize_0 := by decide +kernel
theorem dksX7_greatestSize_1 : cX7_greatestSize.data.toList.drop 23 = dktX7_greatestSize_1 := dk_seg dksX7_greatestSize_0 23 rfl rfl
theorem dX7_greatestSize_0 : decode cX7_greatestSize 0 = .ok (.iconst 0, 1) := dk_3 (dk_at dksX7_greatestSize_0 0 rfl rfl)
theorem dX7_greatestSize_1 : decode cX7_greatestSize 1 = .ok (.istore_n 1, 1) := dk_60 (dk_at dksX7_greatestSize_0 1 rfl rfl)
theorem dX7_greatestSize_2 : decode cX7_greatestSize 2 = .ok (.aload_n 0, 1) := dk_42 (dk_at dksX7_greatestSize_0 2 rfl rfl)
theorem dX7_greatestSize_3 : decode cX7_greatestSize 3 = .ok (.getfield 13, 3) := dk_180 0 13 (dk_at dksX7_greatestSize_0 3 rfl rfl)
theorem dX7_greatestSize_6 : decode cX7_greatestSize 6 = .ok (.astore_n 2, 1) := dk_77 (dk_at dksX7_greatestSize_0 6 rfl rfl)
theorem dX7_greatestSize_7 : decode cX7_greatestSize 7 = .ok (.aload_n 2, 1) := dk_44 (dk_at dksX7_greatestSize_0 7 rfl rfl)
theorem dX7_greatestSize_8 : decode cX7_greatestSize 8 = .ok (.arraylength, 1) := dk_190 (dk_at dksX7_greatestSize_0 8 rfl rfl)
theorem dX7_greatestSize_9 : decode cX7_greatestSize 9 = .ok (.istore_n 3, 1) := dk_62 (dk_at dksX7_greatestSize_0 9 rfl rfl)
theorem dX7_greatestSize_10 : decode cX7_greatestSize 10 = .ok (.iconst 0, 1) := dk_3 (dk_at dksX7_greatestSize_0 10 rfl rfl)
theorem dX7_greatestSize_11 : decode cX7_greatestSize 11 = .ok (.istore 4, 2) := dk_54 4 (dk_at dksX7_greatestSize_0 11 rfl rfl)
theorem dX7_greatestSize_13 : decode cX7_greatestSize 13 = .ok (.iload 4, 2) := dk_21 4 (dk_at dksX7_greatestSize_0 13 rfl rfl)
theorem dX7_greatestSize_15 : decode cX7_greatestSize 15 = .ok (.iload_n 3, 1) := dk_29 (dk_at dksX7_greatestSize_0 15 rfl rfl)
theorem dX7_greatestSize_16 : decode cX7_greatestSize 16 = .ok (.if_icmp .ge 25, 3) := dk_162 0 25 (dk_at dksX7_greatestSize_0 16 rfl rfl)
theorem dX7_greatestSize_19 : decode cX7_greatestSize 19 = .ok (.aload_n 2, 1) := dk_44 (dk_at dksX7_greatestSize_0 19 rfl rfl)
theorem dX7_greatestSize_20 : decode cX7_greatestSize 20 = .ok (.iload 4, 2) := dk_21 4 (dk_at dksX7_greatestSize_0 20 rfl rfl)
theorem dX7_greatestSize_22 : decode cX7_greatestSize 22 = .ok (.iaload, 1) := dk_46 (dk_at dksX7_greatestSize_0 22 rfl rfl)
theorem dX7_greatestSize_23 : decode cX7_greatestSize 23 = .ok (.istore 5, 2) := dk_54 5 (dk_at dksX7_greatestSize_1 0 rfl rfl)
theorem dX7_greatestSize_25 : decode cX7_greatestSize 25 = .ok (.iload_n 1, 1) := dk_27 (dk_at dksX7_greatestSize_1 2 rfl rfl)
theorem dX7_greatestSize_26 : decode cX7_greatestSize 26 = .ok (.iload 5, 2) := dk_21 5 (dk_at dksX7_greatestSize_1 3 rfl rfl)
theorem dX7_greatestSize_28 : decode cX7_greatestSize 28 = .ok (.invokestatic 48, 3) := dk_184 0 48 (dk_at dksX7_greatestSize_1 5 rfl rfl)
theorem dX7_greatestSize_31 : decode cX7_greatestSize 31 = .ok (.invokestatic 115, 3) := dk_184 0 115 (dk_at dksX7_greatestSize_1 8 rfl rfl)
theorem dX7_greatestSize_34 : decode cX7_greatestSize 34 = .ok (.istore_n 1, 1) := dk_60 (dk_at dksX7_greatestSize_1 11 rfl rfl)
theorem dX7_greatestSize_35 : decode cX7_greatestSize 35 = .ok (.iinc 4 1, 3) := dk_132 4 1 (dk_at dksX7_greatestSize_1 12 rfl rfl)
theorem dX7_greatestSize_38 : decode cX7_greatestSize 38 = .ok (.goto (-25), 3) := dk_167 255 231 (dk_at dksX7_greatestSize_1 15 rfl rfl)
theorem dX7_greatestSize_41 : decode cX7_greatestSize 41 = .ok (.iload_n 1, 1) := dk_27 (dk_at dksX7_greatestSize_1 18 rfl rfl)
theorem dX7_greatestSize_42 : decode cX7_greatestSize 42 = .ok (.ireturn, 1) := dk_172 (dk_at dksX7_greatestSize_1 19 rfl rfl)
abbrev cX7_normalized : ByteArray := prog_7_method_30_code
def yX7_normalized : MethodName := ⟨RX7, "normalized", "(I)[I"⟩
def dkwX7_normalized_1 : List UInt8 := [184, 0, 83, 79, 132, 3, 1, 167, 255, 232, 44, 176]
abbrev dktX7_normalized_1 : List UInt8 := dkwX7_normalized_1 ++ []
def dkwX7_normalized_0 : List UInt8 := [42, 182, 0, 32, 77, 3, 62, 29, 44, 190, 162, 0, 24, 44, 29, 44, 29, 46, 27, 104, 42, 182, 0, 118]
abbrev dktX7_normalized_0 : List UInt8 := dkwX7_normalized_0 ++ dktX7_normalized_1
theorem dksX7_normalized_0 : cX7_normalized.data.toList.drop 0 = dktX7_normalized_0 := by decide +kernel
theorem dksX7_normalized_1 : cX7_normalized.data.toList.drop 24 = dktX7_normalized_1 := dk_seg dksX7_normalized_0 24 rfl rfl
theorem dX7_normalized_0 : decode cX7_normalized 0 = .ok (.aload_n 0, 1) := dk_42 (dk_at dksX7_normalized_0 0 rfl rfl)
theorem dX7_normalized_1 : decode cX7_normalized 1 = .ok (.invokevirtual 32, 3) := dk_182 0 32 (dk_at dksX7_normalized_0 1 rfl rfl)
theorem dX7_normalized_4 : decode cX7_normalized 4 = .ok (.astore_n 2, 1) := dk_77 (dk_at dksX7_normalized_0 4 rfl rfl)
theorem dX7_normalized_5 : decode cX7_normalized 5 = .ok (.iconst 0, 1) := dk_3 (dk_at dksX7_normalized_0 5 rfl rfl)
theorem dX7_normalized_6 : decode cX7_normalized 6 = .ok (.istore_n 3, 1) := dk_62 (dk_at dksX7_normalized_0 6 rfl rfl)
theorem dX7_normalized_7 : decode cX7_normalized 7 = .ok (.iload_n 3, 1) := dk_29 (dk_at dksX7_normalized_0 7 rfl rfl)
theorem dX7_normalized_8 : decode cX7_normalized 8 = .ok (.aload_n 2, 1) := dk_44 (dk_at dksX7_normalized_0 8 rfl rfl)
theorem dX7_normalized_9 : decode cX7_normalized 9 = .ok (.arraylength, 1) := dk_190 (dk_at dksX7_normalized_0 9 rfl rfl)
theorem dX7_normalized_10 : decode cX7_normalized 10 = .ok (.if_icmp .ge 24, 3) := dk_162 0 24 (dk_at dksX7_normalized_0 10 rfl rfl)
theorem dX7_normalized_13 : decode cX7_normalized 13 = .ok (.aload_n 2, 1) := dk_44 (dk_at dksX7_normalized_0 13 rfl rfl)
theorem dX7_normalized_14 : decode cX7_normalized 14 = .ok (.iload_n 3, 1) := dk_29 (dk_at dksX7_normalized_0 14 rfl rfl)
theorem dX7_normalized_15 : decode cX7_normalized 15 = .ok (.aload_n 2, 1) := dk_44 (dk_at dksX7_normalized_0 15 rfl rfl)
theorem dX7_normalized_16 : decode cX7_normalized 16 = .ok (.iload_n 3, 1) := dk_29 (dk_at dksX7_normalized_0 16 rfl rfl)
theorem dX7_normalized_17 : decode cX7_normalized 17 = .ok (.iaload, 1) := dk_46 (dk_at dksX7_normalized_0 17 rfl rfl)
theorem dX7_normalized_18 : decode cX7_normalized 18 = .ok (.iload_n 1, 1) := dk_27 (dk_at dksX7_normalized_0 18 rfl rfl)
theorem dX7_normalized_19 : decode cX7_normalized 19 = .ok (.imul, 1) := dk_104 (dk_at dksX7_normalized_0 19 rfl rfl)
theorem dX7_normalized_20 : decode cX7_normalized 20 = .ok (.aload_n 0, 1) := dk_42 (dk_at dksX7_normalized_0 20 rfl rfl)
theorem dX7_normalized_21 : decode cX7_normalized 21 = .ok (.invokevirtual 118, 3) := dk_182 0 118 (dk_at dksX7_normalized_0 21 rfl rfl)
theorem dX7_normalized_24 : decode cX7_normalized 24 = .ok (.invokestatic 83, 3) := dk_184 0 83 (dk_at dksX7_normalized_1 0 rfl rfl)
theorem dX7_normalized_27 : decode cX7_normalized 27 = .ok (.iastore, 1) := dk_79 (dk_at dksX7_normalized_1 3 rfl rfl)
theorem dX7_normalized_28 : decode cX7_normalized 28 = .ok (.iinc 3 1, 3) := dk_132 3 1 (dk_at dksX7_normalized_1 4 rfl rfl)
theorem dX7_normalized_31 : decode cX7_normalized 31 = .ok (.goto (-24), 3) := dk_167 255 232 (dk_at dksX7_normalized_1 7 rfl rfl)
theorem dX7_normalized_34 : decode cX7_normalized 34 = .ok (.aload_n 2, 1) := dk_44 (dk_at dksX7_normalized_1 10 rfl rfl)
theorem dX7_normalized_35 : decode cX7_normalized 35 = .ok (.areturn, 1) := dk_176 (dk_at dksX7_normalized_1 11 rfl rfl)
abbrev cX7_interleaved : ByteArray := prog_7_method_27_code
def yX7_interleaved : MethodName := ⟨RX7, "interleaved", "(LWalshAnalyzer$Recording;)[I"⟩
def dkwX7_interleaved_2 : List UInt8 := [167, 255, 223, 44, 176]
abbrev dktX7_interleaved_2 : List UInt8 := dkwX7_interleaved_2 ++ []
def dkwX7_interleaved_1 : List UInt8 := [154, 0, 10, 42, 180, 0, 13, 167, 0, 7, 43, 180, 0, 13, 29, 5, 108, 46, 79, 132, 3, 1]
abbrev dktX7_interleaved_1 : List UInt8 := dkwX7_interleaved_1 ++ dktX7_interleaved_2
def dkwX7_interleaved_0 : List UInt8 := [5, 42, 180, 0, 13, 190, 104, 188, 10, 77, 3, 62, 29, 44, 190, 162, 0, 33, 44, 29, 29, 5, 112]
abbrev dktX7_interleaved_0 : List UInt8 := dkwX7_interleaved_0 ++ dktX7_interleaved_1
theorem dksX7_interleaved_0 : cX7_interleaved.data.toList.drop 0 = dktX7_interleaved_0 := by decide +kernel
theorem dksX7_interleaved_1 : cX7_interleaved.data.toList.drop 23 = dktX7_interleaved_1 := dk_seg dksX7_interleaved_0 23 rfl rfl
theorem dksX7_interleaved_2 : cX7_interleaved.data.toList.drop 45 = dktX7_interleaved_2 := dk_seg dksX7_interleaved_1 22 rfl rfl
theorem dX7_interleaved_0 : decode cX7_interleaved 0 = .ok (.iconst 2, 1) := dk_5 (dk_at dksX7_interleaved_0 0 rfl rfl)
theorem dX7_interleaved_1 : decode cX7_interleaved 1 = .ok (.aload_n 0, 1) := dk_42 (dk_at dksX7_interleaved_0 1 rfl rfl)
theorem dX7_interleaved_2 : decode cX7_interleaved 2 = .ok (.getfield 13, 3) := dk_180 0 13 (dk_at dksX7_interleaved_0 2 rfl rfl)
theorem dX7_interleaved_5 : decode cX7_interleaved 5 = .ok (.arraylength, 1) := dk_190 (dk_at dksX7_interleaved_0 5 rfl rfl)
theorem dX7_interleaved_6 : decode cX7_interleaved 6 = .ok (.imul, 1) := dk_104 (dk_at dksX7_interleaved_0 6 rfl rfl)
theorem dX7_interleaved_7 : decode cX7_interleaved 7 = .ok (.newarray .int, 2) := dk_188_10 (dk_at dksX7_interleaved_0 7 rfl rfl)
theorem dX7_interleaved_9 : decode cX7_interleaved 9 = .ok (.astore_n 2, 1) := dk_77 (dk_at dksX7_interleaved_0 9 rfl rfl)
theorem dX7_interleaved_10 : decode cX7_interleaved 10 = .ok (.iconst 0, 1) := dk_3 (dk_at dksX7_interleaved_0 10 rfl rfl)
theorem dX7_interleaved_11 : decode cX7_interleaved 11 = .ok (.istore_n 3, 1) := dk_62 (dk_at dksX7_interleaved_0 11 rfl rfl)
theorem dX7_interleaved_12 : decode cX7_interleaved 12 = .ok (.iload_n 3, 1) := dk_29 (dk_at dksX7_interleaved_0 12 rfl rfl)
theorem dX7_interleaved_13 : decode cX7_interleaved 13 = .ok (.aload_n 2, 1) := dk_44 (dk_at dksX7_interleaved_0 13 rfl rfl)
theorem dX7_interleaved_14 : decode cX7_interleaved 14 = .ok (.arraylength, 1) := dk_190 (dk_at dksX7_interleaved_0 14 rfl rfl)
theorem dX7_interleaved_15 : decode cX7_interleaved 15 = .ok (.if_icmp .ge 33, 3) := dk_162 0 33 (dk_at dksX7_interleaved_0 15 rfl rfl)
theorem dX7_interleaved_18 : decode cX7_interleaved 18 = .ok (.aload_n 2, 1) := dk_44 (dk_at dksX7_interleaved_0 18 rfl rfl)
theorem dX7_interleaved_19 : decode cX7_interleaved 19 = .ok (.iload_n 3, 1) := dk_29 (dk_at dksX7_interleaved_0 19 rfl rfl)
theorem dX7_interleaved_20 : decode cX7_interleaved 20 = .ok (.iload_n 3, 1) := dk_29 (dk_at dksX7_interleaved_0 20 rfl rfl)
theorem dX7_interleaved_21 : decode cX7_interleaved 21 = .ok (.iconst 2, 1) := dk_5 (dk_at dksX7_interleaved_0 21 rfl rfl)
theorem dX7_interleaved_22 : decode cX7_interleaved 22 = .ok (.irem, 1) := dk_112 (dk_at dksX7_interleaved_0 22 rfl rfl)
theorem dX7_interleaved_23 : decode cX7_interleaved 23 = .ok (.ifCond .ne 10, 3) := dk_154 0 10 (dk_at dksX7_interleaved_1 0 rfl rfl)
theorem dX7_interleaved_26 : decode cX7_interleaved 26 = .ok (.aload_n 0, 1) := dk_42 (dk_at dksX7_interleaved_1 3 rfl rfl)
theorem dX7_interleaved_27 : decode cX7_interleaved 27 = .ok (.getfield 13, 3) := dk_180 0 13 (dk_at dksX7_interleaved_1 4 rfl rfl)
theorem dX7_interleaved_30 : decode cX7_interleaved 30 = .ok (.goto 7, 3) := dk_167 0 7 (dk_at dksX7_interleaved_1 7 rfl rfl)
theorem dX7_interleaved_33 : decode cX7_interleaved 33 = .ok (.aload_n 1, 1) := dk_43 (dk_at dksX7_interleaved_1 10 rfl rfl)
theorem dX7_interleaved_34 : decode cX7_interleaved 34 = .ok (.getfield 13, 3) := dk_180 0 13 (dk_at dksX7_interleaved_1 11 rfl rfl)
theorem dX7_interleaved_37 : decode cX7_interleaved 37 = .ok (.iload_n 3, 1) := dk_29 (dk_at dksX7_interleaved_1 14 rfl rfl)
theorem dX7_interleaved_38 : decode cX7_interleaved 38 = .ok (.iconst 2, 1) := dk_5 (dk_at dksX7_interleaved_1 15 rfl rfl)
theorem dX7_interleaved_39 : decode cX7_interleaved 39 = .ok (.idiv, 1) := dk_108 (dk_at dksX7_interleaved_1 16 rfl rfl)
theorem dX7_interleaved_40 : decode cX7_interleaved 40 = .ok (.iaload, 1) := dk_46 (dk_at dksX7_interleaved_1 17 rfl rfl)
theorem dX7_interleaved_41 : decode cX7_interleaved 41 = .ok (.iastore, 1) := dk_79 (dk_at dksX7_interleaved_1 18 rfl rfl)
theorem dX7_interleaved_42 : decode cX7_interleaved 42 = .ok (.iinc 3 1, 3) := dk_132 3 1 (dk_at dksX7_interleaved_1 19 rfl rfl)
theorem dX7_interleaved_45 : decode cX7_interleaved 45 = .ok (.goto (-33), 3) := dk_167 255 223 (dk_at dksX7_interleaved_2 0 rfl rfl)
theorem dX7_interleaved_48 : decode cX7_interleaved 48 = .ok (.aload_n 2, 1) := dk_44 (dk_at dksX7_interleaved_2 3 rfl rfl)
theorem dX7_interleaved_49 : decode cX7_interleaved 49 = .ok (.areturn, 1) := dk_176 (dk_at dksX7_interleaved_2 4 rfl rfl)
abbrev cX7_stretched : ByteArray := prog_7_method_26_code
def yX7_stretched : MethodName := ⟨RX7, "stretched", "()[I"⟩
def dkwX7_stretched_0 : List UInt8 := [42, 42, 182, 0, 111, 176]
abbrev dktX7_stretched_0 : List UInt8 := dkwX7_stretched_0 ++ []
theorem dksX7_stretched_0 : cX7_stretched.data.toList.drop 0 = dktX7_stretched_0 := by decide +kernel
theorem dX7_stretched_0 : decode cX7_stretched 0 = .ok (.aload_n 0, 1) := dk_42 (dk_at dksX7_stretched_0 0 rfl rfl)
theorem dX7_stretched_1 : decode cX7_stretched 1 = .ok (.aload_n 0, 1) := dk_42 (dk_at dksX7_stretched_0 1 rfl rfl)
theorem dX7_stretched_2 : decode cX7_stretched 2 = .ok (.invokevirtual 111, 3) := dk_182 0 111 (dk_at dksX7_stretched_0 2 rfl rfl)
theorem dX7_stretched_5 : decode cX7_stretched 5 = .ok (.areturn, 1) := dk_176 (dk_at dksX7_stretched_0 5 rfl rfl)
abbrev cX7_folded : ByteArray := prog_7_method_36_code
def yX7_folded : MethodName := ⟨RX7, "folded", "()[I"⟩
def dkwX7_folded_2 : List UInt8 := [167, 255, 226, 44, 176]
abbrev dktX7_folded_2 : List UInt8 := dkwX7_folded_2 ++ []
def dkwX7_folded_1 : List UInt8 := [180, 0, 13, 29, 46, 42, 180, 0, 13, 29, 27, 96, 46, 96, 5, 184, 0, 83, 79, 132, 3, 1]
abbrev dktX7_folded_1 : List UInt8 := dkwX7_folded_1 ++ dktX7_folded_2
def dkwX7_folded_0 : List UInt8 := [42, 180, 0, 13, 190, 5, 108, 60, 27, 188, 10, 77, 3, 62, 29, 27, 162, 0, 31, 44, 29, 42]
abbrev dktX7_folded_0 : List UInt8 := dkwX7_folded_0 ++ dktX7_folded_1
theorem dksX7_folded_0 : cX7_folded.data.toList.drop 0 = dktX7_folded_0 := by decide +kernel
theorem dksX7_folded_1 : cX7_folded.data.toList.drop 22 = dktX7_folded_1 := dk_seg dksX7_folded_0 22 rfl rfl
theorem dksX7_folded_2 : cX7_folded.data.toList.drop 44 = dktX7_folded_2 := dk_seg dksX7_folded_1 22 rfl rfl
theorem dX7_folded_0 : decode cX7_folded 0 = .ok (.aload_n 0, 1) := dk_42 (dk_at dksX7_folded_0 0 rfl rfl)
theorem dX7_folded_1 : decode cX7_folded 1 = .ok (.getfield 13, 3) := dk_180 0 13 (dk_at dksX7_folded_0 1 rfl rfl)
theorem dX7_folded_4 : decode cX7_folded 4 = .ok (.arraylength, 1) := dk_190 (dk_at dksX7_folded_0 4 rfl rfl)
theorem dX7_folded_5 : decode cX7_folded 5 = .ok (.iconst 2, 1) := dk_5 (dk_at dksX7_folded_0 5 rfl rfl)
theorem dX7_folded_6 : decode cX7_folded 6 = .ok (.idiv, 1) := dk_108 (dk_at dksX7_folded_0 6 rfl rfl)
theorem dX7_folded_7 : decode cX7_folded 7 = .ok (.istore_n 1, 1) := dk_60 (dk_at dksX7_folded_0 7 rfl rfl)
theorem dX7_folded_8 : decode cX7_folded 8 = .ok (.iload_n 1, 1) := dk_27 (dk_at dksX7_folded_0 8 rfl rfl)
theorem dX7_folded_9 : decode cX7_folded 9 = .ok (.newarray .int, 2) := dk_188_10 (dk_at dksX7_folded_0 9 rfl rfl)
theorem dX7_folded_11 : decode cX7_folded 11 = .ok (.astore_n 2, 1) := dk_77 (dk_at dksX7_folded_0 11 rfl rfl)
theorem dX7_folded_12 : decode cX7_folded 12 = .ok (.iconst 0, 1) := dk_3 (dk_at dksX7_folded_0 12 rfl rfl)
theorem dX7_folded_13 : decode cX7_folded 13 = .ok (.istore_n 3, 1) := dk_62 (dk_at dksX7_folded_0 13 rfl rfl)
theorem dX7_folded_14 : decode cX7_folded 14 = .ok (.iload_n 3, 1) := dk_29 (dk_at dksX7_folded_0 14 rfl rfl)
theorem dX7_folded_15 : decode cX7_folded 15 = .ok (.iload_n 1, 1) := dk_27 (dk_at dksX7_folded_0 15 rfl rfl)
theorem dX7_folded_16 : decode cX7_folded 16 = .ok (.if_icmp .ge 31, 3) := dk_162 0 31 (dk_at dksX7_folded_0 16 rfl rfl)
theorem dX7_folded_19 : decode cX7_folded 19 = .ok (.aload_n 2, 1) := dk_44 (dk_at dksX7_folded_0 19 rfl rfl)
theorem dX7_folded_20 : decode cX7_folded 20 = .ok (.iload_n 3, 1) := dk_29 (dk_at dksX7_folded_0 20 rfl rfl)
theorem dX7_folded_21 : decode cX7_folded 21 = .ok (.aload_n 0, 1) := dk_42 (dk_at dksX7_folded_0 21 rfl rfl)
theorem dX7_folded_22 : decode cX7_folded 22 = .ok (.getfield 13, 3) := dk_180 0 13 (dk_at dksX7_folded_1 0 rfl rfl)
theorem dX7_folded_25 : decode cX7_folded 25 = .ok (.iload_n 3, 1) := dk_29 (dk_at dksX7_folded_1 3 rfl rfl)
theorem dX7_folded_26 : decode cX7_folded 26 = .ok (.iaload, 1) := dk_46 (dk_at dksX7_folded_1 4 rfl rfl)
theorem dX7_folded_27 : decode cX7_folded 27 = .ok (.aload_n 0, 1) := dk_42 (dk_at dksX7_folded_1 5 rfl rfl)
theorem dX7_folded_28 : decode cX7_folded 28 = .ok (.getfield 13, 3) := dk_180 0 13 (dk_at dksX7_folded_1 6 rfl rfl)
theorem dX7_folded_31 : decode cX7_folded 31 = .ok (.iload_n 3, 1) := dk_29 (dk_at dksX7_folded_1 9 rfl rfl)
theorem dX7_folded_32 : decode cX7_folded 32 = .ok (.iload_n 1, 1) := dk_27 (dk_at dksX7_folded_1 10 rfl rfl)
theorem dX7_folded_33 : decode cX7_folded 33 = .ok (.iadd, 1) := dk_96 (dk_at dksX7_folded_1 11 rfl rfl)
theorem dX7_folded_34 : decode cX7_folded 34 = .ok (.iaload, 1) := dk_46 (dk_at dksX7_folded_1 12 rfl rfl)
theorem dX7_folded_35 : decode cX7_folded 35 = .ok (.iadd, 1) := dk_96 (dk_at dksX7_folded_1 13 rfl rfl)
theorem dX7_folded_36 : decode cX7_folded 36 = .ok (.iconst 2, 1) := dk_5 (dk_at dksX7_folded_1 14 rfl rfl)
theorem dX7_folded_37 : decode cX7_folded 37 = .ok (.invokestatic 83, 3) := dk_184 0 83 (dk_at dksX7_folded_1 15 rfl rfl)
theorem dX7_folded_40 : decode cX7_folded 40 = .ok (.iastore, 1) := dk_79 (dk_at dksX7_folded_1 18 rfl rfl)
theorem dX7_folded_41 : decode cX7_folded 41 = .ok (.iinc 3 1, 3) := dk_132 3 1 (dk_at dksX7_folded_1 19 rfl rfl)
theorem dX7_folded_44 : decode cX7_folded 44 = .ok (.goto (-30), 3) := dk_167 255 226 (dk_at dksX7_folded_2 0 rfl rfl)
theorem dX7_folded_47 : decode cX7_folded 47 = .ok (.aload_n 2, 1) := dk_44 (dk_at dksX7_folded_2 3 rfl rfl)
theorem dX7_folded_48 : decode cX7_folded 48 = .ok (.areturn, 1) := dk_176 (dk_at dksX7_folded_2 4 rfl rfl)

