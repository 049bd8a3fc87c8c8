-- ===== PART A: goes FIRST, ahead of the names: the tables' words, and 'selects' of the private methods out of them =====
/-- a private method of a class that the tables say can be made, by its rows of tables_1 -/
def lw_okq (q : MethodName × Nat) : Prop := (q.1.cls ≠ "java/lang/invoke/MethodHandle" ∧ q.1.cls ≠ "java/lang/invoke/VarHandle") ∧ Cond.instantiable q.1.cls q.2 ∈ tables_1 ∧ Cond.privateMethod q.1 ∈ tables_1 ∧ Cond.instanceMethod q.1 ∈ tables_1
set_option maxRecDepth 100000
theorem lw_t1 {w : Cond} (h : w ∈ tables_1_1) : w ∈ tables_1 := List.mem_append_left _ h
theorem lw_t2 {w : Cond} (h : w ∈ tables_1_2) : w ∈ tables_1 := List.mem_append_right _ (List.mem_append_left _ h)
theorem lw_t3 {w : Cond} (h : w ∈ tables_1_3) : w ∈ tables_1 := List.mem_append_right _ (List.mem_append_right _ (List.mem_append_left _ h))
theorem lw_t4 {w : Cond} (h : w ∈ tables_1_4) : w ∈ tables_1 := List.mem_append_right _ (List.mem_append_right _ (List.mem_append_right _ (List.mem_append_left _ h)))
theorem lw_t5 {w : Cond} (h : w ∈ tables_1_5) : w ∈ tables_1 := List.mem_append_right _ (List.mem_append_right _ (List.mem_append_right _ (List.mem_append_right _ (List.mem_append_left _ h))))
theorem lw_t6 {w : Cond} (h : w ∈ tables_1_6) : w ∈ tables_1 := List.mem_append_right _ (List.mem_append_right _ (List.mem_append_right _ (List.mem_append_right _ (List.mem_append_right _ (List.mem_append_left _ h)))))
theorem lw_t7 {w : Cond} (h : w ∈ tables_1_7) : w ∈ tables_1 := List.mem_append_right _ (List.mem_append_right _ (List.mem_append_right _ (List.mem_append_right _ (List.mem_append_right _ (List.mem_append_right _ (List.mem_append_left _ h))))))
theorem lw_t8 {w : Cond} (h : w ∈ tables_1_8) : w ∈ tables_1 := List.mem_append_right _ (List.mem_append_right _ (List.mem_append_right _ (List.mem_append_right _ (List.mem_append_right _ (List.mem_append_right _ (List.mem_append_right _ (List.mem_append_left _ h)))))))
theorem lw_t9 {w : Cond} (h : w ∈ tables_1_9) : w ∈ tables_1 := List.mem_append_right _ (List.mem_append_right _ (List.mem_append_right _ (List.mem_append_right _ (List.mem_append_right _ (List.mem_append_right _ (List.mem_append_right _ (List.mem_append_right _ (List.mem_append_left _ h))))))))
theorem lw_t10 {w : Cond} (h : w ∈ tables_1_10) : w ∈ tables_1 := List.mem_append_right _ (List.mem_append_right _ (List.mem_append_right _ (List.mem_append_right _ (List.mem_append_right _ (List.mem_append_right _ (List.mem_append_right _ (List.mem_append_right _ (List.mem_append_right _ (List.mem_append_left _ h)))))))))
theorem lw_t11 {w : Cond} (h : w ∈ tables_1_11) : w ∈ tables_1 := List.mem_append_right _ (List.mem_append_right _ (List.mem_append_right _ (List.mem_append_right _ (List.mem_append_right _ (List.mem_append_right _ (List.mem_append_right _ (List.mem_append_right _ (List.mem_append_right _ (List.mem_append_right _ (List.mem_append_left _ h))))))))))
theorem lw_t12 {w : Cond} (h : w ∈ tables_1_12) : w ∈ tables_1 := List.mem_append_right _ (List.mem_append_right _ (List.mem_append_right _ (List.mem_append_right _ (List.mem_append_right _ (List.mem_append_right _ (List.mem_append_right _ (List.mem_append_right _ (List.mem_append_right _ (List.mem_append_right _ (List.mem_append_right _ h))))))))))
theorem lw_p0 : lw_okq (⟨"WalshAnalyzer", "bufferText", "()Ljava/lang/String;"⟩, 8) := ⟨⟨by decide +kernel, by decide +kernel⟩, lw_t1 (List.mem_of_getElem? (i := 47) rfl), lw_t1 (List.mem_of_getElem? (i := 195) rfl), lw_t1 (List.mem_of_getElem? (i := 196) rfl)⟩
theorem lw_p1 : lw_okq (⟨"java/lang/Throwable", "fillInStackTrace", "(I)Ljava/lang/Throwable;"⟩, 6) := ⟨⟨by decide +kernel, by decide +kernel⟩, lw_t2 (List.mem_of_getElem? (i := 162) rfl), lw_t2 (List.mem_of_getElem? (i := 160) rfl), lw_t2 (List.mem_of_getElem? (i := 161) rfl)⟩
theorem lw_p2 : lw_okq (⟨"java/util/ArrayList", "add", "(Ljava/lang/Object;[Ljava/lang/Object;I)V"⟩, 3) := ⟨⟨by decide +kernel, by decide +kernel⟩, lw_t1 (List.mem_of_getElem? (i := 61) rfl), lw_t5 (List.mem_of_getElem? (i := 95) rfl), lw_t5 (List.mem_of_getElem? (i := 96) rfl)⟩
theorem lw_p3 : lw_okq (⟨"java/util/ArrayList", "grow", "()[Ljava/lang/Object;"⟩, 3) := ⟨⟨by decide +kernel, by decide +kernel⟩, lw_t1 (List.mem_of_getElem? (i := 61) rfl), lw_t5 (List.mem_of_getElem? (i := 99) rfl), lw_t5 (List.mem_of_getElem? (i := 100) rfl)⟩
theorem lw_p4 : lw_okq (⟨"java/util/ArrayList", "grow", "(I)[Ljava/lang/Object;"⟩, 3) := ⟨⟨by decide +kernel, by decide +kernel⟩, lw_t1 (List.mem_of_getElem? (i := 61) rfl), lw_t5 (List.mem_of_getElem? (i := 103) rfl), lw_t5 (List.mem_of_getElem? (i := 104) rfl)⟩
theorem lw_p5 : lw_okq (⟨"WalshAnalyzer", "appendWords", "([I)V"⟩, 8) := ⟨⟨by decide +kernel, by decide +kernel⟩, lw_t1 (List.mem_of_getElem? (i := 47) rfl), lw_t6 (List.mem_of_getElem? (i := 45) rfl), lw_t6 (List.mem_of_getElem? (i := 46) rfl)⟩
theorem lw_p6 : lw_okq (⟨"WalshAnalyzer$Parser", "advance", "()V"⟩, 10) := ⟨⟨by decide +kernel, by decide +kernel⟩, lw_t6 (List.mem_of_getElem? (i := 74) rfl), lw_t6 (List.mem_of_getElem? (i := 120) rfl), lw_t6 (List.mem_of_getElem? (i := 121) rfl)⟩
theorem lw_p7 : lw_okq (⟨"WalshAnalyzer$Parser", "isNext", "(II)Z"⟩, 10) := ⟨⟨by decide +kernel, by decide +kernel⟩, lw_t6 (List.mem_of_getElem? (i := 74) rfl), lw_t6 (List.mem_of_getElem? (i := 124) rfl), lw_t6 (List.mem_of_getElem? (i := 125) rfl)⟩
theorem lw_p8 : lw_okq (⟨"WalshAnalyzer$Parser", "readWord", "()V"⟩, 10) := ⟨⟨by decide +kernel, by decide +kernel⟩, lw_t6 (List.mem_of_getElem? (i := 74) rfl), lw_t6 (List.mem_of_getElem? (i := 129) rfl), lw_t6 (List.mem_of_getElem? (i := 130) rfl)⟩
theorem lw_p9 : lw_okq (⟨"WalshAnalyzer$Parser", "check", "(ZI)V"⟩, 10) := ⟨⟨by decide +kernel, by decide +kernel⟩, lw_t6 (List.mem_of_getElem? (i := 74) rfl), lw_t6 (List.mem_of_getElem? (i := 137) rfl), lw_t6 (List.mem_of_getElem? (i := 138) rfl)⟩
theorem lw_p10 : lw_okq (⟨"WalshAnalyzer$Parser", "readNumber", "()V"⟩, 10) := ⟨⟨by decide +kernel, by decide +kernel⟩, lw_t6 (List.mem_of_getElem? (i := 74) rfl), lw_t6 (List.mem_of_getElem? (i := 167) rfl), lw_t6 (List.mem_of_getElem? (i := 168) rfl)⟩
theorem lw_p11 : lw_okq (⟨"WalshAnalyzer$Parser", "parseRecording", "()V"⟩, 10) := ⟨⟨by decide +kernel, by decide +kernel⟩, lw_t6 (List.mem_of_getElem? (i := 74) rfl), lw_t6 (List.mem_of_getElem? (i := 177) rfl), lw_t6 (List.mem_of_getElem? (i := 178) rfl)⟩
theorem lw_p12 : lw_okq (⟨"WalshAnalyzer$Parser", "parseSample", "()V"⟩, 10) := ⟨⟨by decide +kernel, by decide +kernel⟩, lw_t6 (List.mem_of_getElem? (i := 74) rfl), lw_t6 (List.mem_of_getElem? (i := 190) rfl), lw_t6 (List.mem_of_getElem? (i := 191) rfl)⟩
theorem lw_p13 : lw_okq (⟨"WalshAnalyzer", "get", "(I)LWalshAnalyzer$Recording;"⟩, 8) := ⟨⟨by decide +kernel, by decide +kernel⟩, lw_t1 (List.mem_of_getElem? (i := 47) rfl), lw_t7 (List.mem_of_getElem? (i := 15) rfl), lw_t7 (List.mem_of_getElem? (i := 16) rfl)⟩
theorem lw_p14 : lw_okq (⟨"WalshAnalyzer", "get", "(II)LWalshAnalyzer$Recording;"⟩, 8) := ⟨⟨by decide +kernel, by decide +kernel⟩, lw_t1 (List.mem_of_getElem? (i := 47) rfl), lw_t7 (List.mem_of_getElem? (i := 57) rfl), lw_t7 (List.mem_of_getElem? (i := 58) rfl)⟩
theorem lw_p15 : lw_okq (⟨"WalshAnalyzer$Recording", "copyOfSamples", "()[I"⟩, 4) := ⟨⟨by decide +kernel, by decide +kernel⟩, lw_t6 (List.mem_of_getElem? (i := 198) rfl), lw_t7 (List.mem_of_getElem? (i := 198) rfl), lw_t7 (List.mem_of_getElem? (i := 199) rfl)⟩
def lw_privs_1 : List (MethodName × Nat) := [(⟨"WalshAnalyzer", "bufferText", "()Ljava/lang/String;"⟩, 8), (⟨"java/lang/Throwable", "fillInStackTrace", "(I)Ljava/lang/Throwable;"⟩, 6), (⟨"java/util/ArrayList", "add", "(Ljava/lang/Object;[Ljava/lang/Object;I)V"⟩, 3), (⟨"java/util/ArrayList", "grow", "()[Ljava/lang/Object;"⟩, 3), (⟨"java/util/ArrayList", "grow", "(I)[Ljava/lang/Object;"⟩, 3), (⟨"WalshAnalyzer", "appendWords", "([I)V"⟩, 8), (⟨"WalshAnalyzer$Parser", "advance", "()V"⟩, 10), (⟨"WalshAnalyzer$Parser", "isNext", "(II)Z"⟩, 10), (⟨"WalshAnalyzer$Parser", "readWord", "()V"⟩, 10), (⟨"WalshAnalyzer$Parser", "check", "(ZI)V"⟩, 10), (⟨"WalshAnalyzer$Parser", "readNumber", "()V"⟩, 10), (⟨"WalshAnalyzer$Parser", "parseRecording", "()V"⟩, 10), (⟨"WalshAnalyzer$Parser", "parseSample", "()V"⟩, 10), (⟨"WalshAnalyzer", "get", "(I)LWalshAnalyzer$Recording;"⟩, 8), (⟨"WalshAnalyzer", "get", "(II)LWalshAnalyzer$Recording;"⟩, 8), (⟨"WalshAnalyzer$Recording", "copyOfSamples", "()[I"⟩, 4)]
theorem lw_r1 : ∀ q ∈ lw_privs_1, lw_okq q := List.forall_mem_cons.mpr ⟨lw_p0, List.forall_mem_cons.mpr ⟨lw_p1, List.forall_mem_cons.mpr ⟨lw_p2, List.forall_mem_cons.mpr ⟨lw_p3, List.forall_mem_cons.mpr ⟨lw_p4, List.forall_mem_cons.mpr ⟨lw_p5, List.forall_mem_cons.mpr ⟨lw_p6, List.forall_mem_cons.mpr ⟨lw_p7, List.forall_mem_cons.mpr ⟨lw_p8, List.forall_mem_cons.mpr ⟨lw_p9, List.forall_mem_cons.mpr ⟨lw_p10, List.forall_mem_cons.mpr ⟨lw_p11, List.forall_mem_cons.mpr ⟨lw_p12, List.forall_mem_cons.mpr ⟨lw_p13, List.forall_mem_cons.mpr ⟨lw_p14, List.forall_mem_cons.mpr ⟨lw_p15, fun _ h => absurd h List.not_mem_nil⟩⟩⟩⟩⟩⟩⟩⟩⟩⟩⟩⟩⟩⟩⟩⟩
theorem lw_p16 : lw_okq (⟨"WalshAnalyzer$Recording", "isAbove", "(II)Z"⟩, 4) := ⟨⟨by decide +kernel, by decide +kernel⟩, lw_t6 (List.mem_of_getElem? (i := 198) rfl), lw_t8 (List.mem_of_getElem? (i := 25) rfl), lw_t8 (List.mem_of_getElem? (i := 26) rfl)⟩
theorem lw_p17 : lw_okq (⟨"WalshAnalyzer$Recording", "isHigher", "(II)Z"⟩, 4) := ⟨⟨by decide +kernel, by decide +kernel⟩, lw_t6 (List.mem_of_getElem? (i := 198) rfl), lw_t8 (List.mem_of_getElem? (i := 55) rfl), lw_t8 (List.mem_of_getElem? (i := 56) rfl)⟩
theorem lw_p18 : lw_okq (⟨"WalshAnalyzer", "getSameLength", "(II)LWalshAnalyzer$Recording;"⟩, 8) := ⟨⟨by decide +kernel, by decide +kernel⟩, lw_t1 (List.mem_of_getElem? (i := 47) rfl), lw_t8 (List.mem_of_getElem? (i := 98) rfl), lw_t8 (List.mem_of_getElem? (i := 99) rfl)⟩
theorem lw_p19 : lw_okq (⟨"WalshAnalyzer$Recording", "lambda$synthesisOfPeaks$0", "(II)I"⟩, 4) := ⟨⟨by decide +kernel, by decide +kernel⟩, lw_t6 (List.mem_of_getElem? (i := 198) rfl), lw_t8 (List.mem_of_getElem? (i := 171) rfl), lw_t8 (List.mem_of_getElem? (i := 172) rfl)⟩
theorem lw_p20 : lw_okq (⟨"WalshAnalyzer", "newName", "()LWalshAnalyzer$Name;"⟩, 8) := ⟨⟨by decide +kernel, by decide +kernel⟩, lw_t1 (List.mem_of_getElem? (i := 47) rfl), lw_t8 (List.mem_of_getElem? (i := 205) rfl), lw_t8 (List.mem_of_getElem? (i := 206) rfl)⟩
theorem lw_p21 : lw_okq (⟨"WalshAnalyzer", "add", "(LWalshAnalyzer$Name;[I)I"⟩, 8) := ⟨⟨by decide +kernel, by decide +kernel⟩, lw_t1 (List.mem_of_getElem? (i := 47) rfl), lw_t8 (List.mem_of_getElem? (i := 209) rfl), lw_t8 (List.mem_of_getElem? (i := 210) rfl)⟩
theorem lw_p22 : lw_okq (⟨"WalshAnalyzer", "beginEdit", "()V"⟩, 8) := ⟨⟨by decide +kernel, by decide +kernel⟩, lw_t1 (List.mem_of_getElem? (i := 47) rfl), lw_t8 (List.mem_of_getElem? (i := 214) rfl), lw_t8 (List.mem_of_getElem? (i := 215) rfl)⟩
theorem lw_p23 : lw_okq (⟨"java/util/ArrayDeque", "grow", "(I)V"⟩, 3) := ⟨⟨by decide +kernel, by decide +kernel⟩, lw_t1 (List.mem_of_getElem? (i := 131) rfl), lw_t9 (List.mem_of_getElem? (i := 5) rfl), lw_t9 (List.mem_of_getElem? (i := 6) rfl)⟩
theorem lw_p24 : lw_okq (⟨"java/util/ArrayDeque", "newCapacity", "(II)I"⟩, 3) := ⟨⟨by decide +kernel, by decide +kernel⟩, lw_t1 (List.mem_of_getElem? (i := 131) rfl), lw_t9 (List.mem_of_getElem? (i := 10) rfl), lw_t9 (List.mem_of_getElem? (i := 11) rfl)⟩
theorem lw_p25 : lw_okq (⟨"java/util/ArrayList", "fastRemove", "([Ljava/lang/Object;I)V"⟩, 3) := ⟨⟨by decide +kernel, by decide +kernel⟩, lw_t1 (List.mem_of_getElem? (i := 61) rfl), lw_t9 (List.mem_of_getElem? (i := 83) rfl), lw_t9 (List.mem_of_getElem? (i := 84) rfl)⟩
theorem lw_p26 : lw_okq (⟨"WalshAnalyzer", "replace", "(I[I)I"⟩, 8) := ⟨⟨by decide +kernel, by decide +kernel⟩, lw_t1 (List.mem_of_getElem? (i := 47) rfl), lw_t9 (List.mem_of_getElem? (i := 99) rfl), lw_t9 (List.mem_of_getElem? (i := 100) rfl)⟩
theorem lw_p27 : lw_okq (⟨"WalshAnalyzer$Recording", "lambda$synthesisAbove$2", "(II)I"⟩, 4) := ⟨⟨by decide +kernel, by decide +kernel⟩, lw_t6 (List.mem_of_getElem? (i := 198) rfl), lw_t9 (List.mem_of_getElem? (i := 141) rfl), lw_t9 (List.mem_of_getElem? (i := 142) rfl)⟩
theorem lw_p28 : lw_okq (⟨"WalshAnalyzer$Recording", "lambda$synthesisOfBand$1", "(IIII)I"⟩, 4) := ⟨⟨by decide +kernel, by decide +kernel⟩, lw_t6 (List.mem_of_getElem? (i := 198) rfl), lw_t9 (List.mem_of_getElem? (i := 155) rfl), lw_t9 (List.mem_of_getElem? (i := 156) rfl)⟩
theorem lw_p29 : lw_okq (⟨"WalshAnalyzer", "format", "(Ljava/lang/StringBuilder;)I"⟩, 8) := ⟨⟨by decide +kernel, by decide +kernel⟩, lw_t1 (List.mem_of_getElem? (i := 47) rfl), lw_t10 (List.mem_of_getElem? (i := 66) rfl), lw_t10 (List.mem_of_getElem? (i := 67) rfl)⟩
theorem lw_p30 : lw_okq (⟨"WalshAnalyzerModel", "good", "(Z)Z"⟩, 21) := ⟨⟨by decide +kernel, by decide +kernel⟩, lw_t10 (List.mem_of_getElem? (i := 85) rfl), lw_t10 (List.mem_of_getElem? (i := 163) rfl), lw_t10 (List.mem_of_getElem? (i := 164) rfl)⟩
theorem lw_p31 : lw_okq (⟨"WalshAnalyzerModel", "take", "(I)V"⟩, 21) := ⟨⟨by decide +kernel, by decide +kernel⟩, lw_t10 (List.mem_of_getElem? (i := 85) rfl), lw_t10 (List.mem_of_getElem? (i := 167) rfl), lw_t10 (List.mem_of_getElem? (i := 168) rfl)⟩
def lw_privs_2 : List (MethodName × Nat) := [(⟨"WalshAnalyzer$Recording", "isAbove", "(II)Z"⟩, 4), (⟨"WalshAnalyzer$Recording", "isHigher", "(II)Z"⟩, 4), (⟨"WalshAnalyzer", "getSameLength", "(II)LWalshAnalyzer$Recording;"⟩, 8), (⟨"WalshAnalyzer$Recording", "lambda$synthesisOfPeaks$0", "(II)I"⟩, 4), (⟨"WalshAnalyzer", "newName", "()LWalshAnalyzer$Name;"⟩, 8), (⟨"WalshAnalyzer", "add", "(LWalshAnalyzer$Name;[I)I"⟩, 8), (⟨"WalshAnalyzer", "beginEdit", "()V"⟩, 8), (⟨"java/util/ArrayDeque", "grow", "(I)V"⟩, 3), (⟨"java/util/ArrayDeque", "newCapacity", "(II)I"⟩, 3), (⟨"java/util/ArrayList", "fastRemove", "([Ljava/lang/Object;I)V"⟩, 3), (⟨"WalshAnalyzer", "replace", "(I[I)I"⟩, 8), (⟨"WalshAnalyzer$Recording", "lambda$synthesisAbove$2", "(II)I"⟩, 4), (⟨"WalshAnalyzer$Recording", "lambda$synthesisOfBand$1", "(IIII)I"⟩, 4), (⟨"WalshAnalyzer", "format", "(Ljava/lang/StringBuilder;)I"⟩, 8), (⟨"WalshAnalyzerModel", "good", "(Z)Z"⟩, 21), (⟨"WalshAnalyzerModel", "take", "(I)V"⟩, 21)]
theorem lw_r2 : ∀ q ∈ lw_privs_2, lw_okq q := List.forall_mem_cons.mpr ⟨lw_p16, List.forall_mem_cons.mpr ⟨lw_p17, List.forall_mem_cons.mpr ⟨lw_p18, List.forall_mem_cons.mpr ⟨lw_p19, List.forall_mem_cons.mpr ⟨lw_p20, List.forall_mem_cons.mpr ⟨lw_p21, List.forall_mem_cons.mpr ⟨lw_p22, List.forall_mem_cons.mpr ⟨lw_p23, List.forall_mem_cons.mpr ⟨lw_p24, List.forall_mem_cons.mpr ⟨lw_p25, List.forall_mem_cons.mpr ⟨lw_p26, List.forall_mem_cons.mpr ⟨lw_p27, List.forall_mem_cons.mpr ⟨lw_p28, List.forall_mem_cons.mpr ⟨lw_p29, List.forall_mem_cons.mpr ⟨lw_p30, List.forall_mem_cons.mpr ⟨lw_p31, fun _ h => absurd h List.not_mem_nil⟩⟩⟩⟩⟩⟩⟩⟩⟩⟩⟩⟩⟩⟩⟩⟩
theorem lw_p32 : lw_okq (⟨"WalshAnalyzerModel", "putAside", "()V"⟩, 21) := ⟨⟨by decide +kernel, by decide +kernel⟩, lw_t10 (List.mem_of_getElem? (i := 85) rfl), lw_t10 (List.mem_of_getElem? (i := 182) rfl), lw_t10 (List.mem_of_getElem? (i := 183) rfl)⟩
theorem lw_p33 : lw_okq (⟨"WalshAnalyzerModel", "wipe", "(II)V"⟩, 21) := ⟨⟨by decide +kernel, by decide +kernel⟩, lw_t10 (List.mem_of_getElem? (i := 85) rfl), lw_t10 (List.mem_of_getElem? (i := 186) rfl), lw_t10 (List.mem_of_getElem? (i := 187) rfl)⟩
theorem lw_p34 : lw_okq (⟨"WalshAnalyzerModel", "isText", "()Z"⟩, 21) := ⟨⟨by decide +kernel, by decide +kernel⟩, lw_t10 (List.mem_of_getElem? (i := 85) rfl), lw_t10 (List.mem_of_getElem? (i := 190) rfl), lw_t10 (List.mem_of_getElem? (i := 191) rfl)⟩
theorem lw_p35 : lw_okq (⟨"WalshAnalyzerModel", "advance", "()Z"⟩, 21) := ⟨⟨by decide +kernel, by decide +kernel⟩, lw_t10 (List.mem_of_getElem? (i := 85) rfl), lw_t10 (List.mem_of_getElem? (i := 194) rfl), lw_t10 (List.mem_of_getElem? (i := 195) rfl)⟩
theorem lw_p36 : lw_okq (⟨"WalshAnalyzerModel", "byteAt", "(I)I"⟩, 21) := ⟨⟨by decide +kernel, by decide +kernel⟩, lw_t10 (List.mem_of_getElem? (i := 85) rfl), lw_t10 (List.mem_of_getElem? (i := 198) rfl), lw_t10 (List.mem_of_getElem? (i := 199) rfl)⟩
theorem lw_p37 : lw_okq (⟨"WalshAnalyzerModel", "statement", "()Z"⟩, 21) := ⟨⟨by decide +kernel, by decide +kernel⟩, lw_t10 (List.mem_of_getElem? (i := 85) rfl), lw_t10 (List.mem_of_getElem? (i := 202) rfl), lw_t10 (List.mem_of_getElem? (i := 203) rfl)⟩
theorem lw_p38 : lw_okq (⟨"WalshAnalyzerModel", "isBell", "()Z"⟩, 21) := ⟨⟨by decide +kernel, by decide +kernel⟩, lw_t10 (List.mem_of_getElem? (i := 85) rfl), lw_t10 (List.mem_of_getElem? (i := 206) rfl), lw_t10 (List.mem_of_getElem? (i := 207) rfl)⟩
theorem lw_p39 : lw_okq (⟨"WalshAnalyzerModel", "fail", "(I)Z"⟩, 21) := ⟨⟨by decide +kernel, by decide +kernel⟩, lw_t10 (List.mem_of_getElem? (i := 85) rfl), lw_t10 (List.mem_of_getElem? (i := 210) rfl), lw_t10 (List.mem_of_getElem? (i := 211) rfl)⟩
theorem lw_p40 : lw_okq (⟨"WalshAnalyzerModel", "named", "(II)I"⟩, 21) := ⟨⟨by decide +kernel, by decide +kernel⟩, lw_t10 (List.mem_of_getElem? (i := 85) rfl), lw_t10 (List.mem_of_getElem? (i := 214) rfl), lw_t10 (List.mem_of_getElem? (i := 215) rfl)⟩
theorem lw_p41 : lw_okq (⟨"WalshAnalyzerModel", "putName", "(II)V"⟩, 21) := ⟨⟨by decide +kernel, by decide +kernel⟩, lw_t10 (List.mem_of_getElem? (i := 85) rfl), lw_t10 (List.mem_of_getElem? (i := 221) rfl), lw_t10 (List.mem_of_getElem? (i := 222) rfl)⟩
theorem lw_p42 : lw_okq (⟨"WalshAnalyzerModel", "sampleHere", "(I)Z"⟩, 21) := ⟨⟨by decide +kernel, by decide +kernel⟩, lw_t10 (List.mem_of_getElem? (i := 85) rfl), lw_t10 (List.mem_of_getElem? (i := 225) rfl), lw_t10 (List.mem_of_getElem? (i := 226) rfl)⟩
theorem lw_p43 : lw_okq (⟨"WalshAnalyzerModel", "layBack", "()V"⟩, 21) := ⟨⟨by decide +kernel, by decide +kernel⟩, lw_t10 (List.mem_of_getElem? (i := 85) rfl), lw_t10 (List.mem_of_getElem? (i := 232) rfl), lw_t10 (List.mem_of_getElem? (i := 233) rfl)⟩
theorem lw_p44 : lw_okq (⟨"WalshAnalyzerModel", "isRecording", "(I)Z"⟩, 21) := ⟨⟨by decide +kernel, by decide +kernel⟩, lw_t10 (List.mem_of_getElem? (i := 85) rfl), lw_t11 (List.mem_of_getElem? (i := 12) rfl), lw_t11 (List.mem_of_getElem? (i := 13) rfl)⟩
theorem lw_p45 : lw_okq (⟨"WalshAnalyzerModel", "size", "(I)I"⟩, 21) := ⟨⟨by decide +kernel, by decide +kernel⟩, lw_t10 (List.mem_of_getElem? (i := 85) rfl), lw_t11 (List.mem_of_getElem? (i := 16) rfl), lw_t11 (List.mem_of_getElem? (i := 17) rfl)⟩
theorem lw_p46 : lw_okq (⟨"WalshAnalyzerModel", "isPlace", "(II)Z"⟩, 21) := ⟨⟨by decide +kernel, by decide +kernel⟩, lw_t10 (List.mem_of_getElem? (i := 85) rfl), lw_t11 (List.mem_of_getElem? (i := 32) rfl), lw_t11 (List.mem_of_getElem? (i := 33) rfl)⟩
theorem lw_p47 : lw_okq (⟨"WalshAnalyzerModel", "at", "(II)I"⟩, 21) := ⟨⟨by decide +kernel, by decide +kernel⟩, lw_t10 (List.mem_of_getElem? (i := 85) rfl), lw_t11 (List.mem_of_getElem? (i := 36) rfl), lw_t11 (List.mem_of_getElem? (i := 37) rfl)⟩
def lw_privs_3 : List (MethodName × Nat) := [(⟨"WalshAnalyzerModel", "putAside", "()V"⟩, 21), (⟨"WalshAnalyzerModel", "wipe", "(II)V"⟩, 21), (⟨"WalshAnalyzerModel", "isText", "()Z"⟩, 21), (⟨"WalshAnalyzerModel", "advance", "()Z"⟩, 21), (⟨"WalshAnalyzerModel", "byteAt", "(I)I"⟩, 21), (⟨"WalshAnalyzerModel", "statement", "()Z"⟩, 21), (⟨"WalshAnalyzerModel", "isBell", "()Z"⟩, 21), (⟨"WalshAnalyzerModel", "fail", "(I)Z"⟩, 21), (⟨"WalshAnalyzerModel", "named", "(II)I"⟩, 21), (⟨"WalshAnalyzerModel", "putName", "(II)V"⟩, 21), (⟨"WalshAnalyzerModel", "sampleHere", "(I)Z"⟩, 21), (⟨"WalshAnalyzerModel", "layBack", "()V"⟩, 21), (⟨"WalshAnalyzerModel", "isRecording", "(I)Z"⟩, 21), (⟨"WalshAnalyzerModel", "size", "(I)I"⟩, 21), (⟨"WalshAnalyzerModel", "isPlace", "(II)Z"⟩, 21), (⟨"WalshAnalyzerModel", "at", "(II)I"⟩, 21)]
theorem lw_r3 : ∀ q ∈ lw_privs_3, lw_okq q := List.forall_mem_cons.mpr ⟨lw_p32, List.forall_mem_cons.mpr ⟨lw_p33, List.forall_mem_cons.mpr ⟨lw_p34, List.forall_mem_cons.mpr ⟨lw_p35, List.forall_mem_cons.mpr ⟨lw_p36, List.forall_mem_cons.mpr ⟨lw_p37, List.forall_mem_cons.mpr ⟨lw_p38, List.forall_mem_cons.mpr ⟨lw_p39, List.forall_mem_cons.mpr ⟨lw_p40, List.forall_mem_cons.mpr ⟨lw_p41, List.forall_mem_cons.mpr ⟨lw_p42, List.forall_mem_cons.mpr ⟨lw_p43, List.forall_mem_cons.mpr ⟨lw_p44, List.forall_mem_cons.mpr ⟨lw_p45, List.forall_mem_cons.mpr ⟨lw_p46, List.forall_mem_cons.mpr ⟨lw_p47, fun _ h => absurd h List.not_mem_nil⟩⟩⟩⟩⟩⟩⟩⟩⟩⟩⟩⟩⟩⟩⟩⟩
theorem lw_p48 : lw_okq (⟨"WalshAnalyzerModel", "energyOf", "(I)J"⟩, 21) := ⟨⟨by decide +kernel, by decide +kernel⟩, lw_t10 (List.mem_of_getElem? (i := 85) rfl), lw_t11 (List.mem_of_getElem? (i := 45) rfl), lw_t11 (List.mem_of_getElem? (i := 46) rfl)⟩
theorem lw_p49 : lw_okq (⟨"WalshAnalyzerModel", "good", "(ZZ)Z"⟩, 21) := ⟨⟨by decide +kernel, by decide +kernel⟩, lw_t10 (List.mem_of_getElem? (i := 85) rfl), lw_t11 (List.mem_of_getElem? (i := 61) rfl), lw_t11 (List.mem_of_getElem? (i := 62) rfl)⟩
theorem lw_p50 : lw_okq (⟨"WalshAnalyzerModel", "signs", "(I)I"⟩, 21) := ⟨⟨by decide +kernel, by decide +kernel⟩, lw_t10 (List.mem_of_getElem? (i := 85) rfl), lw_t11 (List.mem_of_getElem? (i := 73) rfl), lw_t11 (List.mem_of_getElem? (i := 74) rfl)⟩
theorem lw_p51 : lw_okq (⟨"WalshAnalyzerModel", "symmetric", "(I)Z"⟩, 21) := ⟨⟨by decide +kernel, by decide +kernel⟩, lw_t10 (List.mem_of_getElem? (i := 85) rfl), lw_t11 (List.mem_of_getElem? (i := 81) rfl), lw_t11 (List.mem_of_getElem? (i := 82) rfl)⟩
theorem lw_p52 : lw_okq (⟨"WalshAnalyzerModel", "sum", "(II)I"⟩, 21) := ⟨⟨by decide +kernel, by decide +kernel⟩, lw_t10 (List.mem_of_getElem? (i := 85) rfl), lw_t11 (List.mem_of_getElem? (i := 112) rfl), lw_t11 (List.mem_of_getElem? (i := 113) rfl)⟩
theorem lw_p53 : lw_okq (⟨"WalshAnalyzerModel", "isBand", "(III)Z"⟩, 21) := ⟨⟨by decide +kernel, by decide +kernel⟩, lw_t10 (List.mem_of_getElem? (i := 85) rfl), lw_t11 (List.mem_of_getElem? (i := 124) rfl), lw_t11 (List.mem_of_getElem? (i := 125) rfl)⟩
theorem lw_p54 : lw_okq (⟨"WalshAnalyzerModel", "band", "(III)J"⟩, 21) := ⟨⟨by decide +kernel, by decide +kernel⟩, lw_t10 (List.mem_of_getElem? (i := 85) rfl), lw_t11 (List.mem_of_getElem? (i := 128) rfl), lw_t11 (List.mem_of_getElem? (i := 129) rfl)⟩
theorem lw_p55 : lw_okq (⟨"WalshAnalyzerModel", "transform", "(I)V"⟩, 21) := ⟨⟨by decide +kernel, by decide +kernel⟩, lw_t10 (List.mem_of_getElem? (i := 85) rfl), lw_t11 (List.mem_of_getElem? (i := 132) rfl), lw_t11 (List.mem_of_getElem? (i := 133) rfl)⟩
theorem lw_p56 : lw_okq (⟨"WalshAnalyzerModel", "strongest", "(II)I"⟩, 21) := ⟨⟨by decide +kernel, by decide +kernel⟩, lw_t10 (List.mem_of_getElem? (i := 85) rfl), lw_t11 (List.mem_of_getElem? (i := 140) rfl), lw_t11 (List.mem_of_getElem? (i := 141) rfl)⟩
theorem lw_p57 : lw_okq (⟨"WalshAnalyzerModel", "above", "(II)I"⟩, 21) := ⟨⟨by decide +kernel, by decide +kernel⟩, lw_t10 (List.mem_of_getElem? (i := 85) rfl), lw_t11 (List.mem_of_getElem? (i := 152) rfl), lw_t11 (List.mem_of_getElem? (i := 153) rfl)⟩
theorem lw_p58 : lw_okq (⟨"WalshAnalyzerModel", "coefficientEnergy", "(I)J"⟩, 21) := ⟨⟨by decide +kernel, by decide +kernel⟩, lw_t10 (List.mem_of_getElem? (i := 85) rfl), lw_t11 (List.mem_of_getElem? (i := 160) rfl), lw_t11 (List.mem_of_getElem? (i := 161) rfl)⟩
theorem lw_p59 : lw_okq (⟨"WalshAnalyzerModel", "findPeaks", "(I)V"⟩, 21) := ⟨⟨by decide +kernel, by decide +kernel⟩, lw_t10 (List.mem_of_getElem? (i := 85) rfl), lw_t11 (List.mem_of_getElem? (i := 168) rfl), lw_t11 (List.mem_of_getElem? (i := 169) rfl)⟩
theorem lw_p60 : lw_okq (⟨"WalshAnalyzerModel", "isAmong", "(II)Z"⟩, 21) := ⟨⟨by decide +kernel, by decide +kernel⟩, lw_t10 (List.mem_of_getElem? (i := 85) rfl), lw_t11 (List.mem_of_getElem? (i := 172) rfl), lw_t11 (List.mem_of_getElem? (i := 173) rfl)⟩
theorem lw_p61 : lw_okq (⟨"WalshAnalyzerModel", "needed", "(II)I"⟩, 21) := ⟨⟨by decide +kernel, by decide +kernel⟩, lw_t10 (List.mem_of_getElem? (i := 85) rfl), lw_t11 (List.mem_of_getElem? (i := 184) rfl), lw_t11 (List.mem_of_getElem? (i := 185) rfl)⟩
theorem lw_p62 : lw_okq (⟨"WalshAnalyzerModel", "areRecordings", "(II)Z"⟩, 21) := ⟨⟨by decide +kernel, by decide +kernel⟩, lw_t10 (List.mem_of_getElem? (i := 85) rfl), lw_t11 (List.mem_of_getElem? (i := 197) rfl), lw_t11 (List.mem_of_getElem? (i := 198) rfl)⟩
theorem lw_p63 : lw_okq (⟨"WalshAnalyzerModel", "areAlike", "(II)Z"⟩, 21) := ⟨⟨by decide +kernel, by decide +kernel⟩, lw_t10 (List.mem_of_getElem? (i := 85) rfl), lw_t11 (List.mem_of_getElem? (i := 201) rfl), lw_t11 (List.mem_of_getElem? (i := 202) rfl)⟩
def lw_privs_4 : List (MethodName × Nat) := [(⟨"WalshAnalyzerModel", "energyOf", "(I)J"⟩, 21), (⟨"WalshAnalyzerModel", "good", "(ZZ)Z"⟩, 21), (⟨"WalshAnalyzerModel", "signs", "(I)I"⟩, 21), (⟨"WalshAnalyzerModel", "symmetric", "(I)Z"⟩, 21), (⟨"WalshAnalyzerModel", "sum", "(II)I"⟩, 21), (⟨"WalshAnalyzerModel", "isBand", "(III)Z"⟩, 21), (⟨"WalshAnalyzerModel", "band", "(III)J"⟩, 21), (⟨"WalshAnalyzerModel", "transform", "(I)V"⟩, 21), (⟨"WalshAnalyzerModel", "strongest", "(II)I"⟩, 21), (⟨"WalshAnalyzerModel", "above", "(II)I"⟩, 21), (⟨"WalshAnalyzerModel", "coefficientEnergy", "(I)J"⟩, 21), (⟨"WalshAnalyzerModel", "findPeaks", "(I)V"⟩, 21), (⟨"WalshAnalyzerModel", "isAmong", "(II)Z"⟩, 21), (⟨"WalshAnalyzerModel", "needed", "(II)I"⟩, 21), (⟨"WalshAnalyzerModel", "areRecordings", "(II)Z"⟩, 21), (⟨"WalshAnalyzerModel", "areAlike", "(II)Z"⟩, 21)]
theorem lw_r4 : ∀ q ∈ lw_privs_4, lw_okq q := List.forall_mem_cons.mpr ⟨lw_p48, List.forall_mem_cons.mpr ⟨lw_p49, List.forall_mem_cons.mpr ⟨lw_p50, List.forall_mem_cons.mpr ⟨lw_p51, List.forall_mem_cons.mpr ⟨lw_p52, List.forall_mem_cons.mpr ⟨lw_p53, List.forall_mem_cons.mpr ⟨lw_p54, List.forall_mem_cons.mpr ⟨lw_p55, List.forall_mem_cons.mpr ⟨lw_p56, List.forall_mem_cons.mpr ⟨lw_p57, List.forall_mem_cons.mpr ⟨lw_p58, List.forall_mem_cons.mpr ⟨lw_p59, List.forall_mem_cons.mpr ⟨lw_p60, List.forall_mem_cons.mpr ⟨lw_p61, List.forall_mem_cons.mpr ⟨lw_p62, List.forall_mem_cons.mpr ⟨lw_p63, fun _ h => absurd h List.not_mem_nil⟩⟩⟩⟩⟩⟩⟩⟩⟩⟩⟩⟩⟩⟩⟩⟩
theorem lw_p64 : lw_okq (⟨"WalshAnalyzerModel", "apart", "(II)I"⟩, 21) := ⟨⟨by decide +kernel, by decide +kernel⟩, lw_t10 (List.mem_of_getElem? (i := 85) rfl), lw_t11 (List.mem_of_getElem? (i := 205) rfl), lw_t11 (List.mem_of_getElem? (i := 206) rfl)⟩
theorem lw_p65 : lw_okq (⟨"WalshAnalyzerModel", "nearestOf", "(I)I"⟩, 21) := ⟨⟨by decide +kernel, by decide +kernel⟩, lw_t10 (List.mem_of_getElem? (i := 85) rfl), lw_t11 (List.mem_of_getElem? (i := 213) rfl), lw_t11 (List.mem_of_getElem? (i := 214) rfl)⟩
theorem lw_p66 : lw_okq (⟨"WalshAnalyzerModel", "correlated", "(III)J"⟩, 21) := ⟨⟨by decide +kernel, by decide +kernel⟩, lw_t10 (List.mem_of_getElem? (i := 85) rfl), lw_t11 (List.mem_of_getElem? (i := 221) rfl), lw_t11 (List.mem_of_getElem? (i := 222) rfl)⟩
theorem lw_p67 : lw_okq (⟨"WalshAnalyzerModel", "shiftOf", "(II)I"⟩, 21) := ⟨⟨by decide +kernel, by decide +kernel⟩, lw_t10 (List.mem_of_getElem? (i := 85) rfl), lw_t11 (List.mem_of_getElem? (i := 234) rfl), lw_t11 (List.mem_of_getElem? (i := 235) rfl)⟩
theorem lw_p68 : lw_okq (⟨"WalshAnalyzerModel", "common", "(III)I"⟩, 21) := ⟨⟨by decide +kernel, by decide +kernel⟩, lw_t10 (List.mem_of_getElem? (i := 85) rfl), lw_t12 (List.mem_of_getElem? (i := 2) rfl), lw_t12 (List.mem_of_getElem? (i := 3) rfl)⟩
theorem lw_p69 : lw_okq (⟨"WalshAnalyzerModel", "isCount", "(II)Z"⟩, 21) := ⟨⟨by decide +kernel, by decide +kernel⟩, lw_t10 (List.mem_of_getElem? (i := 85) rfl), lw_t12 (List.mem_of_getElem? (i := 10) rfl), lw_t12 (List.mem_of_getElem? (i := 11) rfl)⟩
theorem lw_p70 : lw_okq (⟨"WalshAnalyzerModel", "wrong", "(II)J"⟩, 21) := ⟨⟨by decide +kernel, by decide +kernel⟩, lw_t10 (List.mem_of_getElem? (i := 85) rfl), lw_t12 (List.mem_of_getElem? (i := 14) rfl), lw_t12 (List.mem_of_getElem? (i := 15) rfl)⟩
theorem lw_p71 : lw_okq (⟨"WalshAnalyzerModel", "makeOfPeaks", "(II)V"⟩, 21) := ⟨⟨by decide +kernel, by decide +kernel⟩, lw_t10 (List.mem_of_getElem? (i := 85) rfl), lw_t12 (List.mem_of_getElem? (i := 18) rfl), lw_t12 (List.mem_of_getElem? (i := 19) rfl)⟩
theorem lw_p72 : lw_okq (⟨"WalshAnalyzerModel", "synthesize", "(I)V"⟩, 21) := ⟨⟨by decide +kernel, by decide +kernel⟩, lw_t10 (List.mem_of_getElem? (i := 85) rfl), lw_t12 (List.mem_of_getElem? (i := 22) rfl), lw_t12 (List.mem_of_getElem? (i := 23) rfl)⟩
theorem lw_p73 : lw_okq (⟨"WalshAnalyzerModel", "isNewName", "()Z"⟩, 21) := ⟨⟨by decide +kernel, by decide +kernel⟩, lw_t10 (List.mem_of_getElem? (i := 85) rfl), lw_t12 (List.mem_of_getElem? (i := 36) rfl), lw_t12 (List.mem_of_getElem? (i := 37) rfl)⟩
theorem lw_p74 : lw_okq (⟨"WalshAnalyzerModel", "remember", "()V"⟩, 21) := ⟨⟨by decide +kernel, by decide +kernel⟩, lw_t10 (List.mem_of_getElem? (i := 85) rfl), lw_t12 (List.mem_of_getElem? (i := 40) rfl), lw_t12 (List.mem_of_getElem? (i := 41) rfl)⟩
theorem lw_p75 : lw_okq (⟨"WalshAnalyzerModel", "good", "(ZZZ)Z"⟩, 21) := ⟨⟨by decide +kernel, by decide +kernel⟩, lw_t10 (List.mem_of_getElem? (i := 85) rfl), lw_t12 (List.mem_of_getElem? (i := 48) rfl), lw_t12 (List.mem_of_getElem? (i := 49) rfl)⟩
theorem lw_p76 : lw_okq (⟨"WalshAnalyzerModel", "replace", "(I)I"⟩, 21) := ⟨⟨by decide +kernel, by decide +kernel⟩, lw_t10 (List.mem_of_getElem? (i := 85) rfl), lw_t12 (List.mem_of_getElem? (i := 76) rfl), lw_t12 (List.mem_of_getElem? (i := 77) rfl)⟩
theorem lw_p77 : lw_okq (⟨"WalshAnalyzerModel", "loudness", "(I)I"⟩, 21) := ⟨⟨by decide +kernel, by decide +kernel⟩, lw_t10 (List.mem_of_getElem? (i := 85) rfl), lw_t12 (List.mem_of_getElem? (i := 100) rfl), lw_t12 (List.mem_of_getElem? (i := 101) rfl)⟩
theorem lw_p78 : lw_okq (⟨"WalshAnalyzerModel", "write", "(I)V"⟩, 21) := ⟨⟨by decide +kernel, by decide +kernel⟩, lw_t10 (List.mem_of_getElem? (i := 85) rfl), lw_t12 (List.mem_of_getElem? (i := 140) rfl), lw_t12 (List.mem_of_getElem? (i := 141) rfl)⟩
theorem lw_p79 : lw_okq (⟨"WalshAnalyzerModel", "writeNumber", "(I)V"⟩, 21) := ⟨⟨by decide +kernel, by decide +kernel⟩, lw_t10 (List.mem_of_getElem? (i := 85) rfl), lw_t12 (List.mem_of_getElem? (i := 144) rfl), lw_t12 (List.mem_of_getElem? (i := 145) rfl)⟩
def lw_privs_5 : List (MethodName × Nat) := [(⟨"WalshAnalyzerModel", "apart", "(II)I"⟩, 21), (⟨"WalshAnalyzerModel", "nearestOf", "(I)I"⟩, 21), (⟨"WalshAnalyzerModel", "correlated", "(III)J"⟩, 21), (⟨"WalshAnalyzerModel", "shiftOf", "(II)I"⟩, 21), (⟨"WalshAnalyzerModel", "common", "(III)I"⟩, 21), (⟨"WalshAnalyzerModel", "isCount", "(II)Z"⟩, 21), (⟨"WalshAnalyzerModel", "wrong", "(II)J"⟩, 21), (⟨"WalshAnalyzerModel", "makeOfPeaks", "(II)V"⟩, 21), (⟨"WalshAnalyzerModel", "synthesize", "(I)V"⟩, 21), (⟨"WalshAnalyzerModel", "isNewName", "()Z"⟩, 21), (⟨"WalshAnalyzerModel", "remember", "()V"⟩, 21), (⟨"WalshAnalyzerModel", "good", "(ZZZ)Z"⟩, 21), (⟨"WalshAnalyzerModel", "replace", "(I)I"⟩, 21), (⟨"WalshAnalyzerModel", "loudness", "(I)I"⟩, 21), (⟨"WalshAnalyzerModel", "write", "(I)V"⟩, 21), (⟨"WalshAnalyzerModel", "writeNumber", "(I)V"⟩, 21)]
theorem lw_r5 : ∀ q ∈ lw_privs_5, lw_okq q := List.forall_mem_cons.mpr ⟨lw_p64, List.forall_mem_cons.mpr ⟨lw_p65, List.forall_mem_cons.mpr ⟨lw_p66, List.forall_mem_cons.mpr ⟨lw_p67, List.forall_mem_cons.mpr ⟨lw_p68, List.forall_mem_cons.mpr ⟨lw_p69, List.forall_mem_cons.mpr ⟨lw_p70, List.forall_mem_cons.mpr ⟨lw_p71, List.forall_mem_cons.mpr ⟨lw_p72, List.forall_mem_cons.mpr ⟨lw_p73, List.forall_mem_cons.mpr ⟨lw_p74, List.forall_mem_cons.mpr ⟨lw_p75, List.forall_mem_cons.mpr ⟨lw_p76, List.forall_mem_cons.mpr ⟨lw_p77, List.forall_mem_cons.mpr ⟨lw_p78, List.forall_mem_cons.mpr ⟨lw_p79, fun _ h => absurd h List.not_mem_nil⟩⟩⟩⟩⟩⟩⟩⟩⟩⟩⟩⟩⟩⟩⟩⟩
def lw_privs : List (MethodName × Nat) := lw_privs_1 ++ (lw_privs_2 ++ (lw_privs_3 ++ (lw_privs_4 ++ (lw_privs_5))))
def lw_tbl : List Cond := k2_sels lw_privs ++ tables_1
theorem lw_privs_ok : ∀ q ∈ lw_privs, lw_okq q := by
  show ∀ q ∈ lw_privs_1 ++ (lw_privs_2 ++ (lw_privs_3 ++ (lw_privs_4 ++ (lw_privs_5)))), lw_okq q
  exact List.forall_mem_append.mpr ⟨lw_r1, List.forall_mem_append.mpr ⟨lw_r2, List.forall_mem_append.mpr ⟨lw_r3, List.forall_mem_append.mpr ⟨lw_r4, lw_r5⟩⟩⟩⟩
-- ===== ONE list of words for every method: the tables' words that hold all through a run =====
def lw_all : List Cond := lw_tbl.filter goodWord
/-- a word of the tables by its place: claim/WORDS.tsv -/
theorem lw_w {w : Cond} (i : Nat) (h : lw_tbl[i]? = some w) (g : goodWord w = true) : w ∈ lw_all := List.mem_filter.mpr ⟨List.mem_of_getElem? h, g⟩
theorem lw_all_tbl {w : Cond} (h : w ∈ lw_all) : w ∈ lw_tbl := (List.mem_filter.mp h).1
theorem lw_self : GoodIn lw_all lw_all := fun w h => ⟨h, good_of_word (List.mem_filter.mp h).2⟩
/-- a class's field words, by their places -/
theorem lw_in (ws : List Cond) (ps : List Nat) (hp : ws = ps.filterMap (fun i => lw_tbl[i]?)) (hg : ws.all goodWord = true) : ∀ w ∈ ws, w ∈ lw_all := by
  intro w h
  have h1 := List.all_eq_true.mp hg w h
  rw [hp] at h
  obtain ⟨i, -, hi⟩ := List.mem_filterMap.mp h
  exact lw_w i hi h1
/-- the words of a contract for the method y with code b, L locals, answer r -/
abbrev ws_ (y : MethodName) (b : ByteArray) (L : Nat) (r : Option FieldType) : List Cond := Cond.code y b L r :: lw_all
theorem lw_meth {y : MethodName} {b : ByteArray} {L : Nat} {r : Option FieldType} (h : Cond.code y b L r ∈ lw_all) : GoodIn lw_all (ws_ y b L r) := by
  intro w hw
  rcases List.mem_cons.mp hw with e | e
  · rw [e]
    exact lw_self _ h
  · exact lw_self _ e
theorem lw_app {a c : List Cond} (ha : ∀ w ∈ a, w ∈ lw_all) (hc : GoodIn lw_all c) : GoodIn lw_all (a ++ c) := by
  intro w hw
  rcases List.mem_append.mp hw with e | e
  · exact lw_self w (ha w e)
  · exact hc w e
/-- what a call through an object asks: cwV n hts (lw_V ..) -/
theorem lw_V {own : String} {idx : Nat} {C : String} {y : MethodName} {b : ByteArray} {L : Nat} {r : Option FieldType} (h1 : Cond.methodLink own idx y ∈ lw_all) (h2 : Cond.instanceMethod y ∈ lw_all) (h3 : Cond.selects C y y ∈ lw_all) (h4 : Cond.initialized C ∈ lw_all) (h5 : Cond.code y b L r ∈ lw_all) : GoodIn lw_all (wsV own idx C y (ws_ y b L r)) := by
  refine lw_app ?_ (lw_meth h5)
  intro w hw
  simp only [List.mem_cons, List.not_mem_nil, or_false] at hw
  rcases hw with e | e | e | e
  · rw [e]; exact h1
  · rw [e]; exact h2
  · rw [e]; exact h3
  · rw [e]; exact h4
/-- what a static call asks: va_cwS n hts (lw_S ..) -/
theorem lw_S {own : String} {idx : Nat} {y : MethodName} {b : ByteArray} {L : Nat} {r : Option FieldType} (h1 : Cond.methodLink own idx y ∈ lw_all) (h2 : Cond.static y ∈ lw_all) (h3 : Cond.initialized y.cls ∈ lw_all) (h4 : Cond.code y b L r ∈ lw_all) : GoodIn lw_all (va_wsS own idx y (ws_ y b L r)) := by
  refine lw_app ?_ (lw_meth h4)
  intro w hw
  simp only [List.mem_cons, List.not_mem_nil, or_false] at hw
  rcases hw with e | e | e
  · rw [e]; exact h1
  · rw [e]; exact h2
  · rw [e]; exact h3
/-- the words of a contract for a method WITH HANDLERS (hh: its table) -/
abbrev wsW_ (y : MethodName) (b : ByteArray) (L : Nat) (r : Option FieldType) (hh : List (Nat × Nat × Nat × Nat)) : List Cond := Cond.codeWith y b L r hh :: lw_all
theorem lw_methW {y : MethodName} {b : ByteArray} {L : Nat} {r : Option FieldType} {hh : List (Nat × Nat × Nat × Nat)} (h : Cond.codeWith y b L r hh ∈ lw_all) : GoodIn lw_all (wsW_ y b L r hh) := by
  intro w hw
  rcases List.mem_cons.mp hw with e | e
  · rw [e]
    exact lw_self _ h
  · exact lw_self _ e
/-- any list of words by their places (lw_in), good -/
theorem lw_good {ws : List Cond} (h : ∀ w ∈ ws, w ∈ lw_all) : GoodIn lw_all ws := fun w hw => lw_self w (h w hw)
/-- what a call of a method with handlers asks: vx_cwVW n hts (lw_VW ..), vx_cwSW n hts (lw_SW ..) -/
theorem lw_VW {own : String} {idx : Nat} {C : String} {y : MethodName} {b : ByteArray} {L : Nat} {r : Option FieldType} {hh : List (Nat × Nat × Nat × Nat)} (h1 : Cond.methodLink own idx y ∈ lw_all) (h2 : Cond.instanceMethod y ∈ lw_all) (h3 : Cond.selects C y y ∈ lw_all) (h4 : Cond.initialized C ∈ lw_all) (h5 : Cond.codeWith y b L r hh ∈ lw_all) : GoodIn lw_all (wsV own idx C y (wsW_ y b L r hh)) := by
  refine lw_app ?_ (lw_methW h5)
  intro w hw
  simp only [List.mem_cons, List.not_mem_nil, or_false] at hw
  rcases hw with e | e | e | e
  · rw [e]; exact h1
  · rw [e]; exact h2
  · rw [e]; exact h3
  · rw [e]; exact h4
theorem lw_SW {own : String} {idx : Nat} {y : MethodName} {b : ByteArray} {L : Nat} {r : Option FieldType} {hh : List (Nat × Nat × Nat × Nat)} (h1 : Cond.methodLink own idx y ∈ lw_all) (h2 : Cond.static y ∈ lw_all) (h3 : Cond.initialized y.cls ∈ lw_all) (h4 : Cond.codeWith y b L r hh ∈ lw_all) : GoodIn lw_all (va_wsS own idx y (wsW_ y b L r hh)) := by
  refine lw_app ?_ (lw_methW h4)
  intro w hw
  simp only [List.mem_cons, List.not_mem_nil, or_false] at hw
  rcases hw with e | e | e
  · rw [e]; exact h1
  · rw [e]; exact h2
  · rw [e]; exact h3
/-- a word by its place in its run of the tables -/
theorem lw_at {r : List Cond} (hr : ∀ w ∈ r, w ∈ lw_tbl) {w : Cond} (i : Nat) (h : r[i]? = some w) : w ∈ lw_tbl := hr w (List.mem_of_getElem? h)
theorem lw_g {w : Cond} (h : w ∈ lw_tbl) (g : goodWord w = true) : w ∈ lw_all := List.mem_filter.mpr ⟨h, g⟩
theorem lw_ms : ∀ w ∈ k2_sels lw_privs, w ∈ lw_tbl := fun w h => show w ∈ k2_sels lw_privs ++ tables_1 from List.mem_append_left _ h
theorem lw_m1 : ∀ w ∈ tables_1_1, w ∈ lw_tbl := fun w h => show w ∈ k2_sels lw_privs ++ tables_1 from List.mem_append_right (k2_sels lw_privs) (show w ∈ tables_1 from List.mem_append_left _ h)
theorem lw_m2 : ∀ w ∈ tables_1_2, w ∈ lw_tbl := fun w h => show w ∈ k2_sels lw_privs ++ tables_1 from List.mem_append_right (k2_sels lw_privs) (show w ∈ tables_1 from List.mem_append_right _ (List.mem_append_left _ h))
theorem lw_m3 : ∀ w ∈ tables_1_3, w ∈ lw_tbl := fun w h => show w ∈ k2_sels lw_privs ++ tables_1 from List.mem_append_right (k2_sels lw_privs) (show w ∈ tables_1 from List.mem_append_right _ (List.mem_append_right _ (List.mem_append_left _ h)))
theorem lw_m4 : ∀ w ∈ tables_1_4, w ∈ lw_tbl := fun w h => show w ∈ k2_sels lw_privs ++ tables_1 from List.mem_append_right (k2_sels lw_privs) (show w ∈ tables_1 from List.mem_append_right _ (List.mem_append_right _ (List.mem_append_right _ (List.mem_append_left _ h))))
theorem lw_m5 : ∀ w ∈ tables_1_5, w ∈ lw_tbl := fun w h => show w ∈ k2_sels lw_privs ++ tables_1 from List.mem_append_right (k2_sels lw_privs) (show w ∈ tables_1 from List.mem_append_right _ (List.mem_append_right _ (List.mem_append_right _ (List.mem_append_right _ (List.mem_append_left _ h)))))
theorem lw_m6 : ∀ w ∈ tables_1_6, w ∈ lw_tbl := fun w h => show w ∈ k2_sels lw_privs ++ tables_1 from List.mem_append_right (k2_sels lw_privs) (show w ∈ tables_1 from List.mem_append_right _ (List.mem_append_right _ (List.mem_append_right _ (List.mem_append_right _ (List.mem_append_right _ (List.mem_append_left _ h))))))
theorem lw_m7 : ∀ w ∈ tables_1_7, w ∈ lw_tbl := fun w h => show w ∈ k2_sels lw_privs ++ tables_1 from List.mem_append_right (k2_sels lw_privs) (show w ∈ tables_1 from List.mem_append_right _ (List.mem_append_right _ (List.mem_append_right _ (List.mem_append_right _ (List.mem_append_right _ (List.mem_append_right _ (List.mem_append_left _ h)))))))
theorem lw_m8 : ∀ w ∈ tables_1_8, w ∈ lw_tbl := fun w h => show w ∈ k2_sels lw_privs ++ tables_1 from List.mem_append_right (k2_sels lw_privs) (show w ∈ tables_1 from List.mem_append_right _ (List.mem_append_right _ (List.mem_append_right _ (List.mem_append_right _ (List.mem_append_right _ (List.mem_append_right _ (List.mem_append_right _ (List.mem_append_left _ h))))))))
theorem lw_m9 : ∀ w ∈ tables_1_9, w ∈ lw_tbl := fun w h => show w ∈ k2_sels lw_privs ++ tables_1 from List.mem_append_right (k2_sels lw_privs) (show w ∈ tables_1 from List.mem_append_right _ (List.mem_append_right _ (List.mem_append_right _ (List.mem_append_right _ (List.mem_append_right _ (List.mem_append_right _ (List.mem_append_right _ (List.mem_append_right _ (List.mem_append_left _ h)))))))))
theorem lw_m10 : ∀ w ∈ tables_1_10, w ∈ lw_tbl := fun w h => show w ∈ k2_sels lw_privs ++ tables_1 from List.mem_append_right (k2_sels lw_privs) (show w ∈ tables_1 from List.mem_append_right _ (List.mem_append_right _ (List.mem_append_right _ (List.mem_append_right _ (List.mem_append_right _ (List.mem_append_right _ (List.mem_append_right _ (List.mem_append_right _ (List.mem_append_right _ (List.mem_append_left _ h))))))))))
theorem lw_m11 : ∀ w ∈ tables_1_11, w ∈ lw_tbl := fun w h => show w ∈ k2_sels lw_privs ++ tables_1 from List.mem_append_right (k2_sels lw_privs) (show w ∈ tables_1 from List.mem_append_right _ (List.mem_append_right _ (List.mem_append_right _ (List.mem_append_right _ (List.mem_append_right _ (List.mem_append_right _ (List.mem_append_right _ (List.mem_append_right _ (List.mem_append_right _ (List.mem_append_right _ (List.mem_append_left _ h)))))))))))
theorem lw_m12 : ∀ w ∈ tables_1_12, w ∈ lw_tbl := fun w h => show w ∈ k2_sels lw_privs ++ tables_1 from List.mem_append_right (k2_sels lw_privs) (show w ∈ tables_1 from List.mem_append_right _ (List.mem_append_right _ (List.mem_append_right _ (List.mem_append_right _ (List.mem_append_right _ (List.mem_append_right _ (List.mem_append_right _ (List.mem_append_right _ (List.mem_append_right _ (List.mem_append_right _ (List.mem_append_right _ h)))))))))))
theorem qs0 : (Cond.selects "WalshAnalyzer" ⟨"WalshAnalyzer", "bufferText", "()Ljava/lang/String;"⟩ ⟨"WalshAnalyzer", "bufferText", "()Ljava/lang/String;"⟩) ∈ lw_all := lw_g (lw_at lw_ms 0 rfl) rfl
theorem qs1 : (Cond.selects "java/lang/Throwable" ⟨"java/lang/Throwable", "fillInStackTrace", "(I)Ljava/lang/Throwable;"⟩ ⟨"java/lang/Throwable", "fillInStackTrace", "(I)Ljava/lang/Throwable;"⟩) ∈ lw_all := lw_g (lw_at lw_ms 1 rfl) rfl
theorem qs2 : (Cond.selects "java/util/ArrayList" ⟨"java/util/ArrayList", "add", "(Ljava/lang/Object;[Ljava/lang/Object;I)V"⟩ ⟨"java/util/ArrayList", "add", "(Ljava/lang/Object;[Ljava/lang/Object;I)V"⟩) ∈ lw_all := lw_g (lw_at lw_ms 2 rfl) rfl
theorem qs3 : (Cond.selects "java/util/ArrayList" ⟨"java/util/ArrayList", "grow", "()[Ljava/lang/Object;"⟩ ⟨"java/util/ArrayList", "grow", "()[Ljava/lang/Object;"⟩) ∈ lw_all := lw_g (lw_at lw_ms 3 rfl) rfl
theorem qs4 : (Cond.selects "java/util/ArrayList" ⟨"java/util/ArrayList", "grow", "(I)[Ljava/lang/Object;"⟩ ⟨"java/util/ArrayList", "grow", "(I)[Ljava/lang/Object;"⟩) ∈ lw_all := lw_g (lw_at lw_ms 4 rfl) rfl
theorem qs5 : (Cond.selects "WalshAnalyzer" ⟨"WalshAnalyzer", "appendWords", "([I)V"⟩ ⟨"WalshAnalyzer", "appendWords", "([I)V"⟩) ∈ lw_all := lw_g (lw_at lw_ms 5 rfl) rfl
theorem qs6 : (Cond.selects "WalshAnalyzer$Parser" ⟨"WalshAnalyzer$Parser", "advance", "()V"⟩ ⟨"WalshAnalyzer$Parser", "advance", "()V"⟩) ∈ lw_all := lw_g (lw_at lw_ms 6 rfl) rfl
theorem qs7 : (Cond.selects "WalshAnalyzer$Parser" ⟨"WalshAnalyzer$Parser", "isNext", "(II)Z"⟩ ⟨"WalshAnalyzer$Parser", "isNext", "(II)Z"⟩) ∈ lw_all := lw_g (lw_at lw_ms 7 rfl) rfl
theorem qs8 : (Cond.selects "WalshAnalyzer$Parser" ⟨"WalshAnalyzer$Parser", "readWord", "()V"⟩ ⟨"WalshAnalyzer$Parser", "readWord", "()V"⟩) ∈ lw_all := lw_g (lw_at lw_ms 8 rfl) rfl
theorem qs9 : (Cond.selects "WalshAnalyzer$Parser" ⟨"WalshAnalyzer$Parser", "check", "(ZI)V"⟩ ⟨"WalshAnalyzer$Parser", "check", "(ZI)V"⟩) ∈ lw_all := lw_g (lw_at lw_ms 9 rfl) rfl
theorem qs10 : (Cond.selects "WalshAnalyzer$Parser" ⟨"WalshAnalyzer$Parser", "readNumber", "()V"⟩ ⟨"WalshAnalyzer$Parser", "readNumber", "()V"⟩) ∈ lw_all := lw_g (lw_at lw_ms 10 rfl) rfl
theorem qs11 : (Cond.selects "WalshAnalyzer$Parser" ⟨"WalshAnalyzer$Parser", "parseRecording", "()V"⟩ ⟨"WalshAnalyzer$Parser", "parseRecording", "()V"⟩) ∈ lw_all := lw_g (lw_at lw_ms 11 rfl) rfl
theorem qs12 : (Cond.selects "WalshAnalyzer$Parser" ⟨"WalshAnalyzer$Parser", "parseSample", "()V"⟩ ⟨"WalshAnalyzer$Parser", "parseSample", "()V"⟩) ∈ lw_all := lw_g (lw_at lw_ms 12 rfl) rfl
theorem qs13 : (Cond.selects "WalshAnalyzer" ⟨"WalshAnalyzer", "get", "(I)LWalshAnalyzer$Recording;"⟩ ⟨"WalshAnalyzer", "get", "(I)LWalshAnalyzer$Recording;"⟩) ∈ lw_all := lw_g (lw_at lw_ms 13 rfl) rfl
theorem qs14 : (Cond.selects "WalshAnalyzer" ⟨"WalshAnalyzer", "get", "(II)LWalshAnalyzer$Recording;"⟩ ⟨"WalshAnalyzer", "get", "(II)LWalshAnalyzer$Recording;"⟩) ∈ lw_all := lw_g (lw_at lw_ms 14 rfl) rfl
theorem qs15 : (Cond.selects "WalshAnalyzer$Recording" ⟨"WalshAnalyzer$Recording", "copyOfSamples", "()[I"⟩ ⟨"WalshAnalyzer$Recording", "copyOfSamples", "()[I"⟩) ∈ lw_all := lw_g (lw_at lw_ms 15 rfl) rfl
theorem qs16 : (Cond.selects "WalshAnalyzer$Recording" ⟨"WalshAnalyzer$Recording", "isAbove", "(II)Z"⟩ ⟨"WalshAnalyzer$Recording", "isAbove", "(II)Z"⟩) ∈ lw_all := lw_g (lw_at lw_ms 16 rfl) rfl
theorem qs17 : (Cond.selects "WalshAnalyzer$Recording" ⟨"WalshAnalyzer$Recording", "isHigher", "(II)Z"⟩ ⟨"WalshAnalyzer$Recording", "isHigher", "(II)Z"⟩) ∈ lw_all := lw_g (lw_at lw_ms 17 rfl) rfl
theorem qs18 : (Cond.selects "WalshAnalyzer" ⟨"WalshAnalyzer", "getSameLength", "(II)LWalshAnalyzer$Recording;"⟩ ⟨"WalshAnalyzer", "getSameLength", "(II)LWalshAnalyzer$Recording;"⟩) ∈ lw_all := lw_g (lw_at lw_ms 18 rfl) rfl
theorem qs19 : (Cond.selects "WalshAnalyzer$Recording" ⟨"WalshAnalyzer$Recording", "lambda$synthesisOfPeaks$0", "(II)I"⟩ ⟨"WalshAnalyzer$Recording", "lambda$synthesisOfPeaks$0", "(II)I"⟩) ∈ lw_all := lw_g (lw_at lw_ms 19 rfl) rfl
theorem qs20 : (Cond.selects "WalshAnalyzer" ⟨"WalshAnalyzer", "newName", "()LWalshAnalyzer$Name;"⟩ ⟨"WalshAnalyzer", "newName", "()LWalshAnalyzer$Name;"⟩) ∈ lw_all := lw_g (lw_at lw_ms 20 rfl) rfl
theorem qs21 : (Cond.selects "WalshAnalyzer" ⟨"WalshAnalyzer", "add", "(LWalshAnalyzer$Name;[I)I"⟩ ⟨"WalshAnalyzer", "add", "(LWalshAnalyzer$Name;[I)I"⟩) ∈ lw_all := lw_g (lw_at lw_ms 21 rfl) rfl
theorem qs22 : (Cond.selects "WalshAnalyzer" ⟨"WalshAnalyzer", "beginEdit", "()V"⟩ ⟨"WalshAnalyzer", "beginEdit", "()V"⟩) ∈ lw_all := lw_g (lw_at lw_ms 22 rfl) rfl
theorem qs23 : (Cond.selects "java/util/ArrayDeque" ⟨"java/util/ArrayDeque", "grow", "(I)V"⟩ ⟨"java/util/ArrayDeque", "grow", "(I)V"⟩) ∈ lw_all := lw_g (lw_at lw_ms 23 rfl) rfl
theorem qs24 : (Cond.selects "java/util/ArrayDeque" ⟨"java/util/ArrayDeque", "newCapacity", "(II)I"⟩ ⟨"java/util/ArrayDeque", "newCapacity", "(II)I"⟩) ∈ lw_all := lw_g (lw_at lw_ms 24 rfl) rfl
theorem qs25 : (Cond.selects "java/util/ArrayList" ⟨"java/util/ArrayList", "fastRemove", "([Ljava/lang/Object;I)V"⟩ ⟨"java/util/ArrayList", "fastRemove", "([Ljava/lang/Object;I)V"⟩) ∈ lw_all := lw_g (lw_at lw_ms 25 rfl) rfl
theorem qs26 : (Cond.selects "WalshAnalyzer" ⟨"WalshAnalyzer", "replace", "(I[I)I"⟩ ⟨"WalshAnalyzer", "replace", "(I[I)I"⟩) ∈ lw_all := lw_g (lw_at lw_ms 26 rfl) rfl
theorem qs27 : (Cond.selects "WalshAnalyzer$Recording" ⟨"WalshAnalyzer$Recording", "lambda$synthesisAbove$2", "(II)I"⟩ ⟨"WalshAnalyzer$Recording", "lambda$synthesisAbove$2", "(II)I"⟩) ∈ lw_all := lw_g (lw_at lw_ms 27 rfl) rfl
theorem qs28 : (Cond.selects "WalshAnalyzer$Recording" ⟨"WalshAnalyzer$Recording", "lambda$synthesisOfBand$1", "(IIII)I"⟩ ⟨"WalshAnalyzer$Recording", "lambda$synthesisOfBand$1", "(IIII)I"⟩) ∈ lw_all := lw_g (lw_at lw_ms 28 rfl) rfl
theorem qs29 : (Cond.selects "WalshAnalyzer" ⟨"WalshAnalyzer", "format", "(Ljava/lang/StringBuilder;)I"⟩ ⟨"WalshAnalyzer", "format", "(Ljava/lang/StringBuilder;)I"⟩) ∈ lw_all := lw_g (lw_at lw_ms 29 rfl) rfl
theorem qs30 : (Cond.selects "WalshAnalyzerModel" ⟨"WalshAnalyzerModel", "good", "(Z)Z"⟩ ⟨"WalshAnalyzerModel", "good", "(Z)Z"⟩) ∈ lw_all := lw_g (lw_at lw_ms 30 rfl) rfl
theorem qs31 : (Cond.selects "WalshAnalyzerModel" ⟨"WalshAnalyzerModel", "take", "(I)V"⟩ ⟨"WalshAnalyzerModel", "take", "(I)V"⟩) ∈ lw_all := lw_g (lw_at lw_ms 31 rfl) rfl
theorem qs32 : (Cond.selects "WalshAnalyzerModel" ⟨"WalshAnalyzerModel", "putAside", "()V"⟩ ⟨"WalshAnalyzerModel", "putAside", "()V"⟩) ∈ lw_all := lw_g (lw_at lw_ms 32 rfl) rfl
theorem qs33 : (Cond.selects "WalshAnalyzerModel" ⟨"WalshAnalyzerModel", "wipe", "(II)V"⟩ ⟨"WalshAnalyzerModel", "wipe", "(II)V"⟩) ∈ lw_all := lw_g (lw_at lw_ms 33 rfl) rfl
theorem qs34 : (Cond.selects "WalshAnalyzerModel" ⟨"WalshAnalyzerModel", "isText", "()Z"⟩ ⟨"WalshAnalyzerModel", "isText", "()Z"⟩) ∈ lw_all := lw_g (lw_at lw_ms 34 rfl) rfl
theorem qs35 : (Cond.selects "WalshAnalyzerModel" ⟨"WalshAnalyzerModel", "advance", "()Z"⟩ ⟨"WalshAnalyzerModel", "advance", "()Z"⟩) ∈ lw_all := lw_g (lw_at lw_ms 35 rfl) rfl
theorem qs36 : (Cond.selects "WalshAnalyzerModel" ⟨"WalshAnalyzerModel", "byteAt", "(I)I"⟩ ⟨"WalshAnalyzerModel", "byteAt", "(I)I"⟩) ∈ lw_all := lw_g (lw_at lw_ms 36 rfl) rfl
theorem qs37 : (Cond.selects "WalshAnalyzerModel" ⟨"WalshAnalyzerModel", "statement", "()Z"⟩ ⟨"WalshAnalyzerModel", "statement", "()Z"⟩) ∈ lw_all := lw_g (lw_at lw_ms 37 rfl) rfl
theorem qs38 : (Cond.selects "WalshAnalyzerModel" ⟨"WalshAnalyzerModel", "isBell", "()Z"⟩ ⟨"WalshAnalyzerModel", "isBell", "()Z"⟩) ∈ lw_all := lw_g (lw_at lw_ms 38 rfl) rfl
theorem qs39 : (Cond.selects "WalshAnalyzerModel" ⟨"WalshAnalyzerModel", "fail", "(I)Z"⟩ ⟨"WalshAnalyzerModel", "fail", "(I)Z"⟩) ∈ lw_all := lw_g (lw_at lw_ms 39 rfl) rfl
theorem qs40 : (Cond.selects "WalshAnalyzerModel" ⟨"WalshAnalyzerModel", "named", "(II)I"⟩ ⟨"WalshAnalyzerModel", "named", "(II)I"⟩) ∈ lw_all := lw_g (lw_at lw_ms 40 rfl) rfl
theorem qs41 : (Cond.selects "WalshAnalyzerModel" ⟨"WalshAnalyzerModel", "putName", "(II)V"⟩ ⟨"WalshAnalyzerModel", "putName", "(II)V"⟩) ∈ lw_all := lw_g (lw_at lw_ms 41 rfl) rfl
theorem qs42 : (Cond.selects "WalshAnalyzerModel" ⟨"WalshAnalyzerModel", "sampleHere", "(I)Z"⟩ ⟨"WalshAnalyzerModel", "sampleHere", "(I)Z"⟩) ∈ lw_all := lw_g (lw_at lw_ms 42 rfl) rfl
theorem qs43 : (Cond.selects "WalshAnalyzerModel" ⟨"WalshAnalyzerModel", "layBack", "()V"⟩ ⟨"WalshAnalyzerModel", "layBack", "()V"⟩) ∈ lw_all := lw_g (lw_at lw_ms 43 rfl) rfl
theorem qs44 : (Cond.selects "WalshAnalyzerModel" ⟨"WalshAnalyzerModel", "isRecording", "(I)Z"⟩ ⟨"WalshAnalyzerModel", "isRecording", "(I)Z"⟩) ∈ lw_all := lw_g (lw_at lw_ms 44 rfl) rfl
theorem qs45 : (Cond.selects "WalshAnalyzerModel" ⟨"WalshAnalyzerModel", "size", "(I)I"⟩ ⟨"WalshAnalyzerModel", "size", "(I)I"⟩) ∈ lw_all := lw_g (lw_at lw_ms 45 rfl) rfl
theorem qs46 : (Cond.selects "WalshAnalyzerModel" ⟨"WalshAnalyzerModel", "isPlace", "(II)Z"⟩ ⟨"WalshAnalyzerModel", "isPlace", "(II)Z"⟩) ∈ lw_all := lw_g (lw_at lw_ms 46 rfl) rfl
theorem qs47 : (Cond.selects "WalshAnalyzerModel" ⟨"WalshAnalyzerModel", "at", "(II)I"⟩ ⟨"WalshAnalyzerModel", "at", "(II)I"⟩) ∈ lw_all := lw_g (lw_at lw_ms 47 rfl) rfl
theorem qs48 : (Cond.selects "WalshAnalyzerModel" ⟨"WalshAnalyzerModel", "energyOf", "(I)J"⟩ ⟨"WalshAnalyzerModel", "energyOf", "(I)J"⟩) ∈ lw_all := lw_g (lw_at lw_ms 48 rfl) rfl
theorem qs49 : (Cond.selects "WalshAnalyzerModel" ⟨"WalshAnalyzerModel", "good", "(ZZ)Z"⟩ ⟨"WalshAnalyzerModel", "good", "(ZZ)Z"⟩) ∈ lw_all := lw_g (lw_at lw_ms 49 rfl) rfl
theorem qs50 : (Cond.selects "WalshAnalyzerModel" ⟨"WalshAnalyzerModel", "signs", "(I)I"⟩ ⟨"WalshAnalyzerModel", "signs", "(I)I"⟩) ∈ lw_all := lw_g (lw_at lw_ms 50 rfl) rfl
theorem qs51 : (Cond.selects "WalshAnalyzerModel" ⟨"WalshAnalyzerModel", "symmetric", "(I)Z"⟩ ⟨"WalshAnalyzerModel", "symmetric", "(I)Z"⟩) ∈ lw_all := lw_g (lw_at lw_ms 51 rfl) rfl
theorem qs52 : (Cond.selects "WalshAnalyzerModel" ⟨"WalshAnalyzerModel", "sum", "(II)I"⟩ ⟨"WalshAnalyzerModel", "sum", "(II)I"⟩) ∈ lw_all := lw_g (lw_at lw_ms 52 rfl) rfl
theorem qs53 : (Cond.selects "WalshAnalyzerModel" ⟨"WalshAnalyzerModel", "isBand", "(III)Z"⟩ ⟨"WalshAnalyzerModel", "isBand", "(III)Z"⟩) ∈ lw_all := lw_g (lw_at lw_ms 53 rfl) rfl
theorem qs54 : (Cond.selects "WalshAnalyzerModel" ⟨"WalshAnalyzerModel", "band", "(III)J"⟩ ⟨"WalshAnalyzerModel", "band", "(III)J"⟩) ∈ lw_all := lw_g (lw_at lw_ms 54 rfl) rfl
theorem qs55 : (Cond.selects "WalshAnalyzerModel" ⟨"WalshAnalyzerModel", "transform", "(I)V"⟩ ⟨"WalshAnalyzerModel", "transform", "(I)V"⟩) ∈ lw_all := lw_g (lw_at lw_ms 55 rfl) rfl
theorem qs56 : (Cond.selects "WalshAnalyzerModel" ⟨"WalshAnalyzerModel", "strongest", "(II)I"⟩ ⟨"WalshAnalyzerModel", "strongest", "(II)I"⟩) ∈ lw_all := lw_g (lw_at lw_ms 56 rfl) rfl
theorem qs57 : (Cond.selects "WalshAnalyzerModel" ⟨"WalshAnalyzerModel", "above", "(II)I"⟩ ⟨"WalshAnalyzerModel", "above", "(II)I"⟩) ∈ lw_all := lw_g (lw_at lw_ms 57 rfl) rfl
theorem qs58 : (Cond.selects "WalshAnalyzerModel" ⟨"WalshAnalyzerModel", "coefficientEnergy", "(I)J"⟩ ⟨"WalshAnalyzerModel", "coefficientEnergy", "(I)J"⟩) ∈ lw_all := lw_g (lw_at lw_ms 58 rfl) rfl
theorem qs59 : (Cond.selects "WalshAnalyzerModel" ⟨"WalshAnalyzerModel", "findPeaks", "(I)V"⟩ ⟨"WalshAnalyzerModel", "findPeaks", "(I)V"⟩) ∈ lw_all := lw_g (lw_at lw_ms 59 rfl) rfl
theorem qs60 : (Cond.selects "WalshAnalyzerModel" ⟨"WalshAnalyzerModel", "isAmong", "(II)Z"⟩ ⟨"WalshAnalyzerModel", "isAmong", "(II)Z"⟩) ∈ lw_all := lw_g (lw_at lw_ms 60 rfl) rfl
theorem qs61 : (Cond.selects "WalshAnalyzerModel" ⟨"WalshAnalyzerModel", "needed", "(II)I"⟩ ⟨"WalshAnalyzerModel", "needed", "(II)I"⟩) ∈ lw_all := lw_g (lw_at lw_ms 61 rfl) rfl
theorem qs62 : (Cond.selects "WalshAnalyzerModel" ⟨"WalshAnalyzerModel", "areRecordings", "(II)Z"⟩ ⟨"WalshAnalyzerModel", "areRecordings", "(II)Z"⟩) ∈ lw_all := lw_g (lw_at lw_ms 62 rfl) rfl
theorem qs63 : (Cond.selects "WalshAnalyzerModel" ⟨"WalshAnalyzerModel", "areAlike", "(II)Z"⟩ ⟨"WalshAnalyzerModel", "areAlike", "(II)Z"⟩) ∈ lw_all := lw_g (lw_at lw_ms 63 rfl) rfl
theorem qs64 : (Cond.selects "WalshAnalyzerModel" ⟨"WalshAnalyzerModel", "apart", "(II)I"⟩ ⟨"WalshAnalyzerModel", "apart", "(II)I"⟩) ∈ lw_all := lw_g (lw_at lw_ms 64 rfl) rfl
theorem qs65 : (Cond.selects "WalshAnalyzerModel" ⟨"WalshAnalyzerModel", "nearestOf", "(I)I"⟩ ⟨"WalshAnalyzerModel", "nearestOf", "(I)I"⟩) ∈ lw_all := lw_g (lw_at lw_ms 65 rfl) rfl
theorem qs66 : (Cond.selects "WalshAnalyzerModel" ⟨"WalshAnalyzerModel", "correlated", "(III)J"⟩ ⟨"WalshAnalyzerModel", "correlated", "(III)J"⟩) ∈ lw_all := lw_g (lw_at lw_ms 66 rfl) rfl
theorem qs67 : (Cond.selects "WalshAnalyzerModel" ⟨"WalshAnalyzerModel", "shiftOf", "(II)I"⟩ ⟨"WalshAnalyzerModel", "shiftOf", "(II)I"⟩) ∈ lw_all := lw_g (lw_at lw_ms 67 rfl) rfl
theorem qs68 : (Cond.selects "WalshAnalyzerModel" ⟨"WalshAnalyzerModel", "common", "(III)I"⟩ ⟨"WalshAnalyzerModel", "common", "(III)I"⟩) ∈ lw_all := lw_g (lw_at lw_ms 68 rfl) rfl
theorem qs69 : (Cond.selects "WalshAnalyzerModel" ⟨"WalshAnalyzerModel", "isCount", "(II)Z"⟩ ⟨"WalshAnalyzerModel", "isCount", "(II)Z"⟩) ∈ lw_all := lw_g (lw_at lw_ms 69 rfl) rfl
theorem qs70 : (Cond.selects "WalshAnalyzerModel" ⟨"WalshAnalyzerModel", "wrong", "(II)J"⟩ ⟨"WalshAnalyzerModel", "wrong", "(II)J"⟩) ∈ lw_all := lw_g (lw_at lw_ms 70 rfl) rfl
theorem qs71 : (Cond.selects "WalshAnalyzerModel" ⟨"WalshAnalyzerModel", "makeOfPeaks", "(II)V"⟩ ⟨"WalshAnalyzerModel", "makeOfPeaks", "(II)V"⟩) ∈ lw_all := lw_g (lw_at lw_ms 71 rfl) rfl
theorem qs72 : (Cond.selects "WalshAnalyzerModel" ⟨"WalshAnalyzerModel", "synthesize", "(I)V"⟩ ⟨"WalshAnalyzerModel", "synthesize", "(I)V"⟩) ∈ lw_all := lw_g (lw_at lw_ms 72 rfl) rfl
theorem qs73 : (Cond.selects "WalshAnalyzerModel" ⟨"WalshAnalyzerModel", "isNewName", "()Z"⟩ ⟨"WalshAnalyzerModel", "isNewName", "()Z"⟩) ∈ lw_all := lw_g (lw_at lw_ms 73 rfl) rfl
theorem qs74 : (Cond.selects "WalshAnalyzerModel" ⟨"WalshAnalyzerModel", "remember", "()V"⟩ ⟨"WalshAnalyzerModel", "remember", "()V"⟩) ∈ lw_all := lw_g (lw_at lw_ms 74 rfl) rfl
theorem qs75 : (Cond.selects "WalshAnalyzerModel" ⟨"WalshAnalyzerModel", "good", "(ZZZ)Z"⟩ ⟨"WalshAnalyzerModel", "good", "(ZZZ)Z"⟩) ∈ lw_all := lw_g (lw_at lw_ms 75 rfl) rfl
theorem qs76 : (Cond.selects "WalshAnalyzerModel" ⟨"WalshAnalyzerModel", "replace", "(I)I"⟩ ⟨"WalshAnalyzerModel", "replace", "(I)I"⟩) ∈ lw_all := lw_g (lw_at lw_ms 76 rfl) rfl
theorem qs77 : (Cond.selects "WalshAnalyzerModel" ⟨"WalshAnalyzerModel", "loudness", "(I)I"⟩ ⟨"WalshAnalyzerModel", "loudness", "(I)I"⟩) ∈ lw_all := lw_g (lw_at lw_ms 77 rfl) rfl
theorem qs78 : (Cond.selects "WalshAnalyzerModel" ⟨"WalshAnalyzerModel", "write", "(I)V"⟩ ⟨"WalshAnalyzerModel", "write", "(I)V"⟩) ∈ lw_all := lw_g (lw_at lw_ms 78 rfl) rfl
theorem qs79 : (Cond.selects "WalshAnalyzerModel" ⟨"WalshAnalyzerModel", "writeNumber", "(I)V"⟩ ⟨"WalshAnalyzerModel", "writeNumber", "(I)V"⟩) ∈ lw_all := lw_g (lw_at lw_ms 79 rfl) rfl

