/-! ===== strings of one byte a letter; names ===== -/
theorem nw_cs {G : X_G} (hG : GOK G) : (Jvm.Cond.eq (Jvm.Term.static "java/lang/String" "COMPACT_STRINGS" "Z") (Jvm.Term.int (1 : Int32))).before #[Value.ref (gb G)] (gs G) = true := an_l (an_l (an_r (an_l (an_l (an_l (an_l (an_l (an_l (an_l (nw_0 hG))))))))))
theorem nw_sf {G : X_G} (hG : GOK G) : (Jvm.Cond.isRef (Jvm.Term.static "jdk/internal/util/Preconditions" "SIOOBE_FORMATTER" "Ljava/util/function/BiFunction;")).before #[Value.ref (gb G)] (gs G) = true := an_l (an_r (an_l (an_r (an_l (an_l (an_l (an_l (an_l (an_l (an_l (nw_0 hG)))))))))))
theorem zs_of {G : X_G} (hG : GOK G) {Cn n d : String} {v : Value} (hl : Cond.laysStatic Cn n d ∈ lw_tbl) (hi : Cond.initialized Cn ∈ lw_tbl) (h : (Term.static Cn n d).eval #[Value.ref (gb G)] (gs G) none [] (gs G) = some v) : Zs G Cn n d v := va_Zof (hG.2.1 _ hl) (hG.2.1 _ hi) h (fun a ha => Nat.not_le_of_lt ha)
theorem zs_r {G : X_G} (hG : GOK G) {Cn n d : String} (hl : Cond.laysStatic Cn n d ∈ lw_tbl) (hi : Cond.initialized Cn ∈ lw_tbl) (h : (Cond.isRef (.static Cn n d)).before #[Value.ref (gb G)] (gs G) = true) : ∃ o : Option Nat, Zs G Cn n d (va_rf o) := by
  rcases va_Zqof (hG.2.1 _ hl) (hG.2.1 _ hi) h (A := fun q => g0 G ≤ q) (fun a ha => Nat.not_le_of_lt ha) with h | ⟨t, h⟩
  · exact ⟨none, h⟩
  · exact ⟨some t, h⟩
theorem zs_cs {G : X_G} (hG : GOK G) : Zs G "java/lang/String" "COMPACT_STRINGS" "Z" (.int 1) := zs_of hG q288 (lw_all_tbl q100) (va_eqi (nw_cs hG))
theorem zs_sf {G : X_G} (hG : GOK G) : ∃ o : Option Nat, Zs G "jdk/internal/util/Preconditions" "SIOOBE_FORMATTER" "Ljava/util/function/BiFunction;" (va_rf o) := zs_r hG q379 (lw_all_tbl q107) (nw_sf hG)
/-- the string s has the letters w -/
def SM (M : X_M) (s : Nat) (w : List Nat) : Prop := ∃ (b : Nat) (x z : Int32) (f : Nat → Int32), M s = some (ob 0 13 [.ref b, .int 0, .int x, .int z]) ∧ M b = some (ba 0 w.length f) ∧ (∀ (k c : Nat), w[k]? = some c → f k = sb_b c) ∧ w.length ≤ 1000 ∧ ∀ c ∈ w, c < 256
theorem SM.fr {P : Nat → Prop} {M M' : X_M} {s : Nat} {w : List Nat} (h : SM M s w) (hF : Fr P M M') (h0 : ¬ P 0) : SM M' s w := by
  obtain ⟨b, x, z, f, h1, h2, h3⟩ := h
  exact ⟨b, x, z, f, hF.z h0 h1, hF.z h0 h2, h3⟩
/-- the name a has the letters w -/
def NM (M : X_M) (a : Nat) (w : List Nat) : Prop := ∃ s, M a = some (ob 0 4 [.ref s]) ∧ SM M s w
theorem NM.fr {P : Nat → Prop} {M M' : X_M} {a : Nat} {w : List Nat} (h : NM M a w) (hF : Fr P M M') (h0 : ¬ P 0) : NM M' a w := by
  obtain ⟨s, h1, h2⟩ := h
  exact ⟨s, hF.z h0 h1, h2.fr hF h0⟩
/-- the letters are known by the string's address, by the name's -/
theorem SM.uni {M : X_M} {s : Nat} {w w' : List Nat} (h : SM M s w) (h' : SM M s w') : w = w' := by
  obtain ⟨b, x, z, f, h2, h3, h4, h5, h6⟩ := h
  obtain ⟨b', x', z', f', h2', h3', h4', h5', h6'⟩ := h'
  rw [h2] at h2'
  have e2 : b = b' := by
    have := congrArg (fun z : Option X_E => z) h2'
    simp only [Option.some.injEq, Prod.mk.injEq, Sum.inl.injEq, List.cons.injEq, Value.ref.injEq, true_and, and_true] at this
    exact this.1
  subst e2
  rw [h3] at h3'
  have e3 := congrArg (fun z : Option X_E => z) h3'
  simp only [Option.some.injEq, Prod.mk.injEq, Sum.inr.injEq, Sum.inl.injEq, true_and] at e3
  obtain ⟨e3, e4⟩ := e3
  subst e4
  refine List.ext_getElem e3 fun k k1 k2 => ?_
  have a1 := h4 k _ (List.getElem?_eq_getElem k1)
  have a2 := h4' k _ (List.getElem?_eq_getElem k2)
  rw [a1] at a2
  have b1 := sb_byte _ (h6 _ (List.getElem_mem k1))
  have b2 := sb_byte _ (h6' _ (List.getElem_mem k2))
  have := b1.1.symm.trans ((congrArg (· &&& (255 : Int32)) a2).trans b2.1)
  exact (nI_eq (Nat.lt_trans (h6 _ (List.getElem_mem k1)) (by decide)) (Nat.lt_trans (h6' _ (List.getElem_mem k2)) (by decide))).mp this
theorem NM.uni {M : X_M} {a : Nat} {w w' : List Nat} (h : NM M a w) (h' : NM M a w') : w = w' := by
  obtain ⟨s, h1, h2⟩ := h
  obtain ⟨s', h1', h2'⟩ := h'
  rw [h1] at h1'
  have e1 : s = s' := by
    have := congrArg (fun z : Option X_E => z) h1'
    simp only [Option.some.injEq, Prod.mk.injEq, Sum.inl.injEq, List.cons.injEq, Value.ref.injEq, true_and, and_true] at this
    exact this
  subst e1
  exact h2.uni h2'
section STR
variable {G : X_G} {M : X_M} {s : Nat} {w : List Nat}
theorem ct_sLat (hG : GOK G) {g b : Nat} {x z : Value} (h : M s = some (ob g 13 [.ref b, .int 0, x, z])) : Ct G yJ14_isLatin1 cJ14_isLatin1 1 (some .boolean) (xrm 1 0 0) [.ref s] M (Pr (.int 1) M) := by
  refine ct_open (lv := [_]) hG (by decide +kernel) (Nat.le_of_ble_eq_true rfl) rfl (fun C hC hk => ?_)
  refine x_gets hC (zs_cs hG) q543 rfl dJ14_isLatin1_0 ?_
  refine x_if_eq (tgt := 17) hC dJ14_isLatin1_3 (by decide) (fun c => ?_) (fun c => ?_)
  · exact absurd c (by decide)
  · refine x_aload_n hC dJ14_isLatin1_6 rfl rfl ?_
    refine x_get hC 1 h rfl (by decide) q599 rfl rfl dJ14_isLatin1_7 ?_
    refine x_if_ne (tgt := 17) hC dJ14_isLatin1_10 (by decide) (fun c2 => ?_) (fun c2 => ?_)
    · exact absurd rfl c2
    · refine x_iconst (v := 1) hC dJ14_isLatin1_13 (by decide) ?_
      refine x_goto (tgt := 18) hC dJ14_isLatin1_14 (by decide) ?_
      exact x_zret hC hk dJ14_isLatin1_18 (by first | rfl | exact xB_nar) (Nat.le_of_ble_eq_true rfl) (Nat.le_of_ble_eq_true rfl) ⟨rfl, rfl⟩
theorem ct_sCoder (hG : GOK G) {g b : Nat} {x z : Value} (h : M s = some (ob g 13 [.ref b, .int 0, x, z])) : Ct G yJ14_coder cJ14_coder 1 (some .byte) (xrm 1 0 0) [.ref s] M (Pr (.int 0) M) := by
  refine ct_open (lv := [_]) hG (by decide +kernel) (Nat.le_of_ble_eq_true rfl) rfl (fun C hC hk => ?_)
  refine x_gets hC (zs_cs hG) q543 rfl dJ14_coder_0 ?_
  refine x_if_eq (tgt := 13) hC dJ14_coder_3 (by decide) (fun c => ?_) (fun c => ?_)
  · exact absurd c (by decide)
  · refine x_aload_n hC dJ14_coder_6 rfl rfl ?_
    refine x_get hC 1 h rfl (by decide) q599 rfl rfl dJ14_coder_7 ?_
    refine x_goto (tgt := 14) hC dJ14_coder_10 (by decide) ?_
    exact x_zret hC hk dJ14_coder_14 (by first | rfl | exact xB_nar) (Nat.le_of_ble_eq_true rfl) (Nat.le_of_ble_eq_true rfl) ⟨rfl, rfl⟩
theorem ct_sLen (hG : GOK G) (h : SM M s w) : Ct G yJ14_length cJ14_length 1 (some .int) (xrm 2 0 0) [.ref s] M (Pr (.int (nI w.length)) M) := by
  obtain ⟨b, x, z, f, h1, h2, -⟩ := h
  refine ct_open (lv := [_]) hG (by decide +kernel) (Nat.le_of_ble_eq_true rfl) rfl (fun C hC hk => ?_)
  refine x_aload_n hC dJ14_length_0 rfl rfl ?_
  refine x_get hC 0 h1 rfl (by decide) q598 rfl rfl dJ14_length_1 ?_
  refine x_alen hC h2 dJ14_length_4 ?_
  dsimp only
  refine x_aload_n hC dJ14_length_5 rfl rfl ?_
  refine x_callV0 (na := 0) hC (ct_sCoder hG h1) (lw_V q539 q540 q541 q100 q542) h1 rfl rfl (by decide +kernel) rfl ⟨Nat.le_of_ble_eq_true rfl, Nat.le_of_ble_eq_true rfl⟩ rfl (Nat.le_of_ble_eq_true rfl) ⟨rfl, rfl⟩ ⟨Nat.le_of_ble_eq_true rfl, Nat.le_of_ble_eq_true rfl⟩ dJ14_length_6 ?_
  rintro _ M ⟨rfl, rfl⟩
  refine x_ishr hC dJ14_length_9 ?_
  rw [sb_shr0]
  exact x_iret hC hk dJ14_length_10 (Nat.le_of_ble_eq_true rfl) (Nat.le_of_ble_eq_true rfl) ⟨rfl, rfl⟩
theorem ct_pcheckV (hG : GOK G) {i n : Nat} (hi : i < n) (hn : n < 2 ^ 31) (o : Option Nat) (M : X_M) : Ct G yJ20_checkIndex cJ20_checkIndex 3 (some .int) (xrm 1 0 0) [.int (nI i), .int (nI n), va_rf o] M (Pr (.int (nI i)) M) := by
  cases o with
  | none => exact ct_pcheck hG hi hn M
  | some a =>
    dsimp only [va_rf]
    refine ct_open (lv := [_, _, _]) hG (by decide +kernel) (Nat.le_of_ble_eq_true rfl) rfl (fun C hC hk => ?_)
    refine x_iload_n hC dJ20_checkIndex_0 rfl rfl ?_
    refine x_if_ltN (tgt := 9) hC (by omega) dJ20_checkIndex_1 (by decide) (fun c1 => ?_) (fun c1 => ?_)
    · exact absurd c1 (by omega)
    · refine x_iload_n hC dJ20_checkIndex_4 rfl rfl ?_
      refine x_iload_n hC dJ20_checkIndex_5 rfl rfl ?_
      refine x_icmp_ltN (tgt := 16) hC (by omega) (by omega) dJ20_checkIndex_6 (by decide) (fun c2 => ?_) (fun c2 => ?_)
      · refine x_iload_n hC dJ20_checkIndex_16 rfl rfl ?_
        exact x_iret hC hk dJ20_checkIndex_17 (Nat.le_of_ble_eq_true rfl) (Nat.le_of_ble_eq_true rfl) ⟨rfl, rfl⟩
      · exact absurd hi (by omega)
theorem ct_sCheck (hG : GOK G) {i n : Nat} (hi : i < n) (hn : n < 2 ^ 31) (M : X_M) : Ct G yJ14_checkIndex cJ14_checkIndex 2 none (xrm 2 0 0) [.int (nI i), .int (nI n)] M (fun r M' => r = none ∧ M' = M) := by
  obtain ⟨o, ho⟩ := zs_sf hG
  refine ct_open (lv := [_, _]) hG (by decide +kernel) (Nat.le_of_ble_eq_true rfl) rfl (fun C hC hk => ?_)
  refine x_iload_n hC dJ14_checkIndex_0 rfl rfl ?_
  refine x_iload_n hC dJ14_checkIndex_1 rfl rfl ?_
  refine x_gets hC ho q378 rfl dJ14_checkIndex_2 ?_
  refine x_callS0 (na := 3) hC (ct_pcheckV hG hi hn o _) (lw_S q401 q402 q107 q403) (by decide +kernel) rfl ⟨Nat.le_of_ble_eq_true rfl, Nat.le_of_ble_eq_true rfl⟩ rfl (Nat.le_of_ble_eq_true rfl) ⟨rfl, rfl⟩ ⟨Nat.le_of_ble_eq_true rfl, Nat.le_of_ble_eq_true rfl⟩ dJ14_checkIndex_5 ?_
  rintro _ M ⟨rfl, rfl⟩
  refine x_pop hC dJ14_checkIndex_8 rfl ?_
  exact x_vret hC hk dJ14_checkIndex_9 (Nat.le_of_ble_eq_true rfl) (Nat.le_of_ble_eq_true rfl) ⟨rfl, rfl⟩
theorem ct_l1At (hG : GOK G) {b g n i c : Nat} {f : Nat → Int32} (h : M b = some (ba g n f)) (hi : i < n) (hn : n < 2 ^ 31) (hc : c < 256) (hf : f i = sb_b c) : Ct G yJ19_charAt cJ19_charAt 2 (some .char) (xrm 3 0 0) [.ref b, .int (nI i)] M (Pr (.int (nI c)) M) := by
  refine ct_open (lv := [_, _]) hG (by decide +kernel) (Nat.le_of_ble_eq_true rfl) rfl (fun C hC hk => ?_)
  refine x_iload_n hC dJ19_charAt_0 rfl rfl ?_
  refine x_aload_n hC dJ19_charAt_1 rfl rfl ?_
  refine x_alen hC h dJ19_charAt_2 ?_
  dsimp only
  refine x_callS0 (na := 2) hC (ct_sCheck hG hi hn _) (lw_S q637 q399 q100 q400) (by decide +kernel) rfl ⟨Nat.le_of_ble_eq_true rfl, Nat.le_of_ble_eq_true rfl⟩ rfl (Nat.le_of_ble_eq_true rfl) ⟨rfl, rfl⟩ ⟨Nat.le_of_ble_eq_true rfl, Nat.le_of_ble_eq_true rfl⟩ dJ19_charAt_3 ?_
  rintro _ M ⟨rfl, rfl⟩
  refine x_aload_n hC dJ19_charAt_6 rfl rfl ?_
  refine x_iload_n hC dJ19_charAt_7 rfl rfl ?_
  refine x_baldN hC h hi (by first | decide | omega) dJ19_charAt_8 ?_
  rw [hf]
  refine x_sipush (v := 255) hC dJ19_charAt_9 (by decide) ?_
  refine x_iand hC dJ19_charAt_12 ?_
  rw [(sb_byte c hc).1]
  refine x_i2c hC dJ19_charAt_13 (sb_byte c hc).2.1 ?_
  exact x_zret hC hk dJ19_charAt_14 (by show Value.int ((nI c).toUInt32 % 65536).toInt32 = _; rw [(sb_byte c hc).2.1]) (Nat.le_of_ble_eq_true rfl) (Nat.le_of_ble_eq_true rfl) ⟨rfl, rfl⟩
theorem ct_sAt (hG : GOK G) {i c : Nat} (h : SM M s w) (hc : w[i]? = some c) : Ct G yJ14_charAt cJ14_charAt 2 (some .char) (xrm 4 0 0) [.ref s, .int (nI i)] M (Pr (.int (nI c)) M) := by
  obtain ⟨b, x, z, f, h1, h2, h3, h4, h5⟩ := h
  have hi : i < w.length := (List.getElem?_eq_some_iff.mp hc).1
  have hcm : c < 256 := h5 c (List.mem_of_getElem? hc)
  refine ct_open (lv := [_, _]) hG (by decide +kernel) (Nat.le_of_ble_eq_true rfl) rfl (fun C hC hk => ?_)
  refine x_aload_n hC dJ14_charAt_0 rfl rfl ?_
  refine x_callV0 (na := 0) hC (ct_sLat hG h1) (lw_V q630 q631 q632 q100 q633) h1 rfl rfl (by decide +kernel) rfl ⟨Nat.le_of_ble_eq_true rfl, Nat.le_of_ble_eq_true rfl⟩ rfl (Nat.le_of_ble_eq_true rfl) ⟨rfl, rfl⟩ ⟨Nat.le_of_ble_eq_true rfl, Nat.le_of_ble_eq_true rfl⟩ dJ14_charAt_1 ?_
  rintro _ M ⟨rfl, rfl⟩
  refine x_if_eq (tgt := 16) hC dJ14_charAt_4 (by decide) (fun c1 => ?_) (fun c1 => ?_)
  · exact absurd c1 (by decide)
  · refine x_aload_n hC dJ14_charAt_7 rfl rfl ?_
    refine x_get hC 0 h1 rfl (by decide) q598 rfl rfl dJ14_charAt_8 ?_
    refine x_iload_n hC dJ14_charAt_11 rfl rfl ?_
    refine x_callS0 (na := 2) hC (ct_l1At hG h2 hi (by omega) hcm (h3 i c hc)) (lw_S q634 q635 q106 q636) (by decide +kernel) rfl ⟨Nat.le_of_ble_eq_true rfl, Nat.le_of_ble_eq_true rfl⟩ rfl (Nat.le_of_ble_eq_true rfl) ⟨rfl, rfl⟩ ⟨Nat.le_of_ble_eq_true rfl, Nat.le_of_ble_eq_true rfl⟩ dJ14_charAt_12 ?_
    rintro _ M ⟨rfl, rfl⟩
    exact x_zret hC hk dJ14_charAt_15 (by show Value.int ((nI c).toUInt32 % 65536).toInt32 = _; rw [(sb_byte c hcm).2.1]) (Nat.le_of_ble_eq_true rfl) (Nat.le_of_ble_eq_true rfl) ⟨rfl, rfl⟩
theorem ct_l1Eq (hG : GOK G) {b g n b' g' n' : Nat} {f f' : Nat → Int32} (h : M b = some (ba g n f)) (h' : M b' = some (ba g' n' f')) (hn : n < 2 ^ 31) (hn' : n' < 2 ^ 31) : Ct G yJ19_equals cJ19_equals 3 (some .boolean) (xrm 1 0 0) [.ref b, .ref b'] M (Pr (.int (xB (n = n' ∧ ∀ k, k < n → f k = f' k))) M) := by
  refine ct_open (lv := [_, _, _]) hG (by decide +kernel) (Nat.le_of_ble_eq_true rfl) rfl (fun C hC hk => ?_)
  refine x_aload_n hC dJ19_equals_0 rfl rfl ?_
  refine x_alen hC h dJ19_equals_1 ?_
  refine x_aload_n hC dJ19_equals_2 rfl rfl ?_
  refine x_alen hC h' dJ19_equals_3 ?_
  dsimp only
  refine x_icmp_neN (tgt := 34) hC (by omega) (by omega) dJ19_equals_4 (by decide) (fun c0 => ?_) (fun c0 => ?_)
  · refine x_iconst (v := 0) hC dJ19_equals_34 (by decide) ?_
    exact x_zret hC hk dJ19_equals_35 (by first | rfl | exact xB_nar) (Nat.le_of_ble_eq_true rfl) (Nat.le_of_ble_eq_true rfl) ⟨by rw [xB_f fun z => c0 z.1], rfl⟩
  · have c0 : n = n' := by omega
    subst c0
    refine x_iconst (v := nI 0) hC dJ19_equals_7 (by decide) ?_
    refine x_istore_n (lv' := [_, _, _]) hC dJ19_equals_8 rfl (by decide) rfl ?_
    suffices lp : ∀ d k, k + d = n → (∀ l, l < k → f l = f' l) → Wg G C M 0 0 9 [some (.ref b), some (.ref b'), some (.int (nI k))] [] from lp n 0 (by omega) (fun l hl => by omega)
    intro d
    induction d with
    | zero =>
      intro k hd hk2
      refine x_iload_n hC dJ19_equals_9 rfl rfl ?_
      refine x_aload_n hC dJ19_equals_10 rfl rfl ?_
      refine x_alen hC h dJ19_equals_11 ?_
      dsimp only
      refine x_icmp_geN (tgt := 32) hC (by omega) (by omega) dJ19_equals_12 (by decide) (fun c1 => ?_) (fun c1 => ?_)
      · refine x_iconst (v := 1) hC dJ19_equals_32 (by decide) ?_
        exact x_zret hC hk dJ19_equals_33 (by first | rfl | exact xB_nar) (Nat.le_of_ble_eq_true rfl) (Nat.le_of_ble_eq_true rfl) ⟨by rw [xB_t ⟨rfl, fun l hl => hk2 l (by omega)⟩], rfl⟩
      · exact absurd c1 (by omega)
    | succ d ih =>
      intro k hd hk2
      refine x_iload_n hC dJ19_equals_9 rfl rfl ?_
      refine x_aload_n hC dJ19_equals_10 rfl rfl ?_
      refine x_alen hC h dJ19_equals_11 ?_
      dsimp only
      refine x_icmp_geN (tgt := 32) hC (by omega) (by omega) dJ19_equals_12 (by decide) (fun c1 => ?_) (fun c1 => ?_)
      · exact absurd c1 (by omega)
      · refine x_aload_n hC dJ19_equals_15 rfl rfl ?_
        refine x_iload_n hC dJ19_equals_16 rfl rfl ?_
        refine x_baldN hC h (by omega) (by first | decide | omega) dJ19_equals_17 ?_
        refine x_aload_n hC dJ19_equals_18 rfl rfl ?_
        refine x_iload_n hC dJ19_equals_19 rfl rfl ?_
        refine x_baldN hC h' (by omega) (by first | decide | omega) dJ19_equals_20 ?_
        refine x_icmp_eq (tgt := 26) hC dJ19_equals_21 (by decide) (fun c2 => ?_) (fun c2 => ?_)
        · refine x_iincN (lv' := [_, _, _]) (b := 1) hC dJ19_equals_26 rfl (by decide) (by decide) rfl ?_
          refine x_goto (tgt := 9) hC dJ19_equals_29 (by decide) ?_
          refine ih (k + 1) (by omega) (fun l hl => ?_)
          by_cases e : l = k
          · subst e; exact c2
          · exact hk2 l (by omega)
        · refine x_iconst (v := 0) hC dJ19_equals_24 (by decide) ?_
          exact x_zret hC hk dJ19_equals_25 (by first | rfl | exact xB_nar) (Nat.le_of_ble_eq_true rfl) (Nat.le_of_ble_eq_true rfl) ⟨by rw [xB_f fun z => c2 (z.2 k (by omega))], rfl⟩
theorem SM.eq {s' : Nat} {w' : List Nat} {n n' : Nat} {f f' : Nat → Int32} (h1 : n = w.length) (h1' : n' = w'.length) (h3 : ∀ (k c : Nat), w[k]? = some c → f k = sb_b c) (h5 : ∀ c ∈ w, c < 256) (h3' : ∀ (k c : Nat), w'[k]? = some c → f' k = sb_b c) (h5' : ∀ c ∈ w', c < 256) : (n = n' ∧ ∀ k, k < n → f k = f' k) ↔ w = w' := by
  subst h1
  subst h1'
  constructor
  · rintro ⟨e, hk⟩
    refine List.ext_getElem e fun k k1 k2 => ?_
    have a1 := h3 k _ (List.getElem?_eq_getElem k1)
    have a2 := h3' k _ (List.getElem?_eq_getElem k2)
    have a3 := hk k k1
    rw [a1, a2] at a3
    have b1 := sb_byte _ (h5 _ (List.getElem_mem k1))
    have b2 := sb_byte _ (h5' _ (List.getElem_mem k2))
    have := b1.1.symm.trans ((congrArg (· &&& (255 : Int32)) a3).trans b2.1)
    exact (nI_eq (Nat.lt_trans (h5 _ (List.getElem_mem k1)) (by decide)) (Nat.lt_trans (h5' _ (List.getElem_mem k2)) (by decide))).mp this
  · rintro rfl
    refine ⟨rfl, fun k hk => ?_⟩
    rw [h3 k _ (List.getElem?_eq_getElem hk), h3' k _ (List.getElem?_eq_getElem hk)]
theorem ct_sEq (hG : GOK G) {s' : Nat} {w' : List Nat} (h : SM M s w) (h' : SM M s' w') : Ct G yJ14_equals cJ14_equals 3 (some .boolean) (xrm 2 0 0) [.ref s, .ref s'] M (Pr (.int (xB (w = w'))) M) := by
  have h0 := h
  have h0' := h'
  obtain ⟨b, x, z, f, h1, h2, h3, h4, h5⟩ := h
  obtain ⟨b', x', z', f', h1', h2', h3', h4', h5'⟩ := h'
  refine ct_open (lv := [_, _, _]) hG (by decide +kernel) (Nat.le_of_ble_eq_true rfl) rfl (fun C hC hk => ?_)
  refine x_aload_n hC dJ14_equals_0 rfl rfl ?_
  refine x_aload_n hC dJ14_equals_1 rfl rfl ?_
  refine x_acmp_neR (tgt := 7) hC dJ14_equals_2 (by decide) (fun c1 => ?_) (fun c1 => ?_)
  · refine x_aload_n hC dJ14_equals_7 rfl rfl ?_
    refine x_instS hC h1' rfl rfl q758 dJ14_equals_8 ?_
    refine x_if_eq (tgt := 54) hC dJ14_equals_11 (by decide) (fun c2 => ?_) (fun c2 => ?_)
    · exact absurd c2 (by decide)
    · refine x_aload_n hC dJ14_equals_14 rfl rfl ?_
      refine x_castS hC h1' rfl rfl q758 dJ14_equals_15 ?_
      refine x_astore_n (lv' := [_, _, _]) hC dJ14_equals_18 rfl (by decide) rfl ?_
      refine x_gets hC (zs_cs hG) q543 rfl dJ14_equals_19 ?_
      refine x_if_eq (tgt := 36) hC dJ14_equals_22 (by decide) (fun c3 => ?_) (fun c3 => ?_)
      · exact absurd c3 (by decide)
      · refine x_aload_n hC dJ14_equals_25 rfl rfl ?_
        refine x_get hC 1 h1 rfl (by decide) q599 rfl rfl dJ14_equals_26 ?_
        refine x_aload_n hC dJ14_equals_29 rfl rfl ?_
        refine x_get hC 1 h1' rfl (by decide) q599 rfl rfl dJ14_equals_30 ?_
        refine x_icmp_ne (tgt := 54) hC dJ14_equals_33 (by decide) (fun c4 => ?_) (fun c4 => ?_)
        · exact absurd rfl c4
        · refine x_aload_n hC dJ14_equals_36 rfl rfl ?_
          refine x_get hC 0 h1 rfl (by decide) q598 rfl rfl dJ14_equals_37 ?_
          refine x_aload_n hC dJ14_equals_40 rfl rfl ?_
          refine x_get hC 0 h1' rfl (by decide) q598 rfl rfl dJ14_equals_41 ?_
          refine x_callS0 (na := 2) hC (ct_l1Eq hG h2 h2' (by omega) (by omega)) (lw_S q759 q760 q106 q761) (by decide +kernel) rfl ⟨Nat.le_of_ble_eq_true rfl, Nat.le_of_ble_eq_true rfl⟩ rfl (Nat.le_of_ble_eq_true rfl) ⟨rfl, rfl⟩ ⟨Nat.le_of_ble_eq_true rfl, Nat.le_of_ble_eq_true rfl⟩ dJ14_equals_44 ?_
          rintro _ M ⟨rfl, rfl⟩
          rw [xB_iff (SM.eq (s' := s') rfl rfl h3 h5 h3' h5')]
          refine x_if_eqB (tgt := 54) hC dJ14_equals_47 (by decide) (fun c5 => ?_) (fun c5 => ?_)
          · refine x_iconst (v := 0) hC dJ14_equals_54 (by decide) ?_
            exact x_zret hC hk dJ14_equals_55 (by first | rfl | exact xB_nar) (Nat.le_of_ble_eq_true rfl) (Nat.le_of_ble_eq_true rfl) ⟨by rw [xB_f c5], rfl⟩
          · refine x_iconst (v := 1) hC dJ14_equals_50 (by decide) ?_
            refine x_goto (tgt := 55) hC dJ14_equals_51 (by decide) ?_
            exact x_zret hC hk dJ14_equals_55 (by first | rfl | exact xB_nar) (Nat.le_of_ble_eq_true rfl) (Nat.le_of_ble_eq_true rfl) ⟨by rw [xB_t c5], rfl⟩
  · subst c1
    have e : w = w' := h0.uni h0'
    refine x_iconst (v := 1) hC dJ14_equals_5 (by decide) ?_
    exact x_zret hC hk dJ14_equals_6 (by first | rfl | exact xB_nar) (Nat.le_of_ble_eq_true rfl) (Nat.le_of_ble_eq_true rfl) ⟨by rw [xB_t e], rfl⟩
end STR

