/-! ===== java/util/ArrayDeque (it never grows here: at most nine of seventeen places are taken) ===== -/
/-- the deque q holds the archives L, eldest first -/
def DQ (M : X_M) (g q : Nat) (L : List Nat) : Prop := ∃ e f h, M q = some (ob g 10 [.ref e, .int (nI h), .int (nI ((h + L.length) % 17))]) ∧ M e = some (oa g 2 17 f) ∧ h < 17 ∧ L.length ≤ 16 ∧ ∀ (i x : Nat), L[i]? = some x → f ((h + i) % 17) = some x
theorem DQ.fr {P : Nat → Prop} {M M' : X_M} {g q : Nat} {L : List Nat} (h : DQ M g q L) (hF : Fr P M M') (hg : ¬ P g) : DQ M' g q L := by
  obtain ⟨e, f, k, h1, h2, h3⟩ := h
  exact ⟨e, f, k, hF.z hg h1, hF.z hg h2, h3⟩
theorem DQ.rec {M : X_M} {g q : Nat} {L : List Nat} (h : DQ M g q L) : ∃ vs, M q = some (ob g 10 vs) := by
  obtain ⟨e, f, k, h1, -⟩ := h
  exact ⟨_, h1⟩
theorem nI_neg {a b : Nat} (h : a < b) (hb : b < 2 ^ 30) : nI a - nI b < 0 ∧ nI a - nI b + nI 17 = nI (a + 17 - b) ∨ 17 < b := by
  by_cases h17 : 17 < b
  · exact Or.inr h17
  · left
    have e1 : (nI a - nI b).toInt = (a : Int) - b := by
      rw [Int32.toInt_sub, nI_toInt (by omega), nI_toInt (by omega), Int.bmod_eq_of_le (by omega) (by omega)]
    refine ⟨Int32.lt_iff_toInt_lt.mpr ?_, Int32.toInt_inj.mp ?_⟩
    · rw [e1, show (0 : Int32).toInt = 0 by decide]
      omega
    · rw [Int32.toInt_add, e1, nI_toInt (by omega), nI_toInt (by omega), Int.bmod_eq_of_le (by omega) (by omega)]
      omega
section DQS
variable {G : X_G} {M : X_M} {g q : Nat} {L : List Nat}
theorem ct_dqInc (hG : GOK G) {i : Nat} (hi : i < 17) (M : X_M) : Ct G yJ5_inc cJ5_inc 2 (some .int) (xrm 1 0 0) [.int (nI i), .int (nI 17)] M (Pr (.int (nI ((i + 1) % 17))) M) := by
  refine ct_open (lv := [_, _]) hG (by decide +kernel) (Nat.le_of_ble_eq_true rfl) rfl (fun C hC hk => ?_)
  refine x_iincN (lv' := [_, _]) (b := 1) hC dJ5_inc_0 rfl (by decide) (by decide) rfl ?_
  refine x_iload_n hC dJ5_inc_3 rfl rfl ?_
  refine x_iload_n hC dJ5_inc_4 rfl rfl ?_
  refine x_icmp_ltN (tgt := 10) hC (by omega) (by omega) dJ5_inc_5 (by decide) (fun c => ?_) (fun c => ?_)
  · refine x_iload_n hC dJ5_inc_10 rfl rfl ?_
    exact x_iret hC hk dJ5_inc_11 (Nat.le_of_ble_eq_true rfl) (Nat.le_of_ble_eq_true rfl) ⟨by rw [Nat.mod_eq_of_lt c], rfl⟩
  · refine x_iconst (v := 0) hC dJ5_inc_8 (by decide) ?_
    refine x_istore_n (lv' := [_, _]) hC dJ5_inc_9 rfl (by decide) rfl ?_
    refine x_iload_n hC dJ5_inc_10 rfl rfl ?_
    exact x_iret hC hk dJ5_inc_11 (Nat.le_of_ble_eq_true rfl) (Nat.le_of_ble_eq_true rfl) ⟨by rw [show i + 1 = 17 by omega]; rfl, rfl⟩
theorem ct_dqDec (hG : GOK G) {i : Nat} (hi : i < 17) (M : X_M) : Ct G yJ5_dec cJ5_dec 2 (some .int) (xrm 1 0 0) [.int (nI i), .int (nI 17)] M (Pr (.int (nI ((i + 16) % 17))) M) := by
  rcases Nat.eq_zero_or_pos i with h0 | h0
  · subst h0
    refine ct_open (lv := [_, _]) hG (by decide +kernel) (Nat.le_of_ble_eq_true rfl) rfl (fun C hC hk => ?_)
    refine x_iinc (lv' := [_, _]) (v := -1) hC dJ5_dec_0 rfl (by decide) (by decide) rfl ?_
    refine x_iload_n hC dJ5_dec_3 rfl rfl ?_
    refine x_if_ge (tgt := 11) hC dJ5_dec_4 (by decide) (fun c => ?_) (fun c => ?_)
    · exact absurd c (by decide)
    · refine x_iload_n hC dJ5_dec_7 rfl rfl ?_
      refine x_iconst (v := 1) hC dJ5_dec_8 (by decide) ?_
      refine x_isub hC dJ5_dec_9 ?_
      refine x_istore_n (lv' := [_, _]) hC dJ5_dec_10 rfl (by decide) rfl ?_
      refine x_iload_n hC dJ5_dec_11 rfl rfl ?_
      exact x_iret hC hk dJ5_dec_12 (Nat.le_of_ble_eq_true rfl) (Nat.le_of_ble_eq_true rfl) ⟨rfl, rfl⟩
  · refine ct_open (lv := [_, _]) hG (by decide +kernel) (Nat.le_of_ble_eq_true rfl) rfl (fun C hC hk => ?_)
    refine x_iincM (lv' := [_, _]) (b := 1) hC dJ5_dec_0 rfl (by decide) (by decide) h0 rfl ?_
    refine x_iload_n hC dJ5_dec_3 rfl rfl ?_
    refine x_if_geN (tgt := 11) hC (by omega) dJ5_dec_4 (by decide) (fun c => ?_) (fun c => ?_)
    · refine x_iload_n hC dJ5_dec_11 rfl rfl ?_
      exact x_iret hC hk dJ5_dec_12 (Nat.le_of_ble_eq_true rfl) (Nat.le_of_ble_eq_true rfl) ⟨by rw [show (i + 16) % 17 = i - 1 by omega], rfl⟩
    · exact absurd c (by omega)
theorem ct_dqSub (hG : GOK G) {h n : Nat} (hh : h < 17) (hn : n ≤ 16) (M : X_M) : Ct G yJ5_sub cJ5_sub 3 (some .int) (xrm 1 0 0) [.int (nI ((h + n) % 17)), .int (nI h), .int (nI 17)] M (Pr (.int (nI n)) M) := by
  by_cases hc : h + n < 17
  · rw [Nat.mod_eq_of_lt hc]
    refine ct_open (lv := [_, _, _]) hG (by decide +kernel) (Nat.le_of_ble_eq_true rfl) rfl (fun C hC hk => ?_)
    refine x_iload_n hC dJ5_sub_0 rfl rfl ?_
    refine x_iload_n hC dJ5_sub_1 rfl rfl ?_
    refine x_isubN hC dJ5_sub_2 (by omega) ?_
    refine x_dup hC dJ5_sub_3 rfl ?_
    refine x_istore_n (lv' := [_, _, _]) hC dJ5_sub_4 rfl (by decide) rfl ?_
    rw [show h + n - h = n by omega]
    refine x_if_geN (tgt := 12) hC (by omega) dJ5_sub_5 (by decide) (fun c => ?_) (fun c => ?_)
    · refine x_iload_n hC dJ5_sub_12 rfl rfl ?_
      exact x_iret hC hk dJ5_sub_13 (Nat.le_of_ble_eq_true rfl) (Nat.le_of_ble_eq_true rfl) ⟨rfl, rfl⟩
    · exact absurd c (by omega)
  · have e : (h + n) % 17 = h + n - 17 := by omega
    rw [e]
    rcases nI_neg (a := h + n - 17) (b := h) (by omega) (by omega) with ⟨e1, e2⟩ | e1
    · refine ct_open (lv := [_, _, _]) hG (by decide +kernel) (Nat.le_of_ble_eq_true rfl) rfl (fun C hC hk => ?_)
      refine x_iload_n hC dJ5_sub_0 rfl rfl ?_
      refine x_iload_n hC dJ5_sub_1 rfl rfl ?_
      refine x_isub hC dJ5_sub_2 ?_
      refine x_dup hC dJ5_sub_3 rfl ?_
      refine x_istore_n (lv' := [_, _, _]) hC dJ5_sub_4 rfl (by decide) rfl ?_
      refine x_if_ge (tgt := 12) hC dJ5_sub_5 (by decide) (fun c => ?_) (fun c => ?_)
      · exact absurd c (Int32.not_le.mpr e1)
      · refine x_iload_n hC dJ5_sub_8 rfl rfl ?_
        refine x_iload_n hC dJ5_sub_9 rfl rfl ?_
        refine x_iadd hC dJ5_sub_10 ?_
        refine x_istore_n (lv' := [_, _, _]) hC dJ5_sub_11 rfl (by decide) rfl ?_
        refine x_iload_n hC dJ5_sub_12 rfl rfl ?_
        rw [e2]
        exact x_iret hC hk dJ5_sub_13 (Nat.le_of_ble_eq_true rfl) (Nat.le_of_ble_eq_true rfl) ⟨by rw [show h + n - 17 + 17 - h = n by omega], rfl⟩
    · omega
theorem ct_dqAt (hG : GOK G) {e i x ge : Nat} {f : Nat → Option Nat} (he : M e = some (oa ge 2 17 f)) (hi : i < 17) (hf : f i = some x) : Ct G yJ5_elementAt cJ5_elementAt 2 (some (.object "java/lang/Object")) (xrm 1 0 0) [.ref e, .int (nI i)] M (Pr (.ref x) M) := by
  refine ct_open (lv := [_, _]) hG (by decide +kernel) (Nat.le_of_ble_eq_true rfl) rfl (fun C hC hk => ?_)
  refine x_aload_n hC dJ5_elementAt_0 rfl rfl ?_
  refine x_iload_n hC dJ5_elementAt_1 rfl rfl ?_
  refine x_aaldN hC he rfl hi (by first | decide | omega) dJ5_elementAt_2 ?_
  rw [hf]
  exact x_aret hC hk dJ5_elementAt_3 (Or.inl ⟨_, rfl⟩) (Or.inr ⟨_, rfl⟩) (Nat.le_of_ble_eq_true rfl) (Nat.le_of_ble_eq_true rfl) ⟨rfl, rfl⟩
theorem ct_dqInit (hG : GOK G) (hg : g ≠ 0) (h : M q = some (ob g 10 [.null, .int 0, .int 0])) : Ct G yJ5_init cJ5_init 1 none (xrm 2 1 17) [.ref q] M (fun r M' => r = none ∧ DQ M' g q [] ∧ Fr (fun g' => g' = g) M M') := by
  refine ct_open (lv := [_]) hG (by decide +kernel) (Nat.le_of_ble_eq_true rfl) rfl (fun C hC hk => ?_)
  refine x_aload_n hC dJ5_init_0 rfl rfl ?_
  refine x_callI0 (na := 0) hC (ct_acInit hG M q) q150 q83 q215 q149 rfl (by decide +kernel) rfl ⟨Nat.le_of_ble_eq_true rfl, Nat.le_of_ble_eq_true rfl⟩ rfl (Nat.le_of_ble_eq_true rfl) ⟨rfl, rfl⟩ ⟨Nat.le_of_ble_eq_true rfl, Nat.le_of_ble_eq_true rfl⟩ dJ5_init_1 ?_
  rintro _ M ⟨rfl, rfl⟩
  refine x_aload_n hC dJ5_init_4 rfl rfl ?_
  refine x_bipush (v := 17) hC dJ5_init_5 (by decide) ?_
  refine x_newq hC 17 g 2 q216 q217 rfl (by decide) hg rfl (by decide) (Nat.le_of_ble_eq_true rfl) (Nat.le_of_ble_eq_true rfl) dJ5_init_7 (fun e he => ?_)
  have hqe : q ≠ e := fun z => by rw [z, he] at h; cases h
  refine x_put hC 0 (mu_f he h) hg rfl (by decide) q218 rfl rfl rfl rfl rfl (show 0 < 3 by decide) (fs' := [.ref e, .int 0, .int 0]) rfl dJ5_init_10 ?_
  exact x_vret hC hk dJ5_init_13 (Nat.le_of_ble_eq_true rfl) (Nat.le_of_ble_eq_true rfl) ⟨rfl, ⟨e, fun _ => none, 0, mu_s, mu_o (Ne.symm hqe) mu_s, by decide, by decide, fun i x hi => by cases hi⟩, (Fr.new (P := fun g' => g' = g) he).tr (Fr.set (mu_f he h) rfl)⟩
theorem ct_dqSize (hG : GOK G) (h : DQ M g q L) : Ct G yJ5_size cJ5_size 1 (some .int) (xrm 2 0 0) [.ref q] M (Pr (.int (nI L.length)) M) := by
  obtain ⟨e, f, k, h1, h2, h3, h4, h5⟩ := h
  refine ct_open (lv := [_]) hG (by decide +kernel) (Nat.le_of_ble_eq_true rfl) rfl (fun C hC hk => ?_)
  refine x_aload_n hC dJ5_size_0 rfl rfl ?_
  refine x_get hC 2 h1 rfl (by decide) q220 rfl rfl dJ5_size_1 ?_
  refine x_aload_n hC dJ5_size_4 rfl rfl ?_
  refine x_get hC 1 h1 rfl (by decide) q219 rfl rfl dJ5_size_5 ?_
  refine x_aload_n hC dJ5_size_8 rfl rfl ?_
  refine x_get hC 0 h1 rfl (by decide) q218 rfl rfl dJ5_size_9 ?_
  refine x_alen hC h2 dJ5_size_12 ?_
  dsimp only
  refine x_callS0 (na := 3) hC (ct_dqSub hG h3 h4 _) (lw_S q1981 q1982 q88 q1983) (by decide +kernel) rfl ⟨Nat.le_of_ble_eq_true rfl, Nat.le_of_ble_eq_true rfl⟩ rfl (Nat.le_of_ble_eq_true rfl) ⟨rfl, rfl⟩ ⟨Nat.le_of_ble_eq_true rfl, Nat.le_of_ble_eq_true rfl⟩ dJ5_size_13 ?_
  rintro _ M ⟨rfl, rfl⟩
  exact x_iret hC hk dJ5_size_16 (Nat.le_of_ble_eq_true rfl) (Nat.le_of_ble_eq_true rfl) ⟨rfl, rfl⟩
theorem ct_dqEmpty (hG : GOK G) (h : DQ M g q L) : Ct G yJ5_isEmpty cJ5_isEmpty 1 (some .boolean) (xrm 1 0 0) [.ref q] M (Pr (.int (xB (L.length = 0))) M) := by
  obtain ⟨e, f, k, h1, h2, h3, h4, h5⟩ := h
  refine ct_open (lv := [_]) hG (by decide +kernel) (Nat.le_of_ble_eq_true rfl) rfl (fun C hC hk => ?_)
  refine x_aload_n hC dJ5_isEmpty_0 rfl rfl ?_
  refine x_get hC 1 h1 rfl (by decide) q219 rfl rfl dJ5_isEmpty_1 ?_
  refine x_aload_n hC dJ5_isEmpty_4 rfl rfl ?_
  refine x_get hC 2 h1 rfl (by decide) q220 rfl rfl dJ5_isEmpty_5 ?_
  refine x_icmp_neN (tgt := 15) hC (by omega) (by omega) dJ5_isEmpty_8 (by decide) (fun c => ?_) (fun c => ?_)
  · refine x_iconst (v := 0) hC dJ5_isEmpty_15 (by decide) ?_
    exact x_zret hC hk dJ5_isEmpty_16 (by first | rfl | exact xB_nar) (Nat.le_of_ble_eq_true rfl) (Nat.le_of_ble_eq_true rfl) ⟨by rw [xB_f (by omega)], rfl⟩
  · refine x_iconst (v := 1) hC dJ5_isEmpty_11 (by decide) ?_
    refine x_goto (tgt := 16) hC dJ5_isEmpty_12 (by decide) ?_
    exact x_zret hC hk dJ5_isEmpty_16 (by first | rfl | exact xB_nar) (Nat.le_of_ble_eq_true rfl) (Nat.le_of_ble_eq_true rfl) ⟨by rw [xB_t (by omega)], rfl⟩
theorem ct_dqAdd (hG : GOK G) (hg : g ≠ 0) {x g1 : Nat} {vs : List Value} (h : DQ M g q L) (hL : L.length < 16) (hx : M x = some (ob g1 2 vs)) : Ct G yJ5_addLast cJ5_addLast 3 none (xrm 2 0 0) [.ref q, .ref x] M (fun r M' => r = none ∧ DQ M' g q (L ++ [x]) ∧ Fr (fun g' => g' = g) M M') := by
  obtain ⟨e, f, k, h1, h2, h3, h4, h5⟩ := h
  have hqe : q ≠ e := mx_ne h1 h2 (fun z => by cases z)
  refine ct_open (lv := [_, _, _]) hG (by decide +kernel) (Nat.le_of_ble_eq_true rfl) rfl (fun C hC hk => ?_)
  obtain ⟨M0, hM0⟩ : ∃ M0, M0 = M := ⟨M, rfl⟩
  rw [← hM0] at hk
  have hF : Fm M0 M := by rw [hM0]; exact Fr.rf
  subst hM0
  refine x_aload_n hC dJ5_addLast_0 rfl rfl ?_
  refine x_ifnonnull (tgt := 12) hC dJ5_addLast_1 (by decide) ?_
  refine x_aload_n hC dJ5_addLast_12 rfl rfl ?_
  refine x_get hC 0 h1 rfl (by decide) q218 rfl rfl dJ5_addLast_13 ?_
  refine x_astore_n (lv' := [_, _, _]) hC dJ5_addLast_16 rfl (by decide) rfl ?_
  refine x_aload_n hC dJ5_addLast_17 rfl rfl ?_
  refine x_aload_n hC dJ5_addLast_18 rfl rfl ?_
  refine x_get hC 2 h1 rfl (by decide) q220 rfl rfl dJ5_addLast_19 ?_
  refine x_aload_n hC dJ5_addLast_22 rfl rfl ?_
  refine x_aastI hC h2 (by first | decide | assumption) rfl hx rfl q2895 (by omega) (by first | decide | omega) dJ5_addLast_23 ?_
  refine x_aload_n hC dJ5_addLast_24 rfl rfl ?_
  refine x_get hC 1 (mu_o hqe h1) rfl (by decide) q219 rfl rfl dJ5_addLast_25 ?_
  refine x_aload_n hC dJ5_addLast_28 rfl rfl ?_
  refine x_aload_n hC dJ5_addLast_29 rfl rfl ?_
  refine x_get hC 2 (mu_o hqe h1) rfl (by decide) q220 rfl rfl dJ5_addLast_30 ?_
  refine x_aload_n hC dJ5_addLast_33 rfl rfl ?_
  refine x_alen hC mu_s dJ5_addLast_34 ?_
  dsimp only
  refine x_callS0 (na := 2) hC (ct_dqInc hG (Nat.mod_lt _ (by decide)) _) (lw_S q1995 q1996 q88 q1997) (by decide +kernel) rfl ⟨Nat.le_of_ble_eq_true rfl, Nat.le_of_ble_eq_true rfl⟩ rfl (Nat.le_of_ble_eq_true rfl) ⟨rfl, rfl⟩ ⟨Nat.le_of_ble_eq_true rfl, Nat.le_of_ble_eq_true rfl⟩ dJ5_addLast_35 ?_
  rintro _ M ⟨rfl, rfl⟩
  refine x_dup_x1 hC dJ5_addLast_38 rfl rfl ?_
  refine x_put hC 2 (mu_o hqe h1) hg rfl (by decide) q220 rfl rfl rfl rfl rfl (show 2 < 3 by decide) (fs' := [.ref e, .int (nI k), .int (nI (((k + L.length) % 17 + 1) % 17))]) rfl dJ5_addLast_39 ?_
  refine x_icmp_neN (tgt := 50) hC (by omega) (by omega) dJ5_addLast_42 (by decide) (fun c => ?_) (fun c => ?_)
  · refine x_vret hC hk dJ5_addLast_50 (Nat.le_of_ble_eq_true rfl) (Nat.le_of_ble_eq_true rfl) ⟨rfl, ⟨e, va_up f ((k + L.length) % 17) (some x), k, ?_, mu_o (Ne.symm hqe) mu_s, h3, by rw [List.length_append]; exact hL, fun i y hi => ?_⟩, (Fr.set (P := fun g' => g' = g) h2 rfl).tr (Fr.set (mu_o hqe h1) rfl)⟩
    · rw [List.length_append, show (k + (L.length + [x].length)) % 17 = ((k + L.length) % 17 + 1) % 17 by show (k + (L.length + 1)) % 17 = _; omega]
      exact mu_s
    · by_cases ei : i < L.length
      · rw [List.getElem?_append_left ei] at hi
        rw [va_up_ne _ _ (by omega)]
        exact h5 i y hi
      · have hi2 := (List.getElem?_eq_some_iff.mp hi).1
        rw [List.length_append] at hi2
        have hi3 : i = L.length := by have : i < L.length + 1 := hi2; omega
        subst hi3
        rw [List.getElem?_concat_length] at hi
        cases hi
        exact va_up_self _ _ _
  · exfalso
    omega
theorem ct_dqPollF (hG : GOK G) (hg : g ≠ 0) {x : Nat} (h : DQ M g q (x :: L)) : Ct G yJ5_pollFirst cJ5_pollFirst 4 (some (.object "java/lang/Object")) (xrm 2 0 0) [.ref q] M (fun r M' => r = some (.ref x) ∧ DQ M' g q L ∧ Fr (fun g' => g' = g) M M') := by
  obtain ⟨e, f, k, h1, h2, h3, h4, h5⟩ := h
  have hqe : q ≠ e := mx_ne h1 h2 (fun z => by cases z)
  have hf : f k = some x := by have := h5 0 x rfl; rwa [Nat.add_zero, Nat.mod_eq_of_lt h3] at this
  refine ct_open (lv := [_, _, _, _]) hG (by decide +kernel) (Nat.le_of_ble_eq_true rfl) rfl (fun C hC hk => ?_)
  obtain ⟨M0, hM0⟩ : ∃ M0, M0 = M := ⟨M, rfl⟩
  rw [← hM0] at hk
  have hF : Fm M0 M := by rw [hM0]; exact Fr.rf
  subst hM0
  first
    | refine x_aload_n hC dJ5_pollFirst_0 rfl rfl ?_
    | refine x_aload_nN hC dJ5_pollFirst_0 rfl rfl ?_
    | refine x_aload_nV hC dJ5_pollFirst_0 rfl rfl ?_
  refine x_get hC 0 h1 rfl (by decide) q218 rfl rfl dJ5_pollFirst_1 ?_
  refine x_dup hC dJ5_pollFirst_4 rfl ?_
  first
    | refine x_astore_n (lv' := [_, _, _, _]) hC dJ5_pollFirst_5 rfl (by decide) rfl ?_
    | refine x_astore_nN (lv' := [_, _, _, _]) hC dJ5_pollFirst_5 rfl (by decide) rfl ?_
    | refine x_astore_nV (lv' := [_, _, _, _]) hC dJ5_pollFirst_5 rfl (by decide) rfl ?_
  first
    | refine x_aload_n hC dJ5_pollFirst_6 rfl rfl ?_
    | refine x_aload_nN hC dJ5_pollFirst_6 rfl rfl ?_
    | refine x_aload_nV hC dJ5_pollFirst_6 rfl rfl ?_
  refine x_get hC 1 h1 rfl (by decide) q219 rfl rfl dJ5_pollFirst_7 ?_
  refine x_dup hC dJ5_pollFirst_10 rfl ?_
  refine x_istore_n (lv' := [_, _, _, _]) hC dJ5_pollFirst_11 rfl (by decide) rfl ?_
  refine x_callS0 (na := 2) hC (ct_dqAt hG h2 h3 hf) (lw_S q1992 q1993 q88 q1994) (by decide +kernel) rfl ⟨Nat.le_of_ble_eq_true rfl, Nat.le_of_ble_eq_true rfl⟩ rfl (Nat.le_of_ble_eq_true rfl) ⟨rfl, rfl⟩ ⟨Nat.le_of_ble_eq_true rfl, Nat.le_of_ble_eq_true rfl⟩ dJ5_pollFirst_12 ?_
  rintro _ M ⟨rfl, rfl⟩
  first
    | refine x_astore_n (lv' := [_, _, _, _]) hC dJ5_pollFirst_15 rfl (by decide) rfl ?_
    | refine x_astore_nN (lv' := [_, _, _, _]) hC dJ5_pollFirst_15 rfl (by decide) rfl ?_
    | refine x_astore_nV (lv' := [_, _, _, _]) hC dJ5_pollFirst_15 rfl (by decide) rfl ?_
  first
    | refine x_aload_n hC dJ5_pollFirst_16 rfl rfl ?_
    | refine x_aload_nN hC dJ5_pollFirst_16 rfl rfl ?_
    | refine x_aload_nV hC dJ5_pollFirst_16 rfl rfl ?_
  refine x_ifnull hC dJ5_pollFirst_17 ?_
  first
    | refine x_aload_n hC dJ5_pollFirst_20 rfl rfl ?_
    | refine x_aload_nN hC dJ5_pollFirst_20 rfl rfl ?_
    | refine x_aload_nV hC dJ5_pollFirst_20 rfl rfl ?_
  refine x_iload_n hC dJ5_pollFirst_21 rfl rfl ?_
  refine x_null hC dJ5_pollFirst_22 ?_
  refine x_aastNI hC h2 (by first | decide | assumption) rfl h3 (by first | decide | omega) dJ5_pollFirst_23 ?_
  first
    | refine x_aload_n hC dJ5_pollFirst_24 rfl rfl ?_
    | refine x_aload_nN hC dJ5_pollFirst_24 rfl rfl ?_
    | refine x_aload_nV hC dJ5_pollFirst_24 rfl rfl ?_
  refine x_iload_n hC dJ5_pollFirst_25 rfl rfl ?_
  first
    | refine x_aload_n hC dJ5_pollFirst_26 rfl rfl ?_
    | refine x_aload_nN hC dJ5_pollFirst_26 rfl rfl ?_
    | refine x_aload_nV hC dJ5_pollFirst_26 rfl rfl ?_
  refine x_alen hC mu_s dJ5_pollFirst_27 ?_
  dsimp only
  refine x_callS0 (na := 2) hC (ct_dqInc hG h3 _) (lw_S q1995 q1996 q88 q1997) (by decide +kernel) rfl ⟨Nat.le_of_ble_eq_true rfl, Nat.le_of_ble_eq_true rfl⟩ rfl (Nat.le_of_ble_eq_true rfl) ⟨rfl, rfl⟩ ⟨Nat.le_of_ble_eq_true rfl, Nat.le_of_ble_eq_true rfl⟩ dJ5_pollFirst_28 ?_
  rintro _ M ⟨rfl, rfl⟩
  refine x_put hC 1 (mu_o hqe h1) hg rfl (by decide) q219 rfl rfl rfl rfl rfl (show 1 < 3 by decide) (fs' := [.ref e, .int (nI ((k + 1) % 17)), .int (nI ((k + (x :: L).length) % 17))]) rfl dJ5_pollFirst_31 ?_
  first
    | refine x_aload_n hC dJ5_pollFirst_34 rfl rfl ?_
    | refine x_aload_nN hC dJ5_pollFirst_34 rfl rfl ?_
    | refine x_aload_nV hC dJ5_pollFirst_34 rfl rfl ?_
  have hl : (x :: L).length = L.length + 1 := rfl
  refine x_aret hC hk dJ5_pollFirst_35 (Or.inl ⟨_, rfl⟩) (Or.inr ⟨_, rfl⟩) (Nat.le_of_ble_eq_true rfl) (Nat.le_of_ble_eq_true rfl) ⟨rfl, ⟨e, va_up f k none, (k + 1) % 17, ?_, mu_o (Ne.symm hqe) mu_s, Nat.mod_lt _ (by decide), by omega, fun i y hi => ?_⟩, (Fr.set (P := fun g' => g' = g) h2 rfl).tr (Fr.set (mu_o hqe h1) rfl)⟩
  · rw [show ((k + 1) % 17 + L.length) % 17 = (k + (x :: L).length) % 17 by rw [hl]; omega]
    exact mu_s
  · have hi2 := (List.getElem?_eq_some_iff.mp hi).1
    rw [va_up_ne _ _ (by omega), show ((k + 1) % 17 + i) % 17 = (k + (i + 1)) % 17 by omega]
    exact h5 (i + 1) y hi
theorem ct_dqRemF (hG : GOK G) (hg : g ≠ 0) {x : Nat} (h : DQ M g q (x :: L)) : Ct G yJ5_removeFirst cJ5_removeFirst 2 (some (.object "java/lang/Object")) (xrm 3 0 0) [.ref q] M (fun r M' => r = some (.ref x) ∧ DQ M' g q L ∧ Fr (fun g' => g' = g) M M') := by
  obtain ⟨vs, hq⟩ := h.rec
  refine ct_open (lv := [_, _]) hG (by decide +kernel) (Nat.le_of_ble_eq_true rfl) rfl (fun C hC hk => ?_)
  first
    | refine x_aload_n hC dJ5_removeFirst_0 rfl rfl ?_
    | refine x_aload_nN hC dJ5_removeFirst_0 rfl rfl ?_
    | refine x_aload_nV hC dJ5_removeFirst_0 rfl rfl ?_
  refine x_callV0 (na := 0) hC (ct_dqPollF hG hg h) (lw_V q1988 q1989 q1990 q88 q1991) hq rfl rfl (by decide +kernel) rfl ⟨Nat.le_of_ble_eq_true rfl, Nat.le_of_ble_eq_true rfl⟩ rfl (Nat.le_of_ble_eq_true rfl) ⟨rfl, rfl⟩ ⟨Nat.le_of_ble_eq_true rfl, Nat.le_of_ble_eq_true rfl⟩ dJ5_removeFirst_1 ?_
  rintro _ M1 ⟨rfl, h2, h3⟩
  first
    | refine x_astore_n (lv' := [_, _]) hC dJ5_removeFirst_4 rfl (by decide) rfl ?_
    | refine x_astore_nN (lv' := [_, _]) hC dJ5_removeFirst_4 rfl (by decide) rfl ?_
    | refine x_astore_nV (lv' := [_, _]) hC dJ5_removeFirst_4 rfl (by decide) rfl ?_
  first
    | refine x_aload_n hC dJ5_removeFirst_5 rfl rfl ?_
    | refine x_aload_nN hC dJ5_removeFirst_5 rfl rfl ?_
    | refine x_aload_nV hC dJ5_removeFirst_5 rfl rfl ?_
  refine x_ifnonnull (tgt := 17) hC dJ5_removeFirst_6 (by decide) ?_
  first
    | refine x_aload_n hC dJ5_removeFirst_17 rfl rfl ?_
    | refine x_aload_nN hC dJ5_removeFirst_17 rfl rfl ?_
    | refine x_aload_nV hC dJ5_removeFirst_17 rfl rfl ?_
  exact x_aret hC hk dJ5_removeFirst_18 (Or.inl ⟨_, rfl⟩) (Or.inr ⟨_, rfl⟩) (Nat.le_of_ble_eq_true rfl) (Nat.le_of_ble_eq_true rfl) ⟨rfl, h2, h3⟩
theorem ct_dqPollL (hG : GOK G) (hg : g ≠ 0) {x : Nat} (h : DQ M g q (L ++ [x])) : Ct G yJ5_pollLast cJ5_pollLast 4 (some (.object "java/lang/Object")) (xrm 2 0 0) [.ref q] M (fun r M' => r = some (.ref x) ∧ DQ M' g q L ∧ Fr (fun g' => g' = g) M M') := by
  obtain ⟨e, f, k, h1, h2, h3, h4, h5⟩ := h
  have hqe : q ≠ e := mx_ne h1 h2 (fun z => by cases z)
  have hl : (L ++ [x]).length = L.length + 1 := by rw [List.length_append]; rfl
  rw [hl] at h1 h4
  have hf : f ((k + L.length) % 17) = some x := h5 L.length x (by rw [List.getElem?_concat_length])
  refine ct_open (lv := [_, _, _, _]) hG (by decide +kernel) (Nat.le_of_ble_eq_true rfl) rfl (fun C hC hk => ?_)
  obtain ⟨M0, hM0⟩ : ∃ M0, M0 = M := ⟨M, rfl⟩
  rw [← hM0] at hk
  have hF : Fm M0 M := by rw [hM0]; exact Fr.rf
  subst hM0
  first
    | refine x_aload_n hC dJ5_pollLast_0 rfl rfl ?_
    | refine x_aload_nN hC dJ5_pollLast_0 rfl rfl ?_
    | refine x_aload_nV hC dJ5_pollLast_0 rfl rfl ?_
  refine x_get hC 0 h1 rfl (by decide) q218 rfl rfl dJ5_pollLast_1 ?_
  refine x_dup hC dJ5_pollLast_4 rfl ?_
  first
    | refine x_astore_n (lv' := [_, _, _, _]) hC dJ5_pollLast_5 rfl (by decide) rfl ?_
    | refine x_astore_nN (lv' := [_, _, _, _]) hC dJ5_pollLast_5 rfl (by decide) rfl ?_
    | refine x_astore_nV (lv' := [_, _, _, _]) hC dJ5_pollLast_5 rfl (by decide) rfl ?_
  first
    | refine x_aload_n hC dJ5_pollLast_6 rfl rfl ?_
    | refine x_aload_nN hC dJ5_pollLast_6 rfl rfl ?_
    | refine x_aload_nV hC dJ5_pollLast_6 rfl rfl ?_
  refine x_get hC 2 h1 rfl (by decide) q220 rfl rfl dJ5_pollLast_7 ?_
  first
    | refine x_aload_n hC dJ5_pollLast_10 rfl rfl ?_
    | refine x_aload_nN hC dJ5_pollLast_10 rfl rfl ?_
    | refine x_aload_nV hC dJ5_pollLast_10 rfl rfl ?_
  refine x_alen hC h2 dJ5_pollLast_11 ?_
  dsimp only
  refine x_callS0 (na := 2) hC (ct_dqDec hG (Nat.mod_lt _ (by decide)) _) (lw_S q2276 q2277 q88 q2278) (by decide +kernel) rfl ⟨Nat.le_of_ble_eq_true rfl, Nat.le_of_ble_eq_true rfl⟩ rfl (Nat.le_of_ble_eq_true rfl) ⟨rfl, rfl⟩ ⟨Nat.le_of_ble_eq_true rfl, Nat.le_of_ble_eq_true rfl⟩ dJ5_pollLast_12 ?_
  rintro _ M ⟨rfl, rfl⟩
  rw [show ((k + (L.length + 1)) % 17 + 16) % 17 = (k + L.length) % 17 by omega]
  refine x_dup hC dJ5_pollLast_15 rfl ?_
  refine x_istore_n (lv' := [_, _, _, _]) hC dJ5_pollLast_16 rfl (by decide) rfl ?_
  refine x_callS0 (na := 2) hC (ct_dqAt hG h2 (Nat.mod_lt _ (by decide)) hf) (lw_S q1992 q1993 q88 q1994) (by decide +kernel) rfl ⟨Nat.le_of_ble_eq_true rfl, Nat.le_of_ble_eq_true rfl⟩ rfl (Nat.le_of_ble_eq_true rfl) ⟨rfl, rfl⟩ ⟨Nat.le_of_ble_eq_true rfl, Nat.le_of_ble_eq_true rfl⟩ dJ5_pollLast_17 ?_
  rintro _ M ⟨rfl, rfl⟩
  first
    | refine x_astore_n (lv' := [_, _, _, _]) hC dJ5_pollLast_20 rfl (by decide) rfl ?_
    | refine x_astore_nN (lv' := [_, _, _, _]) hC dJ5_pollLast_20 rfl (by decide) rfl ?_
    | refine x_astore_nV (lv' := [_, _, _, _]) hC dJ5_pollLast_20 rfl (by decide) rfl ?_
  first
    | refine x_aload_n hC dJ5_pollLast_21 rfl rfl ?_
    | refine x_aload_nN hC dJ5_pollLast_21 rfl rfl ?_
    | refine x_aload_nV hC dJ5_pollLast_21 rfl rfl ?_
  refine x_ifnull hC dJ5_pollLast_22 ?_
  first
    | refine x_aload_n hC dJ5_pollLast_25 rfl rfl ?_
    | refine x_aload_nN hC dJ5_pollLast_25 rfl rfl ?_
    | refine x_aload_nV hC dJ5_pollLast_25 rfl rfl ?_
  first
    | refine x_aload_n hC dJ5_pollLast_26 rfl rfl ?_
    | refine x_aload_nN hC dJ5_pollLast_26 rfl rfl ?_
    | refine x_aload_nV hC dJ5_pollLast_26 rfl rfl ?_
  refine x_iload_n hC dJ5_pollLast_27 rfl rfl ?_
  refine x_dup_x1 hC dJ5_pollLast_28 rfl rfl ?_
  refine x_put hC 2 h1 hg rfl (by decide) q220 rfl rfl rfl rfl rfl (show 2 < 3 by decide) (fs' := [.ref e, .int (nI k), .int (nI ((k + L.length) % 17))]) rfl dJ5_pollLast_29 ?_
  refine x_null hC dJ5_pollLast_32 ?_
  refine x_aastNI hC (mu_o (Ne.symm hqe) h2) (by first | decide | assumption) rfl (by omega) (by first | decide | omega) dJ5_pollLast_33 ?_
  first
    | refine x_aload_n hC dJ5_pollLast_34 rfl rfl ?_
    | refine x_aload_nN hC dJ5_pollLast_34 rfl rfl ?_
    | refine x_aload_nV hC dJ5_pollLast_34 rfl rfl ?_
  refine x_aret hC hk dJ5_pollLast_35 (Or.inl ⟨_, rfl⟩) (Or.inr ⟨_, rfl⟩) (Nat.le_of_ble_eq_true rfl) (Nat.le_of_ble_eq_true rfl) ⟨rfl, ⟨e, va_up f ((k + L.length) % 17) none, k, mu_o hqe mu_s, mu_s, h3, by omega, fun i y hi => ?_⟩, (Fr.set (P := fun g' => g' = g) h1 rfl).tr (Fr.set (mu_o (Ne.symm hqe) h2) rfl)⟩
  have hi2 := (List.getElem?_eq_some_iff.mp hi).1
  rw [va_up_ne _ _ (by omega)]
  exact h5 i y (by rw [List.getElem?_append_left hi2]; exact hi)
theorem ct_dqRemL (hG : GOK G) (hg : g ≠ 0) {x : Nat} (h : DQ M g q (L ++ [x])) : Ct G yJ5_removeLast cJ5_removeLast 2 (some (.object "java/lang/Object")) (xrm 3 0 0) [.ref q] M (fun r M' => r = some (.ref x) ∧ DQ M' g q L ∧ Fr (fun g' => g' = g) M M') := by
  obtain ⟨vs, hq⟩ := h.rec
  refine ct_open (lv := [_, _]) hG (by decide +kernel) (Nat.le_of_ble_eq_true rfl) rfl (fun C hC hk => ?_)
  first
    | refine x_aload_n hC dJ5_removeLast_0 rfl rfl ?_
    | refine x_aload_nN hC dJ5_removeLast_0 rfl rfl ?_
    | refine x_aload_nV hC dJ5_removeLast_0 rfl rfl ?_
  refine x_callV0 (na := 0) hC (ct_dqPollL hG hg h) (lw_V q2272 q2273 q2274 q88 q2275) hq rfl rfl (by decide +kernel) rfl ⟨Nat.le_of_ble_eq_true rfl, Nat.le_of_ble_eq_true rfl⟩ rfl (Nat.le_of_ble_eq_true rfl) ⟨rfl, rfl⟩ ⟨Nat.le_of_ble_eq_true rfl, Nat.le_of_ble_eq_true rfl⟩ dJ5_removeLast_1 ?_
  rintro _ M1 ⟨rfl, h2, h3⟩
  first
    | refine x_astore_n (lv' := [_, _]) hC dJ5_removeLast_4 rfl (by decide) rfl ?_
    | refine x_astore_nN (lv' := [_, _]) hC dJ5_removeLast_4 rfl (by decide) rfl ?_
    | refine x_astore_nV (lv' := [_, _]) hC dJ5_removeLast_4 rfl (by decide) rfl ?_
  first
    | refine x_aload_n hC dJ5_removeLast_5 rfl rfl ?_
    | refine x_aload_nN hC dJ5_removeLast_5 rfl rfl ?_
    | refine x_aload_nV hC dJ5_removeLast_5 rfl rfl ?_
  refine x_ifnonnull (tgt := 17) hC dJ5_removeLast_6 (by decide) ?_
  first
    | refine x_aload_n hC dJ5_removeLast_17 rfl rfl ?_
    | refine x_aload_nN hC dJ5_removeLast_17 rfl rfl ?_
    | refine x_aload_nV hC dJ5_removeLast_17 rfl rfl ?_
  exact x_aret hC hk dJ5_removeLast_18 (Or.inl ⟨_, rfl⟩) (Or.inr ⟨_, rfl⟩) (Nat.le_of_ble_eq_true rfl) (Nat.le_of_ble_eq_true rfl) ⟨rfl, h2, h3⟩
theorem ct_dqCC (hG : GOK G) (hg : g ≠ 0) {e i n : Nat} {f : Nat → Option Nat} (he : M e = some (oa g 2 17 f)) (hi : i < 17) (hn : n < 17) : Ct G yJ5_circularClear cJ5_circularClear 4 none (xrm 1 0 0) [.ref e, .int (nI i), .int (nI n)] M (fun r M' => r = none ∧ ∃ f', M' = mu M e (oa g 2 17 f')) := by
  refine ct_open (lv := [_, _, _, _]) hG (by decide +kernel) (Nat.le_of_ble_eq_true rfl) rfl (fun C hC hk => ?_)
  obtain ⟨M0, hM0⟩ : ∃ M0, M0 = M := ⟨M, rfl⟩
  rw [← hM0] at hk
  have hF : Fm M0 M := by rw [hM0]; exact Fr.rf
  subst hM0
  have lp : ∀ d i to, i + d = to → to ≤ 17 → ∀ M1 f, M1 = mu M0 e (oa g 2 17 f) → (∀ M2 f2, M2 = mu M0 e (oa g 2 17 f2) → Wg G C M2 0 0 27 [some (.ref e), some (.int (nI to)), some (.int (nI n)), some (.int (nI to))] []) → Wg G C M1 0 0 12 [some (.ref e), some (.int (nI i)), some (.int (nI n)), some (.int (nI to))] [] := by
    intro d
    induction d with
    | zero =>
      intro i to hd ht M1 f hM kk
      have hd : i = to := by omega
      subst hd
      refine x_iload_n hC dJ5_circularClear_12 rfl rfl ?_
      refine x_iload_n hC dJ5_circularClear_13 rfl rfl ?_
      refine x_icmp_geN (tgt := 27) hC (by omega) (by omega) dJ5_circularClear_14 (by decide) (fun c => ?_) (fun c => ?_)
      · exact kk M1 f hM
      · exact absurd c (by omega)
    | succ d ih =>
      intro i to hd ht M1 f hM kk
      subst hM
      refine x_iload_n hC dJ5_circularClear_12 rfl rfl ?_
      refine x_iload_n hC dJ5_circularClear_13 rfl rfl ?_
      refine x_icmp_geN (tgt := 27) hC (by omega) (by omega) dJ5_circularClear_14 (by decide) (fun c => ?_) (fun c => ?_)
      · exact absurd c (by omega)
      · refine x_aload_n hC dJ5_circularClear_17 rfl rfl ?_
        refine x_iload_n hC dJ5_circularClear_18 rfl rfl ?_
        refine x_null hC dJ5_circularClear_19 ?_
        refine x_aastNI hC mu_s (by first | decide | assumption) rfl (by omega) (by first | decide | omega) dJ5_circularClear_20 ?_
        refine x_iincN (lv' := [_, _, _, _]) (b := 1) hC dJ5_circularClear_21 rfl (by decide) (by decide) rfl ?_
        refine x_goto (tgt := 12) hC dJ5_circularClear_24 (by decide) ?_
        exact ih (i + 1) to (by omega) ht _ _ (mu_mu ..) kk
  have last : ∀ M2 f2, M2 = mu M0 e (oa g 2 17 f2) → Wg G C M2 0 0 27 [some (.ref e), some (.int (nI n)), some (.int (nI n)), some (.int (nI n))] [] := by
    intro M2 f2 hM
    refine x_iload_n hC dJ5_circularClear_27 rfl rfl ?_
    refine x_iload_n hC dJ5_circularClear_28 rfl rfl ?_
    refine x_icmp_ne (tgt := 35) hC dJ5_circularClear_29 (by decide) (fun c => ?_) (fun c => ?_)
    · exact absurd rfl c
    · refine x_goto (tgt := 42) hC dJ5_circularClear_32 (by decide) ?_
      exact x_vret hC hk dJ5_circularClear_42 (Nat.le_of_ble_eq_true rfl) (Nat.le_of_ble_eq_true rfl) ⟨rfl, f2, hM⟩
  have hM0 : M0 = mu M0 e (oa g 2 17 f) := by
    funext a
    unfold mu
    split
    · next h => rw [h]; exact he
    · rfl
  refine x_iload_n hC dJ5_circularClear_0 rfl rfl ?_
  refine x_iload_n hC dJ5_circularClear_1 rfl rfl ?_
  refine x_icmp_gtN (tgt := 9) hC (by omega) (by omega) dJ5_circularClear_2 (by decide) (fun c => ?_) (fun c => ?_)
  · refine x_aload_n hC dJ5_circularClear_9 rfl rfl ?_
    refine x_alen hC he dJ5_circularClear_10 ?_
    dsimp only
    refine x_istore_n (lv' := [_, _, _, _]) hC dJ5_circularClear_11 rfl (by decide) rfl ?_
    refine lp (17 - i) i 17 (by omega) (by omega) M0 f hM0 (fun M2 f2 hM2 => ?_)
    refine x_iload_n hC dJ5_circularClear_27 rfl rfl ?_
    refine x_iload_n hC dJ5_circularClear_28 rfl rfl ?_
    refine x_icmp_neN (tgt := 35) hC (by omega) (by omega) dJ5_circularClear_29 (by decide) (fun c2 => ?_) (fun c2 => ?_)
    · refine x_iconst (v := nI 0) hC dJ5_circularClear_35 (by decide) ?_
      refine x_istore_n (lv' := [_, _, _, _]) hC dJ5_circularClear_36 rfl (by decide) rfl ?_
      refine x_iload_n hC dJ5_circularClear_37 rfl rfl ?_
      refine x_istore_n (lv' := [_, _, _, _]) hC dJ5_circularClear_38 rfl (by decide) rfl ?_
      refine x_goto (tgt := 12) hC dJ5_circularClear_39 (by decide) ?_
      exact lp n 0 n (by omega) (by omega) M2 f2 hM2 last
    · exact absurd c2 (by omega)
  · refine x_iload_n hC dJ5_circularClear_5 rfl rfl ?_
    refine x_goto (tgt := 11) hC dJ5_circularClear_6 (by decide) ?_
    refine x_istore_n (lv' := [_, _, _, _]) hC dJ5_circularClear_11 rfl (by decide) rfl ?_
    exact lp (n - i) i n (by omega) (by omega) M0 f hM0 last
theorem ct_dqClear (hG : GOK G) (hg : g ≠ 0) (h : DQ M g q L) : Ct G yJ5_clear cJ5_clear 1 none (xrm 2 0 0) [.ref q] M (fun r M' => r = none ∧ DQ M' g q [] ∧ Fr (fun g' => g' = g) M M') := by
  obtain ⟨e, f, k, h1, h2, h3, h4, h5⟩ := h
  have hqe : q ≠ e := mx_ne h1 h2 (fun z => by cases z)
  refine ct_open (lv := [_]) hG (by decide +kernel) (Nat.le_of_ble_eq_true rfl) rfl (fun C hC hk => ?_)
  obtain ⟨M0, hM0⟩ : ∃ M0, M0 = M := ⟨M, rfl⟩
  rw [← hM0] at hk
  have hF : Fm M0 M := by rw [hM0]; exact Fr.rf
  subst hM0
  refine x_aload_n hC dJ5_clear_0 rfl rfl ?_
  refine x_get hC 0 h1 rfl (by decide) q218 rfl rfl dJ5_clear_1 ?_
  refine x_aload_n hC dJ5_clear_4 rfl rfl ?_
  refine x_get hC 1 h1 rfl (by decide) q219 rfl rfl dJ5_clear_5 ?_
  refine x_aload_n hC dJ5_clear_8 rfl rfl ?_
  refine x_get hC 2 h1 rfl (by decide) q220 rfl rfl dJ5_clear_9 ?_
  refine x_callS0 (na := 3) hC (ct_dqCC hG hg h2 h3 (Nat.mod_lt _ (by decide))) (lw_S q1505 q1506 q88 q1507) (by decide +kernel) rfl ⟨Nat.le_of_ble_eq_true rfl, Nat.le_of_ble_eq_true rfl⟩ rfl (Nat.le_of_ble_eq_true rfl) ⟨rfl, rfl⟩ ⟨Nat.le_of_ble_eq_true rfl, Nat.le_of_ble_eq_true rfl⟩ dJ5_clear_12 ?_
  rintro _ _ ⟨rfl, f', rfl⟩
  refine x_aload_n hC dJ5_clear_15 rfl rfl ?_
  refine x_aload_n hC dJ5_clear_16 rfl rfl ?_
  refine x_iconst (v := nI 0) hC dJ5_clear_17 (by decide) ?_
  refine x_dup_x1 hC dJ5_clear_18 rfl rfl ?_
  refine x_put hC 2 (mu_o hqe h1) hg rfl (by decide) q220 rfl rfl rfl rfl rfl (show 2 < 3 by decide) (fs' := [.ref e, .int (nI k), .int (nI 0)]) rfl dJ5_clear_19 ?_
  refine x_put hC 1 mu_s hg rfl (by decide) q219 rfl rfl rfl rfl rfl (show 1 < 3 by decide) (fs' := [.ref e, .int (nI 0), .int (nI 0)]) rfl dJ5_clear_22 ?_
  rw [mu_mu]
  exact x_vret hC hk dJ5_clear_25 (Nat.le_of_ble_eq_true rfl) (Nat.le_of_ble_eq_true rfl) ⟨rfl, ⟨e, f', 0, mu_s, mu_o (Ne.symm hqe) mu_s, by decide, by decide, fun i x hi => by cases hi⟩, (Fr.set (P := fun g' => g' = g) h2 rfl).tr (Fr.set (mu_o hqe h1) rfl)⟩
end DQS

