/-! ===== java/util/ArrayList ===== -/
/-- the list object l holds the objects L (at most ten) -/
def AL (M : X_M) (T : X_T) (g l : Nat) (L : List Nat) : Prop := ∃ (mc : Int32) (e : Nat), M l = some (ob g 7 [.int mc, .ref e, .int (nI L.length)]) ∧ ((L = [] ∧ e = T 0) ∨ (L.length ≤ 10 ∧ ∃ f, M e = some (oa g 2 10 f) ∧ ∀ (i : Nat) (x : Nat), L[i]? = some x → f i = some x))
theorem AL.fr {P : Nat → Prop} {M M' : X_M} {T : X_T} {g l : Nat} {L : List Nat} (h : AL M T g l L) (hF : Fr P M M') (hg : ¬ P g) : AL M' T g l L := by
  obtain ⟨mc, e, h1, h2⟩ := h
  refine ⟨mc, e, hF.z hg h1, ?_⟩
  rcases h2 with h2 | ⟨h2, f, h3, h4⟩
  · exact Or.inl h2
  · exact Or.inr ⟨h2, f, hF.z hg h3, h4⟩
theorem AL.len {M : X_M} {T : X_T} {g l : Nat} {L : List Nat} (h : AL M T g l L) : L.length ≤ 10 := by
  obtain ⟨mc, e, h1, h2⟩ := h
  rcases h2 with ⟨rfl, -⟩ | ⟨h2, -⟩
  · exact Nat.zero_le _
  · exact h2
section JAL
variable {G : X_G} {M : X_M} {T : X_T} {g l : Nat} {L : List Nat}
theorem ct_acInit (hG : GOK G) (M : X_M) (l : Nat) : Ct G yJ0_init cJ0_init 1 none (xrm 1 0 0) [.ref l] M (fun r M' => r = none ∧ M' = M) := by
  refine ct_open (lv := [_]) hG (by decide +kernel) (Nat.le_of_ble_eq_true rfl) rfl (fun C hC hk => ?_)
  refine x_aload_n hC dJ0_init_0 rfl rfl ?_
  refine x_objInit hC q151 q132 q133 dJ0_init_1 (Nat.le_of_ble_eq_true rfl) ⟨Nat.le_of_ble_eq_true rfl, Nat.le_of_ble_eq_true rfl⟩ ?_
  exact x_vret hC hk dJ0_init_4 (Nat.le_of_ble_eq_true rfl) (Nat.le_of_ble_eq_true rfl) ⟨rfl, rfl⟩
theorem ct_ablInit (hG : GOK G) {v : Value} {mc n : Int32} (hg : g ≠ 0) (h : M l = some (ob g 7 [.int mc, v, .int n])) : Ct G yJ1_init cJ1_init 1 none (xrm 2 0 0) [.ref l] M (fun r M' => r = none ∧ M' = mu M l (ob g 7 [.int 0, v, .int n])) := by
  refine ct_open (lv := [_]) hG (by decide +kernel) (Nat.le_of_ble_eq_true rfl) rfl (fun C hC hk => ?_)
  refine x_aload_n hC dJ1_init_0 rfl rfl ?_
  refine x_callI0 (na := 0) hC (ct_acInit hG M l) q150 q83 q148 q149 rfl (by decide +kernel) rfl ⟨Nat.le_of_ble_eq_true rfl, Nat.le_of_ble_eq_true rfl⟩ rfl (Nat.le_of_ble_eq_true rfl) ⟨rfl, rfl⟩ ⟨Nat.le_of_ble_eq_true rfl, Nat.le_of_ble_eq_true rfl⟩ dJ1_init_1 ?_
  rintro _ M ⟨rfl, rfl⟩
  refine x_aload_n hC dJ1_init_4 rfl rfl ?_
  refine x_iconst (v := 0) hC dJ1_init_5 (by decide) ?_
  refine x_put hC 0 h hg rfl (by decide) q158 rfl rfl rfl rfl rfl (show 0 < 3 by decide) (fs' := [.int 0, v, .int n]) rfl dJ1_init_6 ?_
  exact x_vret hC hk dJ1_init_9 (Nat.le_of_ble_eq_true rfl) (Nat.le_of_ble_eq_true rfl) ⟨rfl, rfl⟩
theorem ct_alInit (hG : GOK G) (hT : T0 G T) (hg : g ≠ 0) (h : M l = some (ob g 7 [.int 0, .null, .int 0])) : Ct G yJ2_init cJ2_init 1 none (xrm 3 0 0) [.ref l] M (fun r M' => r = none ∧ M' = mu M l (ob g 7 [.int 0, .ref (T 0), .int 0])) := by
  refine ct_open (lv := [_]) hG (by decide +kernel) (Nat.le_of_ble_eq_true rfl) rfl (fun C hC hk => ?_)
  refine x_aload_n hC dJ2_init_0 rfl rfl ?_
  refine x_callI0 (na := 0) hC (ct_ablInit hG hg h) q147 q84 q145 q146 rfl (by decide +kernel) rfl ⟨Nat.le_of_ble_eq_true rfl, Nat.le_of_ble_eq_true rfl⟩ rfl (Nat.le_of_ble_eq_true rfl) ⟨rfl, rfl⟩ ⟨Nat.le_of_ble_eq_true rfl, Nat.le_of_ble_eq_true rfl⟩ dJ2_init_1 ?_
  rintro _ M ⟨rfl, rfl⟩
  refine x_aload_n hC dJ2_init_4 rfl rfl ?_
  refine x_gets hC hT q152 rfl dJ2_init_5 ?_
  refine x_put hC 1 mu_s hg rfl (by decide) q154 rfl rfl rfl rfl rfl (show 1 < 3 by decide) (fs' := [.int 0, .ref (T 0), .int 0]) rfl dJ2_init_8 ?_
  rw [mu_mu]
  exact x_vret hC hk dJ2_init_11 (Nat.le_of_ble_eq_true rfl) (Nat.le_of_ble_eq_true rfl) ⟨rfl, rfl⟩
theorem ct_alSize (hG : GOK G) (h : AL M T g l L) : Ct G yJ2_size cJ2_size 1 (some .int) (xrm 1 0 0) [.ref l] M (Pr (.int (nI L.length)) M) := by
  obtain ⟨mc, e, h1, -⟩ := h
  refine ct_open (lv := [_]) hG (by decide +kernel) (Nat.le_of_ble_eq_true rfl) rfl (fun C hC hk => ?_)
  refine x_aload_n hC dJ2_size_0 rfl rfl ?_
  refine x_get hC 2 h1 rfl (by decide) q157 rfl rfl dJ2_size_1 ?_
  exact x_iret hC hk dJ2_size_4 (Nat.le_of_ble_eq_true rfl) (Nat.le_of_ble_eq_true rfl) ⟨rfl, rfl⟩
theorem ct_pcheck (hG : GOK G) {i n : Nat} (hi : i < n) (hn : n < 2 ^ 31) (M : X_M) : Ct G yJ20_checkIndex cJ20_checkIndex 3 (some .int) (xrm 1 0 0) [.int (nI i), .int (nI n), .null] M (Pr (.int (nI i)) M) := by
  refine ct_open (lv := [_, _, _]) hG (by decide +kernel) (Nat.le_of_ble_eq_true rfl) rfl (fun C hC hk => ?_)
  refine x_iload_n hC dJ20_checkIndex_0 rfl rfl ?_
  refine x_if_ltN (tgt := 9) hC (by omega) dJ20_checkIndex_1 (by decide) (fun c1 => ?_) (fun c1 => ?_)
  · exact absurd c1 (by omega)
  · refine x_iload_n hC dJ20_checkIndex_4 rfl rfl ?_
    refine x_iload_n hC dJ20_checkIndex_5 rfl rfl ?_
    refine x_icmp_ltN (tgt := 16) hC (by omega) (by omega) dJ20_checkIndex_6 (by decide) (fun c2 => ?_) (fun c2 => ?_)
    · refine x_iload_n hC dJ20_checkIndex_16 rfl rfl ?_
      exact x_iret hC hk dJ20_checkIndex_17 (Nat.le_of_ble_eq_true rfl) (Nat.le_of_ble_eq_true rfl) ⟨rfl, rfl⟩
    · exact absurd hi (by omega)
theorem ct_checkIndex (hG : GOK G) {i n : Nat} (hi : i < n) (hn : n < 2 ^ 31) (M : X_M) : Ct G yJ29_checkIndex cJ29_checkIndex 2 (some .int) (xrm 2 0 0) [.int (nI i), .int (nI n)] M (Pr (.int (nI i)) M) := by
  refine ct_open (lv := [_, _]) hG (by decide +kernel) (Nat.le_of_ble_eq_true rfl) rfl (fun C hC hk => ?_)
  refine x_iload_n hC dJ29_checkIndex_0 rfl rfl ?_
  refine x_iload_n hC dJ29_checkIndex_1 rfl rfl ?_
  refine x_null hC dJ29_checkIndex_2 ?_
  refine x_callS0 (na := 3) hC (ct_pcheck hG hi hn _) (lw_S q1044 q402 q107 q403) (by decide +kernel) rfl ⟨Nat.le_of_ble_eq_true rfl, Nat.le_of_ble_eq_true rfl⟩ rfl (Nat.le_of_ble_eq_true rfl) ⟨rfl, rfl⟩ ⟨Nat.le_of_ble_eq_true rfl, Nat.le_of_ble_eq_true rfl⟩ dJ29_checkIndex_3 ?_
  rintro _ M ⟨rfl, rfl⟩
  exact x_iret hC hk dJ29_checkIndex_6 (Nat.le_of_ble_eq_true rfl) (Nat.le_of_ble_eq_true rfl) ⟨rfl, rfl⟩
theorem ct_alElem (hG : GOK G) {mc : Int32} {e i x : Nat} {v : Value} {f : Nat → Option Nat} {ge n : Nat} (h : M l = some (ob g 7 [.int mc, .ref e, v])) (he : M e = some (oa ge 2 n f)) (hi : i < n) (hn : n < 2 ^ 31) (hf : f i = some x) : Ct G yJ2_elementData cJ2_elementData 2 (some (.object "java/lang/Object")) (xrm 1 0 0) [.ref l, .int (nI i)] M (Pr (.ref x) M) := by
  refine ct_open (lv := [_, _]) hG (by decide +kernel) (Nat.le_of_ble_eq_true rfl) rfl (fun C hC hk => ?_)
  refine x_aload_n hC dJ2_elementData_0 rfl rfl ?_
  refine x_get hC 1 h rfl (by decide) q154 rfl rfl dJ2_elementData_1 ?_
  refine x_iload_n hC dJ2_elementData_4 rfl rfl ?_
  refine x_aaldN hC he rfl hi (by first | decide | omega) dJ2_elementData_5 ?_
  rw [hf]
  exact x_aret hC hk dJ2_elementData_6 (Or.inl ⟨_, rfl⟩) (Or.inr ⟨_, rfl⟩) (Nat.le_of_ble_eq_true rfl) (Nat.le_of_ble_eq_true rfl) ⟨rfl, rfl⟩
theorem AL.at {i x : Nat} (h : AL M T g l L) (hx : L[i]? = some x) : ∃ (mc : Int32) (e : Nat) (f : Nat → Option Nat), M l = some (ob g 7 [.int mc, .ref e, .int (nI L.length)]) ∧ L.length ≤ 10 ∧ M e = some (oa g 2 10 f) ∧ (∀ (i : Nat) (x : Nat), L[i]? = some x → f i = some x) ∧ i < L.length := by
  have hi : i < L.length := (List.getElem?_eq_some_iff.mp hx).1
  obtain ⟨mc, e, h1, h2⟩ := h
  rcases h2 with ⟨rfl, -⟩ | ⟨h2, f, h3, h4⟩
  · exact absurd hi (Nat.not_lt_zero _)
  · exact ⟨mc, e, f, h1, h2, h3, h4, hi⟩
theorem ct_alGet (hG : GOK G) {i x : Nat} (h : AL M T g l L) (hx : L[i]? = some x) : Ct G yJ2_get cJ2_get 2 (some (.object "java/lang/Object")) (xrm 3 0 0) [.ref l, .int (nI i)] M (Pr (.ref x) M) := by
  obtain ⟨mc, e, f, h1, h2, h3, h4, hi⟩ := h.at hx
  refine ct_open (lv := [_, _]) hG (by decide +kernel) (Nat.le_of_ble_eq_true rfl) rfl (fun C hC hk => ?_)
  refine x_iload_n hC dJ2_get_0 rfl rfl ?_
  refine x_aload_n hC dJ2_get_1 rfl rfl ?_
  refine x_get hC 2 h1 rfl (by decide) q157 rfl rfl dJ2_get_2 ?_
  refine x_callS0 (na := 2) hC (ct_checkIndex hG hi (by omega) _) (lw_S q1041 q1042 q121 q1043) (by decide +kernel) rfl ⟨Nat.le_of_ble_eq_true rfl, Nat.le_of_ble_eq_true rfl⟩ rfl (Nat.le_of_ble_eq_true rfl) ⟨rfl, rfl⟩ ⟨Nat.le_of_ble_eq_true rfl, Nat.le_of_ble_eq_true rfl⟩ dJ2_get_5 ?_
  rintro _ M ⟨rfl, rfl⟩
  refine x_pop hC dJ2_get_8 rfl ?_
  refine x_aload_n hC dJ2_get_9 rfl rfl ?_
  refine x_iload_n hC dJ2_get_10 rfl rfl ?_
  refine x_callV0 (na := 1) hC (ct_alElem hG h1 h3 (by omega) (by decide) (h4 i x hx)) (lw_V q1045 q1046 q1047 q85 q1048) h1 rfl rfl (by decide +kernel) rfl ⟨Nat.le_of_ble_eq_true rfl, Nat.le_of_ble_eq_true rfl⟩ rfl (Nat.le_of_ble_eq_true rfl) ⟨rfl, rfl⟩ ⟨Nat.le_of_ble_eq_true rfl, Nat.le_of_ble_eq_true rfl⟩ dJ2_get_11 ?_
  rintro _ M ⟨rfl, rfl⟩
  exact x_aret hC hk dJ2_get_14 (Or.inl ⟨_, rfl⟩) (Or.inr ⟨_, rfl⟩) (Nat.le_of_ble_eq_true rfl) (Nat.le_of_ble_eq_true rfl) ⟨rfl, rfl⟩
theorem ct_alSet (hG : GOK G) {i x v g1 : Nat} {vs : List Value} (hg : g ≠ 0) (h : AL M T g l L) (hx : L[i]? = some x) (hv : M v = some (ob g1 3 vs)) : Ct G yJ2_set cJ2_set 4 (some (.object "java/lang/Object")) (xrm 3 0 0) [.ref l, .int (nI i), .ref v] M (fun r M' => r = some (.ref x) ∧ AL M' T g l (L.set i v) ∧ Fr (fun g' => g' = g) M M') := by
  obtain ⟨mc, e, f, h1, h2, h3, h4, hi⟩ := h.at hx
  refine ct_open (lv := [_, _, _, _]) hG (by decide +kernel) (Nat.le_of_ble_eq_true rfl) rfl (fun C hC hk => ?_)
  refine x_iload_n hC dJ2_set_0 rfl rfl ?_
  refine x_aload_n hC dJ2_set_1 rfl rfl ?_
  refine x_get hC 2 h1 rfl (by decide) q157 rfl rfl dJ2_set_2 ?_
  refine x_callS0 (na := 2) hC (ct_checkIndex hG hi (by omega) _) (lw_S q1041 q1042 q121 q1043) (by decide +kernel) rfl ⟨Nat.le_of_ble_eq_true rfl, Nat.le_of_ble_eq_true rfl⟩ rfl (Nat.le_of_ble_eq_true rfl) ⟨rfl, rfl⟩ ⟨Nat.le_of_ble_eq_true rfl, Nat.le_of_ble_eq_true rfl⟩ dJ2_set_5 ?_
  rintro _ M ⟨rfl, rfl⟩
  refine x_pop hC dJ2_set_8 rfl ?_
  refine x_aload_n hC dJ2_set_9 rfl rfl ?_
  refine x_iload_n hC dJ2_set_10 rfl rfl ?_
  refine x_callV0 (na := 1) hC (ct_alElem hG h1 h3 (by omega) (by decide) (h4 i x hx)) (lw_V q1045 q1046 q1047 q85 q1048) h1 rfl rfl (by decide +kernel) rfl ⟨Nat.le_of_ble_eq_true rfl, Nat.le_of_ble_eq_true rfl⟩ rfl (Nat.le_of_ble_eq_true rfl) ⟨rfl, rfl⟩ ⟨Nat.le_of_ble_eq_true rfl, Nat.le_of_ble_eq_true rfl⟩ dJ2_set_11 ?_
  rintro _ M ⟨rfl, rfl⟩
  refine x_astore_n (lv' := [_, _, _, _]) hC dJ2_set_14 rfl (by decide) rfl ?_
  refine x_aload_n hC dJ2_set_15 rfl rfl ?_
  refine x_get hC 1 h1 rfl (by decide) q154 rfl rfl dJ2_set_16 ?_
  refine x_iload_n hC dJ2_set_19 rfl rfl ?_
  refine x_aload_n hC dJ2_set_20 rfl rfl ?_
  refine x_aastI hC h3 (by first | decide | assumption) rfl hv rfl q2910 (by omega) (by first | decide | omega) dJ2_set_21 ?_
  refine x_aload_n hC dJ2_set_22 rfl rfl ?_
  have hle : l ≠ e := mx_ne h1 h3 (fun z => by cases z)
  refine x_aret hC hk dJ2_set_23 (Or.inl ⟨_, rfl⟩) (Or.inr ⟨_, rfl⟩) (Nat.le_of_ble_eq_true rfl) (Nat.le_of_ble_eq_true rfl) ⟨rfl, ⟨mc, e, (mu_o hle h1).trans (by rw [List.length_set]), Or.inr ⟨by rw [List.length_set]; exact h2, va_up f i (some v), mu_s, fun k z hz => ?_⟩⟩, Fr.set h3 rfl⟩
  by_cases ek : k = i
  · subst ek
    rw [List.getElem?_set_self hi] at hz
    cases hz
    exact va_up_self _ _ _
  · rw [List.getElem?_set_ne (Ne.symm ek)] at hz
    rw [va_up_ne _ _ ek]
    exact h4 k z hz
theorem ct_alGrow2 (hG : GOK G) (hT : T0 G T) (hM : M0c T M) (hg : g ≠ 0) {mc n : Int32} (h : M l = some (ob g 7 [.int mc, .ref (T 0), .int n])) : Ct G yJ2_grow_2 cJ2_grow_2 4 (some (.array (.object "java/lang/Object"))) (xrm 2 1 10) [.ref l, .int (nI 1)] M (fun r M' => ∃ e, r = some (.ref e) ∧ M e = none ∧ M' = mu (mu M e (oa g 2 10 fun _ => none)) l (ob g 7 [.int mc, .ref e, .int n])) := by
  refine ct_open (lv := [_, _, _, _]) hG (by decide +kernel) (Nat.le_of_ble_eq_true rfl) rfl (fun C hC hk => ?_)
  refine x_aload_n hC dJ2_grow_2_0 rfl rfl ?_
  refine x_get hC 1 h rfl (by decide) q154 rfl rfl dJ2_grow_2_1 ?_
  refine x_alen hC hM dJ2_grow_2_4 ?_
  refine x_istore_n (lv' := [_, _, _, _]) hC dJ2_grow_2_5 rfl (by decide) rfl ?_
  refine x_iload_n hC dJ2_grow_2_6 rfl rfl ?_
  refine x_if_gtN (tgt := 20) hC (by omega) dJ2_grow_2_7 (by decide) (fun c1 => ?_) (fun c1 => ?_)
  · exact absurd c1 (by decide)
  · refine x_aload_n hC dJ2_grow_2_10 rfl rfl ?_
    refine x_get hC 1 h rfl (by decide) q154 rfl rfl dJ2_grow_2_11 ?_
    refine x_gets hC hT q152 rfl dJ2_grow_2_14 ?_
    refine x_acmp_eqR (tgt := 45) hC dJ2_grow_2_17 (by decide) (fun c2 => ?_) (fun c2 => ?_)
    · refine x_aload_n hC dJ2_grow_2_45 rfl rfl ?_
      refine x_bipush (v := nI 10) hC dJ2_grow_2_46 (by decide) ?_
      refine x_iload_n hC dJ2_grow_2_48 rfl rfl ?_
      refine x_callS0 (na := 2) hC (ct_max hG _ _ _) (lw_S q1156 q328 q103 q329) (by decide +kernel) rfl ⟨Nat.le_of_ble_eq_true rfl, Nat.le_of_ble_eq_true rfl⟩ rfl (Nat.le_of_ble_eq_true rfl) ⟨rfl, rfl⟩ ⟨Nat.le_of_ble_eq_true rfl, Nat.le_of_ble_eq_true rfl⟩ dJ2_grow_2_49 ?_
      rintro _ M ⟨rfl, rfl⟩
      rw [show imax (nI 10) (nI 1) = nI 10 by decide]
      refine x_newq hC 10 g 2 q1157 q217 rfl (by decide) hg rfl (by decide) (Nat.le_of_ble_eq_true rfl) (Nat.le_of_ble_eq_true rfl) dJ2_grow_2_52 (fun e he => ?_)
      refine x_dup_x1 hC dJ2_grow_2_55 rfl rfl ?_
      refine x_put hC 1 (mu_f he h) hg rfl (by decide) q154 rfl rfl rfl rfl rfl (show 1 < 3 by decide) (fs' := [.int mc, .ref e, .int n]) rfl dJ2_grow_2_56 ?_
      exact x_aret hC hk dJ2_grow_2_59 (Or.inr ⟨_, rfl⟩) (Or.inr ⟨_, rfl⟩) (Nat.le_of_ble_eq_true rfl) (Nat.le_of_ble_eq_true rfl) ⟨e, rfl, he, rfl⟩
    · exact absurd rfl c2
theorem ct_alGrow (hG : GOK G) (hT : T0 G T) (hM : M0c T M) (hg : g ≠ 0) {mc : Int32} (h : M l = some (ob g 7 [.int mc, .ref (T 0), .int (nI 0)])) : Ct G yJ2_grow cJ2_grow 1 (some (.array (.object "java/lang/Object"))) (xrm 3 1 10) [.ref l] M (fun r M' => ∃ e, r = some (.ref e) ∧ M e = none ∧ M' = mu (mu M e (oa g 2 10 fun _ => none)) l (ob g 7 [.int mc, .ref e, .int (nI 0)])) := by
  refine ct_open (lv := [_]) hG (by decide +kernel) (Nat.le_of_ble_eq_true rfl) rfl (fun C hC hk => ?_)
  refine x_aload_n hC dJ2_grow_0 rfl rfl ?_
  refine x_aload_n hC dJ2_grow_1 rfl rfl ?_
  refine x_get hC 2 h rfl (by decide) q157 rfl rfl dJ2_grow_2 ?_
  refine x_iconst (v := nI 1) hC dJ2_grow_5 (by decide) ?_
  refine x_iaddN hC dJ2_grow_6 ?_
  refine x_callV (k := 1) (n := 10) (na := 1) hC (ct_alGrow2 hG hT hM hg h) (lw_V q1142 q1144 qs4 q85 q1145) h rfl rfl (by decide +kernel) rfl ⟨Nat.le_of_ble_eq_true rfl, Nat.le_of_ble_eq_true rfl⟩ rfl (Nat.le_of_ble_eq_true rfl) (Nat.le_of_ble_eq_true rfl) (Nat.le_of_ble_eq_true rfl) ⟨Nat.le_of_ble_eq_true rfl, Nat.le_of_ble_eq_true rfl⟩ dJ2_grow_7 ?_
  rintro _ _ ⟨e, rfl, he, rfl⟩
  exact x_aret hC hk dJ2_grow_10 (Or.inr ⟨_, rfl⟩) (Or.inr ⟨_, rfl⟩) (Nat.le_of_ble_eq_true rfl) (Nat.le_of_ble_eq_true rfl) ⟨e, rfl, he, rfl⟩
theorem ct_alAdd2 (hG : GOK G) (hT : T0 G T) (hM : M0c T M) (hg : g ≠ 0) {mc : Int32} {e x g1 : Nat} {vs : List Value} (h : M l = some (ob g 7 [.int mc, .ref e, .int (nI L.length)])) (h2 : (L = [] ∧ e = T 0) ∨ (L.length < 10 ∧ ∃ f, M e = some (oa g 2 10 f) ∧ ∀ (i : Nat) (x : Nat), L[i]? = some x → f i = some x)) (hx : M x = some (ob g1 3 vs)) : Ct G yJ2_add_2 cJ2_add_2 4 none (xrm 4 1 10) [.ref l, .ref x, .ref e, .int (nI L.length)] M (fun r M' => r = none ∧ AL M' T g l (L ++ [x]) ∧ Fr (fun g' => g' = g) M M') := by
  have last : ∀ (e : Nat) (M1 : X_M) (f : Nat → Option Nat) (C : X_C) (hC : Cx G C yJ2_add_2 cJ2_add_2 4 none (xrm 4 1 10)) (hk : Ck G C (fun r M' => r = none ∧ AL M' T g l (L ++ [x]) ∧ Fr (fun g' => g' = g) M M') (xrm 4 1 10)) (kc ks : Nat), kc ≤ 1 → ks ≤ 10 → M1 l = some (ob g 7 [.int mc, .ref e, .int (nI L.length)]) → L.length < 10 → M1 e = some (oa g 2 10 f) → (∀ (i : Nat) (x : Nat), L[i]? = some x → f i = some x) → M1 x = some (ob g1 3 vs) → Fr (fun g' => g' = g) M M1 → Wg G C M1 kc ks 11 [some (.ref l), some (.ref x), some (.ref e), some (.int (nI L.length))] [] := by
    intro e M1 f C hC hk kc ks hkc hks a1 a2 a3 a4 a5 hF
    have hle : l ≠ e := mx_ne a1 a3 (fun z => by cases z)
    refine x_aload_n hC dJ2_add_2_11 rfl rfl ?_
    refine x_iload_n hC dJ2_add_2_12 rfl rfl ?_
    refine x_aload_n hC dJ2_add_2_13 rfl rfl ?_
    refine x_aastI hC a3 (by first | decide | assumption) rfl a5 rfl q2910 a2 (by first | decide | omega) dJ2_add_2_14 ?_
    refine x_aload_n hC dJ2_add_2_15 rfl rfl ?_
    refine x_iload_n hC dJ2_add_2_16 rfl rfl ?_
    refine x_iconst (v := nI 1) hC dJ2_add_2_17 (by decide) ?_
    refine x_iaddN hC dJ2_add_2_18 ?_
    refine x_put hC 2 (mu_o hle a1) hg rfl (by decide) q157 rfl rfl rfl rfl rfl (show 2 < 3 by decide) (fs' := [.int mc, .ref e, .int (nI (L.length + 1))]) rfl dJ2_add_2_19 ?_
    refine x_vret hC hk dJ2_add_2_22 (show kc ≤ 1 from hkc) (show ks ≤ 10 from hks) ⟨rfl, ⟨mc, e, ?_, Or.inr ⟨?_, va_up f L.length (some x), mu_o (Ne.symm hle) mu_s, fun k z hz => ?_⟩⟩, hF.tr ((Fr.set (P := fun g' => g' = g) a3 rfl).tr (Fr.set (mu_o hle a1) rfl))⟩
    · rw [List.length_append]; exact mu_s
    · rw [List.length_append]; exact a2
    · by_cases ek : k = L.length
      · subst ek
        rw [List.getElem?_concat_length] at hz
        cases hz
        exact va_up_self _ _ _
      · rw [va_up_ne _ _ ek]
        refine a4 k z ?_
        have hk1 : k < (L ++ [x]).length := (List.getElem?_eq_some_iff.mp hz).1
        rw [List.length_append] at hk1
        rw [List.getElem?_append_left (by have : k < L.length + 1 := hk1; omega)] at hz
        exact hz
  rcases h2 with ⟨hL, he⟩ | ⟨h2, f, h3, h4⟩
  · subst he
    refine ct_open (lv := [_, _, _, _]) hG (by decide +kernel) (Nat.le_of_ble_eq_true rfl) rfl (fun C hC hk => ?_)
    refine x_iload_n hC dJ2_add_2_0 rfl rfl ?_
    refine x_aload_n hC dJ2_add_2_1 rfl rfl ?_
    refine x_alen hC hM dJ2_add_2_2 ?_
    rw [show (nI L.length) = nI 0 by rw [hL]; rfl] at h
    have h' := h
    rw [show nI 0 = nI L.length by rw [hL]; rfl] at h'
    refine x_icmp_neN (a := L.length) (b := 0) (tgt := 11) hC (by rw [hL]; decide) (by decide) dJ2_add_2_3 (by decide) (fun c => absurd (by rw [hL]; rfl) c) (fun c => ?_)
    refine x_aload_n hC dJ2_add_2_6 rfl rfl ?_
    refine x_callV (k := 1) (n := 10) (na := 0) hC (ct_alGrow hG hT hM hg h) (lw_V q1138 q1140 qs3 q85 q1141) h rfl rfl (by decide +kernel) rfl ⟨Nat.le_of_ble_eq_true rfl, Nat.le_of_ble_eq_true rfl⟩ rfl (Nat.le_of_ble_eq_true rfl) (Nat.le_of_ble_eq_true rfl) (Nat.le_of_ble_eq_true rfl) ⟨Nat.le_of_ble_eq_true rfl, Nat.le_of_ble_eq_true rfl⟩ dJ2_add_2_7 ?_
    rintro _ M1 ⟨e, rfl, he, rfl⟩
    have hle : l ≠ e := fun z => by rw [z, he] at h; cases h
    have hxl : x ≠ l := mx_ne hx h (fun z => by cases z)
    refine x_astore_n (lv' := [_, _, _, _]) hC dJ2_add_2_10 rfl (by decide) rfl ?_
    refine last e _ (fun _ => none) C hC hk _ _ (Nat.le_refl _) (Nat.le_refl _) (by rw [show nI L.length = nI 0 by rw [hL]; rfl]; exact mu_s) (by rw [hL]; decide) (mu_o (Ne.symm hle) mu_s) (fun i z hz => by rw [hL] at hz; cases hz) (mu_o hxl (mu_f he hx)) ((Fr.new he).tr (Fr.set (mu_f he h) rfl))
  · refine ct_open (lv := [_, _, _, _]) hG (by decide +kernel) (Nat.le_of_ble_eq_true rfl) rfl (fun C hC hk => ?_)
    refine x_iload_n hC dJ2_add_2_0 rfl rfl ?_
    refine x_aload_n hC dJ2_add_2_1 rfl rfl ?_
    refine x_alen hC h3 dJ2_add_2_2 ?_
    dsimp only
    refine x_icmp_neN (a := L.length) (b := 10) (tgt := 11) hC (by omega) (by decide) dJ2_add_2_3 (by decide) (fun c => ?_) (fun c => absurd c (by omega))
    exact last e M f C hC hk 0 0 (by omega) (by omega) h h2 h3 h4 hx Fr.rf
theorem ct_alAdd (hG : GOK G) (hT : T0 G T) (hM : M0c T M) (hg : g ≠ 0) {x g1 : Nat} {vs : List Value} (h : AL M T g l L) (hL : L.length < 10) (hx : M x = some (ob g1 3 vs)) : Ct G yJ2_add cJ2_add 2 (some .boolean) (xrm 5 1 10) [.ref l, .ref x] M (fun r M' => r = some (.int 1) ∧ AL M' T g l (L ++ [x]) ∧ Fr (fun g' => g' = g) M M') := by
  obtain ⟨mc, e, h1, h2⟩ := h
  have hxl : x ≠ l := mx_ne hx h1 (fun z => by cases z)
  have hl0 : T 0 ≠ l := mx_ne hM h1 (fun z => by cases z)
  refine ct_open (lv := [_, _]) hG (by decide +kernel) (Nat.le_of_ble_eq_true rfl) rfl (fun C hC hk => ?_)
  obtain ⟨M0, hM0⟩ : ∃ M0, M0 = M := ⟨M, rfl⟩
  rw [← hM0] at hk
  have hF : Fm M0 M := by rw [hM0]; exact Fr.rf
  subst hM0
  refine x_aload_n hC dJ2_add_0 rfl rfl ?_
  refine x_dup hC dJ2_add_1 rfl ?_
  refine x_getS hC 0 h1 rfl (by decide) q161 q160 rfl dJ2_add_2 ?_
  refine x_iconst (v := 1) hC dJ2_add_5 (by decide) ?_
  refine x_iadd hC dJ2_add_6 ?_
  refine x_putS hC 0 h1 hg rfl (by decide) q161 q160 rfl rfl rfl rfl (show 0 < 3 by decide) (fs' := [.int (mc + 1), .ref e, .int (nI L.length)]) rfl dJ2_add_7 ?_
  refine x_aload_n hC dJ2_add_10 rfl rfl ?_
  refine x_aload_n hC dJ2_add_11 rfl rfl ?_
  refine x_aload_n hC dJ2_add_12 rfl rfl ?_
  refine x_get hC 1 mu_s rfl (by decide) q154 rfl rfl dJ2_add_13 ?_
  refine x_aload_n hC dJ2_add_16 rfl rfl ?_
  refine x_get hC 2 mu_s rfl (by decide) q157 rfl rfl dJ2_add_17 ?_
  have h3 : (L = [] ∧ e = T 0) ∨ (L.length < 10 ∧ ∃ f, (mu M0 l (ob g 7 [.int (mc + 1), .ref e, .int (nI L.length)])) e = some (oa g 2 10 f) ∧ ∀ (i : Nat) (x : Nat), L[i]? = some x → f i = some x) := by
    rcases h2 with h2 | ⟨-, f, h3, h4⟩
    · exact Or.inl h2
    · exact Or.inr ⟨hL, f, mu_o (mx_ne h3 h1 (fun z => by cases z)) h3, h4⟩
  refine x_callV (k := 1) (n := 10) (na := 3) hC (ct_alAdd2 hG hT (mu_o hl0 hM) hg mu_s h3 (mu_o hxl hx)) (lw_V q1134 q1136 qs2 q85 q1137) mu_s rfl rfl (by decide +kernel) rfl ⟨Nat.le_of_ble_eq_true rfl, Nat.le_of_ble_eq_true rfl⟩ rfl (Nat.le_of_ble_eq_true rfl) (Nat.le_of_ble_eq_true rfl) (Nat.le_of_ble_eq_true rfl) ⟨Nat.le_of_ble_eq_true rfl, Nat.le_of_ble_eq_true rfl⟩ dJ2_add_20 ?_
  rintro _ M1 ⟨rfl, hA, hF1⟩
  refine x_iconst (v := 1) hC dJ2_add_23 (by decide) ?_
  exact x_zret hC hk dJ2_add_24 (by first | rfl | exact xB_nar) (Nat.le_of_ble_eq_true rfl) (Nat.le_of_ble_eq_true rfl) ⟨rfl, hA, (Fr.set (P := fun g' => g' = g) h1 rfl).tr hF1⟩
end JAL

