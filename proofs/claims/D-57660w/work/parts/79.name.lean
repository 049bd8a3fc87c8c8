/-! ===== class Name ===== -/
/-- the code of the first k letters -/
def nhN (w : List Nat) : Nat → Int32
  | 0 => 0
  | k + 1 => 27 * nhN w k + nI (w.getD k 0) - 97 + 1
abbrev nmH (w : List Nat) : Int32 := nhN w w.length
section NAM
variable {G : X_G} {M : X_M} {a s : Nat} {w : List Nat}
theorem SM.rec (h : SM M s w) : ∃ vs, M s = some (ob 0 13 vs) := by
  obtain ⟨b, x, z, f, h1, -⟩ := h
  exact ⟨_, h1⟩
theorem SM.len (h : SM M s w) : w.length ≤ 1000 := by
  obtain ⟨b, x, z, f, h1, h2, h3, h4, h5⟩ := h
  exact h4
theorem ct_nmInit (hG : GOK G) {g : Nat} (hg : g ≠ 0) (h : M a = some (ob g 4 [.null])) : Ct G yX6_init cX6_init 2 none (xrm 1 0 0) [.ref a, .ref s] M (fun r M' => r = none ∧ M' = mu M a (ob g 4 [.ref s])) := by
  refine ct_open (lv := [_, _]) hG (by decide +kernel) (Nat.le_of_ble_eq_true rfl) rfl (fun C hC hk => ?_)
  refine x_aload_n hC dX6_init_0 rfl rfl ?_
  refine x_objInit hC q616 q132 q133 dX6_init_1 (Nat.le_of_ble_eq_true rfl) ⟨Nat.le_of_ble_eq_true rfl, Nat.le_of_ble_eq_true rfl⟩ ?_
  refine x_aload_n hC dX6_init_4 rfl rfl ?_
  refine x_aload_n hC dX6_init_5 rfl rfl ?_
  refine x_putF hC 0 h hg rfl (by decide) q617 rfl rfl rfl rfl rfl rfl rfl (show 0 < 1 by decide) (fs' := [.ref s]) rfl dX6_init_6 ?_
  exact x_vret hC hk dX6_init_9 (Nat.le_of_ble_eq_true rfl) (Nat.le_of_ble_eq_true rfl) ⟨rfl, rfl⟩
theorem ct_nmEq (hG : GOK G) {a' : Nat} {w' : List Nat} (h : NM M a w) (h' : NM M a' w') : Ct G yX6_equals cX6_equals 2 (some .boolean) (xrm 3 0 0) [.ref a, .ref a'] M (Pr (.int (xB (w = w'))) M) := by
  obtain ⟨s, h1, h2⟩ := h
  obtain ⟨s', h1', h2'⟩ := h'
  obtain ⟨vs, h3⟩ := h2.rec
  refine ct_open (lv := [_, _]) hG (by decide +kernel) (Nat.le_of_ble_eq_true rfl) rfl (fun C hC hk => ?_)
  refine x_aload_n hC dX6_equals_0 rfl rfl ?_
  refine x_instS hC h1' rfl rfl q753 dX6_equals_1 ?_
  refine x_if_eq (tgt := 28) hC dX6_equals_4 (by decide) (fun c0 => ?_) (fun c0 => ?_)
  · exact absurd c0 (by decide)
  · refine x_aload_n hC dX6_equals_7 rfl rfl ?_
    refine x_get hC 0 h1 rfl (by decide) q617 rfl rfl dX6_equals_8 ?_
    refine x_aload_n hC dX6_equals_11 rfl rfl ?_
    refine x_castS hC h1' rfl rfl q753 dX6_equals_12 ?_
    refine x_get hC 0 h1' rfl (by decide) q617 rfl rfl dX6_equals_15 ?_
    refine x_callV0 (na := 1) hC (ct_sEq hG h2 h2') (lw_V q754 q755 q756 q100 q757) h3 rfl rfl (by decide +kernel) rfl ⟨Nat.le_of_ble_eq_true rfl, Nat.le_of_ble_eq_true rfl⟩ rfl (Nat.le_of_ble_eq_true rfl) ⟨rfl, rfl⟩ ⟨Nat.le_of_ble_eq_true rfl, Nat.le_of_ble_eq_true rfl⟩ dX6_equals_18 ?_
    rintro _ M ⟨rfl, rfl⟩
    refine x_if_eqB (tgt := 28) hC dX6_equals_21 (by decide) (fun c => ?_) (fun c => ?_)
    · refine x_iconst (v := 0) hC dX6_equals_28 (by decide) ?_
      exact x_zret hC hk dX6_equals_29 (by first | rfl | exact xB_nar) (Nat.le_of_ble_eq_true rfl) (Nat.le_of_ble_eq_true rfl) ⟨by rw [xB_f c], rfl⟩
    · refine x_iconst (v := 1) hC dX6_equals_24 (by decide) ?_
      refine x_goto (tgt := 29) hC dX6_equals_25 (by decide) ?_
      exact x_zret hC hk dX6_equals_29 (by first | rfl | exact xB_nar) (Nat.le_of_ble_eq_true rfl) (Nat.le_of_ble_eq_true rfl) ⟨by rw [xB_t c], rfl⟩
theorem ct_nmHash (hG : GOK G) (h : NM M a w) : Ct G yX6_hashCode cX6_hashCode 3 (some .int) (xrm 5 0 0) [.ref a] M (Pr (.int (nmH w)) M) := by
  obtain ⟨s, h1, h2⟩ := h
  obtain ⟨vs, h3⟩ := h2.rec
  have hl := h2.len
  refine ct_open (lv := [_, _, _]) hG (by decide +kernel) (Nat.le_of_ble_eq_true rfl) rfl (fun C hC hk => ?_)
  refine x_iconst (v := 0) hC dX6_hashCode_0 (by decide) ?_
  refine x_istore_n (lv' := [_, _, _]) hC dX6_hashCode_1 rfl (by decide) rfl ?_
  refine x_iconst (v := nI 0) hC dX6_hashCode_2 (by decide) ?_
  refine x_istore_n (lv' := [_, _, _]) hC dX6_hashCode_3 rfl (by decide) rfl ?_
  refine x_up (n := w.length) (I := fun k => Wg G C M 0 0 4 [some (.ref a), some (.int (nhN w k)), some (.int (nI k))] []) (fun k hk2 ih => ?_) 0 (Nat.zero_le _)
  refine x_iload_n hC dX6_hashCode_4 rfl rfl ?_
  refine x_aload_n hC dX6_hashCode_5 rfl rfl ?_
  refine x_get hC 0 h1 rfl (by decide) q617 rfl rfl dX6_hashCode_6 ?_
  refine x_callV0 (na := 0) hC (ct_sLen hG h2) (lw_V q668 q536 q537 q100 q538) h3 rfl rfl (by decide +kernel) rfl ⟨Nat.le_of_ble_eq_true rfl, Nat.le_of_ble_eq_true rfl⟩ rfl (Nat.le_of_ble_eq_true rfl) ⟨rfl, rfl⟩ ⟨Nat.le_of_ble_eq_true rfl, Nat.le_of_ble_eq_true rfl⟩ dX6_hashCode_9 ?_
  rintro _ M ⟨rfl, rfl⟩
  refine x_icmp_geN (tgt := 40) hC (by omega) (by omega) dX6_hashCode_12 (by decide) (fun c => ?_) (fun c => ?_)
  · refine x_iload_n hC dX6_hashCode_40 rfl rfl ?_
    exact x_iret hC hk dX6_hashCode_41 (Nat.le_of_ble_eq_true rfl) (Nat.le_of_ble_eq_true rfl) ⟨by rw [show k = w.length by omega], rfl⟩
  · have hw : w[k]? = some (w.getD k 0) := by rw [List.getD_eq_getElem?_getD, List.getElem?_eq_getElem c]; rfl
    refine x_bipush (v := 27) hC dX6_hashCode_15 (by decide) ?_
    refine x_iload_n hC dX6_hashCode_17 rfl rfl ?_
    refine x_imul hC dX6_hashCode_18 ?_
    refine x_aload_n hC dX6_hashCode_19 rfl rfl ?_
    refine x_get hC 0 h1 rfl (by decide) q617 rfl rfl dX6_hashCode_20 ?_
    refine x_iload_n hC dX6_hashCode_23 rfl rfl ?_
    refine x_callV0 (na := 1) hC (ct_sAt hG h2 hw) (lw_V q669 q627 q628 q100 q629) h3 rfl rfl (by decide +kernel) rfl ⟨Nat.le_of_ble_eq_true rfl, Nat.le_of_ble_eq_true rfl⟩ rfl (Nat.le_of_ble_eq_true rfl) ⟨rfl, rfl⟩ ⟨Nat.le_of_ble_eq_true rfl, Nat.le_of_ble_eq_true rfl⟩ dX6_hashCode_24 ?_
    rintro _ M ⟨rfl, rfl⟩
    refine x_iadd hC dX6_hashCode_27 ?_
    refine x_bipush (v := 97) hC dX6_hashCode_28 (by decide) ?_
    refine x_isub hC dX6_hashCode_30 ?_
    refine x_iconst (v := 1) hC dX6_hashCode_31 (by decide) ?_
    refine x_iadd hC dX6_hashCode_32 ?_
    refine x_istore_n (lv' := [_, _, _]) hC dX6_hashCode_33 rfl (by decide) rfl ?_
    refine x_iincN (lv' := [_, _, _]) (b := 1) hC dX6_hashCode_34 rfl (by decide) (by decide) rfl ?_
    refine x_goto (tgt := 4) hC dX6_hashCode_37 (by decide) ?_
    exact ih c
end NAM

