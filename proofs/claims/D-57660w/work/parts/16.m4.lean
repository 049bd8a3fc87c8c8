/-! ===== the reference's methods that only read: the rest ===== -/
section M4
variable {G : X_G} {M : X_M} {m : Nat} {P : Nat → Nat} {V : Nat → Int32} {A : Nat → Nat → Int32}
theorem ct_signs (hG : GOK G) (hm : Mdl M m P V A) {c n : Nat} (hc : c < 6) (hn : A 0 (8 + 72 * c) = nI n) (hn6 : n ≤ 64) : Ct G yX3_signs cX3_signs 6 (some .int) (xrm 3 0 0) [.ref m, .int (nI c)] M (Pr (.int (sgF (fun k => A 0 (9 + 72 * c + k)) n).1) M) := by
  refine ct_open (lv := [_, _, _, _, _, _]) hG (by decide +kernel) (Nat.le_of_ble_eq_true rfl) rfl (fun C hC hk => ?_)
  refine x_iconst (v := 0) hC dX3_signs_0 (by decide) ?_
  refine x_istore_n (lv' := [_, _, _, _, _, _]) hC dX3_signs_1 rfl (by decide) rfl ?_
  refine x_iconst (v := 0) hC dX3_signs_2 (by decide) ?_
  refine x_istore_n (lv' := [_, _, _, _, _, _]) hC dX3_signs_3 rfl (by decide) rfl ?_
  refine x_iconst (v := nI 0) hC dX3_signs_4 (by decide) ?_
  refine x_istore (lv' := [_, _, _, _, _, _]) hC dX3_signs_5 (by decide) rfl ?_
  refine x_up (n := n) (I := fun k => ∀ w5, Wg G C M 0 0 7 [some (.ref m), some (.int (nI c)), some (.int (sgF (fun k => A 0 (9 + 72 * c + k)) k).1), some (.int (sgF (fun k => A 0 (9 + 72 * c + k)) k).2), some (.int (nI k)), w5] []) (fun k hk2 ih w5 => ?_) 0 (Nat.zero_le _) none
  refine x_iload hC dX3_signs_7 rfl ?_
  refine x_aload_n hC dX3_signs_9 rfl rfl ?_
  refine x_iload_n hC dX3_signs_10 rfl rfl ?_
  refine x_callV0 (na := 1) hC (ct_size hG hm hc hn) (lw_V q2495 q2497 qs45 q89 q2498) hm.1 rfl rfl (by decide +kernel) rfl ⟨Nat.le_of_ble_eq_true rfl, Nat.le_of_ble_eq_true rfl⟩ rfl (Nat.le_of_ble_eq_true rfl) ⟨rfl, rfl⟩ ⟨Nat.le_of_ble_eq_true rfl, Nat.le_of_ble_eq_true rfl⟩ dX3_signs_11 ?_
  rintro _ M ⟨rfl, rfl⟩
  refine x_icmp_geN (tgt := 70) hC (by omega) (by omega) dX3_signs_14 (by decide) (fun c1 => ?_) (fun c1 => ?_)
  · refine x_iload_n hC dX3_signs_70 rfl rfl ?_
    exact x_iret hC hk dX3_signs_71 (Nat.le_of_ble_eq_true rfl) (Nat.le_of_ble_eq_true rfl) ⟨by rw [show k = n by omega], rfl⟩
  · refine x_aload_n hC dX3_signs_17 rfl rfl ?_
    refine x_iload_n hC dX3_signs_18 rfl rfl ?_
    refine x_iload hC dX3_signs_19 rfl ?_
    refine x_callV0 (na := 2) hC (ct_at hG hm hc (by omega)) (lw_V q2515 q2517 qs47 q89 q2518) hm.1 rfl rfl (by decide +kernel) rfl ⟨Nat.le_of_ble_eq_true rfl, Nat.le_of_ble_eq_true rfl⟩ rfl (Nat.le_of_ble_eq_true rfl) ⟨rfl, rfl⟩ ⟨Nat.le_of_ble_eq_true rfl, Nat.le_of_ble_eq_true rfl⟩ dX3_signs_21 ?_
    rintro _ M ⟨rfl, rfl⟩
    have hs : sgF (fun k => A 0 (9 + 72 * c + k)) (k + 1) = ((sgF (fun k => A 0 (9 + 72 * c + k)) k).1 + xB ((A 0 (9 + 72 * c + k) < 0 ∧ 0 < (sgF (fun k => A 0 (9 + 72 * c + k)) k).2) ∨ (0 < A 0 (9 + 72 * c + k) ∧ (sgF (fun k => A 0 (9 + 72 * c + k)) k).2 < 0)), if A 0 (9 + 72 * c + k) = 0 then (sgF (fun k => A 0 (9 + 72 * c + k)) k).2 else A 0 (9 + 72 * c + k)) := rfl
    have ih2 := ih c1
    rw [hs] at ih2
    generalize sgF (fun k => A 0 (9 + 72 * c + k)) k = sb at ih2 ⊢
    obtain ⟨s1, s2⟩ := sb
    generalize A 0 (9 + 72 * c + k) = z at ih2 ⊢
    dsimp only at ih2 ⊢
    refine x_istore (lv' := [_, _, _, _, _, _]) hC dX3_signs_24 (by decide) rfl ?_
    refine x_iload_n hC dX3_signs_26 rfl rfl ?_
    refine x_iload hC dX3_signs_27 rfl ?_
    refine x_j1 (fun v => v = xB ((z < 0 ∧ 0 < s2) ∨ (0 < z ∧ s2 < 0))) 50 (fun hj => ?_) (fun v hv => ?_)
    · refine x_if_ge (tgt := 36) hC dX3_signs_29 (by decide) (fun c2 => ?_) (fun c2 => ?_)
      · refine x_iload hC dX3_signs_36 rfl ?_
        refine x_if_le (tgt := 49) hC dX3_signs_38 (by decide) (fun c3 => ?_) (fun c3 => ?_)
        · refine x_iconst (v := 0) hC dX3_signs_49 (by decide) ?_
          exact hj _ (by rw [xB_f]; rintro (h | h); exact absurd h.1 (Int32.not_lt.mpr c2); exact absurd h.1 (Int32.not_lt.mpr c3))
        · refine x_iload_n hC dX3_signs_41 rfl rfl ?_
          refine x_if_ge (tgt := 49) hC dX3_signs_42 (by decide) (fun c4 => ?_) (fun c4 => ?_)
          · refine x_iconst (v := 0) hC dX3_signs_49 (by decide) ?_
            exact hj _ (by rw [xB_f]; rintro (h | h); exact absurd h.1 (Int32.not_lt.mpr c2); exact absurd h.2 (Int32.not_lt.mpr c4))
          · refine x_iconst (v := 1) hC dX3_signs_45 (by decide) ?_
            refine x_goto (tgt := 50) hC dX3_signs_46 (by decide) ?_
            exact hj _ (by rw [xB_t (Or.inr ⟨Int32.not_le.mp c3, Int32.not_le.mp c4⟩)])
      · refine x_iload_n hC dX3_signs_32 rfl rfl ?_
        refine x_if_gt (tgt := 45) hC dX3_signs_33 (by decide) (fun c5 => ?_) (fun c5 => ?_)
        · refine x_iconst (v := 1) hC dX3_signs_45 (by decide) ?_
          refine x_goto (tgt := 50) hC dX3_signs_46 (by decide) ?_
          exact hj _ (by rw [xB_t (Or.inl ⟨Int32.not_le.mp c2, c5⟩)])
        · refine x_iload hC dX3_signs_36 rfl ?_
          refine x_if_le (tgt := 49) hC dX3_signs_38 (by decide) (fun c3 => ?_) (fun c3 => ?_)
          · refine x_iconst (v := 0) hC dX3_signs_49 (by decide) ?_
            exact hj _ (by rw [xB_f]; rintro (h | h); exact absurd h.2 c5; exact absurd h.1 (Int32.not_lt.mpr c3))
          · exact (Int32.lt_irrefl (Int32.lt_trans (Int32.not_le.mp c2) (Int32.not_le.mp c3))).elim
    · subst hv
      refine x_iadd hC dX3_signs_50 ?_
      refine x_istore_n (lv' := [_, _, _, _, _, _]) hC dX3_signs_51 rfl (by decide) rfl ?_
      refine x_iload hC dX3_signs_52 rfl ?_
      refine x_if_ne (tgt := 61) hC dX3_signs_54 (by decide) (fun c6 => ?_) (fun c6 => ?_)
      · refine x_iload hC dX3_signs_61 rfl ?_
        refine x_istore_n (lv' := [_, _, _, _, _, _]) hC dX3_signs_63 rfl (by decide) rfl ?_
        refine x_iincN (lv' := [_, _, _, _, _, _]) (b := 1) hC dX3_signs_64 rfl (by decide) (by decide) rfl ?_
        refine x_goto (tgt := 7) hC dX3_signs_67 (by decide) ?_
        rw [if_neg c6] at ih2
        exact ih2 _
      · refine x_iload_n hC dX3_signs_57 rfl rfl ?_
        refine x_goto (tgt := 63) hC dX3_signs_58 (by decide) ?_
        refine x_istore_n (lv' := [_, _, _, _, _, _]) hC dX3_signs_63 rfl (by decide) rfl ?_
        refine x_iincN (lv' := [_, _, _, _, _, _]) (b := 1) hC dX3_signs_64 rfl (by decide) (by decide) rfl ?_
        refine x_goto (tgt := 7) hC dX3_signs_67 (by decide) ?_
        rw [if_pos c6] at ih2
        exact ih2 _
theorem ct_symmetric (hG : GOK G) (hm : Mdl M m P V A) {c n : Nat} (hc : c < 6) (hn : A 0 (8 + 72 * c) = nI n) (hn6 : n ≤ 64) : Ct G yX3_symmetric cX3_symmetric 3 (some .boolean) (xrm 3 0 0) [.ref m, .int (nI c)] M (Pr (.int (xB (∀ k, k < n → A 0 (9 + 72 * c + k) = A 0 (9 + 72 * c + (n - 1 - k))))) M) := by
  refine ct_open (lv := [_, _, _]) hG (by decide +kernel) (Nat.le_of_ble_eq_true rfl) rfl (fun C hC hk => ?_)
  refine x_iconst (v := nI 0) hC dX3_symmetric_0 (by decide) ?_
  refine x_istore_n (lv' := [_, _, _]) hC dX3_symmetric_1 rfl (by decide) rfl ?_
  refine x_up (n := n) (I := fun k => (∀ j, j < k → A 0 (9 + 72 * c + j) = A 0 (9 + 72 * c + (n - 1 - j))) → Wg G C M 0 0 2 [some (.ref m), some (.int (nI c)), some (.int (nI k))] []) (fun k hk2 ih h0 => ?_) 0 (Nat.zero_le _) (fun j hj => absurd hj (Nat.not_lt_zero j))
  refine x_iload_n hC dX3_symmetric_2 rfl rfl ?_
  refine x_aload_n hC dX3_symmetric_3 rfl rfl ?_
  refine x_iload_n hC dX3_symmetric_4 rfl rfl ?_
  refine x_callV0 (na := 1) hC (ct_size hG hm hc hn) (lw_V q2495 q2497 qs45 q89 q2498) hm.1 rfl rfl (by decide +kernel) rfl ⟨Nat.le_of_ble_eq_true rfl, Nat.le_of_ble_eq_true rfl⟩ rfl (Nat.le_of_ble_eq_true rfl) ⟨rfl, rfl⟩ ⟨Nat.le_of_ble_eq_true rfl, Nat.le_of_ble_eq_true rfl⟩ dX3_symmetric_5 ?_
  rintro _ M ⟨rfl, rfl⟩
  refine x_icmp_geN (tgt := 42) hC (by omega) (by omega) dX3_symmetric_8 (by decide) (fun c1 => ?_) (fun c1 => ?_)
  · refine x_iconst (v := 1) hC dX3_symmetric_42 (by decide) ?_
    exact x_zret hC hk dX3_symmetric_43 (by first | rfl | exact xB_nar) (Nat.le_of_ble_eq_true rfl) (Nat.le_of_ble_eq_true rfl) ⟨by rw [xB_t fun j hj => h0 j (by omega)], rfl⟩
  · refine x_aload_n hC dX3_symmetric_11 rfl rfl ?_
    refine x_iload_n hC dX3_symmetric_12 rfl rfl ?_
    refine x_iload_n hC dX3_symmetric_13 rfl rfl ?_
    refine x_callV0 (na := 2) hC (ct_at hG hm hc (by omega)) (lw_V q2515 q2517 qs47 q89 q2518) hm.1 rfl rfl (by decide +kernel) rfl ⟨Nat.le_of_ble_eq_true rfl, Nat.le_of_ble_eq_true rfl⟩ rfl (Nat.le_of_ble_eq_true rfl) ⟨rfl, rfl⟩ ⟨Nat.le_of_ble_eq_true rfl, Nat.le_of_ble_eq_true rfl⟩ dX3_symmetric_14 ?_
    rintro _ M ⟨rfl, rfl⟩
    refine x_aload_n hC dX3_symmetric_17 rfl rfl ?_
    refine x_iload_n hC dX3_symmetric_18 rfl rfl ?_
    refine x_aload_n hC dX3_symmetric_19 rfl rfl ?_
    refine x_iload_n hC dX3_symmetric_20 rfl rfl ?_
    refine x_callV0 (na := 1) hC (ct_size hG hm hc hn) (lw_V q2495 q2497 qs45 q89 q2498) hm.1 rfl rfl (by decide +kernel) rfl ⟨Nat.le_of_ble_eq_true rfl, Nat.le_of_ble_eq_true rfl⟩ rfl (Nat.le_of_ble_eq_true rfl) ⟨rfl, rfl⟩ ⟨Nat.le_of_ble_eq_true rfl, Nat.le_of_ble_eq_true rfl⟩ dX3_symmetric_21 ?_
    rintro _ M ⟨rfl, rfl⟩
    refine x_iconst (v := nI 1) hC dX3_symmetric_24 (by decide) ?_
    refine x_isubN hC dX3_symmetric_25 (by omega) ?_
    refine x_iload_n hC dX3_symmetric_26 rfl rfl ?_
    refine x_isubN hC dX3_symmetric_27 (by omega) ?_
    refine x_callV0 (na := 2) hC (ct_at hG hm hc (by omega)) (lw_V q2515 q2517 qs47 q89 q2518) hm.1 rfl rfl (by decide +kernel) rfl ⟨Nat.le_of_ble_eq_true rfl, Nat.le_of_ble_eq_true rfl⟩ rfl (Nat.le_of_ble_eq_true rfl) ⟨rfl, rfl⟩ ⟨Nat.le_of_ble_eq_true rfl, Nat.le_of_ble_eq_true rfl⟩ dX3_symmetric_28 ?_
    rintro _ M ⟨rfl, rfl⟩
    refine x_icmp_eq (tgt := 36) hC dX3_symmetric_31 (by decide) (fun c2 => ?_) (fun c2 => ?_)
    · refine x_iincN (lv' := [_, _, _]) (b := 1) hC dX3_symmetric_36 rfl (by decide) (by decide) rfl ?_
      refine x_goto (tgt := 2) hC dX3_symmetric_39 (by decide) ?_
      exact ih c1 (fun j hj => by
        rcases Nat.lt_or_ge j k with h | h
        · exact h0 j h
        · rw [show j = k by omega]; exact c2)
    · refine x_iconst (v := 0) hC dX3_symmetric_34 (by decide) ?_
      exact x_zret hC hk dX3_symmetric_35 (by first | rfl | exact xB_nar) (Nat.le_of_ble_eq_true rfl) (Nat.le_of_ble_eq_true rfl) ⟨by rw [xB_f fun h => c2 (h k c1)], rfl⟩
theorem ct_isBand (hG : GOK G) (hm : Mdl M m P V A) {c n : Nat} (hc : c < 6) (hn : A 0 (8 + 72 * c) = nI n) (x z : Int32) : Ct G yX3_isBand cX3_isBand 4 (some .boolean) (xrm 3 0 0) [.ref m, .int (nI c), .int x, .int z] M (Pr (.int (xB (0 ≤ x ∧ z < nI n ∧ x ≤ z))) M) := by
  refine ct_open (lv := [_, _, _, _]) hG (by decide +kernel) (Nat.le_of_ble_eq_true rfl) rfl (fun C hC hk => ?_)
  refine x_iload_n hC dX3_isBand_0 rfl rfl ?_
  refine x_if_lt (tgt := 22) hC dX3_isBand_1 (by decide) (fun c1 => ?_) (fun c1 => ?_)
  · refine x_iconst (v := 0) hC dX3_isBand_22 (by decide) ?_
    exact x_zret hC hk dX3_isBand_23 (by first | rfl | exact xB_nar) (Nat.le_of_ble_eq_true rfl) (Nat.le_of_ble_eq_true rfl) ⟨by rw [xB_f fun h => Int32.not_le.mpr c1 h.1], rfl⟩
  · refine x_iload_n hC dX3_isBand_4 rfl rfl ?_
    refine x_aload_n hC dX3_isBand_5 rfl rfl ?_
    refine x_iload_n hC dX3_isBand_6 rfl rfl ?_
    refine x_callV0 (na := 1) hC (ct_size hG hm hc hn) (lw_V q2495 q2497 qs45 q89 q2498) hm.1 rfl rfl (by decide +kernel) rfl ⟨Nat.le_of_ble_eq_true rfl, Nat.le_of_ble_eq_true rfl⟩ rfl (Nat.le_of_ble_eq_true rfl) ⟨rfl, rfl⟩ ⟨Nat.le_of_ble_eq_true rfl, Nat.le_of_ble_eq_true rfl⟩ dX3_isBand_7 ?_
    rintro _ M ⟨rfl, rfl⟩
    refine x_icmp_ge (tgt := 22) hC dX3_isBand_10 (by decide) (fun c2 => ?_) (fun c2 => ?_)
    · refine x_iconst (v := 0) hC dX3_isBand_22 (by decide) ?_
      exact x_zret hC hk dX3_isBand_23 (by first | rfl | exact xB_nar) (Nat.le_of_ble_eq_true rfl) (Nat.le_of_ble_eq_true rfl) ⟨by rw [xB_f fun h => Int32.not_le.mpr h.2.1 c2], rfl⟩
    · refine x_iload_n hC dX3_isBand_13 rfl rfl ?_
      refine x_iload_n hC dX3_isBand_14 rfl rfl ?_
      refine x_icmp_gt (tgt := 22) hC dX3_isBand_15 (by decide) (fun c3 => ?_) (fun c3 => ?_)
      · refine x_iconst (v := 0) hC dX3_isBand_22 (by decide) ?_
        exact x_zret hC hk dX3_isBand_23 (by first | rfl | exact xB_nar) (Nat.le_of_ble_eq_true rfl) (Nat.le_of_ble_eq_true rfl) ⟨by rw [xB_f fun h => Int32.not_le.mpr c3 h.2.2], rfl⟩
      · refine x_iconst (v := 1) hC dX3_isBand_18 (by decide) ?_
        refine x_goto (tgt := 23) hC dX3_isBand_19 (by decide) ?_
        exact x_zret hC hk dX3_isBand_23 (by first | rfl | exact xB_nar) (Nat.le_of_ble_eq_true rfl) (Nat.le_of_ble_eq_true rfl) ⟨by rw [xB_t ⟨Int32.not_lt.mp c1, Int32.not_le.mp c2, Int32.not_lt.mp c3⟩], rfl⟩
abbrev isT (x : Int32) : Prop := 0 ≤ x ∧ x ≤ 999999
theorem ct_isThreshold (hG : GOK G) (x : Int32) (M : X_M) : Ct G yX3_isThreshold cX3_isThreshold 1 (some .boolean) (xrm 2 0 0) [.int x] M (Pr (.int (xB (isT x))) M) := by
  refine ct_open (lv := [_]) hG (by decide +kernel) (Nat.le_of_ble_eq_true rfl) rfl (fun C hC hk => ?_)
  refine x_iload_n hC dX3_isThreshold_0 rfl rfl ?_
  refine x_iconst (v := 0) hC dX3_isThreshold_1 (by decide) ?_
  refine x_ldc hC q2630 dX3_isThreshold_2 ?_
  refine x_callS0 (na := 3) hC (ct_isIn hG _ _ _ _) (lw_S q2414 q2415 q89 q2416) (by decide +kernel) rfl ⟨Nat.le_of_ble_eq_true rfl, Nat.le_of_ble_eq_true rfl⟩ rfl (Nat.le_of_ble_eq_true rfl) ⟨rfl, rfl⟩ ⟨Nat.le_of_ble_eq_true rfl, Nat.le_of_ble_eq_true rfl⟩ dX3_isThreshold_4 ?_
  rintro _ M ⟨rfl, rfl⟩
  exact x_zret hC hk dX3_isThreshold_7 (by first | rfl | exact xB_nar) (Nat.le_of_ble_eq_true rfl) (Nat.le_of_ble_eq_true rfl) ⟨rfl, rfl⟩
/-- the coefficient i of the recording c, as a sum -/
abbrev cfS (f : Nat → Int32) (c n i : Nat) : Int32 := iS (fun k => f (9 + 72 * c + k) * sg (nI i) (nI k)) n
theorem ct_above (hG : GOK G) (hm : Mdl M m P V A) {c n : Nat} (hc : c < 6) (hn : A 0 (8 + 72 * c) = nI n) (hn6 : n ≤ 64) (x : Int32) : Ct G yX3_above cX3_above 5 (some .int) (xrm 4 0 0) [.ref m, .int (nI c), .int x] M (Pr (.int (iS (fun i => xB (x ≤ iabs (cfS (A 0) c n i))) n)) M) := by
  refine ct_open (lv := [_, _, _, _, _]) hG (by decide +kernel) (Nat.le_of_ble_eq_true rfl) rfl (fun C hC hk => ?_)
  refine x_iconst (v := 0) hC dX3_above_0 (by decide) ?_
  refine x_istore_n (lv' := [_, _, _, _, _]) hC dX3_above_1 rfl (by decide) rfl ?_
  refine x_iconst (v := nI 0) hC dX3_above_2 (by decide) ?_
  refine x_istore (lv' := [_, _, _, _, _]) hC dX3_above_3 (by decide) rfl ?_
  refine x_up (n := n) (I := fun k => Wg G C M 0 0 5 [some (.ref m), some (.int (nI c)), some (.int x), some (.int (iS (fun i => xB (x ≤ iabs (cfS (A 0) c n i))) k)), some (.int (nI k))] []) (fun k hk2 ih => ?_) 0 (Nat.zero_le _)
  refine x_iload hC dX3_above_5 rfl ?_
  refine x_aload_n hC dX3_above_7 rfl rfl ?_
  refine x_iload_n hC dX3_above_8 rfl rfl ?_
  refine x_callV0 (na := 1) hC (ct_size hG hm hc hn) (lw_V q2495 q2497 qs45 q89 q2498) hm.1 rfl rfl (by decide +kernel) rfl ⟨Nat.le_of_ble_eq_true rfl, Nat.le_of_ble_eq_true rfl⟩ rfl (Nat.le_of_ble_eq_true rfl) ⟨rfl, rfl⟩ ⟨Nat.le_of_ble_eq_true rfl, Nat.le_of_ble_eq_true rfl⟩ dX3_above_9 ?_
  rintro _ M ⟨rfl, rfl⟩
  refine x_icmp_geN (tgt := 43) hC (by omega) (by omega) dX3_above_12 (by decide) (fun c1 => ?_) (fun c1 => ?_)
  · refine x_iload_n hC dX3_above_43 rfl rfl ?_
    exact x_iret hC hk dX3_above_44 (Nat.le_of_ble_eq_true rfl) (Nat.le_of_ble_eq_true rfl) ⟨by rw [show k = n by omega], rfl⟩
  · refine x_iload_n hC dX3_above_15 rfl rfl ?_
    refine x_aload_n hC dX3_above_16 rfl rfl ?_
    refine x_iload_n hC dX3_above_17 rfl rfl ?_
    refine x_iload hC dX3_above_18 rfl ?_
    refine x_callV0 (na := 2) hC (ct_sum hG hm hc hn hn6 _) (lw_V q2591 q2593 qs52 q89 q2594) hm.1 rfl rfl (by decide +kernel) rfl ⟨Nat.le_of_ble_eq_true rfl, Nat.le_of_ble_eq_true rfl⟩ rfl (Nat.le_of_ble_eq_true rfl) ⟨rfl, rfl⟩ ⟨Nat.le_of_ble_eq_true rfl, Nat.le_of_ble_eq_true rfl⟩ dX3_above_20 ?_
    rintro _ M ⟨rfl, rfl⟩
    refine x_callS0 (na := 1) hC (ct_abs hG _ _) (lw_S q2535 q1604 q103 q1605) (by decide +kernel) rfl ⟨Nat.le_of_ble_eq_true rfl, Nat.le_of_ble_eq_true rfl⟩ rfl (Nat.le_of_ble_eq_true rfl) ⟨rfl, rfl⟩ ⟨Nat.le_of_ble_eq_true rfl, Nat.le_of_ble_eq_true rfl⟩ dX3_above_23 ?_
    rintro _ M ⟨rfl, rfl⟩
    refine x_iload_n hC dX3_above_26 rfl rfl ?_
    refine x_j2 (fun v => v = xB (x ≤ iabs (cfS (A 0) c n k))) 35 (fun hj => ?_) (fun v hv => ?_)
    · refine x_icmp_lt (tgt := 34) hC dX3_above_27 (by decide) (fun c2 => ?_) (fun c2 => ?_)
      · refine x_iconst (v := 0) hC dX3_above_34 (by decide) ?_
        exact hj _ (by rw [xB_f (Int32.not_le.mpr c2)])
      · refine x_iconst (v := 1) hC dX3_above_30 (by decide) ?_
        refine x_goto (tgt := 35) hC dX3_above_31 (by decide) ?_
        exact hj _ (by rw [xB_t (Int32.not_lt.mp c2)])
    · subst hv
      refine x_iadd hC dX3_above_35 ?_
      refine x_istore_n (lv' := [_, _, _, _, _]) hC dX3_above_36 rfl (by decide) rfl ?_
      refine x_iincN (lv' := [_, _, _, _, _]) (b := 1) hC dX3_above_37 rfl (by decide) (by decide) rfl ?_
      refine x_goto (tgt := 5) hC dX3_above_40 (by decide) ?_
      exact ih c1
/-- how far two recordings are from each other -/
abbrev apS (f : Nat → Int32) (c d n : Nat) : Int32 := iS (fun i => iabs (cfS f c n i - cfS f d n i)) n
theorem ct_apart (hG : GOK G) (hm : Mdl M m P V A) {c d n : Nat} (hc : c < 6) (hd : d < 6) (hn : A 0 (8 + 72 * c) = nI n) (hnd : A 0 (8 + 72 * d) = nI n) (hn6 : n ≤ 64) : Ct G yX3_apart cX3_apart 5 (some .int) (xrm 4 0 0) [.ref m, .int (nI c), .int (nI d)] M (Pr (.int (apS (A 0) c d n)) M) := by
  refine ct_open (lv := [_, _, _, _, _]) hG (by decide +kernel) (Nat.le_of_ble_eq_true rfl) rfl (fun C hC hk => ?_)
  refine x_iconst (v := 0) hC dX3_apart_0 (by decide) ?_
  refine x_istore_n (lv' := [_, _, _, _, _]) hC dX3_apart_1 rfl (by decide) rfl ?_
  refine x_iconst (v := nI 0) hC dX3_apart_2 (by decide) ?_
  refine x_istore (lv' := [_, _, _, _, _]) hC dX3_apart_3 (by decide) rfl ?_
  refine x_up (n := n) (I := fun k => Wg G C M 0 0 5 [some (.ref m), some (.int (nI c)), some (.int (nI d)), some (.int (iS (fun i => iabs (cfS (A 0) c n i - cfS (A 0) d n i)) k)), some (.int (nI k))] []) (fun k hk2 ih => ?_) 0 (Nat.zero_le _)
  refine x_iload hC dX3_apart_5 rfl ?_
  refine x_aload_n hC dX3_apart_7 rfl rfl ?_
  refine x_iload_n hC dX3_apart_8 rfl rfl ?_
  refine x_callV0 (na := 1) hC (ct_size hG hm hc hn) (lw_V q2495 q2497 qs45 q89 q2498) hm.1 rfl rfl (by decide +kernel) rfl ⟨Nat.le_of_ble_eq_true rfl, Nat.le_of_ble_eq_true rfl⟩ rfl (Nat.le_of_ble_eq_true rfl) ⟨rfl, rfl⟩ ⟨Nat.le_of_ble_eq_true rfl, Nat.le_of_ble_eq_true rfl⟩ dX3_apart_9 ?_
  rintro _ M ⟨rfl, rfl⟩
  refine x_icmp_geN (tgt := 42) hC (by omega) (by omega) dX3_apart_12 (by decide) (fun c1 => ?_) (fun c1 => ?_)
  · refine x_iload_n hC dX3_apart_42 rfl rfl ?_
    exact x_iret hC hk dX3_apart_43 (Nat.le_of_ble_eq_true rfl) (Nat.le_of_ble_eq_true rfl) ⟨by rw [show k = n by omega], rfl⟩
  · refine x_iload_n hC dX3_apart_15 rfl rfl ?_
    refine x_aload_n hC dX3_apart_16 rfl rfl ?_
    refine x_iload_n hC dX3_apart_17 rfl rfl ?_
    refine x_iload hC dX3_apart_18 rfl ?_
    refine x_callV0 (na := 2) hC (ct_sum hG hm hc hn hn6 _) (lw_V q2591 q2593 qs52 q89 q2594) hm.1 rfl rfl (by decide +kernel) rfl ⟨Nat.le_of_ble_eq_true rfl, Nat.le_of_ble_eq_true rfl⟩ rfl (Nat.le_of_ble_eq_true rfl) ⟨rfl, rfl⟩ ⟨Nat.le_of_ble_eq_true rfl, Nat.le_of_ble_eq_true rfl⟩ dX3_apart_20 ?_
    rintro _ M ⟨rfl, rfl⟩
    refine x_aload_n hC dX3_apart_23 rfl rfl ?_
    refine x_iload_n hC dX3_apart_24 rfl rfl ?_
    refine x_iload hC dX3_apart_25 rfl ?_
    refine x_callV0 (na := 2) hC (ct_sum hG hm hd hnd hn6 _) (lw_V q2591 q2593 qs52 q89 q2594) hm.1 rfl rfl (by decide +kernel) rfl ⟨Nat.le_of_ble_eq_true rfl, Nat.le_of_ble_eq_true rfl⟩ rfl (Nat.le_of_ble_eq_true rfl) ⟨rfl, rfl⟩ ⟨Nat.le_of_ble_eq_true rfl, Nat.le_of_ble_eq_true rfl⟩ dX3_apart_27 ?_
    rintro _ M ⟨rfl, rfl⟩
    refine x_isub hC dX3_apart_30 ?_
    refine x_callS0 (na := 1) hC (ct_abs hG _ _) (lw_S q2535 q1604 q103 q1605) (by decide +kernel) rfl ⟨Nat.le_of_ble_eq_true rfl, Nat.le_of_ble_eq_true rfl⟩ rfl (Nat.le_of_ble_eq_true rfl) ⟨rfl, rfl⟩ ⟨Nat.le_of_ble_eq_true rfl, Nat.le_of_ble_eq_true rfl⟩ dX3_apart_31 ?_
    rintro _ M ⟨rfl, rfl⟩
    refine x_iadd hC dX3_apart_34 ?_
    refine x_istore_n (lv' := [_, _, _, _, _]) hC dX3_apart_35 rfl (by decide) rfl ?_
    refine x_iincN (lv' := [_, _, _, _, _]) (b := 1) hC dX3_apart_36 rfl (by decide) (by decide) rfl ?_
    refine x_goto (tgt := 5) hC dX3_apart_39 (by decide) ?_
    exact ih c1
theorem ct_nearestOf (hG : GOK G) (hm : Mdl M m P V A) {c n N : Nat} (hc : c < N) (hN : A 0 0 = nI N) (hN6 : N ≤ 6) (hn : A 0 (8 + 72 * c) = nI n) (hn6 : n ≤ 64) : Ct G yX3_nearestOf cX3_nearestOf 5 (some .int) (xrm 5 0 0) [.ref m, .int (nI c)] M (Pr (.int (optI (nrs (fun d => d ≠ c ∧ A 0 (8 + 72 * d) = nI n) (fun d => apS (A 0) c d n) N))) M) := by
  refine ct_open (lv := [_, _, _, _, _]) hG (by decide +kernel) (Nat.le_of_ble_eq_true rfl) rfl (fun C hC hk => ?_)
  refine x_iconst (v := -1) hC dX3_nearestOf_0 (by decide) ?_
  refine x_istore_n (lv' := [_, _, _, _, _]) hC dX3_nearestOf_1 rfl (by decide) rfl ?_
  refine x_iconst (v := nI 0) hC dX3_nearestOf_2 (by decide) ?_
  refine x_istore_n (lv' := [_, _, _, _, _]) hC dX3_nearestOf_3 rfl (by decide) rfl ?_
  refine x_up (n := N) (I := fun k => ∀ w4, Wg G C M 0 0 4 [some (.ref m), some (.int (nI c)), some (.int (optI (nrs (fun d => d ≠ c ∧ A 0 (8 + 72 * d) = nI n) (fun d => apS (A 0) c d n) k))), some (.int (nI k)), w4] []) (fun k hk2 ih w4 => ?_) 0 (Nat.zero_le _) none
  refine x_iload_n hC dX3_nearestOf_4 rfl rfl ?_
  refine x_aload_n hC dX3_nearestOf_5 rfl rfl ?_
  refine x_get hC 0 hm.1 rfl (by decide) q2330 rfl rfl dX3_nearestOf_6 ?_
  refine x_iconst (v := nI 0) hC dX3_nearestOf_9 (by decide) ?_
  refine x_ialdN hC (hm.arr 0 (by decide)) (show _ < 433 from (by omega)) (by decide) dX3_nearestOf_10 ?_
  rw [hN]
  refine x_icmp_geN (tgt := 72) hC (by omega) (by omega) dX3_nearestOf_11 (by decide) (fun c1 => ?_) (fun c1 => ?_)
  · refine x_iload_n hC dX3_nearestOf_72 rfl rfl ?_
    exact x_iret hC hk dX3_nearestOf_73 (Nat.le_of_ble_eq_true rfl) (Nat.le_of_ble_eq_true rfl) ⟨by rw [show k = N by omega], rfl⟩
  · have ih2 := ih c1
    unfold nrs at ih2
    have hl := @nrs_lt (fun d => d ≠ c ∧ A 0 (8 + 72 * d) = nI n) _ (fun d => apS (A 0) c d n) k
    generalize nrs (fun d => d ≠ c ∧ A 0 (8 + 72 * d) = nI n) (fun d => apS (A 0) c d n) k = o at ih2 hl ⊢
    refine x_iload_n hC dX3_nearestOf_14 rfl rfl ?_
    refine x_iload_n hC dX3_nearestOf_15 rfl rfl ?_
    refine x_j2 (fun v => v = xB (k ≠ c ∧ A 0 (8 + 72 * k) = nI n)) 33 (fun hj => ?_) (fun v hv => ?_)
    · refine x_icmp_eqN (tgt := 32) hC (by omega) (by omega) dX3_nearestOf_16 (by decide) (fun c2 => ?_) (fun c2 => ?_)
      · refine x_iconst (v := 0) hC dX3_nearestOf_32 (by decide) ?_
        exact hj _ (by rw [xB_f fun h => h.1 c2])
      · refine x_aload_n hC dX3_nearestOf_19 rfl rfl ?_
        refine x_iload_n hC dX3_nearestOf_20 rfl rfl ?_
        refine x_iload_n hC dX3_nearestOf_21 rfl rfl ?_
        refine x_callV0 (na := 2) hC (ct_areAlike hG hm (by omega) (by omega)) (lw_V q2680 q2682 qs63 q89 q2683) hm.1 rfl rfl (by decide +kernel) rfl ⟨Nat.le_of_ble_eq_true rfl, Nat.le_of_ble_eq_true rfl⟩ rfl (Nat.le_of_ble_eq_true rfl) ⟨rfl, rfl⟩ ⟨Nat.le_of_ble_eq_true rfl, Nat.le_of_ble_eq_true rfl⟩ dX3_nearestOf_22 ?_
        rintro _ M ⟨rfl, rfl⟩
        refine x_if_eqB (tgt := 32) hC dX3_nearestOf_25 (by decide) (fun c3 => ?_) (fun c3 => ?_)
        · refine x_iconst (v := 0) hC dX3_nearestOf_32 (by decide) ?_
          exact hj _ (by rw [xB_f fun h => c3 (hn.trans h.2.symm)])
        · refine x_iconst (v := 1) hC dX3_nearestOf_28 (by decide) ?_
          refine x_goto (tgt := 33) hC dX3_nearestOf_29 (by decide) ?_
          exact hj _ (by rw [xB_t ⟨c2, c3.symm.trans hn⟩])
    · subst hv
      refine x_istore (lv' := [_, _, _, _, _]) hC dX3_nearestOf_33 (by decide) rfl ?_
      refine x_iload hC dX3_nearestOf_35 rfl ?_
      refine x_if_eqB (tgt := 64) hC dX3_nearestOf_37 (by decide) (fun c4 => ?_) (fun c4 => ?_)
      · refine x_iload_n hC dX3_nearestOf_64 rfl rfl ?_
        refine x_istore_n (lv' := [_, _, _, _, _]) hC dX3_nearestOf_65 rfl (by decide) rfl ?_
        refine x_iincN (lv' := [_, _, _, _, _]) (b := 1) hC dX3_nearestOf_66 rfl (by decide) (by decide) rfl ?_
        refine x_goto (tgt := 4) hC dX3_nearestOf_69 (by decide) ?_
        rw [if_neg c4] at ih2
        exact ih2 _
      · rw [if_pos c4] at ih2
        cases o with
        | none =>
          refine x_iload_n hC dX3_nearestOf_40 rfl rfl ?_
          refine x_iconst (v := -1) hC dX3_nearestOf_41 (by decide) ?_
          refine x_icmp_eq (tgt := 60) hC dX3_nearestOf_42 (by decide) (fun c5 => ?_) (fun c5 => ?_)
          · refine x_iload_n hC dX3_nearestOf_60 rfl rfl ?_
            refine x_goto (tgt := 65) hC dX3_nearestOf_61 (by decide) ?_
            refine x_istore_n (lv' := [_, _, _, _, _]) hC dX3_nearestOf_65 rfl (by decide) rfl ?_
            refine x_iincN (lv' := [_, _, _, _, _]) (b := 1) hC dX3_nearestOf_66 rfl (by decide) (by decide) rfl ?_
            refine x_goto (tgt := 4) hC dX3_nearestOf_69 (by decide) ?_
            exact ih2 _
          · exact absurd rfl c5
        | some b =>
          obtain ⟨hb, hb2, hb3⟩ := hl rfl
          dsimp only at ih2
          refine x_iload_n hC dX3_nearestOf_40 rfl rfl ?_
          refine x_iconst (v := -1) hC dX3_nearestOf_41 (by decide) ?_
          refine x_icmp_eq (tgt := 60) hC dX3_nearestOf_42 (by decide) (fun c5 => ?_) (fun c5 => ?_)
          · exact absurd c5 (show ¬ nI b = -1 from fun h => by
              have h1 := congrArg Int32.toInt h
              rw [nI_toInt (by omega)] at h1
              have h2 : ((-1 : Int32)).toInt = -1 := by decide
              omega)
          · refine x_aload_n hC dX3_nearestOf_45 rfl rfl ?_
            refine x_iload_n hC dX3_nearestOf_46 rfl rfl ?_
            refine x_iload_n hC dX3_nearestOf_47 rfl rfl ?_
            refine x_callV0 (na := 2) hC (ct_apart hG hm (by omega) (by omega) hn c4.2 hn6) (lw_V q2684 q2686 qs64 q89 q2687) hm.1 rfl rfl (by decide +kernel) rfl ⟨Nat.le_of_ble_eq_true rfl, Nat.le_of_ble_eq_true rfl⟩ rfl (Nat.le_of_ble_eq_true rfl) ⟨rfl, rfl⟩ ⟨Nat.le_of_ble_eq_true rfl, Nat.le_of_ble_eq_true rfl⟩ dX3_nearestOf_48 ?_
            rintro _ M ⟨rfl, rfl⟩
            refine x_aload_n hC dX3_nearestOf_51 rfl rfl ?_
            refine x_iload_n hC dX3_nearestOf_52 rfl rfl ?_
            refine x_iload_n (i := 2) (x := nI b) hC dX3_nearestOf_53 rfl rfl ?_
            refine x_callV0 (na := 2) hC (ct_apart hG hm (by omega) (by omega) hn hb3 hn6) (lw_V q2684 q2686 qs64 q89 q2687) hm.1 rfl rfl (by decide +kernel) rfl ⟨Nat.le_of_ble_eq_true rfl, Nat.le_of_ble_eq_true rfl⟩ rfl (Nat.le_of_ble_eq_true rfl) ⟨rfl, rfl⟩ ⟨Nat.le_of_ble_eq_true rfl, Nat.le_of_ble_eq_true rfl⟩ dX3_nearestOf_54 ?_
            rintro _ M ⟨rfl, rfl⟩
            refine x_icmp_ge (tgt := 64) hC dX3_nearestOf_57 (by decide) (fun c6 => ?_) (fun c6 => ?_)
            · refine x_iload_n hC dX3_nearestOf_64 rfl rfl ?_
              refine x_istore_n (lv' := [_, _, _, _, _]) hC dX3_nearestOf_65 rfl (by decide) rfl ?_
              refine x_iincN (lv' := [_, _, _, _, _]) (b := 1) hC dX3_nearestOf_66 rfl (by decide) (by decide) rfl ?_
              refine x_goto (tgt := 4) hC dX3_nearestOf_69 (by decide) ?_
              rw [if_neg (Int32.not_lt.mpr c6)] at ih2
              exact ih2 _
            · refine x_iload_n hC dX3_nearestOf_60 rfl rfl ?_
              refine x_goto (tgt := 65) hC dX3_nearestOf_61 (by decide) ?_
              refine x_istore_n (lv' := [_, _, _, _, _]) hC dX3_nearestOf_65 rfl (by decide) rfl ?_
              refine x_iincN (lv' := [_, _, _, _, _]) (b := 1) hC dX3_nearestOf_66 rfl (by decide) (by decide) rfl ?_
              refine x_goto (tgt := 4) hC dX3_nearestOf_69 (by decide) ?_
              rw [if_pos (Int32.not_le.mp c6)] at ih2
              exact ih2 _
/-- the correlation of two recordings, the second one's places shifted -/
abbrev crS (f : Nat → Int32) (c d n s : Nat) : Int64 := jS (fun k => (f (9 + 72 * c + k)).toInt64 * (f (9 + 72 * d + (k ^^^ s))).toInt64) n
theorem ct_correlated (hG : GOK G) (hm : Mdl M m P V A) {c d n s : Nat} (hc : c < 6) (hd : d < 6) (hn : A 0 (8 + 72 * c) = nI n) (hn6 : n ≤ 64) (hs : ∀ k, k < n → k ^^^ s < 64) : Ct G yX3_correlated cX3_correlated 7 (some .long) (xrm 3 0 0) [.ref m, .int (nI c), .int (nI d), .int (nI s)] M (Pr (.long (crS (A 0) c d n s)) M) := by
  refine ct_open (lv := [_, _, _, _, _, _, _]) hG (by decide +kernel) (Nat.le_of_ble_eq_true rfl) rfl (fun C hC hk => ?_)
  refine x_lconst (v := 0) hC dX3_correlated_0 (by decide) ?_
  refine x_lstore (lv' := [_, _, _, _, _, _, _]) hC dX3_correlated_1 (by decide) rfl ?_
  refine x_iconst (v := nI 0) hC dX3_correlated_3 (by decide) ?_
  refine x_istore (lv' := [_, _, _, _, _, _, _]) hC dX3_correlated_4 (by decide) rfl ?_
  refine x_up (n := n) (I := fun k => Wg G C M 0 0 6 [some (.ref m), some (.int (nI c)), some (.int (nI d)), some (.int (nI s)), some (.long (jS (fun k => (A 0 (9 + 72 * c + k)).toInt64 * (A 0 (9 + 72 * d + (k ^^^ s))).toInt64) k)), none, some (.int (nI k))] []) (fun k hk2 ih => ?_) 0 (Nat.zero_le _)
  refine x_iload hC dX3_correlated_6 rfl ?_
  refine x_aload_n hC dX3_correlated_8 rfl rfl ?_
  refine x_iload_n hC dX3_correlated_9 rfl rfl ?_
  refine x_callV0 (na := 1) hC (ct_size hG hm hc hn) (lw_V q2495 q2497 qs45 q89 q2498) hm.1 rfl rfl (by decide +kernel) rfl ⟨Nat.le_of_ble_eq_true rfl, Nat.le_of_ble_eq_true rfl⟩ rfl (Nat.le_of_ble_eq_true rfl) ⟨rfl, rfl⟩ ⟨Nat.le_of_ble_eq_true rfl, Nat.le_of_ble_eq_true rfl⟩ dX3_correlated_10 ?_
  rintro _ M ⟨rfl, rfl⟩
  refine x_icmp_geN (tgt := 46) hC (by omega) (by omega) dX3_correlated_13 (by decide) (fun c1 => ?_) (fun c1 => ?_)
  · refine x_lload hC dX3_correlated_46 rfl ?_
    exact x_lret hC hk dX3_correlated_48 (Nat.le_of_ble_eq_true rfl) (Nat.le_of_ble_eq_true rfl) ⟨by rw [show k = n by omega], rfl⟩
  · refine x_lload hC dX3_correlated_16 rfl ?_
    refine x_aload_n hC dX3_correlated_18 rfl rfl ?_
    refine x_iload_n hC dX3_correlated_19 rfl rfl ?_
    refine x_iload hC dX3_correlated_20 rfl ?_
    refine x_callV0 (na := 2) hC (ct_at hG hm hc (by omega)) (lw_V q2515 q2517 qs47 q89 q2518) hm.1 rfl rfl (by decide +kernel) rfl ⟨Nat.le_of_ble_eq_true rfl, Nat.le_of_ble_eq_true rfl⟩ rfl (Nat.le_of_ble_eq_true rfl) ⟨rfl, rfl⟩ ⟨Nat.le_of_ble_eq_true rfl, Nat.le_of_ble_eq_true rfl⟩ dX3_correlated_22 ?_
    rintro _ M ⟨rfl, rfl⟩
    refine x_i2l hC dX3_correlated_25 rfl ?_
    refine x_aload_n hC dX3_correlated_26 rfl rfl ?_
    refine x_iload_n hC dX3_correlated_27 rfl rfl ?_
    refine x_iload hC dX3_correlated_28 rfl ?_
    refine x_iload_n hC dX3_correlated_30 rfl rfl ?_
    refine x_ixor hC dX3_correlated_31 ?_
    rw [nI_xor]
    refine x_callV0 (na := 2) hC (ct_at hG hm hd (hs k c1)) (lw_V q2515 q2517 qs47 q89 q2518) hm.1 rfl rfl (by decide +kernel) rfl ⟨Nat.le_of_ble_eq_true rfl, Nat.le_of_ble_eq_true rfl⟩ rfl (Nat.le_of_ble_eq_true rfl) ⟨rfl, rfl⟩ ⟨Nat.le_of_ble_eq_true rfl, Nat.le_of_ble_eq_true rfl⟩ dX3_correlated_32 ?_
    rintro _ M ⟨rfl, rfl⟩
    refine x_i2l hC dX3_correlated_35 rfl ?_
    refine x_lmul hC dX3_correlated_36 ?_
    refine x_ladd hC dX3_correlated_37 ?_
    refine x_lstore (lv' := [_, _, _, _, _, _, _]) hC dX3_correlated_38 (by decide) rfl ?_
    refine x_iincN (lv' := [_, _, _, _, _, _, _]) (b := 1) hC dX3_correlated_40 rfl (by decide) (by decide) rfl ?_
    refine x_goto (tgt := 6) hC dX3_correlated_43 (by decide) ?_
    exact ih c1
theorem ct_shiftOf (hG : GOK G) (hm : Mdl M m P V A) {c d n : Nat} (hc : c < 6) (hd : d < 6) (hn : A 0 (8 + 72 * c) = nI n) (hn6 : n ≤ 64) (h0 : 0 < n) (hs : ∀ s, s < n → ∀ k, k < n → k ^^^ s < 64) : Ct G yX3_shiftOf cX3_shiftOf 5 (some .int) (xrm 4 0 0) [.ref m, .int (nI c), .int (nI d)] M (Pr (.int (nI (amx (fun a b => decide (crS (A 0) c d n a < crS (A 0) c d n b)) n))) M) := by
  refine ct_open (lv := [_, _, _, _, _]) hG (by decide +kernel) (Nat.le_of_ble_eq_true rfl) rfl (fun C hC hk => ?_)
  refine x_iconst (v := nI 0) hC dX3_shiftOf_0 (by decide) ?_
  refine x_istore_n (lv' := [_, _, _, _, _]) hC dX3_shiftOf_1 rfl (by decide) rfl ?_
  refine x_iconst (v := nI 1) hC dX3_shiftOf_2 (by decide) ?_
  refine x_istore (lv' := [_, _, _, _, _]) hC dX3_shiftOf_3 (by decide) rfl ?_
  have e1 : amx (fun a b => decide (crS (A 0) c d n a < crS (A 0) c d n b)) 1 = 0 := by unfold amx; split <;> rfl
  have lp := x_up (n := n - 1) (I := fun k => Wg G C M 0 0 5 [some (.ref m), some (.int (nI c)), some (.int (nI d)), some (.int (nI (amx (fun a b => decide (crS (A 0) c d n a < crS (A 0) c d n b)) (k + 1)))), some (.int (nI (k + 1)))] []) (fun k hk2 ih => ?_) 0 (Nat.zero_le _)
  · rw [e1] at lp
    exact lp
  · refine x_iload hC dX3_shiftOf_5 rfl ?_
    refine x_aload_n hC dX3_shiftOf_7 rfl rfl ?_
    refine x_iload_n hC dX3_shiftOf_8 rfl rfl ?_
    refine x_callV0 (na := 1) hC (ct_size hG hm hc hn) (lw_V q2495 q2497 qs45 q89 q2498) hm.1 rfl rfl (by decide +kernel) rfl ⟨Nat.le_of_ble_eq_true rfl, Nat.le_of_ble_eq_true rfl⟩ rfl (Nat.le_of_ble_eq_true rfl) ⟨rfl, rfl⟩ ⟨Nat.le_of_ble_eq_true rfl, Nat.le_of_ble_eq_true rfl⟩ dX3_shiftOf_9 ?_
    rintro _ M ⟨rfl, rfl⟩
    refine x_icmp_geN (tgt := 47) hC (by omega) (by omega) dX3_shiftOf_12 (by decide) (fun c1 => ?_) (fun c1 => ?_)
    · refine x_iload_n hC dX3_shiftOf_47 rfl rfl ?_
      exact x_iret hC hk dX3_shiftOf_48 (Nat.le_of_ble_eq_true rfl) (Nat.le_of_ble_eq_true rfl) ⟨by rw [show k + 1 = n by omega], rfl⟩
    · refine x_aload_n hC dX3_shiftOf_15 rfl rfl ?_
      refine x_iload_n hC dX3_shiftOf_16 rfl rfl ?_
      refine x_iload_n hC dX3_shiftOf_17 rfl rfl ?_
      refine x_iload hC dX3_shiftOf_18 rfl ?_
      refine x_callV0 (na := 3) hC (ct_correlated hG hm hc hd hn hn6 (hs _ c1)) (lw_V q2700 q2702 qs66 q89 q2703) hm.1 rfl rfl (by decide +kernel) rfl ⟨Nat.le_of_ble_eq_true rfl, Nat.le_of_ble_eq_true rfl⟩ rfl (Nat.le_of_ble_eq_true rfl) ⟨rfl, rfl⟩ ⟨Nat.le_of_ble_eq_true rfl, Nat.le_of_ble_eq_true rfl⟩ dX3_shiftOf_20 ?_
      rintro _ M ⟨rfl, rfl⟩
      have hal := amx_lt (lt := fun a b => decide (crS (A 0) c d n a < crS (A 0) c d n b)) (k := k + 1) (by omega)
      have hst : amx (fun a b => decide (crS (A 0) c d n a < crS (A 0) c d n b)) (k + 1 + 1) = if crS (A 0) c d n (amx (fun a b => decide (crS (A 0) c d n a < crS (A 0) c d n b)) (k + 1)) < crS (A 0) c d n (k + 1) then k + 1 else amx (fun a b => decide (crS (A 0) c d n a < crS (A 0) c d n b)) (k + 1) := by
        rw [amx]
        simp only [decide_eq_true_eq]
      have ih2 := ih (by omega)
      rw [hst] at ih2
      generalize amx (fun a b => decide (crS (A 0) c d n a < crS (A 0) c d n b)) (k + 1) = w at hal ih2 ⊢
      refine x_aload_n hC dX3_shiftOf_23 rfl rfl ?_
      refine x_iload_n hC dX3_shiftOf_24 rfl rfl ?_
      refine x_iload_n hC dX3_shiftOf_25 rfl rfl ?_
      refine x_iload_n hC dX3_shiftOf_26 rfl rfl ?_
      refine x_callV0 (na := 3) hC (ct_correlated hG hm hc hd hn hn6 (hs _ (by omega))) (lw_V q2700 q2702 qs66 q89 q2703) hm.1 rfl rfl (by decide +kernel) rfl ⟨Nat.le_of_ble_eq_true rfl, Nat.le_of_ble_eq_true rfl⟩ rfl (Nat.le_of_ble_eq_true rfl) ⟨rfl, rfl⟩ ⟨Nat.le_of_ble_eq_true rfl, Nat.le_of_ble_eq_true rfl⟩ dX3_shiftOf_27 ?_
      rintro _ M ⟨rfl, rfl⟩
      refine x_lcmp hC dX3_shiftOf_30 ?_
      refine x_if_le (tgt := 39) hC dX3_shiftOf_31 (by decide) (fun c2 => ?_) (fun c2 => ?_)
      · rw [lg_cmp_le] at c2
        refine x_iload_n hC dX3_shiftOf_39 rfl rfl ?_
        refine x_istore_n (lv' := [_, _, _, _, _]) hC dX3_shiftOf_40 rfl (by decide) rfl ?_
        refine x_iincN (lv' := [_, _, _, _, _]) (b := 1) hC dX3_shiftOf_41 rfl (by decide) (by decide) rfl ?_
        refine x_goto (tgt := 5) hC dX3_shiftOf_44 (by decide) ?_
        rw [if_neg (Int64.not_lt.mpr c2)] at ih2
        exact ih2
      · rw [lg_cmp_le] at c2
        refine x_iload hC dX3_shiftOf_34 rfl ?_
        refine x_goto (tgt := 40) hC dX3_shiftOf_36 (by decide) ?_
        refine x_istore_n (lv' := [_, _, _, _, _]) hC dX3_shiftOf_40 rfl (by decide) rfl ?_
        refine x_iincN (lv' := [_, _, _, _, _]) (b := 1) hC dX3_shiftOf_41 rfl (by decide) (by decide) rfl ?_
        refine x_goto (tgt := 5) hC dX3_shiftOf_44 (by decide) ?_
        rw [if_pos (Int64.not_le.mp c2)] at ih2
        exact ih2
theorem ct_isCount (hG : GOK G) (hm : Mdl M m P V A) {c n : Nat} (hc : c < 6) (hn : A 0 (8 + 72 * c) = nI n) (x : Int32) : Ct G yX3_isCount cX3_isCount 3 (some .boolean) (xrm 3 0 0) [.ref m, .int (nI c), .int x] M (Pr (.int (xB (0 ≤ x ∧ x ≤ nI n))) M) := by
  refine ct_open (lv := [_, _, _]) hG (by decide +kernel) (Nat.le_of_ble_eq_true rfl) rfl (fun C hC hk => ?_)
  refine x_iload_n hC dX3_isCount_0 rfl rfl ?_
  refine x_iconst (v := 0) hC dX3_isCount_1 (by decide) ?_
  refine x_aload_n hC dX3_isCount_2 rfl rfl ?_
  refine x_iload_n hC dX3_isCount_3 rfl rfl ?_
  refine x_callV0 (na := 1) hC (ct_size hG hm hc hn) (lw_V q2495 q2497 qs45 q89 q2498) hm.1 rfl rfl (by decide +kernel) rfl ⟨Nat.le_of_ble_eq_true rfl, Nat.le_of_ble_eq_true rfl⟩ rfl (Nat.le_of_ble_eq_true rfl) ⟨rfl, rfl⟩ ⟨Nat.le_of_ble_eq_true rfl, Nat.le_of_ble_eq_true rfl⟩ dX3_isCount_4 ?_
  rintro _ M ⟨rfl, rfl⟩
  refine x_callS0 (na := 3) hC (ct_isIn hG _ _ _ _) (lw_S q2414 q2415 q89 q2416) (by decide +kernel) rfl ⟨Nat.le_of_ble_eq_true rfl, Nat.le_of_ble_eq_true rfl⟩ rfl (Nat.le_of_ble_eq_true rfl) ⟨rfl, rfl⟩ ⟨Nat.le_of_ble_eq_true rfl, Nat.le_of_ble_eq_true rfl⟩ dX3_isCount_7 ?_
  rintro _ M ⟨rfl, rfl⟩
  exact x_zret hC hk dX3_isCount_10 (by first | rfl | exact xB_nar) (Nat.le_of_ble_eq_true rfl) (Nat.le_of_ble_eq_true rfl) ⟨rfl, rfl⟩
/-- the buffer's L bytes are a name -/
abbrev isNk (b : Nat → Int32) (L k : Nat) : Prop := (1 ≤ L ∧ L ≤ 6) ∧ ∀ i, i < k → 97 ≤ b i ∧ b i ≤ 122
abbrev isNm (b : Nat → Int32) (L : Nat) : Prop := isNk b L L
theorem nI_m1 {b : Nat} (h : b < 2 ^ 31) : ¬ nI b = -1 := fun h2 => by
  have h1 := congrArg Int32.toInt h2
  rw [nI_toInt h] at h1
  have h3 : ((-1 : Int32)).toInt = -1 := by decide
  omega
theorem fstI_some {p : Nat → Prop} [DecidablePred p] : ∀ {d k b : Nat}, fstI p d k = some b → k ≤ b ∧ b < k + d ∧ p b ∧ ∀ j, k ≤ j → j < b → ¬ p j
  | 0, k, b, h => by cases h
  | d + 1, k, b, h => by
    unfold fstI at h
    split at h
    next hp => cases h; exact ⟨Nat.le_refl _, by omega, hp, fun j h1 h2 => by omega⟩
    next hp =>
      obtain ⟨h1, h2, h3, h4⟩ := fstI_some h
      refine ⟨by omega, by omega, h3, fun j h5 h6 => ?_⟩
      rcases Nat.eq_or_lt_of_le h5 with h7 | h7
      · subst h7; exact hp
      · exact h4 j h7 h6
theorem fstI_none {p : Nat → Prop} [DecidablePred p] : ∀ {d k : Nat}, fstI p d k = none → ∀ j, k ≤ j → j < k + d → ¬ p j
  | 0, k, h => fun j h1 h2 => by omega
  | d + 1, k, h => by
    unfold fstI at h
    split at h
    next hp => cases h
    next hp =>
      intro j h1 h2
      rcases Nat.eq_or_lt_of_le h1 with h7 | h7
      · subst h7; exact hp
      · exact fstI_none h j h7 (by omega)
theorem optI_m1 {o : Option Nat} (h : ∀ b, o = some b → b < 2 ^ 31) : optI o = -1 ↔ o = none := by
  cases o with
  | none => exact ⟨fun _ => rfl, fun _ => rfl⟩
  | some b => exact ⟨fun h1 => absurd h1 (nI_m1 (h b rfl)), fun h1 => by cases h1⟩
theorem ct_isNewName (hG : GOK G) (hm : Mdl M m P V A) {L n : Nat} (hL : V 2 = nI L) (hL9 : L ≤ 900) (hn : A 0 0 = nI n) (hn6 : n ≤ 6) : Ct G yX3_isNewName cX3_isNewName 3 (some .boolean) (xrm 3 0 0) [.ref m] M (Pr (.int (xB (isNm (A 4) L ∧ fstI (nmE (A 0) (A 4) 0 L) n 0 = none))) M) := by
  refine ct_open (lv := [_, _, _]) hG (by decide +kernel) (Nat.le_of_ble_eq_true rfl) rfl (fun C hC hk => ?_)
  refine x_aload_n hC dX3_isNewName_0 rfl rfl ?_
  refine x_get hC 12 hm.1 rfl (by decide) q2342 rfl rfl dX3_isNewName_1 ?_
  rw [hL]
  refine x_iconst (v := nI 1) hC dX3_isNewName_4 (by decide) ?_
  refine x_bipush (v := nI 6) hC dX3_isNewName_5 (by decide) ?_
  refine x_callS0 (na := 3) hC (ct_isIn hG _ _ _ _) (lw_S q2414 q2415 q89 q2416) (by decide +kernel) rfl ⟨Nat.le_of_ble_eq_true rfl, Nat.le_of_ble_eq_true rfl⟩ rfl (Nat.le_of_ble_eq_true rfl) ⟨rfl, rfl⟩ ⟨Nat.le_of_ble_eq_true rfl, Nat.le_of_ble_eq_true rfl⟩ dX3_isNewName_7 ?_
  rintro _ M ⟨rfl, rfl⟩
  rw [xB_iff (q := isNk (A 4) L 0) (by
    rw [nI_leI (by decide) (by omega), nI_leI (by omega) (by decide)]
    exact ⟨fun h => ⟨h, fun j hj => absurd hj (Nat.not_lt_zero j)⟩, fun h => h.1⟩)]
  refine x_istore_n (lv' := [_, _, _]) hC dX3_isNewName_10 rfl (by decide) rfl ?_
  refine x_iconst (v := nI 0) hC dX3_isNewName_11 (by decide) ?_
  refine x_istore_n (lv' := [_, _, _]) hC dX3_isNewName_12 rfl (by decide) rfl ?_
  have fin : ∀ i, (xB (isNk (A 4) L i)) = xB (isNm (A 4) L) → Wg G C M 0 0 45 [some (.ref m), some (.int (xB (isNk (A 4) L i))), some (.int (nI i))] [] := by
    intro i he
    rw [he]
    refine x_iload_n hC dX3_isNewName_45 rfl rfl ?_
    refine x_if_eqB (tgt := 66) hC dX3_isNewName_46 (by decide) (fun c1 => ?_) (fun c1 => ?_)
    · refine x_iconst (v := 0) hC dX3_isNewName_66 (by decide) ?_
      exact x_zret hC hk dX3_isNewName_67 (by first | rfl | exact xB_nar) (Nat.le_of_ble_eq_true rfl) (Nat.le_of_ble_eq_true rfl) ⟨by rw [xB_f fun h => c1 h.1], rfl⟩
    · refine x_aload_n hC dX3_isNewName_49 rfl rfl ?_
      refine x_iconst (v := nI 0) hC dX3_isNewName_50 (by decide) ?_
      refine x_aload_n hC dX3_isNewName_51 rfl rfl ?_
      refine x_get hC 12 hm.1 rfl (by decide) q2342 rfl rfl dX3_isNewName_52 ?_
      rw [hL]
      refine x_callV0 (na := 2) hC (ct_named hG hm (by omega) c1.1.2 hn hn6) (lw_V q2453 q2455 qs40 q89 q2456) hm.1 rfl rfl (by decide +kernel) rfl ⟨Nat.le_of_ble_eq_true rfl, Nat.le_of_ble_eq_true rfl⟩ rfl (Nat.le_of_ble_eq_true rfl) ⟨rfl, rfl⟩ ⟨Nat.le_of_ble_eq_true rfl, Nat.le_of_ble_eq_true rfl⟩ dX3_isNewName_55 ?_
      rintro _ M ⟨rfl, rfl⟩
      refine x_iconst (v := -1) hC dX3_isNewName_58 (by decide) ?_
      have ho : optI (fstI (nmE (A 0) (A 4) 0 L) n 0) = -1 ↔ fstI (nmE (A 0) (A 4) 0 L) n 0 = none := optI_m1 fun b hb => by have := (fstI_some hb).2.1; omega
      refine x_icmp_ne (tgt := 66) hC dX3_isNewName_59 (by decide) (fun c2 => ?_) (fun c2 => ?_)
      · refine x_iconst (v := 0) hC dX3_isNewName_66 (by decide) ?_
        exact x_zret hC hk dX3_isNewName_67 (by first | rfl | exact xB_nar) (Nat.le_of_ble_eq_true rfl) (Nat.le_of_ble_eq_true rfl) ⟨by rw [xB_f fun h => c2 (ho.mpr h.2)], rfl⟩
      · refine x_iconst (v := 1) hC dX3_isNewName_62 (by decide) ?_
        refine x_goto (tgt := 67) hC dX3_isNewName_63 (by decide) ?_
        exact x_zret hC hk dX3_isNewName_67 (by first | rfl | exact xB_nar) (Nat.le_of_ble_eq_true rfl) (Nat.le_of_ble_eq_true rfl) ⟨by rw [xB_t ⟨c1, ho.mp c2⟩], rfl⟩
  refine x_up (n := L) (I := fun i => Wg G C M 0 0 13 [some (.ref m), some (.int (xB (isNk (A 4) L i))), some (.int (nI i))] []) (fun i hi2 ih => ?_) 0 (Nat.zero_le _)
  refine x_iload_n hC dX3_isNewName_13 rfl rfl ?_
  refine x_if_eqB (tgt := 45) hC dX3_isNewName_14 (by decide) (fun c1 => ?_) (fun c1 => ?_)
  · exact fin i (xB_iff ⟨fun h => absurd h c1, fun h => absurd ⟨h.1, fun j hj => h.2 j (by omega)⟩ c1⟩)
  · refine x_iload_n hC dX3_isNewName_17 rfl rfl ?_
    refine x_aload_n hC dX3_isNewName_18 rfl rfl ?_
    refine x_get hC 12 hm.1 rfl (by decide) q2342 rfl rfl dX3_isNewName_19 ?_
    rw [hL]
    refine x_icmp_geN (tgt := 45) hC (by omega) (by omega) dX3_isNewName_22 (by decide) (fun c2 => ?_) (fun c2 => ?_)
    · exact fin i (xB_iff ⟨fun h => ⟨h.1, fun j hj => h.2 j (by omega)⟩, fun h => c1⟩)
    · refine x_aload_n hC dX3_isNewName_25 rfl rfl ?_
      refine x_get hC 5 hm.1 rfl (by decide) q2335 rfl rfl dX3_isNewName_26 ?_
      refine x_iload_n hC dX3_isNewName_29 rfl rfl ?_
      refine x_ialdN hC (hm.arr 4 (by decide)) (show _ < 900 from (by omega)) (by decide) dX3_isNewName_30 ?_
      refine x_bipush (v := 97) hC dX3_isNewName_31 (by decide) ?_
      refine x_bipush (v := 122) hC dX3_isNewName_33 (by decide) ?_
      refine x_callS0 (na := 3) hC (ct_isIn hG _ _ _ _) (lw_S q2414 q2415 q89 q2416) (by decide +kernel) rfl ⟨Nat.le_of_ble_eq_true rfl, Nat.le_of_ble_eq_true rfl⟩ rfl (Nat.le_of_ble_eq_true rfl) ⟨rfl, rfl⟩ ⟨Nat.le_of_ble_eq_true rfl, Nat.le_of_ble_eq_true rfl⟩ dX3_isNewName_35 ?_
      rintro _ M ⟨rfl, rfl⟩
      rw [xB_iff (q := isNk (A 4) L (i + 1)) ⟨fun h => ⟨c1.1, fun j hj => by
        rcases Nat.lt_or_ge j i with h9 | h9
        · exact c1.2 j h9
        · rw [show j = i by omega]; exact h⟩, fun h => h.2 i (Nat.lt_succ_self i)⟩]
      refine x_istore_n (lv' := [_, _, _]) hC dX3_isNewName_38 rfl (by decide) rfl ?_
      refine x_iincN (lv' := [_, _, _]) (b := 1) hC dX3_isNewName_39 rfl (by decide) (by decide) rfl ?_
      refine x_goto (tgt := 13) hC dX3_isNewName_42 (by decide) ?_
      exact ih c2
theorem ct_loudness (hG : GOK G) (hm : Mdl M m P V A) {c n : Nat} (hc : c < 6) (hn : A 0 (8 + 72 * c) = nI n) (hn6 : n ≤ 64) : Ct G yX3_loudness cX3_loudness 4 (some .int) (xrm 3 0 0) [.ref m, .int (nI c)] M (Pr (.int (mxA (fun k => A 0 (9 + 72 * c + k)) n)) M) := by
  refine ct_open (lv := [_, _, _, _]) hG (by decide +kernel) (Nat.le_of_ble_eq_true rfl) rfl (fun C hC hk => ?_)
  refine x_iconst (v := 0) hC dX3_loudness_0 (by decide) ?_
  refine x_istore_n (lv' := [_, _, _, _]) hC dX3_loudness_1 rfl (by decide) rfl ?_
  refine x_iconst (v := nI 0) hC dX3_loudness_2 (by decide) ?_
  refine x_istore_n (lv' := [_, _, _, _]) hC dX3_loudness_3 rfl (by decide) rfl ?_
  refine x_up (n := n) (I := fun k => Wg G C M 0 0 4 [some (.ref m), some (.int (nI c)), some (.int (mxA (fun k => A 0 (9 + 72 * c + k)) k)), some (.int (nI k))] []) (fun k hk2 ih => ?_) 0 (Nat.zero_le _)
  refine x_iload_n hC dX3_loudness_4 rfl rfl ?_
  refine x_aload_n hC dX3_loudness_5 rfl rfl ?_
  refine x_iload_n hC dX3_loudness_6 rfl rfl ?_
  refine x_callV0 (na := 1) hC (ct_size hG hm hc hn) (lw_V q2495 q2497 qs45 q89 q2498) hm.1 rfl rfl (by decide +kernel) rfl ⟨Nat.le_of_ble_eq_true rfl, Nat.le_of_ble_eq_true rfl⟩ rfl (Nat.le_of_ble_eq_true rfl) ⟨rfl, rfl⟩ ⟨Nat.le_of_ble_eq_true rfl, Nat.le_of_ble_eq_true rfl⟩ dX3_loudness_7 ?_
  rintro _ M ⟨rfl, rfl⟩
  refine x_icmp_geN (tgt := 33) hC (by omega) (by omega) dX3_loudness_10 (by decide) (fun c1 => ?_) (fun c1 => ?_)
  · refine x_iload_n hC dX3_loudness_33 rfl rfl ?_
    exact x_iret hC hk dX3_loudness_34 (Nat.le_of_ble_eq_true rfl) (Nat.le_of_ble_eq_true rfl) ⟨by rw [show k = n by omega], rfl⟩
  · refine x_iload_n hC dX3_loudness_13 rfl rfl ?_
    refine x_aload_n hC dX3_loudness_14 rfl rfl ?_
    refine x_iload_n hC dX3_loudness_15 rfl rfl ?_
    refine x_iload_n hC dX3_loudness_16 rfl rfl ?_
    refine x_callV0 (na := 2) hC (ct_at hG hm hc (by omega)) (lw_V q2515 q2517 qs47 q89 q2518) hm.1 rfl rfl (by decide +kernel) rfl ⟨Nat.le_of_ble_eq_true rfl, Nat.le_of_ble_eq_true rfl⟩ rfl (Nat.le_of_ble_eq_true rfl) ⟨rfl, rfl⟩ ⟨Nat.le_of_ble_eq_true rfl, Nat.le_of_ble_eq_true rfl⟩ dX3_loudness_17 ?_
    rintro _ M ⟨rfl, rfl⟩
    refine x_callS0 (na := 1) hC (ct_abs hG _ _) (lw_S q2535 q1604 q103 q1605) (by decide +kernel) rfl ⟨Nat.le_of_ble_eq_true rfl, Nat.le_of_ble_eq_true rfl⟩ rfl (Nat.le_of_ble_eq_true rfl) ⟨rfl, rfl⟩ ⟨Nat.le_of_ble_eq_true rfl, Nat.le_of_ble_eq_true rfl⟩ dX3_loudness_20 ?_
    rintro _ M ⟨rfl, rfl⟩
    refine x_callS0 (na := 2) hC (ct_max hG _ _ _) (lw_S q2750 q328 q103 q329) (by decide +kernel) rfl ⟨Nat.le_of_ble_eq_true rfl, Nat.le_of_ble_eq_true rfl⟩ rfl (Nat.le_of_ble_eq_true rfl) ⟨rfl, rfl⟩ ⟨Nat.le_of_ble_eq_true rfl, Nat.le_of_ble_eq_true rfl⟩ dX3_loudness_23 ?_
    rintro _ M ⟨rfl, rfl⟩
    refine x_istore_n (lv' := [_, _, _, _]) hC dX3_loudness_26 rfl (by decide) rfl ?_
    refine x_iincN (lv' := [_, _, _, _]) (b := 1) hC dX3_loudness_27 rfl (by decide) (by decide) rfl ?_
    refine x_goto (tgt := 4) hC dX3_loudness_30 (by decide) ?_
    exact ih c1
end M4

