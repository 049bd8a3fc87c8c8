/-! ===== the component's recordings: energies ===== -/
section R6
variable {G : X_G} {M : X_M} {q na sa n j : Nat} {f : Nat → Int32} {cv rv : Value}
theorem ct_rcoE (hG : GOK G) (h : M q = some (ob 2 3 (reF na sa cv rv))) (hs : M sa = some (ia 0 n f)) (hj : j ≤ 6 ∧ n = 2 ^ j) (hf : ∀ l, l < n → lim (f l)) : Ct G yX7_coefficientEnergy cX7_coefficientEnergy 1 (some .long) (xrm 2 0 0) [.ref q] M (Pr (.long (jS (fun l => sq (cfN f n l)) n)) M) := by
  obtain ⟨hj, rfl⟩ := hj
  have hp := (pw_le (j := j) (by omega)).2
  refine ct_open (lv := [_]) hG (by decide +kernel) (Nat.le_of_ble_eq_true rfl) rfl (fun C hC hk => ?_)
  refine x_aload_n hC dX7_coefficientEnergy_0 rfl rfl ?_
  refine x_callV0 (na := 0) hC (ct_renergy hG h hs hp) (lw_V q1802 q1593 q1594 q115 q1595) h rfl rfl (by decide +kernel) rfl ⟨Nat.le_of_ble_eq_true rfl, Nat.le_of_ble_eq_true rfl⟩ rfl (Nat.le_of_ble_eq_true rfl) ⟨rfl, rfl⟩ ⟨Nat.le_of_ble_eq_true rfl, Nat.le_of_ble_eq_true rfl⟩ dX7_coefficientEnergy_1 ?_
  rintro _ M ⟨rfl, rfl⟩
  refine x_aload_n hC dX7_coefficientEnergy_4 rfl rfl ?_
  refine x_get hC 1 h rfl (by decide) q1486 rfl rfl dX7_coefficientEnergy_5 ?_
  refine x_alen hC hs dX7_coefficientEnergy_8 ?_
  dsimp only
  refine x_i2l hC dX7_coefficientEnergy_9 rfl ?_
  refine x_lmul hC dX7_coefficientEnergy_10 ?_
  rw [← coef_E hj hf]
  exact x_lret hC hk dX7_coefficientEnergy_11 (Nat.le_of_ble_eq_true rfl) (Nat.le_of_ble_eq_true rfl) ⟨rfl, rfl⟩
theorem ct_risAbove (hG : GOK G) {b : Bool} (h : RcB M q na sa n f rv b) (hj : j ≤ 6 ∧ n = 2 ^ j) {i : Nat} (hi : i < n) (t : Int32) : Ct G yX7_isAbove cX7_isAbove 3 (some .boolean) (xrm 4 (bC b) (bS b)) [.ref q, .int (nI i), .int t] M (fun r M' => r = some (.int (xB (t ≤ iabs (cfN f n i)))) ∧ Lc M M' ∧ RcB M' q na sa n f rv true) := by
  obtain ⟨cv, h1⟩ := h.rec
  have hp := (pw_le (j := j) (by omega)).2
  have hn64 : n ≤ 64 := by rw [hj.2]; exact hp
  refine ct_open (lv := [_, _, _]) hG (by decide +kernel) (Nat.le_of_ble_eq_true rfl) rfl (fun C hC hk => ?_)
  refine x_aload_n hC dX7_isAbove_0 rfl rfl ?_
  refine x_callV (k := bC b) (n := bS b) (na := 0) hC (ct_coefs hG h hj) (lw_V q1756 q1714 q1715 q115 q1716) h1 rfl rfl (by decide +kernel) rfl ⟨Nat.le_of_ble_eq_true rfl, Nat.le_of_ble_eq_true rfl⟩ rfl (Nat.le_of_ble_eq_true rfl) (Nat.le_of_eq (Nat.zero_add _)) (Nat.le_of_eq (Nat.zero_add _)) ⟨Nat.le_refl _, Nat.le_refl _⟩ dX7_isAbove_1 ?_
  rintro _ M1 ⟨a, u, rfl, ha, hu, hL, hb⟩
  refine x_iload_n hC dX7_isAbove_4 rfl rfl ?_
  refine x_ialdN hC ha hi (by first | decide | omega) dX7_isAbove_5 ?_
  rw [hu i hi]
  refine x_callS0 (na := 1) hC (ct_abs hG _ _) (lw_S q1788 q1604 q103 q1605) (by decide +kernel) rfl ⟨Nat.le_of_ble_eq_true rfl, Nat.le_of_ble_eq_true rfl⟩ rfl (Nat.le_of_ble_eq_true rfl) ⟨rfl, rfl⟩ ⟨Nat.le_refl _, Nat.le_refl _⟩ dX7_isAbove_6 ?_
  rintro _ M ⟨rfl, rfl⟩
  refine x_iload_n hC dX7_isAbove_9 rfl rfl ?_
  refine x_icmp_lt (tgt := 17) hC dX7_isAbove_10 (by decide) (fun c1 => ?_) (fun c1 => ?_)
  · refine x_iconst (v := 0) hC dX7_isAbove_17 (by decide) ?_
    exact x_zret hC hk dX7_isAbove_18 rfl (Nat.le_refl _) (Nat.le_refl _) ⟨by rw [xB_f (Int32.not_le.mpr c1)], hL, hb⟩
  · refine x_iconst (v := 1) hC dX7_isAbove_13 (by decide) ?_
    refine x_goto (tgt := 18) hC dX7_isAbove_14 (by decide) ?_
    exact x_zret hC hk dX7_isAbove_18 rfl (Nat.le_refl _) (Nat.le_refl _) ⟨by rw [xB_t (Int32.not_lt.mp c1)], hL, hb⟩
theorem ct_rabove (hG : GOK G) {b : Bool} (h : RcB M q na sa n f rv b) (hj : j ≤ 6 ∧ n = 2 ^ j) (t : Int32) : Ct G yX7_tonesAbove cX7_tonesAbove 4 (some .int) (xrm 5 (bC b) (bS b)) [.ref q, .int t] M (fun r M' => r = some (.int (iS (fun i => xB (t ≤ iabs (cfN f n i))) n)) ∧ Lc M M' ∧ ∃ b', RcB M' q na sa n f rv b') := by
  have hp := (pw_le (j := j) (by omega)).2
  have hn64 : n ≤ 64 := by rw [hj.2]; exact hp
  refine ct_open (lv := [_, _, _, _]) hG (by decide +kernel) (Nat.le_of_ble_eq_true rfl) rfl (fun C hC hk => ?_)
  obtain ⟨M0, hM0⟩ : ∃ M0, M0 = M := ⟨M, rfl⟩
  rw [← hM0] at hk
  have hF : Fm M0 M := by rw [hM0]; exact Fr.rf
  subst hM0
  refine x_iconst (v := nI 0) hC dX7_tonesAbove_0 (by decide) ?_
  refine x_istore_n (lv' := [_, _, _, _]) hC dX7_tonesAbove_1 rfl (by decide) rfl ?_
  refine x_iconst (v := nI 0) hC dX7_tonesAbove_2 (by decide) ?_
  refine x_istore_n (lv' := [_, _, _, _]) hC dX7_tonesAbove_3 rfl (by decide) rfl ?_
  refine x_up (n := n) (I := fun k => ∀ M1 b1 kc ks, kc + bC b1 ≤ bC b → ks + bS b1 ≤ bS b → RcB M1 q na sa n f rv b1 → Lc M0 M1 → Wg G C M1 kc ks 4 [some (.ref q), some (.int t), some (.int (iS (fun i => xB (t ≤ iabs (cfN f n i))) k)), some (.int (nI k))] []) (fun k hk2 ih M1 b1 kc ks hkc hks hb hL => ?_) 0 (Nat.zero_le _) M0 b 0 0 (by omega) (by omega) h Lc.rf
  have hb0 := hb
  obtain ⟨cv1, g1, g2, -, -⟩ := hb0
  refine x_iload_n hC dX7_tonesAbove_4 rfl rfl ?_
  refine x_aload_n hC dX7_tonesAbove_5 rfl rfl ?_
  refine x_get hC 1 g1 rfl (by decide) q1486 rfl rfl dX7_tonesAbove_6 ?_
  refine x_alen hC g2 dX7_tonesAbove_9 ?_
  dsimp only
  refine x_icmp_geN (tgt := 31) hC (by omega) (by omega) dX7_tonesAbove_10 (by decide) (fun c1 => ?_) (fun c1 => ?_)
  · refine x_iload_n hC dX7_tonesAbove_31 rfl rfl ?_
    exact x_iret hC hk dX7_tonesAbove_32 (show kc ≤ bC b by omega) (show ks ≤ bS b by omega) ⟨by rw [show k = n by omega], hL, b1, hb⟩
  · have hst : iS (fun i => xB (t ≤ iabs (cfN f n i))) (k + 1) = iS (fun i => xB (t ≤ iabs (cfN f n i))) k + xB (t ≤ iabs (cfN f n k)) := rfl
    have ih2 := ih c1
    rw [hst] at ih2
    refine x_aload_n hC dX7_tonesAbove_13 rfl rfl ?_
    refine x_iload_n hC dX7_tonesAbove_14 rfl rfl ?_
    refine x_iload_n hC dX7_tonesAbove_15 rfl rfl ?_
    refine x_callV (k := kc + bC b1) (n := ks + bS b1) (na := 2) hC (ct_risAbove hG hb hj c1 t) (lw_V q1784 q1786 qs16 q115 q1787) g1 rfl rfl (by decide +kernel) rfl ⟨Nat.le_of_ble_eq_true rfl, Nat.le_of_ble_eq_true rfl⟩ rfl (Nat.le_of_ble_eq_true rfl) (Nat.le_refl _) (Nat.le_refl _) ⟨hkc, hks⟩ dX7_tonesAbove_16 ?_
    rintro _ M2 ⟨rfl, hLc, hb2⟩
    refine x_if_eqB (tgt := 25) hC dX7_tonesAbove_19 (by decide) (fun c2 => ?_) (fun c2 => ?_)
    · rw [xB_f c2, Int32.add_zero] at ih2
      refine x_iincN (lv' := [_, _, _, _]) (b := 1) hC dX7_tonesAbove_25 rfl (by decide) (by decide) rfl ?_
      refine x_goto (tgt := 4) hC dX7_tonesAbove_28 (by decide) ?_
      exact ih2 M2 true _ _ hkc hks hb2 (hL.tr hLc)
    · rw [xB_t c2] at ih2
      refine x_iinc (lv' := [_, _, _, _]) (v := 1) hC dX7_tonesAbove_22 rfl (by decide) (by decide) rfl ?_
      refine x_iincN (lv' := [_, _, _, _]) (b := 1) hC dX7_tonesAbove_25 rfl (by decide) (by decide) rfl ?_
      refine x_goto (tgt := 4) hC dX7_tonesAbove_28 (by decide) ?_
      exact ih2 M2 true _ _ hkc hks hb2 (hL.tr hLc)
end R6

