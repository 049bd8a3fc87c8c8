/-! ===== the component's recordings: coefficients, found when they are needed ===== -/
/-- a recording, but for its ranking; whether its coefficients are known -/
def RcB (M : X_M) (q na sa n : Nat) (f : Nat → Int32) (rv : Value) (b : Bool) : Prop := ∃ cv, M q = some (ob 2 3 (reF na sa cv rv)) ∧ M sa = some (ia 0 n f) ∧ (b = false → cv = .null) ∧ (b = true → CV M n f cv)
/-- what it costs to ask for them -/
abbrev bC (b : Bool) : Nat := if b then 0 else 1
abbrev bS (b : Bool) : Nat := if b then 0 else 64
/-- what asking for the coefficients leaves -/
def PCo (M : X_M) (q na sa n : Nat) (f : Nat → Int32) (rv : Value) : Option Value → X_M → Prop := fun r M' => ∃ a u, r = some (.ref a) ∧ M' a = some (ia 0 n u) ∧ (∀ k, k < n → u k = cfN f n k) ∧ Lc M M' ∧ RcB M' q na sa n f rv true
theorem Lc.mk {M : X_M} {a q na sa n : Nat} {f u : Nat → Int32} {rv : Value} {e0 : X_E} (ha : M a = none) (hq : M q = some (ob 2 3 (reF na sa .null rv))) (hs : M sa = some (ia 0 n f)) (hu : ∀ k, k < n → u k = cfN f n k) : Lc M (mu (mu (mu M a e0) q (ob 2 3 (reF na sa (.ref a) rv))) a (ia 0 n u)) := by
  have hqa : q ≠ a := fun e => by rw [e, ha] at hq; cases hq
  refine ⟨fun b e hb hn => ?_, fun q' na' sa' n' f' cv' rv' h1 h2 => ?_⟩
  · have hba : b ≠ a := fun e => by rw [e, ha] at hb; cases hb
    have hbq : b ≠ q := fun e9 => by
      rw [e9, hq] at hb
      cases hb
      exact hn rfl
    exact mu_o hba (mu_o hbq (mu_f ha hb))
  · have hqa' : q' ≠ a := fun e => by rw [e, ha] at h1; cases h1
    by_cases e : q' = q
    · subst e
      rw [hq] at h1
      have h9 := congrArg (fun z : Option X_E => z) h1
      simp only [Option.some.injEq, Prod.mk.injEq, Sum.inl.injEq, List.cons.injEq, Value.ref.injEq, true_and, and_true] at h9
      obtain ⟨rfl, rfl, rfl, rfl⟩ := h9
      rw [hs] at h2
      cases h2
      exact ⟨.ref a, mu_o hqa mu_s, Or.inr ⟨a, u, rfl, mu_s, hu⟩⟩
    · exact ⟨cv', mu_o hqa' (mu_o e (mu_f ha h1)), Or.inl rfl⟩
section R2
variable {G : X_G} {M : X_M} {q na sa n j : Nat} {f : Nat → Int32} {cv rv : Value}
theorem ct_coefs (hG : GOK G) {b : Bool} (h : RcB M q na sa n f rv b) (hj : j ≤ 6 ∧ n = 2 ^ j) : Ct G yX7_coefficients cX7_coefficients 1 (some (.array .int)) (xrm 3 (bC b) (bS b)) [.ref q] M (PCo M q na sa n f rv) := by
  obtain ⟨cv, h1, h2, h3, h4⟩ := h
  obtain ⟨hj, rfl⟩ := hj
  have hn := (pw_le (j := j) (by omega)).2
  cases b
  · have h3 := h3 rfl
    subst h3
    refine ct_open (lv := [_]) hG (by decide +kernel) (Nat.le_of_ble_eq_true rfl) rfl (fun C hC hk => ?_)
    refine x_aload_n hC dX7_coefficients_0 rfl rfl ?_
    refine x_get hC 2 h1 rfl (by decide) q1489 rfl rfl dX7_coefficients_1 ?_
    refine x_ifnonnullN hC dX7_coefficients_4 ?_
    refine x_aload_n hC dX7_coefficients_7 rfl rfl ?_
    refine x_aload_n hC dX7_coefficients_8 rfl rfl ?_
    refine x_callV (k := 1) (n := 64) (na := 0) hC (ct_copyS hG (g := 3) (by decide) h1 h2 hn) (lw_V q1717 q1719 qs15 q115 q1720) h1 rfl rfl (by decide +kernel) rfl ⟨Nat.le_of_ble_eq_true rfl, Nat.le_of_ble_eq_true rfl⟩ rfl (Nat.le_of_ble_eq_true rfl) (Nat.le_of_ble_eq_true rfl) (Nat.le_of_ble_eq_true rfl) ⟨Nat.le_of_ble_eq_true rfl, Nat.le_of_ble_eq_true rfl⟩ dX7_coefficients_9 ?_
    rintro _ M1 ⟨a, u, rfl, ha, rfl, hu⟩
    have hqa : q ≠ a := fun e => by rw [e, ha] at h1; cases h1
    refine x_put hC 2 (mu_f ha h1) (by decide) rfl (by decide) q1489 rfl rfl rfl rfl rfl (show 2 < 4 by decide) (fs' := reF na sa (.ref a) rv) rfl dX7_coefficients_12 ?_
    refine x_aload_n hC dX7_coefficients_15 rfl rfl ?_
    refine x_get hC 2 mu_s rfl (by decide) q1489 rfl rfl dX7_coefficients_16 ?_
    refine x_callS0 (na := 1) hC (ct_wht hG (a := a) (g := 3) (f := u) hj (mu_o (Ne.symm hqa) mu_s) (by decide)) (lw_S q1722 q1723 q123 q1724) (by decide +kernel) rfl ⟨Nat.le_of_ble_eq_true rfl, Nat.le_of_ble_eq_true rfl⟩ rfl (Nat.le_of_ble_eq_true rfl) ⟨rfl, rfl⟩ ⟨Nat.le_of_ble_eq_true rfl, Nat.le_of_ble_eq_true rfl⟩ dX7_coefficients_19 ?_
    rintro _ M2 ⟨rfl, u2, rfl, hu2⟩
    refine x_aload_n hC dX7_coefficients_22 rfl rfl ?_
    refine x_get hC 2 (mu_o hqa mu_s) rfl (by decide) q1489 rfl rfl dX7_coefficients_23 ?_
    refine x_tag 0 mu_s (by decide) ?_
    rw [mu_mu]
    have hu3 : ∀ k, k < 2 ^ j → u2 k = cfN f (2 ^ j) k := fun k hk => by rw [hu2 k hk, cfN_cong hu]
    have hL := Lc.mk (e0 := ia 3 (2 ^ j) u) ha h1 h2 hu3
    exact x_aret hC hk dX7_coefficients_26 (Or.inr ⟨_, rfl⟩) (Or.inr ⟨_, rfl⟩) (Nat.le_of_ble_eq_true rfl) (Nat.le_of_ble_eq_true rfl) ⟨a, u2, rfl, mu_s, hu3, hL, .ref a, mu_o hqa mu_s, hL.1.z (by decide) h2, (fun h => by cases h), (fun _ => ⟨a, u2, rfl, mu_s, hu3⟩)⟩
  · obtain ⟨a, u, rfl, h5, h6⟩ := h4 rfl
    refine ct_open (lv := [_]) hG (by decide +kernel) (Nat.le_of_ble_eq_true rfl) rfl (fun C hC hk => ?_)
    refine x_aload_n hC dX7_coefficients_0 rfl rfl ?_
    refine x_get hC 2 h1 rfl (by decide) q1489 rfl rfl dX7_coefficients_1 ?_
    refine x_ifnonnull (tgt := 22) hC dX7_coefficients_4 (by decide) ?_
    refine x_aload_n hC dX7_coefficients_22 rfl rfl ?_
    refine x_get hC 2 h1 rfl (by decide) q1489 rfl rfl dX7_coefficients_23 ?_
    exact x_aret hC hk dX7_coefficients_26 (Or.inr ⟨_, rfl⟩) (Or.inr ⟨_, rfl⟩) (Nat.le_of_ble_eq_true rfl) (Nat.le_of_ble_eq_true rfl) ⟨a, u, rfl, h5, h6, Lc.rf, .ref a, h1, h2, (fun h => by cases h), (fun _ => ⟨a, u, rfl, h5, h6⟩)⟩
theorem RcB.rec {b : Bool} (h : RcB M q na sa n f rv b) : ∃ cv, M q = some (ob 2 3 (reF na sa cv rv)) := by
  obtain ⟨cv, h1, -⟩ := h
  exact ⟨cv, h1⟩
theorem ct_rsquare (hG : GOK G) {b : Bool} (h : RcB M q na sa n f rv b) (hj : j ≤ 6 ∧ n = 2 ^ j) {i : Nat} (hi : i < n) : Ct G yX7_square cX7_square 2 (some .long) (xrm 4 (bC b) (bS b)) [.ref q, .int (nI i)] M (fun r M' => r = some (.long (sq (cfN f n i))) ∧ Lc M M' ∧ RcB M' q na sa n f rv true) := by
  obtain ⟨cv, h1⟩ := h.rec
  have hp := (pw_le (j := j) (by omega)).2
  have hn64 : n ≤ 64 := by rw [hj.2]; exact hp
  refine ct_open (lv := [_, _]) hG (by decide +kernel) (Nat.le_of_ble_eq_true rfl) rfl (fun C hC hk => ?_)
  refine x_aload_n hC dX7_square_0 rfl rfl ?_
  refine x_callV (k := bC b) (n := bS b) (na := 0) hC (ct_coefs hG h hj) (lw_V q1756 q1714 q1715 q115 q1716) h1 rfl rfl (by decide +kernel) rfl ⟨Nat.le_of_ble_eq_true rfl, Nat.le_of_ble_eq_true rfl⟩ rfl (Nat.le_of_ble_eq_true rfl) (Nat.le_of_eq (Nat.zero_add _)) (Nat.le_of_eq (Nat.zero_add _)) ⟨Nat.le_refl _, Nat.le_refl _⟩ dX7_square_1 ?_
  rintro _ M1 ⟨a, u, rfl, ha, hu, hL, hb⟩
  obtain ⟨cv1, h1⟩ := hb.rec
  refine x_iload_n hC dX7_square_4 rfl rfl ?_
  refine x_ialdN hC ha hi (by first | decide | omega) dX7_square_5 ?_
  rw [hu i hi]
  refine x_i2l hC dX7_square_6 rfl ?_
  refine x_aload_n hC dX7_square_7 rfl rfl ?_
  refine x_callV0 (na := 0) hC (ct_coefs hG hb hj) (lw_V q1756 q1714 q1715 q115 q1716) h1 rfl rfl (by decide +kernel) rfl ⟨Nat.le_of_ble_eq_true rfl, Nat.le_of_ble_eq_true rfl⟩ rfl (Nat.le_of_ble_eq_true rfl) ⟨rfl, rfl⟩ ⟨Nat.le_refl _, Nat.le_refl _⟩ dX7_square_8 ?_
  rintro _ M2 ⟨a2, u2, rfl, ha2, hu2, hL2, hb2⟩
  refine x_iload_n hC dX7_square_11 rfl rfl ?_
  refine x_ialdN hC ha2 hi (by first | decide | omega) dX7_square_12 ?_
  rw [hu2 i hi]
  refine x_i2l hC dX7_square_13 rfl ?_
  refine x_lmul hC dX7_square_14 ?_
  exact x_lret hC hk dX7_square_15 (Nat.le_refl _) (Nat.le_refl _) ⟨rfl, hL.tr hL2, hb2⟩
theorem ct_isHigher (hG : GOK G) {b : Bool} (h : RcB M q na sa n f rv b) (hj : j ≤ 6 ∧ n = 2 ^ j) {i o : Nat} (hi : i < n) (ho : o < n) : Ct G yX7_isHigher cX7_isHigher 5 (some .boolean) (xrm 4 (bC b) (bS b)) [.ref q, .int (nI i), .int (nI o)] M (fun r M' => r = some (.int (xB (iabs (cfN f n o) < iabs (cfN f n i) ∨ (iabs (cfN f n i) = iabs (cfN f n o) ∧ i < o)))) ∧ Lc M M' ∧ RcB M' q na sa n f rv true) := by
  obtain ⟨cv, h1⟩ := h.rec
  have hp := (pw_le (j := j) (by omega)).2
  have hn64 : n ≤ 64 := by rw [hj.2]; exact hp
  refine ct_open (lv := [_, _, _, _, _]) hG (by decide +kernel) (Nat.le_of_ble_eq_true rfl) rfl (fun C hC hk => ?_)
  refine x_aload_n hC dX7_isHigher_0 rfl rfl ?_
  refine x_callV (k := bC b) (n := bS b) (na := 0) hC (ct_coefs hG h hj) (lw_V q1756 q1714 q1715 q115 q1716) h1 rfl rfl (by decide +kernel) rfl ⟨Nat.le_of_ble_eq_true rfl, Nat.le_of_ble_eq_true rfl⟩ rfl (Nat.le_of_ble_eq_true rfl) (Nat.le_of_eq (Nat.zero_add _)) (Nat.le_of_eq (Nat.zero_add _)) ⟨Nat.le_refl _, Nat.le_refl _⟩ dX7_isHigher_1 ?_
  rintro _ M1 ⟨a, u, rfl, ha, hu, hL, hb⟩
  obtain ⟨cv1, h1⟩ := hb.rec
  refine x_iload_n hC dX7_isHigher_4 rfl rfl ?_
  refine x_ialdN hC ha hi (by first | decide | omega) dX7_isHigher_5 ?_
  rw [hu i hi]
  refine x_callS0 (na := 1) hC (ct_abs hG _ _) (lw_S q1788 q1604 q103 q1605) (by decide +kernel) rfl ⟨Nat.le_of_ble_eq_true rfl, Nat.le_of_ble_eq_true rfl⟩ rfl (Nat.le_of_ble_eq_true rfl) ⟨rfl, rfl⟩ ⟨Nat.le_refl _, Nat.le_refl _⟩ dX7_isHigher_6 ?_
  rintro _ M ⟨rfl, rfl⟩
  refine x_istore_n (lv' := [_, _, _, _, _]) hC dX7_isHigher_9 rfl (by decide) rfl ?_
  refine x_aload_n hC dX7_isHigher_10 rfl rfl ?_
  refine x_callV0 (na := 0) hC (ct_coefs hG hb hj) (lw_V q1756 q1714 q1715 q115 q1716) h1 rfl rfl (by decide +kernel) rfl ⟨Nat.le_of_ble_eq_true rfl, Nat.le_of_ble_eq_true rfl⟩ rfl (Nat.le_of_ble_eq_true rfl) ⟨rfl, rfl⟩ ⟨Nat.le_refl _, Nat.le_refl _⟩ dX7_isHigher_11 ?_
  rintro _ M2 ⟨a2, u2, rfl, ha2, hu2, hL2, hb2⟩
  refine x_iload_n hC dX7_isHigher_14 rfl rfl ?_
  refine x_ialdN hC ha2 ho (by first | decide | omega) dX7_isHigher_15 ?_
  rw [hu2 o ho]
  refine x_callS0 (na := 1) hC (ct_abs hG _ _) (lw_S q1788 q1604 q103 q1605) (by decide +kernel) rfl ⟨Nat.le_of_ble_eq_true rfl, Nat.le_of_ble_eq_true rfl⟩ rfl (Nat.le_of_ble_eq_true rfl) ⟨rfl, rfl⟩ ⟨Nat.le_refl _, Nat.le_refl _⟩ dX7_isHigher_16 ?_
  rintro _ M ⟨rfl, rfl⟩
  refine x_istore (lv' := [_, _, _, _, _]) hC dX7_isHigher_19 (by decide) rfl ?_
  refine x_iload_n hC dX7_isHigher_21 rfl rfl ?_
  refine x_iload hC dX7_isHigher_22 rfl ?_
  have fin : ∀ v, v = xB (iabs (cfN f n o) < iabs (cfN f n i) ∨ (iabs (cfN f n i) = iabs (cfN f n o) ∧ i < o)) → Wg G C M (bC b) (bS b) 43 [some (.ref q), some (.int (nI i)), some (.int (nI o)), some (.int (iabs (cfN f n i))), some (.int (iabs (cfN f n o)))] [.int v] := by
    rintro _ rfl
    exact x_zret hC hk dX7_isHigher_43 xB_nar (Nat.le_refl _) (Nat.le_refl _) ⟨rfl, hL.tr hL2, hb2⟩
  refine x_icmp_gt (tgt := 38) hC dX7_isHigher_24 (by decide) (fun c1 => ?_) (fun c1 => ?_)
  · refine x_iconst (v := 1) hC dX7_isHigher_38 (by decide) ?_
    refine x_goto (tgt := 43) hC dX7_isHigher_39 (by decide) ?_
    exact fin _ (xB_t (Or.inl c1)).symm
  · refine x_iload_n hC dX7_isHigher_27 rfl rfl ?_
    refine x_iload hC dX7_isHigher_28 rfl ?_
    refine x_icmp_ne (tgt := 42) hC dX7_isHigher_30 (by decide) (fun c2 => ?_) (fun c2 => ?_)
    · refine x_iconst (v := 0) hC dX7_isHigher_42 (by decide) ?_
      exact fin _ (xB_f (fun h => h.elim c1 (fun h => c2 h.1))).symm
    · refine x_iload_n hC dX7_isHigher_33 rfl rfl ?_
      refine x_iload_n hC dX7_isHigher_34 rfl rfl ?_
      refine x_icmp_geN (tgt := 42) hC (by omega) (by omega) dX7_isHigher_35 (by decide) (fun c3 => ?_) (fun c3 => ?_)
      · refine x_iconst (v := 0) hC dX7_isHigher_42 (by decide) ?_
        exact fin _ (xB_f (fun h => h.elim c1 (fun h => absurd h.2 (by omega)))).symm
      · refine x_iconst (v := 1) hC dX7_isHigher_38 (by decide) ?_
        refine x_goto (tgt := 43) hC dX7_isHigher_39 (by decide) ?_
        exact fin _ (xB_t (Or.inr ⟨c2, by omega⟩)).symm
end R2

