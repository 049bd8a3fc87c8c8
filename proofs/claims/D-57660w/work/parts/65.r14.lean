/-! ===== the component's recordings: strongestBand ===== -/
section R14
variable {G : X_G} {M : X_M} {q na sa n j : Nat} {f : Nat → Int32} {cv rv : Value}
theorem band_ex (hj1 : 1 ≤ j) (hj : j ≤ 6) {a w : Nat} (hw : 1 ≤ w) (ha : a + w ≤ 2 ^ j) : ∃ l, l < 2 ^ j ∧ nI a ≤ chg (nI l) (2 ^ j) ∧ chg (nI l) (2 ^ j) ≤ nI (a + w - 1) := by
  have hp := (pw_le (j := j) (by omega)).2
  obtain ⟨h1, h2⟩ := sqI_ok j (by omega) hj1 a (by omega)
  refine ⟨sqI j a, h1, ?_, ?_⟩
  · rw [h2]; exact Int32.le_refl _
  · rw [h2, nI_leI (by omega) (by omega)]; omega
theorem ct_rstrong (hG : GOK G) {b : Bool} (h : RcB M q na sa n f rv b) (hj1 : 1 ≤ j) (hj : j ≤ 6 ∧ n = 2 ^ j) {w : Nat} (hw1 : 1 ≤ w) (hwn : w ≤ n) : Ct G yX7_strongestBand cX7_strongestBand 4 (some .int) (xrm 6 (bC b) (bS b)) [.ref q, .int (nI w)] M (fun r M' => r = some (.int (nI (amx (fun a c => decide (bdw f n w a < bdw f n w c)) (n + 1 - w)))) ∧ Lc M M' ∧ ∃ b', RcB M' q na sa n f rv b') := by
  have hp := (pw_le (j := j) (by omega)).2
  have hn64 : n ≤ 64 := by rw [hj.2]; exact hp
  refine ct_open (lv := [_, _, _, _]) hG (by decide +kernel) (Nat.le_of_ble_eq_true rfl) rfl (fun C hC hk => ?_)
  obtain ⟨M0, hM0⟩ : ∃ M0, M0 = M := ⟨M, rfl⟩
  rw [← hM0] at hk
  have hF : Fm M0 M := by rw [hM0]; exact Fr.rf
  subst hM0
  refine x_iconst (v := nI 0) hC dX7_strongestBand_0 (by decide) ?_
  refine x_istore_n (lv' := [_, _, _, _]) hC dX7_strongestBand_1 rfl (by decide) rfl ?_
  refine x_iconst (v := nI 1) hC dX7_strongestBand_2 (by decide) ?_
  refine x_istore_n (lv' := [_, _, _, _]) hC dX7_strongestBand_3 rfl (by decide) rfl ?_
  suffices lp : ∀ k, k ≤ n - w → ∀ M1 b1 kc ks, kc + bC b1 ≤ bC b → ks + bS b1 ≤ bS b → RcB M1 q na sa n f rv b1 → Lc M0 M1 → Wg G C M1 kc ks 4 [some (.ref q), some (.int (nI w)), some (.int (nI (amx (fun a c => decide (bdw f n w a < bdw f n w c)) (k + 1)))), some (.int (nI (k + 1)))] [] by
    have h0 := lp 0 (Nat.zero_le _) M0 b 0 0 (by omega) (by omega) h Lc.rf
    rw [show amx (fun a c => decide (bdw f n w a < bdw f n w c)) (0 + 1) = 0 by unfold amx; split <;> rfl] at h0
    exact h0
  refine x_up (n := n - w) (I := fun k => ∀ M1 b1 kc ks, kc + bC b1 ≤ bC b → ks + bS b1 ≤ bS b → RcB M1 q na sa n f rv b1 → Lc M0 M1 → Wg G C M1 kc ks 4 [some (.ref q), some (.int (nI w)), some (.int (nI (amx (fun a c => decide (bdw f n w a < bdw f n w c)) (k + 1)))), some (.int (nI (k + 1)))] []) (fun k hk2 ih M1 b1 kc ks hkc hks hb hL => ?_)
  have hb0 := hb
  obtain ⟨cv1, g1, g2, -, -⟩ := hb0
  refine x_iload_n hC dX7_strongestBand_4 rfl rfl ?_
  refine x_iload_n hC dX7_strongestBand_5 rfl rfl ?_
  refine x_iaddN hC dX7_strongestBand_6 ?_
  refine x_aload_n hC dX7_strongestBand_7 rfl rfl ?_
  refine x_get hC 1 g1 rfl (by decide) q1486 rfl rfl dX7_strongestBand_8 ?_
  refine x_alen hC g2 dX7_strongestBand_11 ?_
  dsimp only
  refine x_icmp_gtN (tgt := 47) hC (by omega) (by omega) dX7_strongestBand_12 (by decide) (fun c1 => ?_) (fun c1 => ?_)
  · refine x_iload_n hC dX7_strongestBand_47 rfl rfl ?_
    exact x_iret hC hk dX7_strongestBand_48 (show kc ≤ bC b by omega) (show ks ≤ bS b by omega) ⟨by rw [show k + 1 = n + 1 - w by omega], hL, b1, hb⟩
  · have hal := amx_lt (lt := fun a c => decide (bdw f n w a < bdw f n w c)) (k := k + 1) (by omega)
    have hst : amx (fun a c => decide (bdw f n w a < bdw f n w c)) (k + 1 + 1) = if bdw f n w (amx (fun a c => decide (bdw f n w a < bdw f n w c)) (k + 1)) < bdw f n w (k + 1) then k + 1 else amx (fun a c => decide (bdw f n w a < bdw f n w c)) (k + 1) := by
      rw [amx]
      simp only [decide_eq_true_eq]
    have ih2 := ih (by omega)
    rw [hst] at ih2
    generalize amx (fun a c => decide (bdw f n w a < bdw f n w c)) (k + 1) = u at hal ih2 ⊢
    refine x_aload_n hC dX7_strongestBand_15 rfl rfl ?_
    refine x_iload_n hC dX7_strongestBand_16 rfl rfl ?_
    refine x_iload_n hC dX7_strongestBand_17 rfl rfl ?_
    refine x_iload_n hC dX7_strongestBand_18 rfl rfl ?_
    refine x_iaddN hC dX7_strongestBand_19 ?_
    refine x_iconst (v := nI 1) hC dX7_strongestBand_20 (by decide) ?_
    refine x_isubN hC dX7_strongestBand_21 (by omega) ?_
    refine x_callV (k := kc + bC b1) (n := ks + bS b1) (na := 2) hC (ct_rband2 hG hb hj1 hj _ _) (lw_V q1768 q1744 q1745 q115 q1746) g1 rfl rfl (by decide +kernel) rfl ⟨Nat.le_of_ble_eq_true rfl, Nat.le_of_ble_eq_true rfl⟩ rfl (Nat.le_of_ble_eq_true rfl) (Nat.le_refl _) (Nat.le_refl _) ⟨hkc, hks⟩ dX7_strongestBand_22 ?_
    rintro _ M2 ⟨rfl, hL2, b2, hb2, hR2⟩
    have e2 : b2 = true := hb2 (by rw [hj.2]; exact band_ex hj1 hj.1 hw1 (by rw [← hj.2]; omega))
    subst e2
    obtain ⟨cv2, g3⟩ := hR2.rec
    refine x_aload_n hC dX7_strongestBand_25 rfl rfl ?_
    refine x_iload_n hC dX7_strongestBand_26 rfl rfl ?_
    refine x_iload_n hC dX7_strongestBand_27 rfl rfl ?_
    refine x_iload_n hC dX7_strongestBand_28 rfl rfl ?_
    refine x_iaddN hC dX7_strongestBand_29 ?_
    refine x_iconst (v := nI 1) hC dX7_strongestBand_30 (by decide) ?_
    refine x_isubN hC dX7_strongestBand_31 (by omega) ?_
    refine x_callV0 (na := 2) hC (ct_rband2 hG hR2 hj1 hj _ _) (lw_V q1768 q1744 q1745 q115 q1746) g3 rfl rfl (by decide +kernel) rfl ⟨Nat.le_of_ble_eq_true rfl, Nat.le_of_ble_eq_true rfl⟩ rfl (Nat.le_of_ble_eq_true rfl) ⟨rfl, rfl⟩ ⟨hkc, hks⟩ dX7_strongestBand_32 ?_
    rintro _ M3 ⟨rfl, hL3, b3, hb3, hR3⟩
    have e3 : b3 = true := hb3 (by rw [hj.2]; exact band_ex hj1 hj.1 hw1 (by rw [← hj.2]; omega))
    subst e3
    refine x_lcmp hC dX7_strongestBand_35 ?_
    refine x_if_le (tgt := 41) hC dX7_strongestBand_36 (by decide) (fun c2 => ?_) (fun c2 => ?_)
    · rw [lg_cmp_le] at c2
      refine x_iincN (lv' := [_, _, _, _]) (b := 1) hC dX7_strongestBand_41 rfl (by decide) (by decide) rfl ?_
      refine x_goto (tgt := 4) hC dX7_strongestBand_44 (by decide) ?_
      have ih3 := ih2 M3 true _ _ hkc hks hR3 ((hL.tr hL2).tr hL3)
      rw [if_neg (Int64.not_lt.mpr c2)] at ih3
      exact ih3
    · rw [lg_cmp_le] at c2
      refine x_iload_n hC dX7_strongestBand_39 rfl rfl ?_
      refine x_istore_n (lv' := [_, _, _, _]) hC dX7_strongestBand_40 rfl (by decide) rfl ?_
      refine x_iincN (lv' := [_, _, _, _]) (b := 1) hC dX7_strongestBand_41 rfl (by decide) (by decide) rfl ?_
      refine x_goto (tgt := 4) hC dX7_strongestBand_44 (by decide) ?_
      have ih3 := ih2 M3 true _ _ hkc hks hR3 ((hL.tr hL2).tr hL3)
      rw [if_pos (Int64.not_le.mp c2)] at ih3
      exact ih3
end R14

