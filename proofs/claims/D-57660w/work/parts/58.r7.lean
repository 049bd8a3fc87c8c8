/-! ===== the component's recordings: bands ===== -/
section R7
variable {G : X_G} {M : X_M} {q na sa n j : Nat} {f : Nat → Int32} {cv rv : Value}
theorem ct_rband (hG : GOK G) {b : Bool} (h : RcB M q na sa n f rv b) (hj1 : 1 ≤ j) (hj : j ≤ 6 ∧ n = 2 ^ j) (lo hi : Int32) : Ct G yX7_bandEnergy cX7_bandEnergy 6 (some .long) (xrm 5 (bC b) (bS b)) [.ref q, .int lo, .int hi] M (fun r M' => r = some (.long (bnd f n lo hi)) ∧ Lc M M' ∧ ∃ b', (b = true → b' = true) ∧ bC b' ≤ bC b ∧ RcB M' q na sa n f rv b') := by
  have hp := (pw_le (j := j) (by omega)).2
  have hn64 : n ≤ 64 := by rw [hj.2]; exact hp
  refine ct_open (lv := [_, _, _, _, _, _]) hG (by decide +kernel) (Nat.le_of_ble_eq_true rfl) rfl (fun C hC hk => ?_)
  obtain ⟨M0, hM0⟩ : ∃ M0, M0 = M := ⟨M, rfl⟩
  rw [← hM0] at hk
  have hF : Fm M0 M := by rw [hM0]; exact Fr.rf
  subst hM0
  refine x_lconst (v := 0) hC dX7_bandEnergy_0 (by decide) ?_
  refine x_lstore_n (lv' := [_, _, _, _, _, _]) hC dX7_bandEnergy_1 rfl (by decide) rfl ?_
  refine x_iconst (v := nI 0) hC dX7_bandEnergy_2 (by decide) ?_
  refine x_istore (lv' := [_, _, _, _, _, _]) hC dX7_bandEnergy_3 (by decide) rfl ?_
  refine x_up (n := n) (I := fun k => ∀ M1 b1 kc ks, kc + bC b1 ≤ bC b → ks + bS b1 ≤ bS b → (b = true → b1 = true) → RcB M1 q na sa n f rv b1 → Lc M0 M1 → Wg G C M1 kc ks 5 [some (.ref q), some (.int lo), some (.int hi), some (.long (jS (fun i => if lo ≤ chg (nI i) n ∧ chg (nI i) n ≤ hi then sq (cfN f n i) else 0) k)), none, some (.int (nI k))] []) (fun k hk2 ih M1 b1 kc ks hkc hks hbb hb hL => ?_) 0 (Nat.zero_le _) M0 b 0 0 (by omega) (by omega) id h Lc.rf
  have hb0 := hb
  obtain ⟨cv1, g1, g2, -, -⟩ := hb0
  refine x_iload hC dX7_bandEnergy_5 rfl ?_
  refine x_aload_n hC dX7_bandEnergy_7 rfl rfl ?_
  refine x_get hC 1 g1 rfl (by decide) q1486 rfl rfl dX7_bandEnergy_8 ?_
  refine x_alen hC g2 dX7_bandEnergy_11 ?_
  dsimp only
  refine x_icmp_geN (tgt := 44) hC (by omega) (by omega) dX7_bandEnergy_12 (by decide) (fun c1 => ?_) (fun c1 => ?_)
  · refine x_lload_n hC dX7_bandEnergy_44 rfl rfl ?_
    exact x_lret hC hk dX7_bandEnergy_45 (show kc ≤ bC b by omega) (show ks ≤ bS b by omega) ⟨by rw [show k = n by omega]; rfl, hL, b1, hbb, by omega, hb⟩
  · have hst : jS (fun i => if lo ≤ chg (nI i) n ∧ chg (nI i) n ≤ hi then sq (cfN f n i) else 0) (k + 1) = jS (fun i => if lo ≤ chg (nI i) n ∧ chg (nI i) n ≤ hi then sq (cfN f n i) else 0) k + if lo ≤ chg (nI k) n ∧ chg (nI k) n ≤ hi then sq (cfN f n k) else 0 := rfl
    have ih2 := ih c1
    rw [hst] at ih2
    have hsq := ct_rseq hG g1 (j := j) (f := f) (by rw [← hj.2]; exact g2) (by omega) hj1 (x := k) (by rw [← hj.2]; exact c1)
    rw [← hj.2] at hsq
    refine x_aload_n hC dX7_bandEnergy_15 rfl rfl ?_
    refine x_iload hC dX7_bandEnergy_16 rfl ?_
    refine x_callV0 (na := 1) hC (hsq) (lw_V q1747 q1748 q1749 q115 q1750) g1 rfl rfl (by decide +kernel) rfl ⟨Nat.le_of_ble_eq_true rfl, Nat.le_of_ble_eq_true rfl⟩ rfl (Nat.le_of_ble_eq_true rfl) ⟨rfl, rfl⟩ ⟨(show kc ≤ bC b by omega), (show ks ≤ bS b by omega)⟩ dX7_bandEnergy_18 ?_
    rintro _ M ⟨rfl, rfl⟩
    refine x_iload_n hC dX7_bandEnergy_21 rfl rfl ?_
    refine x_iload_n hC dX7_bandEnergy_22 rfl rfl ?_
    refine x_callSN0 (na := 3) hC (ct_isBetween hG _ _ _ _) q643 q642 q81 q1584 (by decide +kernel) rfl ⟨Nat.le_of_ble_eq_true rfl, Nat.le_of_ble_eq_true rfl⟩ rfl (Nat.le_of_ble_eq_true rfl) ⟨rfl, rfl⟩ ⟨(show kc ≤ bC b by omega), (show ks ≤ bS b by omega)⟩ dX7_bandEnergy_23 ?_
    rintro _ M ⟨rfl, rfl⟩
    refine x_if_eqB (tgt := 38) hC dX7_bandEnergy_26 (by decide) (fun c2 => ?_) (fun c2 => ?_)
    · rw [if_neg c2, Int64.add_zero] at ih2
      refine x_iincN (lv' := [_, _, _, _, _, _]) (b := 1) hC dX7_bandEnergy_38 rfl (by decide) (by decide) rfl ?_
      refine x_goto (tgt := 5) hC dX7_bandEnergy_41 (by decide) ?_
      exact ih2 _ b1 kc ks hkc hks hbb hb hL
    · rw [if_pos c2] at ih2
      refine x_lload_n hC dX7_bandEnergy_29 rfl rfl ?_
      refine x_aload_n hC dX7_bandEnergy_30 rfl rfl ?_
      refine x_iload hC dX7_bandEnergy_31 rfl ?_
      refine x_callV (k := kc + bC b1) (n := ks + bS b1) (na := 1) hC (ct_rsquare hG hb hj c1) (lw_V q1752 q1753 q1754 q115 q1755) g1 rfl rfl (by decide +kernel) rfl ⟨Nat.le_of_ble_eq_true rfl, Nat.le_of_ble_eq_true rfl⟩ rfl (Nat.le_of_ble_eq_true rfl) (Nat.le_refl _) (Nat.le_refl _) ⟨hkc, hks⟩ dX7_bandEnergy_33 ?_
      rintro _ M2 ⟨rfl, hLc, hb2⟩
      refine x_ladd hC dX7_bandEnergy_36 ?_
      refine x_lstore_n (lv' := [_, _, _, _, _, _]) hC dX7_bandEnergy_37 rfl (by decide) rfl ?_
      refine x_iincN (lv' := [_, _, _, _, _, _]) (b := 1) hC dX7_bandEnergy_38 rfl (by decide) (by decide) rfl ?_
      refine x_goto (tgt := 5) hC dX7_bandEnergy_41 (by decide) ?_
      exact ih2 M2 true _ _ hkc hks (fun _ => rfl) hb2 (hL.tr hLc)
end R7

