/-! ===== the component's recordings: peaksFor, distance, commonPeaks ===== -/
abbrev dC (b c : Bool) : Nat := (if c then 0 else 1) + bC b
abbrev dS (b c : Bool) : Nat := (if c then 0 else 64) + bS b
theorem dC_le {b c : Bool} : rC b c + bC (b || !c) ≤ dC b c ∧ rS b c + bS (b || !c) ≤ dS b c := by
  cases b <;> cases c <;> exact ⟨by decide, by decide⟩
theorem bC_mono {b b' : Bool} (h : b = true → b' = true) : bC b' ≤ bC b ∧ bS b' ≤ bS b := by
  cases b <;> cases b' <;> first
    | exact ⟨by decide, by decide⟩
    | exact absurd (h rfl) (by decide)
theorem rC_mono {b b' c c' : Bool} (h : b = true → b' = true) (h2 : c = true → c' = true) : rC b' c' ≤ rC b c ∧ rS b' c' ≤ rS b c := by
  cases b <;> cases b' <;> cases c <;> cases c' <;> first
    | exact ⟨by decide, by decide⟩
    | exact absurd (h rfl) (by decide)
    | exact absurd (h2 rfl) (by decide)
theorem RcB.lc {M M' : X_M} {q na sa n : Nat} {f : Nat → Int32} {rv : Value} {b : Bool} (h : RcB M q na sa n f rv b) (hL : Lc M M') : ∃ b', RcB M' q na sa n f rv b' ∧ (b = true → b' = true) := by
  obtain ⟨cv, h1, h2, h3, h4⟩ := h
  obtain ⟨c2, d1, d2⟩ := hL.2 q na sa n f cv rv h1 h2
  have hs := hL.1.z (by decide) h2
  rcases d2 with d2 | d2
  · subst d2
    exact ⟨b, ⟨c2, d1, hs, h3, fun hb => (h4 hb).fr hL.1 (by decide)⟩, id⟩
  · exact ⟨true, ⟨c2, d1, hs, (fun h => by cases h), fun _ => d2⟩, fun _ => rfl⟩
theorem RcR.lr {M M' : X_M} {q na sa n : Nat} {f : Nat → Int32} {b c : Bool} (h : RcR M q na sa n f b c) (hL : Lr M M') : ∃ b' c', RcR M' q na sa n f b' c' ∧ (b = true → b' = true) ∧ (c = true → c' = true) := by
  obtain ⟨rv, h1, h2, h3⟩ := h
  obtain ⟨b', rv', d1, d2, d3⟩ := h1.lr hL
  rcases d3 with d3 | d3
  · subst d3
    exact ⟨b', c, ⟨rv', d1, h2, fun hc => (h3 hc).fr hL.1 (by decide)⟩, d2, id⟩
  · exact ⟨b', true, ⟨rv', d1, (fun h => by cases h), fun _ => d3⟩, d2, fun _ => rfl⟩
theorem RcR.rec {M : X_M} {q na sa n : Nat} {f : Nat → Int32} {b c : Bool} (h : RcR M q na sa n f b c) : ∃ cv rv, M q = some (ob 2 3 (reF na sa cv rv)) ∧ M sa = some (ia 0 n f) := by
  obtain ⟨rv, ⟨cv, h1, h2, -⟩, -⟩ := h
  exact ⟨cv, rv, h1, h2⟩
section R16
variable {G : X_G} {M : X_M} {q na sa n j : Nat} {f : Nat → Int32} {cv rv : Value}
theorem ct_rpeaks (hG : GOK G) {b c : Bool} (h : RcR M q na sa n f b c) (hj1 : 1 ≤ j) (hj : j ≤ 6 ∧ n = 2 ^ j) (hf : ∀ l, l < n → lim (f l)) {p : Int32} (hp : 0 ≤ p ∧ p ≤ 100) : Ct G yX7_peaksFor cX7_peaksFor 7 (some .int) (xrm 6 (dC b c) (dS b c)) [.ref q, .int p] M (fun r M' => r = some (.int (ndN f n p)) ∧ Lr M M') := by
  have hp2 := (pw_le (j := j) (by omega)).2
  have hn64 : n ≤ 64 := by rw [hj.2]; exact hp2
  obtain ⟨cv0, rv0, g0, gs⟩ := h.rec
  refine ct_open (lv := [_, _, _, _, _, _, _]) hG (by decide +kernel) (Nat.le_of_ble_eq_true rfl) rfl (fun C hC hk => ?_)
  obtain ⟨M0, hM0⟩ : ∃ M0, M0 = M := ⟨M, rfl⟩
  rw [← hM0] at hk
  have hF : Fm M0 M := by rw [hM0]; exact Fr.rf
  subst hM0
  refine x_iload_n hC dX7_peaksFor_0 rfl rfl ?_
  refine x_i2l hC dX7_peaksFor_1 rfl ?_
  refine x_aload_n hC dX7_peaksFor_2 rfl rfl ?_
  refine x_callV0 (na := 0) hC (ct_rcoE hG g0 gs hj hf) (lw_V q1841 q1799 q1800 q115 q1801) g0 rfl rfl (by decide +kernel) rfl ⟨Nat.le_of_ble_eq_true rfl, Nat.le_of_ble_eq_true rfl⟩ rfl (Nat.le_of_ble_eq_true rfl) ⟨rfl, rfl⟩ ⟨Nat.le_of_ble_eq_true rfl, Nat.le_of_ble_eq_true rfl⟩ dX7_peaksFor_3 ?_
  rintro _ M ⟨rfl, rfl⟩
  refine x_lmul hC dX7_peaksFor_6 ?_
  refine x_lstore_n (lv' := [_, _, _, _, _, _, _]) hC dX7_peaksFor_7 rfl (by decide) rfl ?_
  refine x_lconst (v := 0) hC dX7_peaksFor_8 (by decide) ?_
  refine x_lstore (lv' := [_, _, _, _, _, _, _]) hC dX7_peaksFor_9 (by decide) rfl ?_
  refine x_iconst (v := 0) hC dX7_peaksFor_11 (by decide) ?_
  refine x_istore (lv' := [_, _, _, _, _, _, _]) hC dX7_peaksFor_12 (by decide) rfl ?_
  have fin : ∀ k, k ≤ n → p.toInt64 * coS f n ≤ 100 * pkS f n k → (∀ l, l < k → ¬ p.toInt64 * coS f n ≤ 100 * pkS f n l) → ∀ M1 kc ks, kc ≤ dC b c → ks ≤ dS b c → Lr M M1 → Wg G C M1 kc ks 47 [some (.ref q), some (.int p), some (.long (p.toInt64 * coS f n)), none, some (.long (pkS f n k)), none, some (.int (nI k))] [] := by
    intro k hk1 h1 h2 M1 kc ks hkc hks hL
    refine x_iload hC dX7_peaksFor_47 rfl ?_
    exact x_iret hC hk dX7_peaksFor_49 hkc hks ⟨by unfold ndN; rw [fstI_at (p := fun k => p.toInt64 * coS f n ≤ 100 * pkS f n k) (b := k) (Nat.zero_le _) (by omega) h1 (fun l _ hl => h2 l hl)]; rfl, hL⟩
  suffices lp : ∀ d k, k + d = n → (∀ l, l < k → ¬ p.toInt64 * coS f n ≤ 100 * pkS f n l) → ∀ M1 b1 c1 kc ks, kc + dC b1 c1 ≤ dC b c → ks + dS b1 c1 ≤ dS b c → RcR M1 q na sa n f b1 c1 → Lr M M1 → Wg G C M1 kc ks 14 [some (.ref q), some (.int p), some (.long (p.toInt64 * coS f n)), none, some (.long (pkS f n k)), none, some (.int (nI k))] [] from lp n 0 (by omega) (fun l hl => by omega) M b c 0 0 (by omega) (by omega) h Lr.rf
  intro d
  induction d with
  | zero =>
    intro k hd hno M1 b1 c1 kc ks hkc hks hR hL
    have hd : k = n := by omega
    subst hd
    refine x_ldc2 hC q1842 dX7_peaksFor_14 ?_
    refine x_lload hC dX7_peaksFor_17 rfl ?_
    refine x_lmul hC dX7_peaksFor_19 ?_
    refine x_lload_n hC dX7_peaksFor_20 rfl rfl ?_
    refine x_lcmp hC dX7_peaksFor_21 ?_
    refine x_if_ge (tgt := 47) hC dX7_peaksFor_22 (by decide) (fun e1 => ?_) (fun e1 => ?_)
    · exact fin _ (Nat.le_refl _) (nd_ok hn64 hf hp) hno M1 kc ks (by omega) (by omega) hL
    · exact absurd ((lg_cmp_ge _ _).mpr (nd_ok hn64 hf hp)) e1
  | succ d ih =>
    intro k hd hno M1 b1 c1 kc ks hkc hks hR hL
    have hkn : k < n := by omega
    obtain ⟨z1, z2⟩ := dC_le (b := b1) (c := c1)
    obtain ⟨cv1, rv1, g1, -⟩ := hR.rec
    refine x_ldc2 hC q1842 dX7_peaksFor_14 ?_
    refine x_lload hC dX7_peaksFor_17 rfl ?_
    refine x_lmul hC dX7_peaksFor_19 ?_
    refine x_lload_n hC dX7_peaksFor_20 rfl rfl ?_
    refine x_lcmp hC dX7_peaksFor_21 ?_
    refine x_if_ge (tgt := 47) hC dX7_peaksFor_22 (by decide) (fun e1 => ?_) (fun e1 => ?_)
    · exact fin k (by omega) ((lg_cmp_ge _ _).mp e1) hno M1 kc ks (by omega) (by omega) hL
    · refine x_lload hC dX7_peaksFor_25 rfl ?_
      refine x_aload_n hC dX7_peaksFor_27 rfl rfl ?_
      refine x_aload_n hC dX7_peaksFor_28 rfl rfl ?_
      refine x_callV (k := kc + rC b1 c1) (n := ks + rS b1 c1) (na := 0) hC (ct_ranking hG hR hj1 hj) (lw_V q1829 q1811 q1812 q115 q1813) g1 rfl rfl (by decide +kernel) rfl ⟨Nat.le_of_ble_eq_true rfl, Nat.le_of_ble_eq_true rfl⟩ rfl (Nat.le_of_ble_eq_true rfl) (Nat.le_refl _) (Nat.le_refl _) ⟨(show kc + rC b1 c1 ≤ dC b c by omega), (show ks + rS b1 c1 ≤ dS b c by omega)⟩ dX7_peaksFor_29 ?_
      rintro _ M2 ⟨a, u, rfl, ha, hu, hL2, hb2⟩
      generalize (b1 || !c1) = b12 at hb2 z1 z2
      obtain ⟨cv2, g2⟩ := hb2.rec
      refine x_iload hC dX7_peaksFor_32 rfl ?_
      refine x_ialdN hC ha hkn (by first | decide | omega) dX7_peaksFor_34 ?_
      rw [hu k hkn]
      refine x_callV (k := kc + rC b1 c1 + bC b12) (n := ks + rS b1 c1 + bS b12) (na := 1) hC (ct_rsquare hG hb2 hj (pkr_lt (cfN f n) n hkn)) (lw_V q1752 q1753 q1754 q115 q1755) g2 rfl rfl (by decide +kernel) rfl ⟨Nat.le_of_ble_eq_true rfl, Nat.le_of_ble_eq_true rfl⟩ rfl (Nat.le_of_ble_eq_true rfl) (Nat.le_refl _) (Nat.le_refl _) ⟨(show kc + rC b1 c1 + bC b12 ≤ dC b c by omega), (show ks + rS b1 c1 + bS b12 ≤ dS b c by omega)⟩ dX7_peaksFor_35 ?_
      rintro _ M3 ⟨rfl, hLc, hb3⟩
      refine x_ladd hC dX7_peaksFor_38 ?_
      refine x_lstore (lv' := [_, _, _, _, _, _, _]) hC dX7_peaksFor_39 (by decide) rfl ?_
      refine x_iincN (lv' := [_, _, _, _, _, _, _]) (b := 1) hC dX7_peaksFor_41 rfl (by decide) (by decide) rfl ?_
      refine x_goto (tgt := 14) hC dX7_peaksFor_44 (by decide) ?_
      have w0 : dC true true = 0 := rfl
      have w1 : dS true true = 0 := rfl
      refine ih (k + 1) (by omega) (fun l hl => ?_) M3 true true _ _ (by omega) (by omega) ⟨.ref a, hb3, (fun h => by cases h), fun _ => ⟨a, u, rfl, hLc.1.z (by decide) ha, hu⟩⟩ ((hL.tr hL2).tr hLc.lr)
      by_cases e : l = k
      · subst e; exact fun h => e1 ((lg_cmp_ge _ _).mpr h)
      · exact hno l (by omega)
theorem ct_rdist (hG : GOK G) {q' na' sa' : Nat} {f' : Nat → Int32} {rv' : Value} {b b' : Bool} (h : RcB M q na sa n f rv b) (h' : RcB M q' na' sa' n f' rv' b') (hj : j ≤ 6 ∧ n = 2 ^ j) : Ct G yX7_distance cX7_distance 4 (some .int) (xrm 4 (bC b + bC b') (bS b + bS b')) [.ref q, .ref q'] M (fun r M' => r = some (.int (iS (fun i => iabs (cfN f n i - cfN f' n i)) n)) ∧ Lc M M') := by
  have hp := (pw_le (j := j) (by omega)).2
  have hn64 : n ≤ 64 := by rw [hj.2]; exact hp
  refine ct_open (lv := [_, _, _, _]) hG (by decide +kernel) (Nat.le_of_ble_eq_true rfl) rfl (fun C hC hk => ?_)
  obtain ⟨M0, hM0⟩ : ∃ M0, M0 = M := ⟨M, rfl⟩
  rw [← hM0] at hk
  have hF : Fm M0 M := by rw [hM0]; exact Fr.rf
  subst hM0
  refine x_iconst (v := nI 0) hC dX7_distance_0 (by decide) ?_
  refine x_istore_n (lv' := [_, _, _, _]) hC dX7_distance_1 rfl (by decide) rfl ?_
  refine x_iconst (v := nI 0) hC dX7_distance_2 (by decide) ?_
  refine x_istore_n (lv' := [_, _, _, _]) hC dX7_distance_3 rfl (by decide) rfl ?_
  refine x_up (n := n) (I := fun k => ∀ M1 b1 b2 kc ks, kc + (bC b1 + bC b2) ≤ bC b + bC b' → ks + (bS b1 + bS b2) ≤ bS b + bS b' → RcB M1 q na sa n f rv b1 → RcB M1 q' na' sa' n f' rv' b2 → Lc M0 M1 → Wg G C M1 kc ks 4 [some (.ref q), some (.ref q'), some (.int (iS (fun i => iabs (cfN f n i - cfN f' n i)) k)), some (.int (nI k))] []) (fun k hk2 ih M1 b1 b2 kc ks hkc hks hb hb' hL => ?_) 0 (Nat.zero_le _) M0 b b' 0 0 (by omega) (by omega) h h' Lc.rf
  have hb0 := hb
  obtain ⟨cv1, g1, g2, -, -⟩ := hb0
  refine x_iload_n hC dX7_distance_4 rfl rfl ?_
  refine x_aload_n hC dX7_distance_5 rfl rfl ?_
  refine x_get hC 1 g1 rfl (by decide) q1486 rfl rfl dX7_distance_6 ?_
  refine x_alen hC g2 dX7_distance_9 ?_
  dsimp only
  refine x_icmp_geN (tgt := 38) hC (by omega) (by omega) dX7_distance_10 (by decide) (fun c1 => ?_) (fun c1 => ?_)
  · refine x_iload_n hC dX7_distance_38 rfl rfl ?_
    exact x_iret hC hk dX7_distance_39 (show kc ≤ bC b + bC b' by omega) (show ks ≤ bS b + bS b' by omega) ⟨by rw [show k = n by omega], hL⟩
  · have hst : iS (fun i => iabs (cfN f n i - cfN f' n i)) (k + 1) = iS (fun i => iabs (cfN f n i - cfN f' n i)) k + iabs (cfN f n k - cfN f' n k) := rfl
    have ih2 := ih c1
    rw [hst] at ih2
    refine x_iload_n hC dX7_distance_13 rfl rfl ?_
    refine x_aload_n hC dX7_distance_14 rfl rfl ?_
    refine x_callV (k := kc + bC b1) (n := ks + bS b1) (na := 0) hC (ct_coefs hG hb hj) (lw_V q1756 q1714 q1715 q115 q1716) g1 rfl rfl (by decide +kernel) rfl ⟨Nat.le_of_ble_eq_true rfl, Nat.le_of_ble_eq_true rfl⟩ rfl (Nat.le_of_ble_eq_true rfl) (Nat.le_refl _) (Nat.le_refl _) ⟨(show kc + bC b1 ≤ bC b + bC b' by omega), (show ks + bS b1 ≤ bS b + bS b' by omega)⟩ dX7_distance_15 ?_
    rintro _ M2 ⟨a, u, rfl, ha, hu, hL2, hb2⟩
    refine x_iload_n hC dX7_distance_18 rfl rfl ?_
    refine x_ialdN hC ha c1 (by first | decide | omega) dX7_distance_19 ?_
    rw [hu k c1]
    obtain ⟨b3, hb3, m3⟩ := hb'.lc hL2
    obtain ⟨z1, z2⟩ := bC_mono m3
    obtain ⟨cv3, g3⟩ := hb3.rec
    refine x_aload_n hC dX7_distance_20 rfl rfl ?_
    refine x_callV (k := kc + bC b1 + bC b3) (n := ks + bS b1 + bS b3) (na := 0) hC (ct_coefs hG hb3 hj) (lw_V q1756 q1714 q1715 q115 q1716) g3 rfl rfl (by decide +kernel) rfl ⟨Nat.le_of_ble_eq_true rfl, Nat.le_of_ble_eq_true rfl⟩ rfl (Nat.le_of_ble_eq_true rfl) (Nat.le_refl _) (Nat.le_refl _) ⟨(show kc + bC b1 + bC b3 ≤ bC b + bC b' by omega), (show ks + bS b1 + bS b3 ≤ bS b + bS b' by omega)⟩ dX7_distance_21 ?_
    rintro _ M3 ⟨a3, u3, rfl, ha3, hu3, hL3, hb4⟩
    refine x_iload_n hC dX7_distance_24 rfl rfl ?_
    refine x_ialdN hC ha3 c1 (by first | decide | omega) dX7_distance_25 ?_
    rw [hu3 k c1]
    refine x_isub hC dX7_distance_26 ?_
    refine x_callS0 (na := 1) hC (ct_abs hG _ _) (lw_S q1788 q1604 q103 q1605) (by decide +kernel) rfl ⟨Nat.le_of_ble_eq_true rfl, Nat.le_of_ble_eq_true rfl⟩ rfl (Nat.le_of_ble_eq_true rfl) ⟨rfl, rfl⟩ ⟨(show kc + bC b1 + bC b3 ≤ bC b + bC b' by omega), (show ks + bS b1 + bS b3 ≤ bS b + bS b' by omega)⟩ dX7_distance_27 ?_
    rintro _ M ⟨rfl, rfl⟩
    obtain ⟨b5, hb5, m5⟩ := hb2.lc hL3
    have e5 := m5 rfl
    subst e5
    refine x_iadd hC dX7_distance_30 ?_
    refine x_istore_n (lv' := [_, _, _, _]) hC dX7_distance_31 rfl (by decide) rfl ?_
    refine x_iincN (lv' := [_, _, _, _]) (b := 1) hC dX7_distance_32 rfl (by decide) (by decide) rfl ?_
    refine x_goto (tgt := 4) hC dX7_distance_35 (by decide) ?_
    have w0 : bC true = 0 := rfl
    have w1 : bS true = 0 := rfl
    exact ih2 _ true true _ _ (by omega) (by omega) hb5 hb4 ((hL.tr hL2).tr hL3)
theorem ct_rcommon (hG : GOK G) {q' na' sa' : Nat} {f' : Nat → Int32} {b c b' c' : Bool} (h : RcR M q na sa n f b c) (h' : RcR M q' na' sa' n f' b' c') (hj1 : 1 ≤ j) (hj : j ≤ 6 ∧ n = 2 ^ j) {m : Nat} (hm : m ≤ n) : Ct G yX7_commonPeaks cX7_commonPeaks 5 (some .int) (xrm 7 (rC b c + rC b' c') (rS b c + rS b' c')) [.ref q, .ref q', .int (nI m)] M (fun r M' => r = some (.int (iS (fun k => xB (∃ i, i < m ∧ pk (cfN f n) n i = pk (cfN f' n) n k)) m)) ∧ Lr M M') := by
  have hp := (pw_le (j := j) (by omega)).2
  have hn64 : n ≤ 64 := by rw [hj.2]; exact hp
  have hsym : iS (fun k => xB (∃ i, i < m ∧ pk (cfN f n) n i = pk (cfN f' n) n k)) m = iS (fun k => xB (rkN f' n (pk (cfN f n) n k) < nI m)) m := by
    rw [iS_common (fun a b ha hb e => pk_inj (by omega) (by omega) e) (fun a b ha hb e => pk_inj (by omega) (by omega) e)]
    exact iS_cong fun k hk => xB_iff (rk_lt hn64 (pkr_lt (cfN f n) n (by omega)) hm).symm
  rw [hsym]
  refine ct_open (lv := [_, _, _, _, _]) hG (by decide +kernel) (Nat.le_of_ble_eq_true rfl) rfl (fun C hC hk => ?_)
  obtain ⟨M0, hM0⟩ : ∃ M0, M0 = M := ⟨M, rfl⟩
  rw [← hM0] at hk
  have hF : Fm M0 M := by rw [hM0]; exact Fr.rf
  subst hM0
  refine x_iconst (v := nI 0) hC dX7_commonPeaks_0 (by decide) ?_
  refine x_istore_n (lv' := [_, _, _, _, _]) hC dX7_commonPeaks_1 rfl (by decide) rfl ?_
  refine x_iconst (v := nI 0) hC dX7_commonPeaks_2 (by decide) ?_
  refine x_istore (lv' := [_, _, _, _, _]) hC dX7_commonPeaks_3 (by decide) rfl ?_
  refine x_up (n := m) (I := fun k => ∀ M1 b1 c1 b2 c2 kc ks, kc + (rC b1 c1 + rC b2 c2) ≤ rC b c + rC b' c' → ks + (rS b1 c1 + rS b2 c2) ≤ rS b c + rS b' c' → RcR M1 q na sa n f b1 c1 → RcR M1 q' na' sa' n f' b2 c2 → Lr M0 M1 → Wg G C M1 kc ks 5 [some (.ref q), some (.ref q'), some (.int (nI m)), some (.int (iS (fun k => xB (rkN f' n (pk (cfN f n) n k) < nI m)) k)), some (.int (nI k))] []) (fun k hk2 ih M1 b1 c1 b2 c2 kc ks hkc hks hR hR' hL => ?_) 0 (Nat.zero_le _) M0 b c b' c' 0 0 (by omega) (by omega) h h' Lr.rf
  refine x_iload hC dX7_commonPeaks_5 rfl ?_
  refine x_iload_n hC dX7_commonPeaks_7 rfl rfl ?_
  refine x_icmp_geN (tgt := 35) hC (by omega) (by omega) dX7_commonPeaks_8 (by decide) (fun e1 => ?_) (fun e1 => ?_)
  · refine x_iload_n hC dX7_commonPeaks_35 rfl rfl ?_
    exact x_iret hC hk dX7_commonPeaks_36 (show kc ≤ rC b c + rC b' c' by omega) (show ks ≤ rS b c + rS b' c' by omega) ⟨by rw [show k = m by omega], hL⟩
  · have hst : iS (fun k => xB (rkN f' n (pk (cfN f n) n k) < nI m)) (k + 1) = iS (fun k => xB (rkN f' n (pk (cfN f n) n k) < nI m)) k + xB (rkN f' n (pk (cfN f n) n k) < nI m) := rfl
    have ih2 := ih e1
    rw [hst] at ih2
    have hkn : k < n := by omega
    obtain ⟨cv1, rv1, g1, -⟩ := hR.rec
    refine x_aload_n hC dX7_commonPeaks_11 rfl rfl ?_
    refine x_aload_n hC dX7_commonPeaks_12 rfl rfl ?_
    refine x_callV (k := kc + rC b1 c1) (n := ks + rS b1 c1) (na := 0) hC (ct_ranking hG hR hj1 hj) (lw_V q1829 q1811 q1812 q115 q1813) g1 rfl rfl (by decide +kernel) rfl ⟨Nat.le_of_ble_eq_true rfl, Nat.le_of_ble_eq_true rfl⟩ rfl (Nat.le_of_ble_eq_true rfl) (Nat.le_refl _) (Nat.le_refl _) ⟨(show kc + rC b1 c1 ≤ rC b c + rC b' c' by omega), (show ks + rS b1 c1 ≤ rS b c + rS b' c' by omega)⟩ dX7_commonPeaks_13 ?_
    rintro _ M2 ⟨a, u, rfl, ha, hu, hL2, hb2⟩
    refine x_iload hC dX7_commonPeaks_16 rfl ?_
    refine x_ialdN hC ha hkn (by first | decide | omega) dX7_commonPeaks_18 ?_
    rw [hu k hkn]
    have hR2 : RcR M2 q na sa n f (b1 || !c1) true := ⟨.ref a, hb2, (fun h => by cases h), fun _ => ⟨a, u, rfl, ha, hu⟩⟩
    obtain ⟨b3, c3, hR3, m3, m4⟩ := hR'.lr hL2
    obtain ⟨z1, z2⟩ := rC_mono m3 m4
    obtain ⟨cv3, rv3, g3, -⟩ := hR3.rec
    refine x_callV (k := kc + rC b1 c1 + rC b3 c3) (n := ks + rS b1 c1 + rS b3 c3) (na := 1) hC (ct_rrank hG hR3 hj1 hj (pkr_lt (cfN f n) n hkn)) (lw_V q1919 q1826 q1827 q115 q1828) g3 rfl rfl (by decide +kernel) rfl ⟨Nat.le_of_ble_eq_true rfl, Nat.le_of_ble_eq_true rfl⟩ rfl (Nat.le_of_ble_eq_true rfl) (Nat.le_refl _) (Nat.le_refl _) ⟨(show kc + rC b1 c1 + rC b3 c3 ≤ rC b c + rC b' c' by omega), (show ks + rS b1 c1 + rS b3 c3 ≤ rS b c + rS b' c' by omega)⟩ dX7_commonPeaks_19 ?_
    rintro _ M3 ⟨rfl, hL3, a3, u3, hb3, ha3, hu3⟩
    have hR4 : RcR M3 q' na' sa' n f' (b3 || !c3) true := ⟨.ref a3, hb3, (fun h => by cases h), fun _ => ⟨a3, u3, rfl, ha3, hu3⟩⟩
    obtain ⟨b5, c5, hR5, m5, m6⟩ := hR2.lr hL3
    have e5 := m6 rfl
    subst e5
    have hLL := (hL.tr hL2).tr hL3
    have w0 : rC b5 true = 0 := rfl
    have w1 : rS b5 true = 0 := rfl
    have w2 : rC (b3 || !c3) true = 0 := rfl
    have w3 : rS (b3 || !c3) true = 0 := rfl
    refine x_iload_n hC dX7_commonPeaks_22 rfl rfl ?_
    refine x_icmp_ge (tgt := 29) hC dX7_commonPeaks_23 (by decide) (fun e2 => ?_) (fun e2 => ?_)
    · rw [xB_f (Int32.not_lt.mpr e2), Int32.add_zero] at ih2
      refine x_iincN (lv' := [_, _, _, _, _]) (b := 1) hC dX7_commonPeaks_29 rfl (by decide) (by decide) rfl ?_
      refine x_goto (tgt := 5) hC dX7_commonPeaks_32 (by decide) ?_
      exact ih2 _ b5 true (b3 || !c3) true _ _ (by omega) (by omega) hR5 hR4 hLL
    · rw [xB_t (Int32.not_le.mp e2)] at ih2
      refine x_iinc (lv' := [_, _, _, _, _]) (v := 1) hC dX7_commonPeaks_26 rfl (by decide) (by decide) rfl ?_
      refine x_iincN (lv' := [_, _, _, _, _]) (b := 1) hC dX7_commonPeaks_29 rfl (by decide) (by decide) rfl ?_
      refine x_goto (tgt := 5) hC dX7_commonPeaks_32 (by decide) ?_
      exact ih2 _ b5 true (b3 || !c3) true _ _ (by omega) (by omega) hR5 hR4 hLL
end R16

