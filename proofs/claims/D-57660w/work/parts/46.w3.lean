/-! ===== the component's fast transform ===== -/
section W3
variable {G : X_G} {M : X_M}
theorem stK_0 {h : Nat} {f : Nat → Int32} {l : Nat} (hh : 0 < h) : stK h f 0 l = f l := by
  unfold stK
  rw [if_neg]
  rintro (⟨h1, h2⟩ | ⟨h1, h2⟩)
  · omega
  · rw [Nat.zero_add] at h2
    rw [Nat.div_eq_of_lt h2] at h1
    omega
theorem stK_n {h n : Nat} {f : Nat → Int32} {l : Nat} (hl : l < n) : stK h f n l = stg h f l := by
  unfold stK
  rw [if_pos]
  rcases Nat.mod_two_eq_zero_or_one (l / h) with h1 | h1
  · exact Or.inl ⟨h1, hl⟩
  · exact Or.inr ⟨h1, by omega⟩
theorem stK_skip {h k : Nat} {f : Nat → Int32} {l : Nat} (hh : 0 < h) (hk : ¬ k / h % 2 = 0) : stK h f (k + 1) l = stK h f k l := by
  have hkh : (k + h) / h = k / h + 1 := Nat.add_div_right k hh
  unfold stK
  by_cases e1 : l = k
  · subst e1
    have : l / h % 2 = 1 := by omega
    rw [if_pos (Or.inr ⟨this, by omega⟩), if_pos (Or.inr ⟨this, by omega⟩)]
  · by_cases e2 : l = k + h
    · subst e2
      have : (k + h) / h % 2 = 0 := by rw [hkh]; omega
      rw [if_neg, if_neg]
      · rintro (⟨h1, h2⟩ | ⟨h1, h2⟩) <;> omega
      · rintro (⟨h1, h2⟩ | ⟨h1, h2⟩) <;> omega
    · congr 1
      refine propext (or_congr (and_congr_right fun _ => ?_) (and_congr_right fun _ => ?_)) <;> omega
theorem stK_do {h k : Nat} {f u : Nat → Int32} {n : Nat} (hh : 0 < h) (hk : k / h % 2 = 0) (hu : ∀ l, l < n → u l = stK h f k l) (hkn : k + h < n) : (u k = f k ∧ u (k + h) = f (k + h)) ∧ ∀ l, l < n → upd (upd u (k + h) (f k - f (k + h))) k (f k + f (k + h)) l = stK h f (k + 1) l := by
  have hkh : (k + h) / h = k / h + 1 := Nat.add_div_right k hh
  have hb : (k + h) / h % 2 = 1 := by rw [hkh]; omega
  refine ⟨⟨?_, ?_⟩, fun l hl => ?_⟩
  · rw [hu k (by omega)]
    unfold stK
    rw [if_neg]
    rintro (⟨h1, h2⟩ | ⟨h1, h2⟩) <;> omega
  · rw [hu (k + h) hkn]
    unfold stK
    rw [if_neg]
    rintro (⟨h1, h2⟩ | ⟨h1, h2⟩) <;> omega
  · by_cases e1 : l = k
    · subst e1
      rw [upd_s]
      unfold stK
      rw [if_pos (Or.inl ⟨hk, by omega⟩)]
      unfold stg
      rw [if_pos hk]
    · rw [upd_n e1]
      by_cases e2 : l = k + h
      · subst e2
        rw [upd_s]
        unfold stK
        rw [if_pos (Or.inr ⟨hb, by omega⟩)]
        unfold stg
        rw [if_neg (by omega), Nat.add_sub_cancel]
      · rw [upd_n e2, hu l hl]
        unfold stK
        congr 1
        refine propext (or_congr (and_congr_right fun _ => ?_) (and_congr_right fun _ => ?_)) <;> omega
theorem ct_wht (hG : GOK G) {a g j : Nat} {f : Nat → Int32} (hj : j ≤ 6) (ha : M a = some (ia g (2 ^ j) f)) (hg : g ≠ 0) : Ct G yX8_transform cX8_transform 4 none (xrm 1 0 0) [.ref a] M (fun r M' => r = none ∧ ∃ u, M' = mu M a (ia g (2 ^ j) u) ∧ ∀ l, l < 2 ^ j → u l = cfN f (2 ^ j) l) := by
  refine ct_open (lv := [_, _, _, _]) hG (by decide +kernel) (Nat.le_of_ble_eq_true rfl) rfl (fun C hC hk => ?_)
  obtain ⟨M0, hM0⟩ : ∃ M0, M0 = M := ⟨M, rfl⟩
  rw [← hM0] at hk
  have hF : Fm M0 M := by rw [hM0]; exact Fr.rf
  have hp := (pw_le (j := j) (by omega)).2
  refine x_iconst (v := nI 1) hC dX8_transform_0 (by decide) ?_
  refine x_istore_n (lv' := [_, _, _, _]) hC dX8_transform_1 rfl (by decide) rfl ?_
  suffices lp : ∀ d i, i + d = j → ∀ u, (∀ l, l < 2 ^ j → u l = wht f i l) → ∀ w2 w3, Wg G C (mu M0 a (ia g (2 ^ j) u)) 0 0 2 [some (.ref a), some (.int (nI (2 ^ i))), w2, w3] [] by
    have h := lp j 0 (by omega) f (fun l hl => rfl) none none
    rwa [hM0, mu_id ha] at h
  clear hF
  intro d
  induction d with
  | zero =>
    intro i hi u hu w2 w3
    have hi : i = j := by omega
    subst hi
    refine x_iload_n hC dX8_transform_2 rfl rfl ?_
    refine x_aload_n hC dX8_transform_3 rfl rfl ?_
    refine x_alen hC mu_s dX8_transform_4 ?_
    dsimp only
    refine x_icmp_geN (tgt := 66) hC (by omega) (by omega) dX8_transform_5 (by decide) (fun c1 => ?_) (fun c1 => ?_)
    · exact x_vret hC hk dX8_transform_66 (Nat.le_of_ble_eq_true rfl) (Nat.le_of_ble_eq_true rfl) ⟨rfl, u, rfl, fun l hl => (hu l hl).trans (wht_cf f hj hl)⟩
    · exact absurd c1 (by omega)
  | succ d ih =>
    intro i hi u hu w2 w3
    have hlt : 2 ^ i < 2 ^ j := Nat.pow_lt_pow_right (by decide) (by omega)
    have hh : 0 < 2 ^ i := Nat.two_pow_pos i
    have hm : ∃ q, 2 ^ j = 2 * 2 ^ i * q := ⟨2 ^ d, by rw [Nat.mul_comm 2, ← Nat.pow_succ, ← Nat.pow_add]; congr 1; omega⟩
    obtain ⟨q, hq⟩ := hm
    refine x_iload_n hC dX8_transform_2 rfl rfl ?_
    refine x_aload_n hC dX8_transform_3 rfl rfl ?_
    refine x_alen hC mu_s dX8_transform_4 ?_
    dsimp only
    refine x_icmp_geN (tgt := 66) hC (by omega) (by omega) dX8_transform_5 (by decide) (fun c1 => ?_) (fun c1 => ?_)
    · exact absurd c1 (by omega)
    · refine x_iconst (v := nI 0) hC dX8_transform_8 (by decide) ?_
      refine x_istore_n (lv' := [_, _, _, _]) hC dX8_transform_9 rfl (by decide) rfl ?_
      refine x_up (n := 2 ^ j) (I := fun k => ∀ u, (∀ l, l < 2 ^ j → u l = stK (2 ^ i) (wht f i) k l) → ∀ w3, Wg G C (mu M0 a (ia g (2 ^ j) u)) 0 0 10 [some (.ref a), some (.int (nI (2 ^ i))), some (.int (nI k)), w3] []) (fun k hk2 ihk u hu w3 => ?_) 0 (Nat.zero_le _) u (fun l hl => (hu l hl).trans (stK_0 hh).symm) w3
      refine x_iload_n hC dX8_transform_10 rfl rfl ?_
      refine x_aload_n hC dX8_transform_11 rfl rfl ?_
      refine x_alen hC mu_s dX8_transform_12 ?_
      dsimp only
      refine x_icmp_geN (tgt := 59) hC (by omega) (by omega) dX8_transform_13 (by decide) (fun c2 => ?_) (fun c2 => ?_)
      · have hk3 : k = 2 ^ j := by omega
        subst hk3
        refine x_iload_n hC dX8_transform_59 rfl rfl ?_
        refine x_iconst (v := nI 2) hC dX8_transform_60 (by decide) ?_
        refine x_imulN hC dX8_transform_61 ?_
        refine x_istore_n (lv' := [_, _, _, _]) hC dX8_transform_62 rfl (by decide) rfl ?_
        refine x_goto (tgt := 2) hC dX8_transform_63 (by decide) ?_
        rw [← Nat.pow_succ]
        exact ih (i + 1) (by omega) u (fun l hl => (hu l hl).trans (stK_n hl)) _ _
      · refine x_iload_n hC dX8_transform_16 rfl rfl ?_
        refine x_iload_n hC dX8_transform_17 rfl rfl ?_
        refine x_iand hC dX8_transform_18 ?_
        have hand := and_pw k i (by omega)
        refine x_if_eq (tgt := 25) hC dX8_transform_19 (by decide) (fun c3 => ?_) (fun c3 => ?_)
        · have hb := hand.mp c3
          have hkh : k + 2 ^ i < 2 ^ j := by
            have := pair_lt (m := q) hh (by rw [← hq]; exact c2) hb
            rwa [← hq] at this
          obtain ⟨⟨e1, e2⟩, e3⟩ := stK_do hh hb hu hkh
          refine x_aload_n hC dX8_transform_25 rfl rfl ?_
          refine x_iload_n hC dX8_transform_26 rfl rfl ?_
          refine x_ialdN hC mu_s c2 (by first | decide | omega) dX8_transform_27 ?_
          refine x_aload_n hC dX8_transform_28 rfl rfl ?_
          refine x_iload_n hC dX8_transform_29 rfl rfl ?_
          refine x_iload_n hC dX8_transform_30 rfl rfl ?_
          refine x_iaddN hC dX8_transform_31 ?_
          refine x_ialdN hC mu_s hkh (by first | decide | omega) dX8_transform_32 ?_
          rw [e1, e2]
          refine x_iadd hC dX8_transform_33 ?_
          refine x_istore_n (lv' := [_, _, _, _]) hC dX8_transform_34 rfl (by decide) rfl ?_
          refine x_aload_n hC dX8_transform_35 rfl rfl ?_
          refine x_iload_n hC dX8_transform_36 rfl rfl ?_
          refine x_iload_n hC dX8_transform_37 rfl rfl ?_
          refine x_iaddN hC dX8_transform_38 ?_
          refine x_aload_n hC dX8_transform_39 rfl rfl ?_
          refine x_iload_n hC dX8_transform_40 rfl rfl ?_
          refine x_ialdN hC mu_s c2 (by first | decide | omega) dX8_transform_41 ?_
          refine x_aload_n hC dX8_transform_42 rfl rfl ?_
          refine x_iload_n hC dX8_transform_43 rfl rfl ?_
          refine x_iload_n hC dX8_transform_44 rfl rfl ?_
          refine x_iaddN hC dX8_transform_45 ?_
          refine x_ialdN hC mu_s hkh (by first | decide | omega) dX8_transform_46 ?_
          rw [e1, e2]
          refine x_isub hC dX8_transform_47 ?_
          refine x_iastN hC mu_s (by first | decide | assumption) hkh (by first | decide | omega) dX8_transform_48 ?_
          refine x_aload_n hC dX8_transform_49 rfl rfl ?_
          refine x_iload_n hC dX8_transform_50 rfl rfl ?_
          refine x_iload_n hC dX8_transform_51 rfl rfl ?_
          refine x_iastN hC mu_s (by first | decide | assumption) c2 (by first | decide | omega) dX8_transform_52 ?_
          rw [mu_mu, mu_mu]
          refine x_iincN (lv' := [_, _, _, _]) (b := 1) hC dX8_transform_53 rfl (by decide) (by decide) rfl ?_
          refine x_goto (tgt := 10) hC dX8_transform_56 (by decide) ?_
          exact ihk c2 _ e3 _
        · refine x_goto (tgt := 53) hC dX8_transform_22 (by decide) ?_
          refine x_iincN (lv' := [_, _, _, _]) (b := 1) hC dX8_transform_53 rfl (by decide) (by decide) rfl ?_
          refine x_goto (tgt := 10) hC dX8_transform_56 (by decide) ?_
          exact ihk c2 u (fun l hl => (hu l hl).trans (stK_skip hh (fun h => c3 (hand.mpr h))).symm) _
end W3

