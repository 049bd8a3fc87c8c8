/-! ===== the component's recordings: reversed, shifted ===== -/
section R10
variable {G : X_G} {M : X_M} {q na sa n j : Nat} {f : Nat → Int32} {cv rv : Value}
theorem ct_rrev (hG : GOK G) {g : Nat} (hg : g ≠ 0) (h : M q = some (ob 2 3 (reF na sa cv rv))) (hs : M sa = some (ia 0 n f)) (hn : n ≤ 64) : Ct G yX7_reversed cX7_reversed 3 (some (.array .int)) (xrm 3 1 64) [.ref q] M (PNw M g n (fun k => f (n - 1 - k))) := by
  refine ct_open (lv := [_, _, _]) hG (by decide +kernel) (Nat.le_of_ble_eq_true rfl) rfl (fun C hC hk => ?_)
  obtain ⟨M0, hM0⟩ : ∃ M0, M0 = M := ⟨M, rfl⟩
  rw [← hM0] at hk
  have hF : Fm M0 M := by rw [hM0]; exact Fr.rf
  subst hM0
  refine x_aload_n hC dX7_reversed_0 rfl rfl ?_
  refine x_get hC 1 h rfl (by decide) q1486 rfl rfl dX7_reversed_1 ?_
  refine x_alen hC hs dX7_reversed_4 ?_
  dsimp only
  refine x_newi hC n g q1328 hg rfl (by omega) (Nat.le_of_ble_eq_true rfl) (show 0 + n ≤ 64 by omega) dX7_reversed_5 (fun a ha => ?_)
  refine x_astore_n (lv' := [_, _, _]) hC dX7_reversed_7 rfl (by decide) rfl ?_
  refine x_iconst (v := nI 0) hC dX7_reversed_8 (by decide) ?_
  refine x_istore_n (lv' := [_, _, _]) hC dX7_reversed_9 rfl (by decide) rfl ?_
  refine x_up (n := n) (I := fun k => ∀ u, (∀ l, l < k → u l = f (n - 1 - l)) → Wg G C (mu M0 a (ia g n u)) (0 + 1) (0 + n) 10 [some (.ref q), some (.ref a), some (.int (nI k))] []) (fun k hk2 ih u i1 => ?_) 0 (Nat.zero_le _) _ (fun l hl => by omega)
  refine x_iload_n hC dX7_reversed_10 rfl rfl ?_
  refine x_aload_n hC dX7_reversed_11 rfl rfl ?_
  refine x_alen hC mu_s dX7_reversed_12 ?_
  dsimp only
  refine x_icmp_geN (tgt := 36) hC (by omega) (by omega) dX7_reversed_13 (by decide) (fun c1 => ?_) (fun c1 => ?_)
  · have hk3 : k = n := by omega
    subst hk3
    refine x_aload_n hC dX7_reversed_36 rfl rfl ?_
    exact x_aret hC hk dX7_reversed_37 (Or.inr ⟨_, rfl⟩) (Or.inr ⟨_, rfl⟩) (Nat.le_of_ble_eq_true rfl) (show 0 + k ≤ 64 by omega) ⟨a, u, rfl, ha, rfl, i1⟩
  · refine x_aload_n hC dX7_reversed_16 rfl rfl ?_
    refine x_iload_n hC dX7_reversed_17 rfl rfl ?_
    refine x_aload_n hC dX7_reversed_18 rfl rfl ?_
    refine x_get hC 1 (mu_f ha h) rfl (by decide) q1486 rfl rfl dX7_reversed_19 ?_
    refine x_aload_n hC dX7_reversed_22 rfl rfl ?_
    refine x_alen hC mu_s dX7_reversed_23 ?_
    dsimp only
    refine x_iconst (v := nI 1) hC dX7_reversed_24 (by decide) ?_
    refine x_isubN hC dX7_reversed_25 (by omega) ?_
    refine x_iload_n hC dX7_reversed_26 rfl rfl ?_
    refine x_isubN hC dX7_reversed_27 (by omega) ?_
    refine x_ialdN hC (mu_f ha hs) (by omega) (by first | decide | omega) dX7_reversed_28 ?_
    refine x_iastN hC mu_s (by first | decide | assumption) c1 (by first | decide | omega) dX7_reversed_29 ?_
    rw [mu_mu]
    refine x_iincN (lv' := [_, _, _]) (b := 1) hC dX7_reversed_30 rfl (by decide) (by decide) rfl ?_
    refine x_goto (tgt := 10) hC dX7_reversed_33 (by decide) ?_
    refine ih c1 _ (fun l hl => ?_)
    by_cases e : l = k
    · subst e; rw [upd_s]
    · rw [upd_n e]; exact i1 l (by omega)
theorem ct_rshift (hG : GOK G) {g : Nat} (hg : g ≠ 0) (h : M q = some (ob 2 3 (reF na sa cv rv))) (hs : M sa = some (ia 0 n f)) (hn : n ≤ 64) {s : Nat} (hx : ∀ k, k < n → k ^^^ s < n) : Ct G yX7_shifted cX7_shifted 4 (some (.array .int)) (xrm 3 1 64) [.ref q, .int (nI s)] M (PNw M g n (fun k => f (k ^^^ s))) := by
  have hxx : ∀ a b : Nat, a ^^^ s = b → b ^^^ s = a := fun a b h => by rw [← h, Nat.xor_assoc, Nat.xor_self, Nat.xor_zero]
  refine ct_open (lv := [_, _, _, _]) hG (by decide +kernel) (Nat.le_of_ble_eq_true rfl) rfl (fun C hC hk => ?_)
  obtain ⟨M0, hM0⟩ : ∃ M0, M0 = M := ⟨M, rfl⟩
  rw [← hM0] at hk
  have hF : Fm M0 M := by rw [hM0]; exact Fr.rf
  subst hM0
  refine x_aload_n hC dX7_shifted_0 rfl rfl ?_
  refine x_get hC 1 h rfl (by decide) q1486 rfl rfl dX7_shifted_1 ?_
  refine x_alen hC hs dX7_shifted_4 ?_
  dsimp only
  refine x_newi hC n g q1328 hg rfl (by omega) (Nat.le_of_ble_eq_true rfl) (show 0 + n ≤ 64 by omega) dX7_shifted_5 (fun a ha => ?_)
  refine x_astore_n (lv' := [_, _, _, _]) hC dX7_shifted_7 rfl (by decide) rfl ?_
  refine x_iconst (v := nI 0) hC dX7_shifted_8 (by decide) ?_
  refine x_istore_n (lv' := [_, _, _, _]) hC dX7_shifted_9 rfl (by decide) rfl ?_
  refine x_up (n := n) (I := fun k => ∀ u, (∀ l, l < n → l ^^^ s < k → u l = f (l ^^^ s)) → Wg G C (mu M0 a (ia g n u)) (0 + 1) (0 + n) 10 [some (.ref q), some (.int (nI s)), some (.ref a), some (.int (nI k))] []) (fun k hk2 ih u i1 => ?_) 0 (Nat.zero_le _) _ (fun l h1 h2 => by omega)
  refine x_iload_n hC dX7_shifted_10 rfl rfl ?_
  refine x_aload_n hC dX7_shifted_11 rfl rfl ?_
  refine x_alen hC mu_s dX7_shifted_12 ?_
  dsimp only
  refine x_icmp_geN (tgt := 33) hC (by omega) (by omega) dX7_shifted_13 (by decide) (fun c1 => ?_) (fun c1 => ?_)
  · have hk3 : k = n := by omega
    subst hk3
    refine x_aload_n hC dX7_shifted_33 rfl rfl ?_
    exact x_aret hC hk dX7_shifted_34 (Or.inr ⟨_, rfl⟩) (Or.inr ⟨_, rfl⟩) (Nat.le_of_ble_eq_true rfl) (show 0 + k ≤ 64 by omega) ⟨a, u, rfl, ha, rfl, fun l hl => i1 l hl (hx l hl)⟩
  · refine x_aload_n hC dX7_shifted_16 rfl rfl ?_
    refine x_iload_n hC dX7_shifted_17 rfl rfl ?_
    refine x_iload_n hC dX7_shifted_18 rfl rfl ?_
    refine x_ixor hC dX7_shifted_19 ?_
    rw [nI_xor]
    refine x_aload_n hC dX7_shifted_20 rfl rfl ?_
    refine x_get hC 1 (mu_f ha h) rfl (by decide) q1486 rfl rfl dX7_shifted_21 ?_
    refine x_iload_n hC dX7_shifted_24 rfl rfl ?_
    refine x_ialdN hC (mu_f ha hs) c1 (by first | decide | omega) dX7_shifted_25 ?_
    refine x_iastN hC mu_s (by first | decide | assumption) (hx k c1) (by first | decide | omega) dX7_shifted_26 ?_
    rw [mu_mu]
    refine x_iincN (lv' := [_, _, _, _]) (b := 1) hC dX7_shifted_27 rfl (by decide) (by decide) rfl ?_
    refine x_goto (tgt := 10) hC dX7_shifted_30 (by decide) ?_
    refine ih c1 _ (fun l h1 h2 => ?_)
    by_cases e : l = k ^^^ s
    · rw [e, upd_s, hxx k _ rfl]
    · rw [upd_n e]
      refine i1 l h1 ?_
      rcases Nat.lt_or_ge (l ^^^ s) k with h3 | h3
      · exact h3
      · exact absurd (hxx l k (by omega)).symm e
end R10

