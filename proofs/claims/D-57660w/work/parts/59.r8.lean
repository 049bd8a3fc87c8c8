/-! ===== the component's recordings: new arrays of samples ===== -/
/-- what a method leaves that makes an array: a new one, of the caller's tag -/
def PNw (M : X_M) (g n : Nat) (f : Nat → Int32) : Option Value → X_M → Prop := fun r M' => ∃ a u, r = some (.ref a) ∧ M a = none ∧ M' = mu M a (ia g n u) ∧ ∀ k, k < n → u k = f k
section R8
variable {G : X_G} {M : X_M} {q na sa n j : Nat} {f : Nat → Int32} {cv rv : Value}
theorem ct_rinit (hG : GOK G) (h : M q = some (ob 2 3 [.null, .null, .null, .null])) : Ct G yX7_init cX7_init 3 none (xrm 2 0 0) [.ref q, .ref na, .ref sa] M (fun r M' => r = none ∧ M' = mu M q (ob 2 3 (reF na sa .null .null))) := by
  refine ct_open (lv := [_, _, _]) hG (by decide +kernel) (Nat.le_of_ble_eq_true rfl) rfl (fun C hC hk => ?_)
  refine x_aload_n hC dX7_init_0 rfl rfl ?_
  refine x_objInit hC q1482 q132 q133 dX7_init_1 (Nat.le_of_ble_eq_true rfl) ⟨Nat.le_of_ble_eq_true rfl, Nat.le_of_ble_eq_true rfl⟩ ?_
  refine x_aload_n hC dX7_init_4 rfl rfl ?_
  refine x_aload_n hC dX7_init_5 rfl rfl ?_
  refine x_putF hC 0 h (by decide) rfl (by decide) q1483 rfl rfl rfl rfl rfl rfl rfl (show 0 < 4 by decide) (fs' := [.ref na, .null, .null, .null]) rfl dX7_init_6 ?_
  refine x_aload_n hC dX7_init_9 rfl rfl ?_
  refine x_aload_n hC dX7_init_10 rfl rfl ?_
  refine x_putF hC 1 mu_s (by decide) rfl (by decide) q1486 rfl rfl rfl rfl rfl rfl rfl (show 1 < 4 by decide) (fs' := reF na sa .null .null) rfl dX7_init_11 ?_
  rw [mu_mu]
  exact x_vret hC hk dX7_init_14 (Nat.le_of_ble_eq_true rfl) (Nat.le_of_ble_eq_true rfl) ⟨rfl, rfl⟩
theorem ct_rwith (hG : GOK G) {g : Nat} (hg : g ≠ 0) (h : M q = some (ob 2 3 (reF na sa cv rv))) (hs : M sa = some (ia 0 n f)) (hn : n ≤ 64) {k : Nat} (hkn : k < n) (x : Int32) : Ct G yX7_withSample cX7_withSample 4 (some (.array .int)) (xrm 3 1 64) [.ref q, .int (nI k), .int x] M (PNw M g n (upd f k x)) := by
  refine ct_open (lv := [_, _, _, _]) hG (by decide +kernel) (Nat.le_of_ble_eq_true rfl) rfl (fun C hC hk => ?_)
  refine x_aload_n hC dX7_withSample_0 rfl rfl ?_
  refine x_callV (k := 1) (n := 64) (na := 0) hC (ct_copyS hG hg h hs hn) (lw_V q1717 q1719 qs15 q115 q1720) h rfl rfl (by decide +kernel) rfl ⟨Nat.le_of_ble_eq_true rfl, Nat.le_of_ble_eq_true rfl⟩ rfl (Nat.le_of_ble_eq_true rfl) (Nat.le_of_ble_eq_true rfl) (Nat.le_of_ble_eq_true rfl) ⟨Nat.le_of_ble_eq_true rfl, Nat.le_of_ble_eq_true rfl⟩ dX7_withSample_1 ?_
  rintro _ _ ⟨a, u, rfl, ha, rfl, hu⟩
  refine x_astore_n (lv' := [_, _, _, _]) hC dX7_withSample_4 rfl (by decide) rfl ?_
  refine x_aload_n hC dX7_withSample_5 rfl rfl ?_
  refine x_iload_n hC dX7_withSample_6 rfl rfl ?_
  refine x_iload_n hC dX7_withSample_7 rfl rfl ?_
  refine x_iastN hC mu_s (by first | decide | assumption) hkn (by first | decide | omega) dX7_withSample_8 ?_
  rw [mu_mu]
  refine x_aload_n hC dX7_withSample_9 rfl rfl ?_
  exact x_aret hC hk dX7_withSample_10 (Or.inr ⟨_, rfl⟩) (Or.inr ⟨_, rfl⟩) (Nat.le_of_ble_eq_true rfl) (Nat.le_of_ble_eq_true rfl) ⟨a, _, rfl, ha, rfl, fun l hl => by unfold upd; split; rfl; exact hu l hl⟩
theorem ct_rquant (hG : GOK G) {g : Nat} (hg : g ≠ 0) (h : M q = some (ob 2 3 (reF na sa cv rv))) (hs : M sa = some (ia 0 n f)) (hn : n ≤ 64) {st : Int32} (hst : ¬ st = 0) : Ct G yX7_quantized cX7_quantized 4 (some (.array .int)) (xrm 3 1 64) [.ref q, .int st] M (PNw M g n (fun k => clip (st * fdiv (f k) st))) := by
  refine ct_open (lv := [_, _, _, _]) hG (by decide +kernel) (Nat.le_of_ble_eq_true rfl) rfl (fun C hC hk => ?_)
  obtain ⟨M0, hM0⟩ : ∃ M0, M0 = M := ⟨M, rfl⟩
  rw [← hM0] at hk
  have hF : Fm M0 M := by rw [hM0]; exact Fr.rf
  subst hM0
  refine x_aload_n hC dX7_quantized_0 rfl rfl ?_
  refine x_callV (k := 1) (n := 64) (na := 0) hC (ct_copyS hG hg h hs hn) (lw_V q1717 q1719 qs15 q115 q1720) h rfl rfl (by decide +kernel) rfl ⟨Nat.le_of_ble_eq_true rfl, Nat.le_of_ble_eq_true rfl⟩ rfl (Nat.le_of_ble_eq_true rfl) (Nat.le_of_ble_eq_true rfl) (Nat.le_of_ble_eq_true rfl) ⟨Nat.le_of_ble_eq_true rfl, Nat.le_of_ble_eq_true rfl⟩ dX7_quantized_1 ?_
  rintro _ _ ⟨a, u, rfl, ha, rfl, hu⟩
  refine x_astore_n (lv' := [_, _, _, _]) hC dX7_quantized_4 rfl (by decide) rfl ?_
  refine x_iconst (v := nI 0) hC dX7_quantized_5 (by decide) ?_
  refine x_istore_n (lv' := [_, _, _, _]) hC dX7_quantized_6 rfl (by decide) rfl ?_
  refine x_up (n := n) (I := fun k => ∀ u, (∀ l, l < k → u l = clip (st * fdiv (f l) st)) → (∀ l, k ≤ l → l < n → u l = f l) → Wg G C (mu M0 a (ia g n u)) 1 64 7 [some (.ref q), some (.int st), some (.ref a), some (.int (nI k))] []) (fun k hk2 ih u i1 i2 => ?_) 0 (Nat.zero_le _) u (fun l hl => by omega) (fun l h1 h2 => hu l h2)
  refine x_iload_n hC dX7_quantized_7 rfl rfl ?_
  refine x_aload_n hC dX7_quantized_8 rfl rfl ?_
  refine x_alen hC mu_s dX7_quantized_9 ?_
  dsimp only
  refine x_icmp_geN (tgt := 34) hC (by omega) (by omega) dX7_quantized_10 (by decide) (fun c1 => ?_) (fun c1 => ?_)
  · have hk3 : k = n := by omega
    subst hk3
    refine x_aload_n hC dX7_quantized_34 rfl rfl ?_
    exact x_aret hC hk dX7_quantized_35 (Or.inr ⟨_, rfl⟩) (Or.inr ⟨_, rfl⟩) (Nat.le_of_ble_eq_true rfl) (Nat.le_of_ble_eq_true rfl) ⟨a, u, rfl, ha, rfl, i1⟩
  · refine x_aload_n hC dX7_quantized_13 rfl rfl ?_
    refine x_iload_n hC dX7_quantized_14 rfl rfl ?_
    refine x_iload_n hC dX7_quantized_15 rfl rfl ?_
    refine x_aload_n hC dX7_quantized_16 rfl rfl ?_
    refine x_iload_n hC dX7_quantized_17 rfl rfl ?_
    refine x_ialdN hC mu_s c1 (by first | decide | omega) dX7_quantized_18 ?_
    rw [i2 k (Nat.le_refl k) c1]
    refine x_iload_n hC dX7_quantized_19 rfl rfl ?_
    refine x_callS0 (na := 2) hC (ct_floorDiv hG _ _ hst _) (lw_S q1945 q1946 q103 q1947) (by decide +kernel) rfl ⟨Nat.le_of_ble_eq_true rfl, Nat.le_of_ble_eq_true rfl⟩ rfl (Nat.le_of_ble_eq_true rfl) ⟨rfl, rfl⟩ ⟨Nat.le_of_ble_eq_true rfl, Nat.le_of_ble_eq_true rfl⟩ dX7_quantized_20 ?_
    rintro _ M ⟨rfl, rfl⟩
    refine x_imul hC dX7_quantized_23 ?_
    refine x_callSN0 (na := 1) hC (ct_limited hG _ _) q1950 q1949 q81 q1948 (by decide +kernel) rfl ⟨Nat.le_of_ble_eq_true rfl, Nat.le_of_ble_eq_true rfl⟩ rfl (Nat.le_of_ble_eq_true rfl) ⟨rfl, rfl⟩ ⟨Nat.le_of_ble_eq_true rfl, Nat.le_of_ble_eq_true rfl⟩ dX7_quantized_24 ?_
    rintro _ M ⟨rfl, rfl⟩
    refine x_iastN hC mu_s (by first | decide | assumption) c1 (by first | decide | omega) dX7_quantized_27 ?_
    refine x_iincN (lv' := [_, _, _, _]) (b := 1) hC dX7_quantized_28 rfl (by decide) (by decide) rfl ?_
    refine x_goto (tgt := 7) hC dX7_quantized_31 (by decide) ?_
    rw [mu_mu]
    refine ih c1 _ (fun l hl => ?_) (fun l h1 h2 => ?_)
    · by_cases e : l = k
      · subst e; rw [upd_s]
      · rw [upd_n e]; exact i1 l (by omega)
    · rw [upd_n (by omega)]; exact i2 l (by omega) h2
end R8

