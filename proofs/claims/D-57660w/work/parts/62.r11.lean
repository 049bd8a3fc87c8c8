/-! ===== the component's recordings: followedBy ===== -/
section R11
variable {G : X_G} {M : X_M} {q na sa n j : Nat} {f : Nat → Int32} {cv rv : Value}
theorem ct_rfoll (hG : GOK G) {g : Nat} (hg : g ≠ 0) {q' na' sa' : Nat} {f' : Nat → Int32} {cv' rv' : Value} (h : M q = some (ob 2 3 (reF na sa cv rv))) (hs : M sa = some (ia 0 n f)) (h' : M q' = some (ob 2 3 (reF na' sa' cv' rv'))) (hs' : M sa' = some (ia 0 n f')) (hn : 2 * n ≤ 64) : Ct G yX7_followedBy cX7_followedBy 3 (some (.array .int)) (xrm 3 1 64) [.ref q, .ref q'] M (PNw M g (2 * n) (fun k => if k < n then f k else f' (k - n))) := by
  refine ct_open (lv := [_, _, _]) hG (by decide +kernel) (Nat.le_of_ble_eq_true rfl) rfl (fun C hC hk => ?_)
  refine x_iconst (v := nI 2) hC dX7_followedBy_0 (by decide) ?_
  refine x_aload_n hC dX7_followedBy_1 rfl rfl ?_
  refine x_get hC 1 h rfl (by decide) q1486 rfl rfl dX7_followedBy_2 ?_
  refine x_alen hC hs dX7_followedBy_5 ?_
  dsimp only
  refine x_imulN hC dX7_followedBy_6 ?_
  refine x_newi hC (2 * n) g q1328 hg rfl (by omega) (Nat.le_of_ble_eq_true rfl) (show 0 + 2 * n ≤ 64 by omega) dX7_followedBy_7 (fun a ha => ?_)
  refine x_astore_n (lv' := [_, _, _]) hC dX7_followedBy_9 rfl (by decide) rfl ?_
  refine x_aload_n hC dX7_followedBy_10 rfl rfl ?_
  refine x_get hC 1 (mu_f ha h) rfl (by decide) q1486 rfl rfl dX7_followedBy_11 ?_
  refine x_iconst (v := nI 0) hC dX7_followedBy_14 (by decide) ?_
  refine x_aload_n hC dX7_followedBy_15 rfl rfl ?_
  refine x_iconst (v := nI 0) hC dX7_followedBy_16 (by decide) ?_
  refine x_aload_n hC dX7_followedBy_17 rfl rfl ?_
  refine x_get hC 1 (mu_f ha h) rfl (by decide) q1486 rfl rfl dX7_followedBy_18 ?_
  refine x_alen hC (mu_f ha hs) dX7_followedBy_21 ?_
  dsimp only
  refine x_copyi hC (mu_f ha hs) mu_s hg rfl q1721 q350 q349 q105 (by omega) (by omega) (by omega) (by omega) (fun i hi => rfl) (Nat.le_of_ble_eq_true rfl) (Nat.le_of_ble_eq_true rfl) dX7_followedBy_22 ?_
  rw [mu_mu]
  refine x_aload_n hC dX7_followedBy_25 rfl rfl ?_
  refine x_get hC 1 (mu_f ha h') rfl (by decide) q1486 rfl rfl dX7_followedBy_26 ?_
  refine x_iconst (v := nI 0) hC dX7_followedBy_29 (by decide) ?_
  refine x_aload_n hC dX7_followedBy_30 rfl rfl ?_
  refine x_aload_n hC dX7_followedBy_31 rfl rfl ?_
  refine x_get hC 1 (mu_f ha h) rfl (by decide) q1486 rfl rfl dX7_followedBy_32 ?_
  refine x_alen hC (mu_f ha hs) dX7_followedBy_35 ?_
  dsimp only
  refine x_aload_n hC dX7_followedBy_36 rfl rfl ?_
  refine x_get hC 1 (mu_f ha h) rfl (by decide) q1486 rfl rfl dX7_followedBy_37 ?_
  refine x_alen hC (mu_f ha hs) dX7_followedBy_40 ?_
  dsimp only
  refine x_copyi hC (mu_f ha hs') mu_s hg rfl q1721 q350 q349 q105 (by omega) (by omega) (by omega) (by omega) (fun i hi => rfl) (Nat.le_of_ble_eq_true rfl) (Nat.le_of_ble_eq_true rfl) dX7_followedBy_41 ?_
  rw [mu_mu]
  refine x_aload_n hC dX7_followedBy_44 rfl rfl ?_
  refine x_aret hC hk dX7_followedBy_45 (Or.inr ⟨_, rfl⟩) (Or.inr ⟨_, rfl⟩) (Nat.le_of_ble_eq_true rfl) (show 0 + 2 * n ≤ 64 by omega) ⟨a, _, rfl, ha, rfl, fun k hk => ?_⟩
  unfold va_cpy
  dsimp only
  by_cases e : k < n
  · rw [if_neg (by omega), if_pos (by omega), if_pos e, Nat.zero_add, Nat.sub_zero]
  · rw [if_pos (by omega), if_neg e, Nat.zero_add]
end R11

