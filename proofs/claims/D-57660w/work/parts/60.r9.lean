/-! ===== the component's recordings: more new arrays ===== -/
section R9
variable {G : X_G} {M : X_M} {q na sa n j : Nat} {f : Nat → Int32} {cv rv : Value}
theorem ct_rfold (hG : GOK G) {g : Nat} (hg : g ≠ 0) (h : M q = some (ob 2 3 (reF na sa cv rv))) (hs : M sa = some (ia 0 n f)) (hn : n ≤ 64) : Ct G yX7_folded cX7_folded 4 (some (.array .int)) (xrm 3 1 64) [.ref q] M (PNw M g (n / 2) (fun k => fdiv (f k + f (n / 2 + k)) 2)) := by
  refine ct_open (lv := [_, _, _, _]) hG (by decide +kernel) (Nat.le_of_ble_eq_true rfl) rfl (fun C hC hk => ?_)
  obtain ⟨M0, hM0⟩ : ∃ M0, M0 = M := ⟨M, rfl⟩
  rw [← hM0] at hk
  have hF : Fm M0 M := by rw [hM0]; exact Fr.rf
  subst hM0
  refine x_aload_n hC dX7_folded_0 rfl rfl ?_
  refine x_get hC 1 h rfl (by decide) q1486 rfl rfl dX7_folded_1 ?_
  refine x_alen hC hs dX7_folded_4 ?_
  dsimp only
  refine x_iconst (v := nI 2) hC dX7_folded_5 (by decide) ?_
  refine x_idivN hC dX7_folded_6 (by omega) (by decide) (by decide) ?_
  refine x_istore_n (lv' := [_, _, _, _]) hC dX7_folded_7 rfl (by decide) rfl ?_
  refine x_iload_n hC dX7_folded_8 rfl rfl ?_
  refine x_newi hC (n / 2) g q1328 hg rfl (by omega) (Nat.le_of_ble_eq_true rfl) (show 0 + n / 2 ≤ 64 by omega) dX7_folded_9 (fun a ha => ?_)
  refine x_astore_n (lv' := [_, _, _, _]) hC dX7_folded_11 rfl (by decide) rfl ?_
  refine x_iconst (v := nI 0) hC dX7_folded_12 (by decide) ?_
  refine x_istore_n (lv' := [_, _, _, _]) hC dX7_folded_13 rfl (by decide) rfl ?_
  refine x_up (n := n / 2) (I := fun k => ∀ u, (∀ l, l < k → u l = fdiv (f l + f (n / 2 + l)) 2) → Wg G C (mu M0 a (ia g (n / 2) u)) (0 + 1) (0 + n / 2) 14 [some (.ref q), some (.int (nI (n / 2))), some (.ref a), some (.int (nI k))] []) (fun k hk2 ih u i1 => ?_) 0 (Nat.zero_le _) _ (fun l hl => by omega)
  refine x_iload_n hC dX7_folded_14 rfl rfl ?_
  refine x_iload_n hC dX7_folded_15 rfl rfl ?_
  refine x_icmp_geN (tgt := 47) hC (by omega) (by omega) dX7_folded_16 (by decide) (fun c1 => ?_) (fun c1 => ?_)
  · have hk3 : k = n / 2 := by omega
    subst hk3
    refine x_aload_n hC dX7_folded_47 rfl rfl ?_
    exact x_aret hC hk dX7_folded_48 (Or.inr ⟨_, rfl⟩) (Or.inr ⟨_, rfl⟩) (Nat.le_of_ble_eq_true rfl) (show 0 + n / 2 ≤ 64 by omega) ⟨a, u, rfl, ha, rfl, i1⟩
  · refine x_aload_n hC dX7_folded_19 rfl rfl ?_
    refine x_iload_n hC dX7_folded_20 rfl rfl ?_
    refine x_aload_n hC dX7_folded_21 rfl rfl ?_
    refine x_get hC 1 (mu_f ha h) rfl (by decide) q1486 rfl rfl dX7_folded_22 ?_
    refine x_iload_n hC dX7_folded_25 rfl rfl ?_
    refine x_ialdN hC (mu_f ha hs) (by omega) (by first | decide | omega) dX7_folded_26 ?_
    refine x_aload_n hC dX7_folded_27 rfl rfl ?_
    refine x_get hC 1 (mu_f ha h) rfl (by decide) q1486 rfl rfl dX7_folded_28 ?_
    refine x_iload_n hC dX7_folded_31 rfl rfl ?_
    refine x_iload_n hC dX7_folded_32 rfl rfl ?_
    refine x_iaddN hC dX7_folded_33 ?_
    refine x_ialdN hC (mu_f ha hs) (by omega) (by first | decide | omega) dX7_folded_34 ?_
    rw [Nat.add_comm k (n / 2)]
    refine x_iadd hC dX7_folded_35 ?_
    refine x_iconst (v := 2) hC dX7_folded_36 (by decide) ?_
    refine x_callS0 (na := 2) hC (ct_floorDiv hG _ _ (show ¬ (2 : Int32) = 0 by decide) _) (lw_S q1945 q1946 q103 q1947) (by decide +kernel) rfl ⟨Nat.le_of_ble_eq_true rfl, Nat.le_of_ble_eq_true rfl⟩ rfl (Nat.le_of_ble_eq_true rfl) ⟨rfl, rfl⟩ ⟨Nat.le_of_ble_eq_true rfl, (show 0 + n / 2 ≤ 64 by omega)⟩ dX7_folded_37 ?_
    rintro _ M ⟨rfl, rfl⟩
    refine x_iastN hC mu_s (by first | decide | assumption) c1 (by first | decide | omega) dX7_folded_40 ?_
    refine x_iincN (lv' := [_, _, _, _]) (b := 1) hC dX7_folded_41 rfl (by decide) (by decide) rfl ?_
    refine x_goto (tgt := 14) hC dX7_folded_44 (by decide) ?_
    rw [mu_mu]
    refine ih c1 _ (fun l hl => ?_)
    by_cases e : l = k
    · subst e; rw [upd_s]
    · rw [upd_n e]; exact i1 l (by omega)
theorem ct_rsqE (hG : GOK G) (h : M q = some (ob 2 3 (reF na sa cv rv))) (hs : M sa = some (ia 0 n f)) {a g : Nat} {u : Nat → Int32} (ha : M a = some (ia g n u)) (hn : n ≤ 64) : Ct G yX7_squareError cX7_squareError 7 (some .long) (xrm 1 0 0) [.ref q, .ref a] M (Pr (.long (jS (fun k => sq (f k - u k)) n)) M) := by
  refine ct_open (lv := [_, _, _, _, _, _, _]) hG (by decide +kernel) (Nat.le_of_ble_eq_true rfl) rfl (fun C hC hk => ?_)
  refine x_lconst (v := 0) hC dX7_squareError_0 (by decide) ?_
  refine x_lstore_n (lv' := [_, _, _, _, _, _, _]) hC dX7_squareError_1 rfl (by decide) rfl ?_
  refine x_iconst (v := nI 0) hC dX7_squareError_2 (by decide) ?_
  refine x_istore (lv' := [_, _, _, _, _, _, _]) hC dX7_squareError_3 (by decide) rfl ?_
  refine x_up (n := n) (I := fun k => ∀ w5 w6, Wg G C M 0 0 5 [some (.ref q), some (.ref a), some (.long (jS (fun k => sq (f k - u k)) k)), none, some (.int (nI k)), w5, w6] []) (fun k hk2 ih w5 w6 => ?_) 0 (Nat.zero_le _) none none
  refine x_iload hC dX7_squareError_5 rfl ?_
  refine x_aload_n hC dX7_squareError_7 rfl rfl ?_
  refine x_get hC 1 h rfl (by decide) q1486 rfl rfl dX7_squareError_8 ?_
  refine x_alen hC hs dX7_squareError_11 ?_
  dsimp only
  refine x_icmp_geN (tgt := 44) hC (by omega) (by omega) dX7_squareError_12 (by decide) (fun c1 => ?_) (fun c1 => ?_)
  · refine x_lload_n hC dX7_squareError_44 rfl rfl ?_
    exact x_lret hC hk dX7_squareError_45 (Nat.le_of_ble_eq_true rfl) (Nat.le_of_ble_eq_true rfl) ⟨by rw [show k = n by omega], rfl⟩
  · refine x_aload_n hC dX7_squareError_15 rfl rfl ?_
    refine x_get hC 1 h rfl (by decide) q1486 rfl rfl dX7_squareError_16 ?_
    refine x_iload hC dX7_squareError_19 rfl ?_
    refine x_ialdN hC hs c1 (by first | decide | omega) dX7_squareError_21 ?_
    refine x_aload_n hC dX7_squareError_22 rfl rfl ?_
    refine x_iload hC dX7_squareError_23 rfl ?_
    refine x_ialdN hC ha c1 (by first | decide | omega) dX7_squareError_25 ?_
    refine x_isub hC dX7_squareError_26 ?_
    refine x_i2l hC dX7_squareError_27 rfl ?_
    refine x_lstore (lv' := [_, _, _, _, _, _, _]) hC dX7_squareError_28 (by decide) rfl ?_
    refine x_lload_n hC dX7_squareError_30 rfl rfl ?_
    refine x_lload hC dX7_squareError_31 rfl ?_
    refine x_lload hC dX7_squareError_33 rfl ?_
    refine x_lmul hC dX7_squareError_35 ?_
    refine x_ladd hC dX7_squareError_36 ?_
    refine x_lstore_n (lv' := [_, _, _, _, _, _, _]) hC dX7_squareError_37 rfl (by decide) rfl ?_
    refine x_iincN (lv' := [_, _, _, _, _, _, _]) (b := 1) hC dX7_squareError_38 rfl (by decide) (by decide) rfl ?_
    refine x_goto (tgt := 5) hC dX7_squareError_41 (by decide) ?_
    exact ih c1 _ _
end R9

