/-! ===== the component's recordings: bestShift ===== -/
section R12
variable {G : X_G} {M : X_M} {q na sa n j : Nat} {f : Nat → Int32} {cv rv : Value}
abbrev crF (f f' : Nat → Int32) (n s : Nat) : Int64 := jS (fun k => (f k).toInt64 * (f' (k ^^^ s)).toInt64) n
theorem ct_rbest (hG : GOK G) {q' na' sa' : Nat} {f' : Nat → Int32} {cv' rv' : Value} (h : M q = some (ob 2 3 (reF na sa cv rv))) (hs : M sa = some (ia 0 n f)) (h' : M q' = some (ob 2 3 (reF na' sa' cv' rv'))) (hs' : M sa' = some (ia 0 n f')) (hn : n ≤ 64) (h0 : 0 < n) (hx : ∀ s, s < n → ∀ k, k < n → k ^^^ s < n) : Ct G yX7_bestShift cX7_bestShift 4 (some .int) (xrm 2 0 0) [.ref q, .ref q'] M (Pr (.int (nI (amx (fun a b => decide (crF f f' n a < crF f f' n b)) n))) M) := by
  refine ct_open (lv := [_, _, _, _]) hG (by decide +kernel) (Nat.le_of_ble_eq_true rfl) rfl (fun C hC hk => ?_)
  refine x_iconst (v := nI 0) hC dX7_bestShift_0 (by decide) ?_
  refine x_istore_n (lv' := [_, _, _, _]) hC dX7_bestShift_1 rfl (by decide) rfl ?_
  refine x_iconst (v := nI 1) hC dX7_bestShift_2 (by decide) ?_
  refine x_istore_n (lv' := [_, _, _, _]) hC dX7_bestShift_3 rfl (by decide) rfl ?_
  suffices lp : ∀ k, k ≤ n - 1 → Wg G C M 0 0 4 [some (.ref q), some (.ref q'), some (.int (nI (amx (fun a b => decide (crF f f' n a < crF f f' n b)) (k + 1)))), some (.int (nI (k + 1)))] [] by
    have h0 := lp 0 (Nat.zero_le _)
    rw [show amx (fun a b => decide (crF f f' n a < crF f f' n b)) (0 + 1) = 0 by unfold amx; split <;> rfl] at h0
    exact h0
  refine x_up (n := n - 1) (I := fun k => Wg G C M 0 0 4 [some (.ref q), some (.ref q'), some (.int (nI (amx (fun a b => decide (crF f f' n a < crF f f' n b)) (k + 1)))), some (.int (nI (k + 1)))] []) (fun k hk2 ih => ?_)
  refine x_iload_n hC dX7_bestShift_4 rfl rfl ?_
  refine x_aload_n hC dX7_bestShift_5 rfl rfl ?_
  refine x_get hC 1 h rfl (by decide) q1486 rfl rfl dX7_bestShift_6 ?_
  refine x_alen hC hs dX7_bestShift_9 ?_
  dsimp only
  refine x_icmp_geN (tgt := 37) hC (by omega) (by omega) dX7_bestShift_10 (by decide) (fun c1 => ?_) (fun c1 => ?_)
  · refine x_iload_n hC dX7_bestShift_37 rfl rfl ?_
    exact x_iret hC hk dX7_bestShift_38 (Nat.le_of_ble_eq_true rfl) (Nat.le_of_ble_eq_true rfl) ⟨by rw [show k + 1 = n by omega], rfl⟩
  · have hal := amx_lt (lt := fun a b => decide (crF f f' n a < crF f f' n b)) (k := k + 1) (by omega)
    have hst : amx (fun a b => decide (crF f f' n a < crF f f' n b)) (k + 1 + 1) = if crF f f' n (amx (fun a b => decide (crF f f' n a < crF f f' n b)) (k + 1)) < crF f f' n (k + 1) then k + 1 else amx (fun a b => decide (crF f f' n a < crF f f' n b)) (k + 1) := by
      rw [amx]
      simp only [decide_eq_true_eq]
    have ih2 := ih (by omega)
    rw [hst] at ih2
    generalize amx (fun a b => decide (crF f f' n a < crF f f' n b)) (k + 1) = w at hal ih2 ⊢
    refine x_aload_n hC dX7_bestShift_13 rfl rfl ?_
    refine x_aload_n hC dX7_bestShift_14 rfl rfl ?_
    refine x_iload_n hC dX7_bestShift_15 rfl rfl ?_
    refine x_callV0 (na := 2) hC (ct_rcorr hG h hs h' hs' hn (hx _ c1)) (lw_V q1904 q1876 q1877 q115 q1878) h rfl rfl (by decide +kernel) rfl ⟨Nat.le_of_ble_eq_true rfl, Nat.le_of_ble_eq_true rfl⟩ rfl (Nat.le_of_ble_eq_true rfl) ⟨rfl, rfl⟩ ⟨Nat.le_of_ble_eq_true rfl, Nat.le_of_ble_eq_true rfl⟩ dX7_bestShift_16 ?_
    rintro _ M ⟨rfl, rfl⟩
    refine x_aload_n hC dX7_bestShift_19 rfl rfl ?_
    refine x_aload_n hC dX7_bestShift_20 rfl rfl ?_
    refine x_iload_n hC dX7_bestShift_21 rfl rfl ?_
    refine x_callV0 (na := 2) hC (ct_rcorr hG h hs h' hs' hn (hx w (by omega))) (lw_V q1904 q1876 q1877 q115 q1878) h rfl rfl (by decide +kernel) rfl ⟨Nat.le_of_ble_eq_true rfl, Nat.le_of_ble_eq_true rfl⟩ rfl (Nat.le_of_ble_eq_true rfl) ⟨rfl, rfl⟩ ⟨Nat.le_of_ble_eq_true rfl, Nat.le_of_ble_eq_true rfl⟩ dX7_bestShift_22 ?_
    rintro _ M ⟨rfl, rfl⟩
    refine x_lcmp hC dX7_bestShift_25 ?_
    refine x_if_le (tgt := 31) hC dX7_bestShift_26 (by decide) (fun c2 => ?_) (fun c2 => ?_)
    · rw [lg_cmp_le] at c2
      refine x_iincN (lv' := [_, _, _, _]) (b := 1) hC dX7_bestShift_31 rfl (by decide) (by decide) rfl ?_
      refine x_goto (tgt := 4) hC dX7_bestShift_34 (by decide) ?_
      rw [if_neg (Int64.not_lt.mpr c2)] at ih2
      exact ih2
    · rw [lg_cmp_le] at c2
      refine x_iload_n hC dX7_bestShift_29 rfl rfl ?_
      refine x_istore_n (lv' := [_, _, _, _]) hC dX7_bestShift_30 rfl (by decide) rfl ?_
      refine x_iincN (lv' := [_, _, _, _]) (b := 1) hC dX7_bestShift_31 rfl (by decide) (by decide) rfl ?_
      refine x_goto (tgt := 4) hC dX7_bestShift_34 (by decide) ?_
      rw [if_pos (Int64.not_le.mp c2)] at ih2
      exact ih2
end R12

