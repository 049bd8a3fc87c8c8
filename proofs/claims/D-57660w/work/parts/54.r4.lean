/-! ===== the component's recordings: methods that read the samples alone ===== -/
section R4
variable {G : X_G} {M : X_M} {q na sa n j : Nat} {f : Nat → Int32} {cv rv : Value}
theorem ct_rlen (hG : GOK G) (h : M q = some (ob 2 3 (reF na sa cv rv))) (hs : M sa = some (ia 0 n f)) : Ct G yX7_length cX7_length 1 (some .int) (xrm 1 0 0) [.ref q] M (Pr (.int (nI n)) M) := by
  refine ct_open (lv := [_]) hG (by decide +kernel) (Nat.le_of_ble_eq_true rfl) rfl (fun C hC hk => ?_)
  refine x_aload_n hC dX7_length_0 rfl rfl ?_
  refine x_get hC 1 h rfl (by decide) q1486 rfl rfl dX7_length_1 ?_
  refine x_alen hC hs dX7_length_4 ?_
  exact x_iret hC hk dX7_length_5 (Nat.le_of_ble_eq_true rfl) (Nat.le_of_ble_eq_true rfl) ⟨rfl, rfl⟩
theorem ct_rhas (hG : GOK G) (h : M q = some (ob 2 3 (reF na sa cv rv))) (hs : M sa = some (ia 0 n f)) (x : Int32) : Ct G yX7_has cX7_has 2 (some .boolean) (xrm 2 0 0) [.ref q, .int x] M (Pr (.int (xB (inI n x))) M) := by
  refine ct_open (lv := [_, _]) hG (by decide +kernel) (Nat.le_of_ble_eq_true rfl) rfl (fun C hC hk => ?_)
  refine x_iload_n hC dX7_has_0 rfl rfl ?_
  refine x_iconst (v := 0) hC dX7_has_1 (by decide) ?_
  refine x_aload_n hC dX7_has_2 rfl rfl ?_
  refine x_get hC 1 h rfl (by decide) q1486 rfl rfl dX7_has_3 ?_
  refine x_alen hC hs dX7_has_6 ?_
  refine x_iconst (v := 1) hC dX7_has_7 (by decide) ?_
  refine x_isub hC dX7_has_8 ?_
  dsimp only
  refine x_callSN0 (na := 3) hC (ct_isBetween hG _ _ _ _) q643 q642 q81 q1584 (by decide +kernel) rfl ⟨Nat.le_of_ble_eq_true rfl, Nat.le_of_ble_eq_true rfl⟩ rfl (Nat.le_of_ble_eq_true rfl) ⟨rfl, rfl⟩ ⟨Nat.le_of_ble_eq_true rfl, Nat.le_of_ble_eq_true rfl⟩ dX7_has_9 ?_
  rintro _ M ⟨rfl, rfl⟩
  exact x_zret hC hk dX7_has_12 (by first | rfl | exact xB_nar) (Nat.le_of_ble_eq_true rfl) (Nat.le_of_ble_eq_true rfl) ⟨rfl, rfl⟩
theorem ct_risBand (hG : GOK G) (h : M q = some (ob 2 3 (reF na sa cv rv))) (hs : M sa = some (ia 0 n f)) (x z : Int32) : Ct G yX7_isBand cX7_isBand 3 (some .boolean) (xrm 1 0 0) [.ref q, .int x, .int z] M (Pr (.int (xB (0 ≤ x ∧ z < nI n ∧ x ≤ z))) M) := by
  refine ct_open (lv := [_, _, _]) hG (by decide +kernel) (Nat.le_of_ble_eq_true rfl) rfl (fun C hC hk => ?_)
  refine x_iload_n hC dX7_isBand_0 rfl rfl ?_
  refine x_if_lt (tgt := 22) hC dX7_isBand_1 (by decide) (fun c1 => ?_) (fun c1 => ?_)
  · refine x_iconst (v := 0) hC dX7_isBand_22 (by decide) ?_
    exact x_zret hC hk dX7_isBand_23 (by first | rfl | exact xB_nar) (Nat.le_of_ble_eq_true rfl) (Nat.le_of_ble_eq_true rfl) ⟨by rw [xB_f fun h => Int32.not_lt.mpr h.1 c1], rfl⟩
  · refine x_iload_n hC dX7_isBand_4 rfl rfl ?_
    refine x_aload_n hC dX7_isBand_5 rfl rfl ?_
    refine x_get hC 1 h rfl (by decide) q1486 rfl rfl dX7_isBand_6 ?_
    refine x_alen hC hs dX7_isBand_9 ?_
    dsimp only
    refine x_icmp_ge (tgt := 22) hC dX7_isBand_10 (by decide) (fun c2 => ?_) (fun c2 => ?_)
    · refine x_iconst (v := 0) hC dX7_isBand_22 (by decide) ?_
      exact x_zret hC hk dX7_isBand_23 (by first | rfl | exact xB_nar) (Nat.le_of_ble_eq_true rfl) (Nat.le_of_ble_eq_true rfl) ⟨by rw [xB_f fun h => Int32.not_lt.mpr c2 h.2.1], rfl⟩
    · refine x_iload_n hC dX7_isBand_13 rfl rfl ?_
      refine x_iload_n hC dX7_isBand_14 rfl rfl ?_
      refine x_icmp_gt (tgt := 22) hC dX7_isBand_15 (by decide) (fun c3 => ?_) (fun c3 => ?_)
      · refine x_iconst (v := 0) hC dX7_isBand_22 (by decide) ?_
        exact x_zret hC hk dX7_isBand_23 (by first | rfl | exact xB_nar) (Nat.le_of_ble_eq_true rfl) (Nat.le_of_ble_eq_true rfl) ⟨by rw [xB_f fun h => Int32.not_lt.mpr h.2.2 c3], rfl⟩
      · refine x_iconst (v := 1) hC dX7_isBand_18 (by decide) ?_
        refine x_goto (tgt := 23) hC dX7_isBand_19 (by decide) ?_
        exact x_zret hC hk dX7_isBand_23 (by first | rfl | exact xB_nar) (Nat.le_of_ble_eq_true rfl) (Nat.le_of_ble_eq_true rfl) ⟨by rw [xB_t ⟨Int32.not_lt.mp c1, Int32.not_le.mp c2, Int32.not_lt.mp c3⟩], rfl⟩
theorem ct_rseq (hG : GOK G) (h : M q = some (ob 2 3 (reF na sa cv rv))) (hs : M sa = some (ia 0 (2 ^ j) f)) (hj : j < 7) (hj1 : 1 ≤ j) {x : Nat} (hx : x < 2 ^ j) : Ct G yX7_sequency cX7_sequency 2 (some .int) (xrm 3 0 0) [.ref q, .int (nI x)] M (Pr (.int (chg (nI x) (2 ^ j))) M) := by
  refine ct_open (lv := [_, _]) hG (by decide +kernel) (Nat.le_of_ble_eq_true rfl) rfl (fun C hC hk => ?_)
  refine x_aload_n hC dX7_sequency_0 rfl rfl ?_
  refine x_get hC 1 h rfl (by decide) q1486 rfl rfl dX7_sequency_1 ?_
  refine x_alen hC hs dX7_sequency_4 ?_
  refine x_iload_n hC dX7_sequency_5 rfl rfl ?_
  dsimp only
  refine x_callS0 (na := 2) hC (ct_wseq hG hj hj1 hx _) (lw_S q1751 q1691 q123 q1692) (by decide +kernel) rfl ⟨Nat.le_of_ble_eq_true rfl, Nat.le_of_ble_eq_true rfl⟩ rfl (Nat.le_of_ble_eq_true rfl) ⟨rfl, rfl⟩ ⟨Nat.le_of_ble_eq_true rfl, Nat.le_of_ble_eq_true rfl⟩ dX7_sequency_6 ?_
  rintro _ M ⟨rfl, rfl⟩
  exact x_iret hC hk dX7_sequency_9 (Nat.le_of_ble_eq_true rfl) (Nat.le_of_ble_eq_true rfl) ⟨rfl, rfl⟩
theorem ct_renergy (hG : GOK G) (h : M q = some (ob 2 3 (reF na sa cv rv))) (hs : M sa = some (ia 0 n f)) (hn : n ≤ 64) : Ct G yX7_energy cX7_energy 7 (some .long) (xrm 1 0 0) [.ref q] M (Pr (.long (jS (fun k => sq (f k)) n)) M) := by
  refine ct_open (lv := [_, _, _, _, _, _, _]) hG (by decide +kernel) (Nat.le_of_ble_eq_true rfl) rfl (fun C hC hk => ?_)
  refine x_lconst (v := 0) hC dX7_energy_0 (by decide) ?_
  refine x_lstore_n (lv' := [_, _, _, _, _, _, _]) hC dX7_energy_1 rfl (by decide) rfl ?_
  refine x_aload_n hC dX7_energy_2 rfl rfl ?_
  refine x_get hC 1 h rfl (by decide) q1486 rfl rfl dX7_energy_3 ?_
  refine x_astore_n (lv' := [_, _, _, _, _, _, _]) hC dX7_energy_6 rfl (by decide) rfl ?_
  refine x_aload_n hC dX7_energy_7 rfl rfl ?_
  refine x_alen hC hs dX7_energy_8 ?_
  dsimp only
  refine x_istore (lv' := [_, _, _, _, _, _, _]) hC dX7_energy_9 (by decide) rfl ?_
  refine x_iconst (v := nI 0) hC dX7_energy_11 (by decide) ?_
  refine x_istore (lv' := [_, _, _, _, _, _, _]) hC dX7_energy_12 (by decide) rfl ?_
  refine x_up (n := n) (I := fun k => ∀ w6, Wg G C M 0 0 14 [some (.ref q), some (.long (jS (fun k => sq (f k)) k)), none, some (.ref sa), some (.int (nI n)), some (.int (nI k)), w6] []) (fun k hk2 ih w6 => ?_) 0 (Nat.zero_le _) none
  refine x_iload hC dX7_energy_14 rfl ?_
  refine x_iload hC dX7_energy_16 rfl ?_
  refine x_icmp_geN (tgt := 43) hC (by omega) (by omega) dX7_energy_18 (by decide) (fun c1 => ?_) (fun c1 => ?_)
  · refine x_lload_n hC dX7_energy_43 rfl rfl ?_
    exact x_lret hC hk dX7_energy_44 (Nat.le_of_ble_eq_true rfl) (Nat.le_of_ble_eq_true rfl) ⟨by rw [show k = n by omega], rfl⟩
  · refine x_aload_n hC dX7_energy_21 rfl rfl ?_
    refine x_iload hC dX7_energy_22 rfl ?_
    refine x_ialdN hC hs c1 (by first | decide | omega) dX7_energy_24 ?_
    refine x_istore (lv' := [_, _, _, _, _, _, _]) hC dX7_energy_25 (by decide) rfl ?_
    refine x_lload_n hC dX7_energy_27 rfl rfl ?_
    refine x_iload hC dX7_energy_28 rfl ?_
    refine x_i2l hC dX7_energy_30 rfl ?_
    refine x_iload hC dX7_energy_31 rfl ?_
    refine x_i2l hC dX7_energy_33 rfl ?_
    refine x_lmul hC dX7_energy_34 ?_
    refine x_ladd hC dX7_energy_35 ?_
    refine x_lstore_n (lv' := [_, _, _, _, _, _, _]) hC dX7_energy_36 rfl (by decide) rfl ?_
    refine x_iincN (lv' := [_, _, _, _, _, _, _]) (b := 1) hC dX7_energy_37 rfl (by decide) (by decide) rfl ?_
    refine x_goto (tgt := 14) hC dX7_energy_40 (by decide) ?_
    exact ih c1 _
theorem ct_rgreat (hG : GOK G) (h : M q = some (ob 2 3 (reF na sa cv rv))) (hs : M sa = some (ia 0 n f)) (hn : n ≤ 64) : Ct G yX7_greatestSize cX7_greatestSize 6 (some .int) (xrm 2 0 0) [.ref q] M (Pr (.int (mxA f n)) M) := by
  refine ct_open (lv := [_, _, _, _, _, _]) hG (by decide +kernel) (Nat.le_of_ble_eq_true rfl) rfl (fun C hC hk => ?_)
  refine x_iconst (v := 0) hC dX7_greatestSize_0 (by decide) ?_
  refine x_istore_n (lv' := [_, _, _, _, _, _]) hC dX7_greatestSize_1 rfl (by decide) rfl ?_
  refine x_aload_n hC dX7_greatestSize_2 rfl rfl ?_
  refine x_get hC 1 h rfl (by decide) q1486 rfl rfl dX7_greatestSize_3 ?_
  refine x_astore_n (lv' := [_, _, _, _, _, _]) hC dX7_greatestSize_6 rfl (by decide) rfl ?_
  refine x_aload_n hC dX7_greatestSize_7 rfl rfl ?_
  refine x_alen hC hs dX7_greatestSize_8 ?_
  dsimp only
  refine x_istore_n (lv' := [_, _, _, _, _, _]) hC dX7_greatestSize_9 rfl (by decide) rfl ?_
  refine x_iconst (v := nI 0) hC dX7_greatestSize_10 (by decide) ?_
  refine x_istore (lv' := [_, _, _, _, _, _]) hC dX7_greatestSize_11 (by decide) rfl ?_
  refine x_up (n := n) (I := fun k => ∀ w5, Wg G C M 0 0 13 [some (.ref q), some (.int (mxA f k)), some (.ref sa), some (.int (nI n)), some (.int (nI k)), w5] []) (fun k hk2 ih w5 => ?_) 0 (Nat.zero_le _) none
  refine x_iload hC dX7_greatestSize_13 rfl ?_
  refine x_iload_n hC dX7_greatestSize_15 rfl rfl ?_
  refine x_icmp_geN (tgt := 41) hC (by omega) (by omega) dX7_greatestSize_16 (by decide) (fun c1 => ?_) (fun c1 => ?_)
  · refine x_iload_n hC dX7_greatestSize_41 rfl rfl ?_
    exact x_iret hC hk dX7_greatestSize_42 (Nat.le_of_ble_eq_true rfl) (Nat.le_of_ble_eq_true rfl) ⟨by rw [show k = n by omega], rfl⟩
  · refine x_aload_n hC dX7_greatestSize_19 rfl rfl ?_
    refine x_iload hC dX7_greatestSize_20 rfl ?_
    refine x_ialdN hC hs c1 (by first | decide | omega) dX7_greatestSize_22 ?_
    refine x_istore (lv' := [_, _, _, _, _, _]) hC dX7_greatestSize_23 (by decide) rfl ?_
    refine x_iload_n hC dX7_greatestSize_25 rfl rfl ?_
    refine x_iload hC dX7_greatestSize_26 rfl ?_
    refine x_callS0 (na := 1) hC (ct_abs hG _ _) (lw_S q1788 q1604 q103 q1605) (by decide +kernel) rfl ⟨Nat.le_of_ble_eq_true rfl, Nat.le_of_ble_eq_true rfl⟩ rfl (Nat.le_of_ble_eq_true rfl) ⟨rfl, rfl⟩ ⟨Nat.le_of_ble_eq_true rfl, Nat.le_of_ble_eq_true rfl⟩ dX7_greatestSize_28 ?_
    rintro _ M ⟨rfl, rfl⟩
    refine x_callS0 (na := 2) hC (ct_max hG _ _ _) (lw_S q2217 q328 q103 q329) (by decide +kernel) rfl ⟨Nat.le_of_ble_eq_true rfl, Nat.le_of_ble_eq_true rfl⟩ rfl (Nat.le_of_ble_eq_true rfl) ⟨rfl, rfl⟩ ⟨Nat.le_of_ble_eq_true rfl, Nat.le_of_ble_eq_true rfl⟩ dX7_greatestSize_31 ?_
    rintro _ M ⟨rfl, rfl⟩
    refine x_istore_n (lv' := [_, _, _, _, _, _]) hC dX7_greatestSize_34 rfl (by decide) rfl ?_
    refine x_iincN (lv' := [_, _, _, _, _, _]) (b := 1) hC dX7_greatestSize_35 rfl (by decide) (by decide) rfl ?_
    refine x_goto (tgt := 13) hC dX7_greatestSize_38 (by decide) ?_
    exact ih c1 _
theorem ct_rbetw (hG : GOK G) (h : M q = some (ob 2 3 (reF na sa cv rv))) (hs : M sa = some (ia 0 n f)) (hn : n ≤ 64) (lo hi : Int32) : Ct G yX7_samplesBetween cX7_samplesBetween 8 (some .int) (xrm 2 0 0) [.ref q, .int lo, .int hi] M (Pr (.int (iS (fun k => xB (lo ≤ f k ∧ f k ≤ hi)) n)) M) := by
  refine ct_open (lv := [_, _, _, _, _, _, _, _]) hG (by decide +kernel) (Nat.le_of_ble_eq_true rfl) rfl (fun C hC hk => ?_)
  refine x_iconst (v := 0) hC dX7_samplesBetween_0 (by decide) ?_
  refine x_istore_n (lv' := [_, _, _, _, _, _, _, _]) hC dX7_samplesBetween_1 rfl (by decide) rfl ?_
  refine x_aload_n hC dX7_samplesBetween_2 rfl rfl ?_
  refine x_get hC 1 h rfl (by decide) q1486 rfl rfl dX7_samplesBetween_3 ?_
  refine x_astore (lv' := [_, _, _, _, _, _, _, _]) hC dX7_samplesBetween_6 (by decide) rfl ?_
  refine x_aload hC dX7_samplesBetween_8 rfl ?_
  refine x_alen hC hs dX7_samplesBetween_10 ?_
  dsimp only
  refine x_istore (lv' := [_, _, _, _, _, _, _, _]) hC dX7_samplesBetween_11 (by decide) rfl ?_
  refine x_iconst (v := nI 0) hC dX7_samplesBetween_13 (by decide) ?_
  refine x_istore (lv' := [_, _, _, _, _, _, _, _]) hC dX7_samplesBetween_14 (by decide) rfl ?_
  refine x_up (n := n) (I := fun k => ∀ w7, Wg G C M 0 0 16 [some (.ref q), some (.int lo), some (.int hi), some (.int (iS (fun k => xB (lo ≤ f k ∧ f k ≤ hi)) k)), some (.ref sa), some (.int (nI n)), some (.int (nI k)), w7] []) (fun k hk2 ih w7 => ?_) 0 (Nat.zero_le _) none
  refine x_iload hC dX7_samplesBetween_16 rfl ?_
  refine x_iload hC dX7_samplesBetween_18 rfl ?_
  refine x_icmp_geN (tgt := 49) hC (by omega) (by omega) dX7_samplesBetween_20 (by decide) (fun c1 => ?_) (fun c1 => ?_)
  · refine x_iload_n hC dX7_samplesBetween_49 rfl rfl ?_
    exact x_iret hC hk dX7_samplesBetween_50 (Nat.le_of_ble_eq_true rfl) (Nat.le_of_ble_eq_true rfl) ⟨by rw [show k = n by omega], rfl⟩
  · have hst : iS (fun k => xB (lo ≤ f k ∧ f k ≤ hi)) (k + 1) = iS (fun k => xB (lo ≤ f k ∧ f k ≤ hi)) k + xB (lo ≤ f k ∧ f k ≤ hi) := rfl
    have ih2 := ih c1
    rw [hst] at ih2
    refine x_aload hC dX7_samplesBetween_23 rfl ?_
    refine x_iload hC dX7_samplesBetween_25 rfl ?_
    refine x_ialdN hC hs c1 (by first | decide | omega) dX7_samplesBetween_27 ?_
    refine x_istore (lv' := [_, _, _, _, _, _, _, _]) hC dX7_samplesBetween_28 (by decide) rfl ?_
    refine x_iload hC dX7_samplesBetween_30 rfl ?_
    refine x_iload_n hC dX7_samplesBetween_32 rfl rfl ?_
    refine x_iload_n hC dX7_samplesBetween_33 rfl rfl ?_
    refine x_callSN0 (na := 3) hC (ct_isBetween hG _ _ _ _) q643 q642 q81 q1584 (by decide +kernel) rfl ⟨Nat.le_of_ble_eq_true rfl, Nat.le_of_ble_eq_true rfl⟩ rfl (Nat.le_of_ble_eq_true rfl) ⟨rfl, rfl⟩ ⟨Nat.le_of_ble_eq_true rfl, Nat.le_of_ble_eq_true rfl⟩ dX7_samplesBetween_34 ?_
    rintro _ M ⟨rfl, rfl⟩
    refine x_if_eqB (tgt := 43) hC dX7_samplesBetween_37 (by decide) (fun c2 => ?_) (fun c2 => ?_)
    · rw [xB_f c2, Int32.add_zero] at ih2
      refine x_iincN (lv' := [_, _, _, _, _, _, _, _]) (b := 1) hC dX7_samplesBetween_43 rfl (by decide) (by decide) rfl ?_
      refine x_goto (tgt := 16) hC dX7_samplesBetween_46 (by decide) ?_
      exact ih2 _
    · rw [xB_t c2] at ih2
      refine x_iinc (lv' := [_, _, _, _, _, _, _, _]) (v := 1) hC dX7_samplesBetween_40 rfl (by decide) (by decide) rfl ?_
      refine x_iincN (lv' := [_, _, _, _, _, _, _, _]) (b := 1) hC dX7_samplesBetween_43 rfl (by decide) (by decide) rfl ?_
      refine x_goto (tgt := 16) hC dX7_samplesBetween_46 (by decide) ?_
      exact ih2 _
theorem ct_rcorr (hG : GOK G) {q' na' sa' : Nat} {f' : Nat → Int32} {cv' rv' : Value} (h : M q = some (ob 2 3 (reF na sa cv rv))) (hs : M sa = some (ia 0 n f)) (h' : M q' = some (ob 2 3 (reF na' sa' cv' rv'))) (hs' : M sa' = some (ia 0 n f')) (hn : n ≤ 64) {s : Nat} (hx : ∀ k, k < n → k ^^^ s < n) : Ct G yX7_correlation cX7_correlation 6 (some .long) (xrm 1 0 0) [.ref q, .ref q', .int (nI s)] M (Pr (.long (jS (fun k => (f k).toInt64 * (f' (k ^^^ s)).toInt64) n)) M) := by
  refine ct_open (lv := [_, _, _, _, _, _]) hG (by decide +kernel) (Nat.le_of_ble_eq_true rfl) rfl (fun C hC hk => ?_)
  refine x_lconst (v := 0) hC dX7_correlation_0 (by decide) ?_
  refine x_lstore_n (lv' := [_, _, _, _, _, _]) hC dX7_correlation_1 rfl (by decide) rfl ?_
  refine x_iconst (v := nI 0) hC dX7_correlation_2 (by decide) ?_
  refine x_istore (lv' := [_, _, _, _, _, _]) hC dX7_correlation_3 (by decide) rfl ?_
  refine x_up (n := n) (I := fun k => Wg G C M 0 0 5 [some (.ref q), some (.ref q'), some (.int (nI s)), some (.long (jS (fun k => (f k).toInt64 * (f' (k ^^^ s)).toInt64) k)), none, some (.int (nI k))] []) (fun k hk2 ih => ?_) 0 (Nat.zero_le _)
  refine x_iload hC dX7_correlation_5 rfl ?_
  refine x_aload_n hC dX7_correlation_7 rfl rfl ?_
  refine x_get hC 1 h rfl (by decide) q1486 rfl rfl dX7_correlation_8 ?_
  refine x_alen hC hs dX7_correlation_11 ?_
  dsimp only
  refine x_icmp_geN (tgt := 43) hC (by omega) (by omega) dX7_correlation_12 (by decide) (fun c1 => ?_) (fun c1 => ?_)
  · refine x_lload_n hC dX7_correlation_43 rfl rfl ?_
    exact x_lret hC hk dX7_correlation_44 (Nat.le_of_ble_eq_true rfl) (Nat.le_of_ble_eq_true rfl) ⟨by rw [show k = n by omega], rfl⟩
  · refine x_lload_n hC dX7_correlation_15 rfl rfl ?_
    refine x_aload_n hC dX7_correlation_16 rfl rfl ?_
    refine x_get hC 1 h rfl (by decide) q1486 rfl rfl dX7_correlation_17 ?_
    refine x_iload hC dX7_correlation_20 rfl ?_
    refine x_ialdN hC hs c1 (by first | decide | omega) dX7_correlation_22 ?_
    refine x_i2l hC dX7_correlation_23 rfl ?_
    refine x_aload_n hC dX7_correlation_24 rfl rfl ?_
    refine x_get hC 1 h' rfl (by decide) q1486 rfl rfl dX7_correlation_25 ?_
    refine x_iload hC dX7_correlation_28 rfl ?_
    refine x_iload_n hC dX7_correlation_30 rfl rfl ?_
    refine x_ixor hC dX7_correlation_31 ?_
    rw [nI_xor]
    refine x_ialdN hC hs' (hx k c1) (by first | decide | omega) dX7_correlation_32 ?_
    refine x_i2l hC dX7_correlation_33 rfl ?_
    refine x_lmul hC dX7_correlation_34 ?_
    refine x_ladd hC dX7_correlation_35 ?_
    refine x_lstore_n (lv' := [_, _, _, _, _, _]) hC dX7_correlation_36 rfl (by decide) rfl ?_
    refine x_iincN (lv' := [_, _, _, _, _, _]) (b := 1) hC dX7_correlation_37 rfl (by decide) (by decide) rfl ?_
    refine x_goto (tgt := 5) hC dX7_correlation_40 (by decide) ?_
    exact ih c1
theorem ct_rdiff (hG : GOK G) (h : M q = some (ob 2 3 (reF na sa cv rv))) (hs : M sa = some (ia 0 n f)) {a g : Nat} {u : Nat → Int32} (ha : M a = some (ia g n u)) (hn : n ≤ 64) : Ct G yX7_differences cX7_differences 4 (some .int) (xrm 1 0 0) [.ref q, .ref a] M (Pr (.int (iS (fun k => xB (f k ≠ u k)) n)) M) := by
  refine ct_open (lv := [_, _, _, _]) hG (by decide +kernel) (Nat.le_of_ble_eq_true rfl) rfl (fun C hC hk => ?_)
  refine x_iconst (v := nI 0) hC dX7_differences_0 (by decide) ?_
  refine x_istore_n (lv' := [_, _, _, _]) hC dX7_differences_1 rfl (by decide) rfl ?_
  refine x_iconst (v := nI 0) hC dX7_differences_2 (by decide) ?_
  refine x_istore_n (lv' := [_, _, _, _]) hC dX7_differences_3 rfl (by decide) rfl ?_
  refine x_up (n := n) (I := fun k => Wg G C M 0 0 4 [some (.ref q), some (.ref a), some (.int (iS (fun k => xB (f k ≠ u k)) k)), some (.int (nI k))] []) (fun k hk2 ih => ?_) 0 (Nat.zero_le _)
  refine x_iload_n hC dX7_differences_4 rfl rfl ?_
  refine x_aload_n hC dX7_differences_5 rfl rfl ?_
  refine x_get hC 1 h rfl (by decide) q1486 rfl rfl dX7_differences_6 ?_
  refine x_alen hC hs dX7_differences_9 ?_
  dsimp only
  refine x_icmp_geN (tgt := 34) hC (by omega) (by omega) dX7_differences_10 (by decide) (fun c1 => ?_) (fun c1 => ?_)
  · refine x_iload_n hC dX7_differences_34 rfl rfl ?_
    exact x_iret hC hk dX7_differences_35 (Nat.le_of_ble_eq_true rfl) (Nat.le_of_ble_eq_true rfl) ⟨by rw [show k = n by omega], rfl⟩
  · have hst : iS (fun k => xB (f k ≠ u k)) (k + 1) = iS (fun k => xB (f k ≠ u k)) k + xB (f k ≠ u k) := rfl
    have ih2 := ih c1
    rw [hst] at ih2
    refine x_aload_n hC dX7_differences_13 rfl rfl ?_
    refine x_get hC 1 h rfl (by decide) q1486 rfl rfl dX7_differences_14 ?_
    refine x_iload_n hC dX7_differences_17 rfl rfl ?_
    refine x_ialdN hC hs c1 (by first | decide | omega) dX7_differences_18 ?_
    refine x_aload_n hC dX7_differences_19 rfl rfl ?_
    refine x_iload_n hC dX7_differences_20 rfl rfl ?_
    refine x_ialdN hC ha c1 (by first | decide | omega) dX7_differences_21 ?_
    refine x_icmp_eq (tgt := 28) hC dX7_differences_22 (by decide) (fun c2 => ?_) (fun c2 => ?_)
    · rw [xB_f (Decidable.not_not.mpr c2), Int32.add_zero] at ih2
      refine x_iincN (lv' := [_, _, _, _]) (b := 1) hC dX7_differences_28 rfl (by decide) (by decide) rfl ?_
      refine x_goto (tgt := 4) hC dX7_differences_31 (by decide) ?_
      exact ih2
    · rw [xB_t c2] at ih2
      refine x_iinc (lv' := [_, _, _, _]) (v := 1) hC dX7_differences_25 rfl (by decide) (by decide) rfl ?_
      refine x_iincN (lv' := [_, _, _, _]) (b := 1) hC dX7_differences_28 rfl (by decide) (by decide) rfl ?_
      refine x_goto (tgt := 4) hC dX7_differences_31 (by decide) ?_
      exact ih2
end R4

