/-! ===== the law's wrappers =====-/
section WRP14
variable {G : X_G} {M : X_M} {T : X_T} {a o : Nat} {S : X_S} {f : Nat → Int64} {fD : Nat → UInt64}
theorem cw_sequency (hG : GOK G) (hR : CRep S M T a) (ho : M o = some (la 11 1 f)) (n x : Int32) : CqW G yX0_sequency cX0_sequency 5 (some .int) [(0, 10, 13, 19)] (xrm 17 22010 80100) [.ref a, .int n, .int x, .ref o] M (WOl T a o S (opSeq n x).1 (opSeq n x).2.toInt64 M) PF := by
  refine cqW_open (lv := [_, _, _, _, _]) hG (by decide +kernel) (Nat.le_of_ble_eq_true rfl) rfl (fun C hC hk hx => ?_)
  obtain ⟨va, ha⟩ := hR.rec
  refine x_aload_n hC dX0_sequency_0 rfl rfl ?_
  refine x_iconst (v := 0) hC dX0_sequency_1 (by decide) ?_
  refine x_aload_n hC dX0_sequency_2 rfl rfl ?_
  refine x_iload_n hC dX0_sequency_3 rfl rfl ?_
  refine x_iload_n hC dX0_sequency_4 rfl rfl ?_
  refine x_qV (k := 1) (n := 6) (na := 2) hC (cq_sequency hG hR _ _) (lw_V q1686 q1687 q1688 q81 q1689) ha rfl rfl (by decide +kernel) rfl ⟨Nat.le_of_ble_eq_true rfl, Nat.le_of_ble_eq_true rfl⟩ rfl (Nat.le_of_ble_eq_true rfl) (Nat.le_of_ble_eq_true rfl) (Nat.le_of_ble_eq_true rfl) ⟨Nat.le_of_ble_eq_true rfl, Nat.le_of_ble_eq_true rfl⟩ dX0_sequency_5 ?_ (fun q9 E9 M9 h9 => ?thr)
  rintro _ M1 ⟨h0, rfl, hR1, hF1⟩
  case thr =>
    obtain ⟨⟨k, hk1, hk2⟩, hR9, hF9⟩ := h9
    rcases k with _ | k
    · cases hk2
      refine x_catchW (name := "java/lang/IllegalArgumentException") hC hx [] (0, 10, 13, 19) [] rfl (fun z hz => by cases hz) (by decide) (by decide) q1332 q442 ?_
      refine x_astore (lv' := [_, _, _, _, _]) hC dX0_sequency_13 (by decide) rfl ?_
      refine x_iconst (v := 1) hC dX0_sequency_15 (by decide) ?_
      exact x_iret hC hk dX0_sequency_16 (Nat.le_of_ble_eq_true rfl) (Nat.le_of_ble_eq_true rfl) (WOl.x (k := 0) hk1 (by decide) hR9 hF9 ho)
    · cases hk2
  have ho1 := hF1 o _ ho pw11
  refine x_i2l hC dX0_sequency_8 rfl ?_
  refine x_last hC ho1 (by decide) in01 dX0_sequency_9 ?_
  refine x_goto (tgt := 17) hC dX0_sequency_10 (by decide) ?_
  refine x_iconst (v := 0) hC dX0_sequency_17 (by decide) ?_
  exact x_iret hC hk dX0_sequency_18 (Nat.le_of_ble_eq_true rfl) (Nat.le_of_ble_eq_true rfl) (WOl.mk h0 hR1 hF1 ho1)
theorem cw_indexOfSequency (hG : GOK G) (hR : CRep S M T a) (ho : M o = some (la 11 1 f)) (n x : Int32) : CqW G yX0_indexOfSequency cX0_indexOfSequency 5 (some .int) [(0, 10, 13, 19)] (xrm 17 22010 80100) [.ref a, .int n, .int x, .ref o] M (WOl T a o S (opIdxSeq n x).1 (opIdxSeq n x).2.toInt64 M) PF := by
  refine cqW_open (lv := [_, _, _, _, _]) hG (by decide +kernel) (Nat.le_of_ble_eq_true rfl) rfl (fun C hC hk hx => ?_)
  obtain ⟨va, ha⟩ := hR.rec
  refine x_aload_n hC dX0_indexOfSequency_0 rfl rfl ?_
  refine x_iconst (v := 0) hC dX0_indexOfSequency_1 (by decide) ?_
  refine x_aload_n hC dX0_indexOfSequency_2 rfl rfl ?_
  refine x_iload_n hC dX0_indexOfSequency_3 rfl rfl ?_
  refine x_iload_n hC dX0_indexOfSequency_4 rfl rfl ?_
  refine x_qV (k := 1) (n := 6) (na := 2) hC (cq_indexOfSequency hG hR _ _) (lw_V q1699 q1700 q1701 q81 q1702) ha rfl rfl (by decide +kernel) rfl ⟨Nat.le_of_ble_eq_true rfl, Nat.le_of_ble_eq_true rfl⟩ rfl (Nat.le_of_ble_eq_true rfl) (Nat.le_of_ble_eq_true rfl) (Nat.le_of_ble_eq_true rfl) ⟨Nat.le_of_ble_eq_true rfl, Nat.le_of_ble_eq_true rfl⟩ dX0_indexOfSequency_5 ?_ (fun q9 E9 M9 h9 => ?thr)
  rintro _ M1 ⟨h0, rfl, hR1, hF1⟩
  case thr =>
    obtain ⟨⟨k, hk1, hk2⟩, hR9, hF9⟩ := h9
    rcases k with _ | k
    · cases hk2
      refine x_catchW (name := "java/lang/IllegalArgumentException") hC hx [] (0, 10, 13, 19) [] rfl (fun z hz => by cases hz) (by decide) (by decide) q1332 q442 ?_
      refine x_astore (lv' := [_, _, _, _, _]) hC dX0_indexOfSequency_13 (by decide) rfl ?_
      refine x_iconst (v := 1) hC dX0_indexOfSequency_15 (by decide) ?_
      exact x_iret hC hk dX0_indexOfSequency_16 (Nat.le_of_ble_eq_true rfl) (Nat.le_of_ble_eq_true rfl) (WOl.x (k := 0) hk1 (by decide) hR9 hF9 ho)
    · cases hk2
  have ho1 := hF1 o _ ho pw11
  refine x_i2l hC dX0_indexOfSequency_8 rfl ?_
  refine x_last hC ho1 (by decide) in01 dX0_indexOfSequency_9 ?_
  refine x_goto (tgt := 17) hC dX0_indexOfSequency_10 (by decide) ?_
  refine x_iconst (v := 0) hC dX0_indexOfSequency_17 (by decide) ?_
  exact x_iret hC hk dX0_indexOfSequency_18 (Nat.le_of_ble_eq_true rfl) (Nat.le_of_ble_eq_true rfl) (WOl.mk h0 hR1 hF1 ho1)
theorem cw_coefficient (hG : GOK G) (hR : CRep S M T a) (ho : M o = some (la 11 1 f)) (x z : Int32) : CqW G yX0_coefficient cX0_coefficient 5 (some .int) [(0, 10, 13, 28)] (xrm 17 22010 80100) [.ref a, .int x, .int z, .ref o] M (WOl T a o S (opCoef S x z).1 (opCoef S x z).2.toInt64 M) PF := by
  refine cqW_open (lv := [_, _, _, _, _]) hG (by decide +kernel) (Nat.le_of_ble_eq_true rfl) rfl (fun C hC hk hx => ?_)
  obtain ⟨va, ha⟩ := hR.rec
  refine x_aload_n hC dX0_coefficient_0 rfl rfl ?_
  refine x_iconst (v := 0) hC dX0_coefficient_1 (by decide) ?_
  refine x_aload_n hC dX0_coefficient_2 rfl rfl ?_
  refine x_iload_n hC dX0_coefficient_3 rfl rfl ?_
  refine x_iload_n hC dX0_coefficient_4 rfl rfl ?_
  refine x_qV (k := 3) (n := 76) (na := 2) hC (cq_coefficient hG hR _ _) (lw_V q1709 q1710 q1711 q81 q1712) ha rfl rfl (by decide +kernel) rfl ⟨Nat.le_of_ble_eq_true rfl, Nat.le_of_ble_eq_true rfl⟩ rfl (Nat.le_of_ble_eq_true rfl) (Nat.le_of_ble_eq_true rfl) (Nat.le_of_ble_eq_true rfl) ⟨Nat.le_of_ble_eq_true rfl, Nat.le_of_ble_eq_true rfl⟩ dX0_coefficient_5 ?_ (fun q9 E9 M9 h9 => ?thr)
  rintro _ M1 ⟨h0, rfl, hR1, hF1⟩
  case thr =>
    obtain ⟨⟨k, hk1, hk2⟩, hR9, hF9⟩ := h9
    rcases k with _ | k
    · cases hk2
      refine x_catchW (name := "java/lang/IndexOutOfBoundsException") hC hx [] (0, 10, 13, 28) [] rfl (fun z hz => by cases hz) (by decide) (by decide) q1511 q1543 ?_
      refine x_astore (lv' := [_, _, _, _, _]) hC dX0_coefficient_13 (by decide) rfl ?_
      refine x_iconst (v := 1) hC dX0_coefficient_15 (by decide) ?_
      exact x_iret hC hk dX0_coefficient_16 (Nat.le_of_ble_eq_true rfl) (Nat.le_of_ble_eq_true rfl) (WOl.x (k := 0) hk1 (by decide) hR9 hF9 ho)
    · cases hk2
  have ho1 := hF1 o _ ho pw11
  refine x_i2l hC dX0_coefficient_8 rfl ?_
  refine x_last hC ho1 (by decide) in01 dX0_coefficient_9 ?_
  refine x_goto (tgt := 17) hC dX0_coefficient_10 (by decide) ?_
  refine x_iconst (v := 0) hC dX0_coefficient_17 (by decide) ?_
  exact x_iret hC hk dX0_coefficient_18 (Nat.le_of_ble_eq_true rfl) (Nat.le_of_ble_eq_true rfl) (WOl.mk h0 hR1 hF1 ho1)
theorem cw_tones (hG : GOK G) (hR : CRep S M T a) (ho : M o = some (la 11 1 f)) (x : Int32) : CqW G yX0_tones cX0_tones 4 (some .int) [(0, 9, 12, 28)] (xrm 17 22010 80100) [.ref a, .int x, .ref o] M (WOl T a o S (opTones S x).1 (opTones S x).2.toInt64 M) PF := by
  refine cqW_open (lv := [_, _, _, _]) hG (by decide +kernel) (Nat.le_of_ble_eq_true rfl) rfl (fun C hC hk hx => ?_)
  obtain ⟨va, ha⟩ := hR.rec
  refine x_aload_n hC dX0_tones_0 rfl rfl ?_
  refine x_iconst (v := 0) hC dX0_tones_1 (by decide) ?_
  refine x_aload_n hC dX0_tones_2 rfl rfl ?_
  refine x_iload_n hC dX0_tones_3 rfl rfl ?_
  refine x_qV (k := 2) (n := 70) (na := 1) hC (cq_tones hG hR _) (lw_V q1728 q1729 q1730 q81 q1731) ha rfl rfl (by decide +kernel) rfl ⟨Nat.le_of_ble_eq_true rfl, Nat.le_of_ble_eq_true rfl⟩ rfl (Nat.le_of_ble_eq_true rfl) (Nat.le_of_ble_eq_true rfl) (Nat.le_of_ble_eq_true rfl) ⟨Nat.le_of_ble_eq_true rfl, Nat.le_of_ble_eq_true rfl⟩ dX0_tones_4 ?_ (fun q9 E9 M9 h9 => ?thr)
  rintro _ M1 ⟨h0, rfl, hR1, hF1⟩
  case thr =>
    obtain ⟨⟨k, hk1, hk2⟩, hR9, hF9⟩ := h9
    rcases k with _ | k
    · cases hk2
      refine x_catchW (name := "java/lang/IndexOutOfBoundsException") hC hx [] (0, 9, 12, 28) [] rfl (fun z hz => by cases hz) (by decide) (by decide) q1511 q1543 ?_
      refine x_astore_n (lv' := [_, _, _, _]) hC dX0_tones_12 rfl (by decide) rfl ?_
      refine x_iconst (v := 1) hC dX0_tones_13 (by decide) ?_
      exact x_iret hC hk dX0_tones_14 (Nat.le_of_ble_eq_true rfl) (Nat.le_of_ble_eq_true rfl) (WOl.x (k := 0) hk1 (by decide) hR9 hF9 ho)
    · cases hk2
  have ho1 := hF1 o _ ho pw11
  refine x_i2l hC dX0_tones_7 rfl ?_
  refine x_last hC ho1 (by decide) in01 dX0_tones_8 ?_
  refine x_goto (tgt := 15) hC dX0_tones_9 (by decide) ?_
  refine x_iconst (v := 0) hC dX0_tones_15 (by decide) ?_
  exact x_iret hC hk dX0_tones_16 (Nat.le_of_ble_eq_true rfl) (Nat.le_of_ble_eq_true rfl) (WOl.mk h0 hR1 hF1 ho1)
theorem cw_bandEnergy (hG : GOK G) (hR : CRep S M T a) (ho : M o = some (la 11 1 f)) (x lo hi : Int32) : CqW G yX0_bandEnergy cX0_bandEnergy 6 (some .int) [(0, 11, 14, 28), (0, 11, 18, 19)] (xrm 17 22010 80100) [.ref a, .int x, .int lo, .int hi, .ref o] M (WOl T a o S (opBand S x lo hi).1 (opBand S x lo hi).2 M) PF := by
  refine cqW_open (lv := [_, _, _, _, _, _]) hG (by decide +kernel) (Nat.le_of_ble_eq_true rfl) rfl (fun C hC hk hx => ?_)
  obtain ⟨va, ha⟩ := hR.rec
  refine x_aload hC dX0_bandEnergy_0 rfl ?_
  refine x_iconst (v := 0) hC dX0_bandEnergy_2 (by decide) ?_
  refine x_aload_n hC dX0_bandEnergy_3 rfl rfl ?_
  refine x_iload_n hC dX0_bandEnergy_4 rfl rfl ?_
  refine x_iload_n hC dX0_bandEnergy_5 rfl rfl ?_
  refine x_iload_n hC dX0_bandEnergy_6 rfl rfl ?_
  refine x_qV (k := 3) (n := 76) (na := 3) hC (cq_bandEnergy hG hR _ _ _) (lw_V q1735 q1736 q1737 q81 q1738) ha rfl rfl (by decide +kernel) rfl ⟨Nat.le_of_ble_eq_true rfl, Nat.le_of_ble_eq_true rfl⟩ rfl (Nat.le_of_ble_eq_true rfl) (Nat.le_of_ble_eq_true rfl) (Nat.le_of_ble_eq_true rfl) ⟨Nat.le_of_ble_eq_true rfl, Nat.le_of_ble_eq_true rfl⟩ dX0_bandEnergy_7 ?_ (fun q9 E9 M9 h9 => ?thr)
  rintro _ M1 ⟨h0, rfl, hR1, hF1⟩
  case thr =>
    obtain ⟨⟨k, hk1, hk2⟩, hR9, hF9⟩ := h9
    rcases k with _ | k
    · cases hk2
      refine x_catchW (name := "java/lang/IndexOutOfBoundsException") hC hx [] (0, 11, 14, 28) [(0, 11, 18, 19)] rfl (fun z hz => by cases hz) (by decide) (by decide) q1511 q1543 ?_
      refine x_astore (lv' := [_, _, _, _, _, _]) hC dX0_bandEnergy_14 (by decide) rfl ?_
      refine x_iconst (v := 1) hC dX0_bandEnergy_16 (by decide) ?_
      exact x_iret hC hk dX0_bandEnergy_17 (Nat.le_of_ble_eq_true rfl) (Nat.le_of_ble_eq_true rfl) (WOl.x (k := 0) hk1 (by decide) hR9 hF9 ho)
    rcases k with _ | k
    · cases hk2
      refine x_catchW (name := "java/lang/IllegalArgumentException") hC hx [(0, 11, 14, 28)] (0, 11, 18, 19) [] rfl (fun z hz => by simp only [List.mem_cons, List.not_mem_nil, or_false] at hz; subst hz; exact ⟨by decide, _, q1511, nw_IAE_IOB hG⟩) (by decide) (by decide) q1332 q442 ?_
      refine x_astore (lv' := [_, _, _, _, _, _]) hC dX0_bandEnergy_18 (by decide) rfl ?_
      refine x_iconst (v := 2) hC dX0_bandEnergy_20 (by decide) ?_
      exact x_iret hC hk dX0_bandEnergy_21 (Nat.le_of_ble_eq_true rfl) (Nat.le_of_ble_eq_true rfl) (WOl.x (k := 1) hk1 (by decide) hR9 hF9 ho)
    · cases hk2
  have ho1 := hF1 o _ ho pw11
  refine x_last hC ho1 (by decide) in01 dX0_bandEnergy_10 ?_
  refine x_goto (tgt := 22) hC dX0_bandEnergy_11 (by decide) ?_
  refine x_iconst (v := 0) hC dX0_bandEnergy_22 (by decide) ?_
  exact x_iret hC hk dX0_bandEnergy_23 (Nat.le_of_ble_eq_true rfl) (Nat.le_of_ble_eq_true rfl) (WOl.mk h0 hR1 hF1 ho1)
theorem cw_strongestBand (hG : GOK G) (hR : CRep S M T a) (ho : M o = some (la 11 1 f)) (x w : Int32) : CqW G yX0_strongestBand cX0_strongestBand 5 (some .int) [(0, 10, 13, 28), (0, 10, 17, 19)] (xrm 17 22010 80100) [.ref a, .int x, .int w, .ref o] M (WOl T a o S (opStrong S x w).1 (opStrong S x w).2.toInt64 M) PF := by
  refine cqW_open (lv := [_, _, _, _, _]) hG (by decide +kernel) (Nat.le_of_ble_eq_true rfl) rfl (fun C hC hk hx => ?_)
  obtain ⟨va, ha⟩ := hR.rec
  refine x_aload_n hC dX0_strongestBand_0 rfl rfl ?_
  refine x_iconst (v := 0) hC dX0_strongestBand_1 (by decide) ?_
  refine x_aload_n hC dX0_strongestBand_2 rfl rfl ?_
  refine x_iload_n hC dX0_strongestBand_3 rfl rfl ?_
  refine x_iload_n hC dX0_strongestBand_4 rfl rfl ?_
  refine x_qV (k := 3) (n := 76) (na := 2) hC (cq_strongestBand hG hR _ _) (lw_V q1760 q1761 q1762 q81 q1763) ha rfl rfl (by decide +kernel) rfl ⟨Nat.le_of_ble_eq_true rfl, Nat.le_of_ble_eq_true rfl⟩ rfl (Nat.le_of_ble_eq_true rfl) (Nat.le_of_ble_eq_true rfl) (Nat.le_of_ble_eq_true rfl) ⟨Nat.le_of_ble_eq_true rfl, Nat.le_of_ble_eq_true rfl⟩ dX0_strongestBand_5 ?_ (fun q9 E9 M9 h9 => ?thr)
  rintro _ M1 ⟨h0, rfl, hR1, hF1⟩
  case thr =>
    obtain ⟨⟨k, hk1, hk2⟩, hR9, hF9⟩ := h9
    rcases k with _ | k
    · cases hk2
      refine x_catchW (name := "java/lang/IndexOutOfBoundsException") hC hx [] (0, 10, 13, 28) [(0, 10, 17, 19)] rfl (fun z hz => by cases hz) (by decide) (by decide) q1511 q1543 ?_
      refine x_astore (lv' := [_, _, _, _, _]) hC dX0_strongestBand_13 (by decide) rfl ?_
      refine x_iconst (v := 1) hC dX0_strongestBand_15 (by decide) ?_
      exact x_iret hC hk dX0_strongestBand_16 (Nat.le_of_ble_eq_true rfl) (Nat.le_of_ble_eq_true rfl) (WOl.x (k := 0) hk1 (by decide) hR9 hF9 ho)
    rcases k with _ | k
    · cases hk2
      refine x_catchW (name := "java/lang/IllegalArgumentException") hC hx [(0, 10, 13, 28)] (0, 10, 17, 19) [] rfl (fun z hz => by simp only [List.mem_cons, List.not_mem_nil, or_false] at hz; subst hz; exact ⟨by decide, _, q1511, nw_IAE_IOB hG⟩) (by decide) (by decide) q1332 q442 ?_
      refine x_astore (lv' := [_, _, _, _, _]) hC dX0_strongestBand_17 (by decide) rfl ?_
      refine x_iconst (v := 2) hC dX0_strongestBand_19 (by decide) ?_
      exact x_iret hC hk dX0_strongestBand_20 (Nat.le_of_ble_eq_true rfl) (Nat.le_of_ble_eq_true rfl) (WOl.x (k := 1) hk1 (by decide) hR9 hF9 ho)
    · cases hk2
  have ho1 := hF1 o _ ho pw11
  refine x_i2l hC dX0_strongestBand_8 rfl ?_
  refine x_last hC ho1 (by decide) in01 dX0_strongestBand_9 ?_
  refine x_goto (tgt := 21) hC dX0_strongestBand_10 (by decide) ?_
  refine x_iconst (v := 0) hC dX0_strongestBand_21 (by decide) ?_
  exact x_iret hC hk dX0_strongestBand_22 (Nat.le_of_ble_eq_true rfl) (Nat.le_of_ble_eq_true rfl) (WOl.mk h0 hR1 hF1 ho1)
theorem cw_tonesAbove (hG : GOK G) (hR : CRep S M T a) (ho : M o = some (la 11 1 f)) (x t : Int32) : CqW G yX0_tonesAbove cX0_tonesAbove 5 (some .int) [(0, 10, 13, 28), (0, 10, 17, 19)] (xrm 17 22010 80100) [.ref a, .int x, .int t, .ref o] M (WOl T a o S (opAbove S x t).1 (opAbove S x t).2.toInt64 M) PF := by
  refine cqW_open (lv := [_, _, _, _, _]) hG (by decide +kernel) (Nat.le_of_ble_eq_true rfl) rfl (fun C hC hk hx => ?_)
  obtain ⟨va, ha⟩ := hR.rec
  refine x_aload_n hC dX0_tonesAbove_0 rfl rfl ?_
  refine x_iconst (v := 0) hC dX0_tonesAbove_1 (by decide) ?_
  refine x_aload_n hC dX0_tonesAbove_2 rfl rfl ?_
  refine x_iload_n hC dX0_tonesAbove_3 rfl rfl ?_
  refine x_iload_n hC dX0_tonesAbove_4 rfl rfl ?_
  refine x_qV (k := 3) (n := 76) (na := 2) hC (cq_tonesAbove hG hR _ _) (lw_V q1772 q1773 q1774 q81 q1775) ha rfl rfl (by decide +kernel) rfl ⟨Nat.le_of_ble_eq_true rfl, Nat.le_of_ble_eq_true rfl⟩ rfl (Nat.le_of_ble_eq_true rfl) (Nat.le_of_ble_eq_true rfl) (Nat.le_of_ble_eq_true rfl) ⟨Nat.le_of_ble_eq_true rfl, Nat.le_of_ble_eq_true rfl⟩ dX0_tonesAbove_5 ?_ (fun q9 E9 M9 h9 => ?thr)
  rintro _ M1 ⟨h0, rfl, hR1, hF1⟩
  case thr =>
    obtain ⟨⟨k, hk1, hk2⟩, hR9, hF9⟩ := h9
    rcases k with _ | k
    · cases hk2
      refine x_catchW (name := "java/lang/IndexOutOfBoundsException") hC hx [] (0, 10, 13, 28) [(0, 10, 17, 19)] rfl (fun z hz => by cases hz) (by decide) (by decide) q1511 q1543 ?_
      refine x_astore (lv' := [_, _, _, _, _]) hC dX0_tonesAbove_13 (by decide) rfl ?_
      refine x_iconst (v := 1) hC dX0_tonesAbove_15 (by decide) ?_
      exact x_iret hC hk dX0_tonesAbove_16 (Nat.le_of_ble_eq_true rfl) (Nat.le_of_ble_eq_true rfl) (WOl.x (k := 0) hk1 (by decide) hR9 hF9 ho)
    rcases k with _ | k
    · cases hk2
      refine x_catchW (name := "java/lang/IllegalArgumentException") hC hx [(0, 10, 13, 28)] (0, 10, 17, 19) [] rfl (fun z hz => by simp only [List.mem_cons, List.not_mem_nil, or_false] at hz; subst hz; exact ⟨by decide, _, q1511, nw_IAE_IOB hG⟩) (by decide) (by decide) q1332 q442 ?_
      refine x_astore (lv' := [_, _, _, _, _]) hC dX0_tonesAbove_17 (by decide) rfl ?_
      refine x_iconst (v := 2) hC dX0_tonesAbove_19 (by decide) ?_
      exact x_iret hC hk dX0_tonesAbove_20 (Nat.le_of_ble_eq_true rfl) (Nat.le_of_ble_eq_true rfl) (WOl.x (k := 1) hk1 (by decide) hR9 hF9 ho)
    · cases hk2
  have ho1 := hF1 o _ ho pw11
  refine x_i2l hC dX0_tonesAbove_8 rfl ?_
  refine x_last hC ho1 (by decide) in01 dX0_tonesAbove_9 ?_
  refine x_goto (tgt := 21) hC dX0_tonesAbove_10 (by decide) ?_
  refine x_iconst (v := 0) hC dX0_tonesAbove_21 (by decide) ?_
  exact x_iret hC hk dX0_tonesAbove_22 (Nat.le_of_ble_eq_true rfl) (Nat.le_of_ble_eq_true rfl) (WOl.mk h0 hR1 hF1 ho1)
theorem cw_meanSequency (hG : GOK G) (hR : CRep S M T a) (ho : M o = some (da 11 1 fD)) (x : Int32) : CqW G yX0_meanSequency cX0_meanSequency 4 (some .int) [(0, 8, 11, 28)] (xrm 17 22010 80100) [.ref a, .int x, .ref o] M (WOd T a o S (opMeanSeq S x).1 (opMeanSeq S x).2 M) PF := by
  refine cqW_open (lv := [_, _, _, _]) hG (by decide +kernel) (Nat.le_of_ble_eq_true rfl) rfl (fun C hC hk hx => ?_)
  obtain ⟨va, ha⟩ := hR.rec
  refine x_aload_n hC dX0_meanSequency_0 rfl rfl ?_
  refine x_iconst (v := 0) hC dX0_meanSequency_1 (by decide) ?_
  refine x_aload_n hC dX0_meanSequency_2 rfl rfl ?_
  refine x_iload_n hC dX0_meanSequency_3 rfl rfl ?_
  refine x_qV (k := 2) (n := 70) (na := 1) hC (cq_meanSequency hG hR _) (lw_V q1792 q1793 q1794 q81 q1795) ha rfl rfl (by decide +kernel) rfl ⟨Nat.le_of_ble_eq_true rfl, Nat.le_of_ble_eq_true rfl⟩ rfl (Nat.le_of_ble_eq_true rfl) (Nat.le_of_ble_eq_true rfl) (Nat.le_of_ble_eq_true rfl) ⟨Nat.le_of_ble_eq_true rfl, Nat.le_of_ble_eq_true rfl⟩ dX0_meanSequency_4 ?_ (fun q9 E9 M9 h9 => ?thr)
  rintro _ M1 ⟨h0, rfl, hR1, hF1⟩
  case thr =>
    obtain ⟨⟨k, hk1, hk2⟩, hR9, hF9⟩ := h9
    rcases k with _ | k
    · cases hk2
      refine x_catchW (name := "java/lang/IndexOutOfBoundsException") hC hx [] (0, 8, 11, 28) [] rfl (fun z hz => by cases hz) (by decide) (by decide) q1511 q1543 ?_
      refine x_astore_n (lv' := [_, _, _, _]) hC dX0_meanSequency_11 rfl (by decide) rfl ?_
      refine x_iconst (v := 1) hC dX0_meanSequency_12 (by decide) ?_
      exact x_iret hC hk dX0_meanSequency_13 (Nat.le_of_ble_eq_true rfl) (Nat.le_of_ble_eq_true rfl) (WOd.x (k := 0) hk1 (by decide) hR9 hF9 ho)
    · cases hk2
  have ho1 := hF1 o _ ho pw11
  refine x_dast hC ho1 (by decide) in01 dX0_meanSequency_7 ?_
  refine x_goto (tgt := 14) hC dX0_meanSequency_8 (by decide) ?_
  refine x_iconst (v := 0) hC dX0_meanSequency_14 (by decide) ?_
  exact x_iret hC hk dX0_meanSequency_15 (Nat.le_of_ble_eq_true rfl) (Nat.le_of_ble_eq_true rfl) (WOd.mk h0 hR1 hF1 ho1)
theorem cw_peak (hG : GOK G) (hR : CRep S M T a) (ho : M o = some (la 11 1 f)) (x z : Int32) : CqW G yX0_peak cX0_peak 5 (some .int) [(0, 10, 13, 28)] (xrm 17 22010 80100) [.ref a, .int x, .int z, .ref o] M (WOl T a o S (opPeak S x z).1 (opPeak S x z).2.toInt64 M) PF := by
  refine cqW_open (lv := [_, _, _, _, _]) hG (by decide +kernel) (Nat.le_of_ble_eq_true rfl) rfl (fun C hC hk hx => ?_)
  obtain ⟨va, ha⟩ := hR.rec
  refine x_aload_n hC dX0_peak_0 rfl rfl ?_
  refine x_iconst (v := 0) hC dX0_peak_1 (by decide) ?_
  refine x_aload_n hC dX0_peak_2 rfl rfl ?_
  refine x_iload_n hC dX0_peak_3 rfl rfl ?_
  refine x_iload_n hC dX0_peak_4 rfl rfl ?_
  refine x_qV (k := 4) (n := 140) (na := 2) hC (cq_peak hG hR _ _) (lw_V q1806 q1807 q1808 q81 q1809) ha rfl rfl (by decide +kernel) rfl ⟨Nat.le_of_ble_eq_true rfl, Nat.le_of_ble_eq_true rfl⟩ rfl (Nat.le_of_ble_eq_true rfl) (Nat.le_of_ble_eq_true rfl) (Nat.le_of_ble_eq_true rfl) ⟨Nat.le_of_ble_eq_true rfl, Nat.le_of_ble_eq_true rfl⟩ dX0_peak_5 ?_ (fun q9 E9 M9 h9 => ?thr)
  rintro _ M1 ⟨h0, rfl, hR1, hF1⟩
  case thr =>
    obtain ⟨⟨k, hk1, hk2⟩, hR9, hF9⟩ := h9
    rcases k with _ | k
    · cases hk2
      refine x_catchW (name := "java/lang/IndexOutOfBoundsException") hC hx [] (0, 10, 13, 28) [] rfl (fun z hz => by cases hz) (by decide) (by decide) q1511 q1543 ?_
      refine x_astore (lv' := [_, _, _, _, _]) hC dX0_peak_13 (by decide) rfl ?_
      refine x_iconst (v := 1) hC dX0_peak_15 (by decide) ?_
      exact x_iret hC hk dX0_peak_16 (Nat.le_of_ble_eq_true rfl) (Nat.le_of_ble_eq_true rfl) (WOl.x (k := 0) hk1 (by decide) hR9 hF9 ho)
    · cases hk2
  have ho1 := hF1 o _ ho pw11
  refine x_i2l hC dX0_peak_8 rfl ?_
  refine x_last hC ho1 (by decide) in01 dX0_peak_9 ?_
  refine x_goto (tgt := 17) hC dX0_peak_10 (by decide) ?_
  refine x_iconst (v := 0) hC dX0_peak_17 (by decide) ?_
  exact x_iret hC hk dX0_peak_18 (Nat.le_of_ble_eq_true rfl) (Nat.le_of_ble_eq_true rfl) (WOl.mk h0 hR1 hF1 ho1)
theorem cw_rank (hG : GOK G) (hR : CRep S M T a) (ho : M o = some (la 11 1 f)) (x z : Int32) : CqW G yX0_rank cX0_rank 5 (some .int) [(0, 10, 13, 28)] (xrm 17 22010 80100) [.ref a, .int x, .int z, .ref o] M (WOl T a o S (opRank S x z).1 (opRank S x z).2.toInt64 M) PF := by
  refine cqW_open (lv := [_, _, _, _, _]) hG (by decide +kernel) (Nat.le_of_ble_eq_true rfl) rfl (fun C hC hk hx => ?_)
  obtain ⟨va, ha⟩ := hR.rec
  refine x_aload_n hC dX0_rank_0 rfl rfl ?_
  refine x_iconst (v := 0) hC dX0_rank_1 (by decide) ?_
  refine x_aload_n hC dX0_rank_2 rfl rfl ?_
  refine x_iload_n hC dX0_rank_3 rfl rfl ?_
  refine x_iload_n hC dX0_rank_4 rfl rfl ?_
  refine x_qV (k := 4) (n := 140) (na := 2) hC (cq_rank hG hR _ _) (lw_V q1821 q1822 q1823 q81 q1824) ha rfl rfl (by decide +kernel) rfl ⟨Nat.le_of_ble_eq_true rfl, Nat.le_of_ble_eq_true rfl⟩ rfl (Nat.le_of_ble_eq_true rfl) (Nat.le_of_ble_eq_true rfl) (Nat.le_of_ble_eq_true rfl) ⟨Nat.le_of_ble_eq_true rfl, Nat.le_of_ble_eq_true rfl⟩ dX0_rank_5 ?_ (fun q9 E9 M9 h9 => ?thr)
  rintro _ M1 ⟨h0, rfl, hR1, hF1⟩
  case thr =>
    obtain ⟨⟨k, hk1, hk2⟩, hR9, hF9⟩ := h9
    rcases k with _ | k
    · cases hk2
      refine x_catchW (name := "java/lang/IndexOutOfBoundsException") hC hx [] (0, 10, 13, 28) [] rfl (fun z hz => by cases hz) (by decide) (by decide) q1511 q1543 ?_
      refine x_astore (lv' := [_, _, _, _, _]) hC dX0_rank_13 (by decide) rfl ?_
      refine x_iconst (v := 1) hC dX0_rank_15 (by decide) ?_
      exact x_iret hC hk dX0_rank_16 (Nat.le_of_ble_eq_true rfl) (Nat.le_of_ble_eq_true rfl) (WOl.x (k := 0) hk1 (by decide) hR9 hF9 ho)
    · cases hk2
  have ho1 := hF1 o _ ho pw11
  refine x_i2l hC dX0_rank_8 rfl ?_
  refine x_last hC ho1 (by decide) in01 dX0_rank_9 ?_
  refine x_goto (tgt := 17) hC dX0_rank_10 (by decide) ?_
  refine x_iconst (v := 0) hC dX0_rank_17 (by decide) ?_
  exact x_iret hC hk dX0_rank_18 (Nat.le_of_ble_eq_true rfl) (Nat.le_of_ble_eq_true rfl) (WOl.mk h0 hR1 hF1 ho1)
theorem cw_peaksFor (hG : GOK G) (hR : CRep S M T a) (ho : M o = some (la 11 1 f)) (x p : Int32) : CqW G yX0_peaksFor cX0_peaksFor 5 (some .int) [(0, 10, 13, 28), (0, 10, 17, 19)] (xrm 17 22010 80100) [.ref a, .int x, .int p, .ref o] M (WOl T a o S (opNeed S x p).1 (opNeed S x p).2.toInt64 M) PF := by
  refine cqW_open (lv := [_, _, _, _, _]) hG (by decide +kernel) (Nat.le_of_ble_eq_true rfl) rfl (fun C hC hk hx => ?_)
  obtain ⟨va, ha⟩ := hR.rec
  refine x_aload_n hC dX0_peaksFor_0 rfl rfl ?_
  refine x_iconst (v := 0) hC dX0_peaksFor_1 (by decide) ?_
  refine x_aload_n hC dX0_peaksFor_2 rfl rfl ?_
  refine x_iload_n hC dX0_peaksFor_3 rfl rfl ?_
  refine x_iload_n hC dX0_peaksFor_4 rfl rfl ?_
  refine x_qV (k := 4) (n := 140) (na := 2) hC (cq_peaksFor hG hR _ _) (lw_V q1833 q1834 q1835 q81 q1836) ha rfl rfl (by decide +kernel) rfl ⟨Nat.le_of_ble_eq_true rfl, Nat.le_of_ble_eq_true rfl⟩ rfl (Nat.le_of_ble_eq_true rfl) (Nat.le_of_ble_eq_true rfl) (Nat.le_of_ble_eq_true rfl) ⟨Nat.le_of_ble_eq_true rfl, Nat.le_of_ble_eq_true rfl⟩ dX0_peaksFor_5 ?_ (fun q9 E9 M9 h9 => ?thr)
  rintro _ M1 ⟨h0, rfl, hR1, hF1⟩
  case thr =>
    obtain ⟨⟨k, hk1, hk2⟩, hR9, hF9⟩ := h9
    rcases k with _ | k
    · cases hk2
      refine x_catchW (name := "java/lang/IndexOutOfBoundsException") hC hx [] (0, 10, 13, 28) [(0, 10, 17, 19)] rfl (fun z hz => by cases hz) (by decide) (by decide) q1511 q1543 ?_
      refine x_astore (lv' := [_, _, _, _, _]) hC dX0_peaksFor_13 (by decide) rfl ?_
      refine x_iconst (v := 1) hC dX0_peaksFor_15 (by decide) ?_
      exact x_iret hC hk dX0_peaksFor_16 (Nat.le_of_ble_eq_true rfl) (Nat.le_of_ble_eq_true rfl) (WOl.x (k := 0) hk1 (by decide) hR9 hF9 ho)
    rcases k with _ | k
    · cases hk2
      refine x_catchW (name := "java/lang/IllegalArgumentException") hC hx [(0, 10, 13, 28)] (0, 10, 17, 19) [] rfl (fun z hz => by simp only [List.mem_cons, List.not_mem_nil, or_false] at hz; subst hz; exact ⟨by decide, _, q1511, nw_IAE_IOB hG⟩) (by decide) (by decide) q1332 q442 ?_
      refine x_astore (lv' := [_, _, _, _, _]) hC dX0_peaksFor_17 (by decide) rfl ?_
      refine x_iconst (v := 2) hC dX0_peaksFor_19 (by decide) ?_
      exact x_iret hC hk dX0_peaksFor_20 (Nat.le_of_ble_eq_true rfl) (Nat.le_of_ble_eq_true rfl) (WOl.x (k := 1) hk1 (by decide) hR9 hF9 ho)
    · cases hk2
  have ho1 := hF1 o _ ho pw11
  refine x_i2l hC dX0_peaksFor_8 rfl ?_
  refine x_last hC ho1 (by decide) in01 dX0_peaksFor_9 ?_
  refine x_goto (tgt := 21) hC dX0_peaksFor_10 (by decide) ?_
  refine x_iconst (v := 0) hC dX0_peaksFor_21 (by decide) ?_
  exact x_iret hC hk dX0_peaksFor_22 (Nat.le_of_ble_eq_true rfl) (Nat.le_of_ble_eq_true rfl) (WOl.mk h0 hR1 hF1 ho1)
theorem cw_purity (hG : GOK G) (hR : CRep S M T a) (ho : M o = some (da 11 1 fD)) (x : Int32) : CqW G yX0_purity cX0_purity 4 (some .int) [(0, 9, 12, 28)] (xrm 17 22010 80100) [.ref a, .int x, .ref o] M (WOd T a o S (opPurity S x).1 (FP.f2d (opPurity S x).2) M) PF := by
  refine cqW_open (lv := [_, _, _, _]) hG (by decide +kernel) (Nat.le_of_ble_eq_true rfl) rfl (fun C hC hk hx => ?_)
  obtain ⟨va, ha⟩ := hR.rec
  refine x_aload_n hC dX0_purity_0 rfl rfl ?_
  refine x_iconst (v := 0) hC dX0_purity_1 (by decide) ?_
  refine x_aload_n hC dX0_purity_2 rfl rfl ?_
  refine x_iload_n hC dX0_purity_3 rfl rfl ?_
  refine x_qV (k := 4) (n := 198) (na := 1) hC (cq_purity hG hR _) (lw_V q1846 q1847 q1848 q81 q1849) ha rfl rfl (by decide +kernel) rfl ⟨Nat.le_of_ble_eq_true rfl, Nat.le_of_ble_eq_true rfl⟩ rfl (Nat.le_of_ble_eq_true rfl) (Nat.le_of_ble_eq_true rfl) (Nat.le_of_ble_eq_true rfl) ⟨Nat.le_of_ble_eq_true rfl, Nat.le_of_ble_eq_true rfl⟩ dX0_purity_4 ?_ (fun q9 E9 M9 h9 => ?thr)
  rintro _ M1 ⟨h0, rfl, hR1, hF1⟩
  case thr =>
    obtain ⟨⟨k, hk1, hk2⟩, hR9, hF9⟩ := h9
    rcases k with _ | k
    · cases hk2
      refine x_catchW (name := "java/lang/IndexOutOfBoundsException") hC hx [] (0, 9, 12, 28) [] rfl (fun z hz => by cases hz) (by decide) (by decide) q1511 q1543 ?_
      refine x_astore_n (lv' := [_, _, _, _]) hC dX0_purity_12 rfl (by decide) rfl ?_
      refine x_iconst (v := 1) hC dX0_purity_13 (by decide) ?_
      exact x_iret hC hk dX0_purity_14 (Nat.le_of_ble_eq_true rfl) (Nat.le_of_ble_eq_true rfl) (WOd.x (k := 0) hk1 (by decide) hR9 hF9 ho)
    · cases hk2
  have ho1 := hF1 o _ ho pw11
  refine x_f2d hC dX0_purity_7 (f2d_n64 (opPurity_n h0)) ?_
  refine x_dast hC ho1 (by decide) in01 dX0_purity_8 ?_
  refine x_goto (tgt := 15) hC dX0_purity_9 (by decide) ?_
  refine x_iconst (v := 0) hC dX0_purity_15 (by decide) ?_
  exact x_iret hC hk dX0_purity_16 (Nat.le_of_ble_eq_true rfl) (Nat.le_of_ble_eq_true rfl) (WOd.mk h0 hR1 hF1 ho1)
theorem cw_distance (hG : GOK G) (hR : CRep S M T a) (ho : M o = some (la 11 1 f)) (x z : Int32) : CqW G yX0_distance cX0_distance 5 (some .int) [(0, 10, 13, 28), (0, 10, 17, 19)] (xrm 17 22010 80100) [.ref a, .int x, .int z, .ref o] M (WOl T a o S (opDist S x z).1 (opDist S x z).2.toInt64 M) PF := by
  refine cqW_open (lv := [_, _, _, _, _]) hG (by decide +kernel) (Nat.le_of_ble_eq_true rfl) rfl (fun C hC hk hx => ?_)
  obtain ⟨va, ha⟩ := hR.rec
  refine x_aload_n hC dX0_distance_0 rfl rfl ?_
  refine x_iconst (v := 0) hC dX0_distance_1 (by decide) ?_
  refine x_aload_n hC dX0_distance_2 rfl rfl ?_
  refine x_iload_n hC dX0_distance_3 rfl rfl ?_
  refine x_iload_n hC dX0_distance_4 rfl rfl ?_
  refine x_qV (k := 6) (n := 152) (na := 2) hC (cq_distance hG hR _ _) (lw_V q1853 q1854 q1855 q81 q1856) ha rfl rfl (by decide +kernel) rfl ⟨Nat.le_of_ble_eq_true rfl, Nat.le_of_ble_eq_true rfl⟩ rfl (Nat.le_of_ble_eq_true rfl) (Nat.le_of_ble_eq_true rfl) (Nat.le_of_ble_eq_true rfl) ⟨Nat.le_of_ble_eq_true rfl, Nat.le_of_ble_eq_true rfl⟩ dX0_distance_5 ?_ (fun q9 E9 M9 h9 => ?thr)
  rintro _ M1 ⟨h0, rfl, hR1, hF1⟩
  case thr =>
    obtain ⟨⟨k, hk1, hk2⟩, hR9, hF9⟩ := h9
    rcases k with _ | k
    · cases hk2
      refine x_catchW (name := "java/lang/IndexOutOfBoundsException") hC hx [] (0, 10, 13, 28) [(0, 10, 17, 19)] rfl (fun z hz => by cases hz) (by decide) (by decide) q1511 q1543 ?_
      refine x_astore (lv' := [_, _, _, _, _]) hC dX0_distance_13 (by decide) rfl ?_
      refine x_iconst (v := 1) hC dX0_distance_15 (by decide) ?_
      exact x_iret hC hk dX0_distance_16 (Nat.le_of_ble_eq_true rfl) (Nat.le_of_ble_eq_true rfl) (WOl.x (k := 0) hk1 (by decide) hR9 hF9 ho)
    rcases k with _ | k
    · cases hk2
      refine x_catchW (name := "java/lang/IllegalArgumentException") hC hx [(0, 10, 13, 28)] (0, 10, 17, 19) [] rfl (fun z hz => by simp only [List.mem_cons, List.not_mem_nil, or_false] at hz; subst hz; exact ⟨by decide, _, q1511, nw_IAE_IOB hG⟩) (by decide) (by decide) q1332 q442 ?_
      refine x_astore (lv' := [_, _, _, _, _]) hC dX0_distance_17 (by decide) rfl ?_
      refine x_iconst (v := 2) hC dX0_distance_19 (by decide) ?_
      exact x_iret hC hk dX0_distance_20 (Nat.le_of_ble_eq_true rfl) (Nat.le_of_ble_eq_true rfl) (WOl.x (k := 1) hk1 (by decide) hR9 hF9 ho)
    · cases hk2
  have ho1 := hF1 o _ ho pw11
  refine x_i2l hC dX0_distance_8 rfl ?_
  refine x_last hC ho1 (by decide) in01 dX0_distance_9 ?_
  refine x_goto (tgt := 21) hC dX0_distance_10 (by decide) ?_
  refine x_iconst (v := 0) hC dX0_distance_21 (by decide) ?_
  exact x_iret hC hk dX0_distance_22 (Nat.le_of_ble_eq_true rfl) (Nat.le_of_ble_eq_true rfl) (WOl.mk h0 hR1 hF1 ho1)
theorem cw_similarity (hG : GOK G) (hR : CRep S M T a) (ho : M o = some (da 11 1 fD)) (x z : Int32) : CqW G yX0_similarity cX0_similarity 5 (some .int) [(0, 9, 12, 28), (0, 9, 16, 19)] (xrm 17 22010 80100) [.ref a, .int x, .int z, .ref o] M (WOd T a o S (opSimil S x z).1 (opSimil S x z).2 M) PF := by
  refine cqW_open (lv := [_, _, _, _, _]) hG (by decide +kernel) (Nat.le_of_ble_eq_true rfl) rfl (fun C hC hk hx => ?_)
  obtain ⟨va, ha⟩ := hR.rec
  refine x_aload_n hC dX0_similarity_0 rfl rfl ?_
  refine x_iconst (v := 0) hC dX0_similarity_1 (by decide) ?_
  refine x_aload_n hC dX0_similarity_2 rfl rfl ?_
  refine x_iload_n hC dX0_similarity_3 rfl rfl ?_
  refine x_iload_n hC dX0_similarity_4 rfl rfl ?_
  refine x_qV (k := 4) (n := 24) (na := 2) hC (cq_similarity hG hR _ _) (lw_V q1868 q1869 q1870 q81 q1871) ha rfl rfl (by decide +kernel) rfl ⟨Nat.le_of_ble_eq_true rfl, Nat.le_of_ble_eq_true rfl⟩ rfl (Nat.le_of_ble_eq_true rfl) (Nat.le_of_ble_eq_true rfl) (Nat.le_of_ble_eq_true rfl) ⟨Nat.le_of_ble_eq_true rfl, Nat.le_of_ble_eq_true rfl⟩ dX0_similarity_5 ?_ (fun q9 E9 M9 h9 => ?thr)
  rintro _ M1 ⟨h0, rfl, hR1, hF1⟩
  case thr =>
    obtain ⟨⟨k, hk1, hk2⟩, hR9, hF9⟩ := h9
    rcases k with _ | k
    · cases hk2
      refine x_catchW (name := "java/lang/IndexOutOfBoundsException") hC hx [] (0, 9, 12, 28) [(0, 9, 16, 19)] rfl (fun z hz => by cases hz) (by decide) (by decide) q1511 q1543 ?_
      refine x_astore (lv' := [_, _, _, _, _]) hC dX0_similarity_12 (by decide) rfl ?_
      refine x_iconst (v := 1) hC dX0_similarity_14 (by decide) ?_
      exact x_iret hC hk dX0_similarity_15 (Nat.le_of_ble_eq_true rfl) (Nat.le_of_ble_eq_true rfl) (WOd.x (k := 0) hk1 (by decide) hR9 hF9 ho)
    rcases k with _ | k
    · cases hk2
      refine x_catchW (name := "java/lang/IllegalArgumentException") hC hx [(0, 9, 12, 28)] (0, 9, 16, 19) [] rfl (fun z hz => by simp only [List.mem_cons, List.not_mem_nil, or_false] at hz; subst hz; exact ⟨by decide, _, q1511, nw_IAE_IOB hG⟩) (by decide) (by decide) q1332 q442 ?_
      refine x_astore (lv' := [_, _, _, _, _]) hC dX0_similarity_16 (by decide) rfl ?_
      refine x_iconst (v := 2) hC dX0_similarity_18 (by decide) ?_
      exact x_iret hC hk dX0_similarity_19 (Nat.le_of_ble_eq_true rfl) (Nat.le_of_ble_eq_true rfl) (WOd.x (k := 1) hk1 (by decide) hR9 hF9 ho)
    · cases hk2
  have ho1 := hF1 o _ ho pw11
  refine x_dast hC ho1 (by decide) in01 dX0_similarity_8 ?_
  refine x_goto (tgt := 20) hC dX0_similarity_9 (by decide) ?_
  refine x_iconst (v := 0) hC dX0_similarity_20 (by decide) ?_
  exact x_iret hC hk dX0_similarity_21 (Nat.le_of_ble_eq_true rfl) (Nat.le_of_ble_eq_true rfl) (WOd.mk h0 hR1 hF1 ho1)
end WRP14

