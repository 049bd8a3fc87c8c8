/-! ===== the law's wrappers =====-/
section WRP28
variable {G : X_G} {M : X_M} {T : X_T} {a o : Nat} {S : X_S} {f : Nat → Int64} {fD : Nat → UInt64}
theorem cw_nearest (hG : GOK G) (hR : CRep S M T a) (ho : M o = some (la 11 1 f)) (x : Int32) : CqW G yX0_nearest cX0_nearest 4 (some .int) [(0, 9, 12, 28), (0, 9, 15, 63)] (xrm 17 22010 80100) [.ref a, .int x, .ref o] M (WOl T a o S (opNear S x).1 (opNear S x).2.toInt64 M) PF := by
  refine cqW_open (lv := [_, _, _, _]) hG (by decide +kernel) (Nat.le_of_ble_eq_true rfl) rfl (fun C hC hk hx => ?_)
  obtain ⟨va, ha⟩ := hR.rec
  refine x_aload_n hC dX0_nearest_0 rfl rfl ?_
  refine x_iconst (v := 0) hC dX0_nearest_1 (by decide) ?_
  refine x_aload_n hC dX0_nearest_2 rfl rfl ?_
  refine x_iload_n hC dX0_nearest_3 rfl rfl ?_
  refine x_qV (k := 14) (n := 800) (na := 1) hC (cq_nearest hG hR _) (lw_V q1882 q1883 q1884 q81 q1885) ha rfl rfl (by decide +kernel) rfl ⟨Nat.le_of_ble_eq_true rfl, Nat.le_of_ble_eq_true rfl⟩ rfl (Nat.le_of_ble_eq_true rfl) (Nat.le_of_ble_eq_true rfl) (Nat.le_of_ble_eq_true rfl) ⟨Nat.le_of_ble_eq_true rfl, Nat.le_of_ble_eq_true rfl⟩ dX0_nearest_4 ?_ (fun q9 E9 M9 h9 => ?thr)
  rintro _ M1 ⟨h0, rfl, hR1, hF1⟩
  case thr =>
    obtain ⟨⟨k, hk1, hk2⟩, hR9, hF9⟩ := h9
    rcases k with _ | k
    · cases hk2
      refine x_catchW (name := "java/lang/IndexOutOfBoundsException") hC hx [] (0, 9, 12, 28) [(0, 9, 15, 63)] rfl (fun z hz => by cases hz) (by decide) (by decide) q1511 q1543 ?_
      refine x_astore_n (lv' := [_, _, _, _]) hC dX0_nearest_12 rfl (by decide) rfl ?_
      refine x_iconst (v := 1) hC dX0_nearest_13 (by decide) ?_
      exact x_iret hC hk dX0_nearest_14 (Nat.le_of_ble_eq_true rfl) (Nat.le_of_ble_eq_true rfl) (WOl.x (k := 0) hk1 (by decide) hR9 hF9 ho)
    rcases k with _ | k
    · cases hk2
      refine x_catchW (name := "java/util/NoSuchElementException") hC hx [(0, 9, 12, 28)] (0, 9, 15, 63) [] rfl (fun z hz => by simp only [List.mem_cons, List.not_mem_nil, or_false] at hz; subst hz; exact ⟨by decide, _, q1511, nw_NSE_IOB hG⟩) (by decide) (by decide) q1653 q1107 ?_
      refine x_astore_n (lv' := [_, _, _, _]) hC dX0_nearest_15 rfl (by decide) rfl ?_
      refine x_iconst (v := 2) hC dX0_nearest_16 (by decide) ?_
      exact x_iret hC hk dX0_nearest_17 (Nat.le_of_ble_eq_true rfl) (Nat.le_of_ble_eq_true rfl) (WOl.x (k := 1) hk1 (by decide) hR9 hF9 ho)
    · cases hk2
  have ho1 := hF1 o _ ho pw11
  refine x_i2l hC dX0_nearest_7 rfl ?_
  refine x_last hC ho1 (by decide) in01 dX0_nearest_8 ?_
  refine x_goto (tgt := 18) hC dX0_nearest_9 (by decide) ?_
  refine x_iconst (v := 0) hC dX0_nearest_18 (by decide) ?_
  exact x_iret hC hk dX0_nearest_19 (Nat.le_of_ble_eq_true rfl) (Nat.le_of_ble_eq_true rfl) (WOl.mk h0 hR1 hF1 ho1)
theorem cw_correlation (hG : GOK G) (hR : CRep S M T a) (ho : M o = some (la 11 1 f)) (x z sh : Int32) : CqW G yX0_correlation cX0_correlation 6 (some .int) [(0, 11, 14, 28), (0, 11, 18, 19)] (xrm 17 22010 80100) [.ref a, .int x, .int z, .int sh, .ref o] M (WOl T a o S (opCorr S x z sh).1 (opCorr S x z sh).2 M) PF := by
  refine cqW_open (lv := [_, _, _, _, _, _]) hG (by decide +kernel) (Nat.le_of_ble_eq_true rfl) rfl (fun C hC hk hx => ?_)
  obtain ⟨va, ha⟩ := hR.rec
  refine x_aload hC dX0_correlation_0 rfl ?_
  refine x_iconst (v := 0) hC dX0_correlation_2 (by decide) ?_
  refine x_aload_n hC dX0_correlation_3 rfl rfl ?_
  refine x_iload_n hC dX0_correlation_4 rfl rfl ?_
  refine x_iload_n hC dX0_correlation_5 rfl rfl ?_
  refine x_iload_n hC dX0_correlation_6 rfl rfl ?_
  refine x_qV (k := 5) (n := 30) (na := 3) hC (cq_correlation hG hR _ _ _) (lw_V q1889 q1890 q1891 q81 q1892) ha rfl rfl (by decide +kernel) rfl ⟨Nat.le_of_ble_eq_true rfl, Nat.le_of_ble_eq_true rfl⟩ rfl (Nat.le_of_ble_eq_true rfl) (Nat.le_of_ble_eq_true rfl) (Nat.le_of_ble_eq_true rfl) ⟨Nat.le_of_ble_eq_true rfl, Nat.le_of_ble_eq_true rfl⟩ dX0_correlation_7 ?_ (fun q9 E9 M9 h9 => ?thr)
  rintro _ M1 ⟨h0, rfl, hR1, hF1⟩
  case thr =>
    obtain ⟨⟨k, hk1, hk2⟩, hR9, hF9⟩ := h9
    rcases k with _ | k
    · cases hk2
      refine x_catchW (name := "java/lang/IndexOutOfBoundsException") hC hx [] (0, 11, 14, 28) [(0, 11, 18, 19)] rfl (fun z hz => by cases hz) (by decide) (by decide) q1511 q1543 ?_
      refine x_astore (lv' := [_, _, _, _, _, _]) hC dX0_correlation_14 (by decide) rfl ?_
      refine x_iconst (v := 1) hC dX0_correlation_16 (by decide) ?_
      exact x_iret hC hk dX0_correlation_17 (Nat.le_of_ble_eq_true rfl) (Nat.le_of_ble_eq_true rfl) (WOl.x (k := 0) hk1 (by decide) hR9 hF9 ho)
    rcases k with _ | k
    · cases hk2
      refine x_catchW (name := "java/lang/IllegalArgumentException") hC hx [(0, 11, 14, 28)] (0, 11, 18, 19) [] rfl (fun z hz => by simp only [List.mem_cons, List.not_mem_nil, or_false] at hz; subst hz; exact ⟨by decide, _, q1511, nw_IAE_IOB hG⟩) (by decide) (by decide) q1332 q442 ?_
      refine x_astore (lv' := [_, _, _, _, _, _]) hC dX0_correlation_18 (by decide) rfl ?_
      refine x_iconst (v := 2) hC dX0_correlation_20 (by decide) ?_
      exact x_iret hC hk dX0_correlation_21 (Nat.le_of_ble_eq_true rfl) (Nat.le_of_ble_eq_true rfl) (WOl.x (k := 1) hk1 (by decide) hR9 hF9 ho)
    · cases hk2
  have ho1 := hF1 o _ ho pw11
  refine x_last hC ho1 (by decide) in01 dX0_correlation_10 ?_
  refine x_goto (tgt := 22) hC dX0_correlation_11 (by decide) ?_
  refine x_iconst (v := 0) hC dX0_correlation_22 (by decide) ?_
  exact x_iret hC hk dX0_correlation_23 (Nat.le_of_ble_eq_true rfl) (Nat.le_of_ble_eq_true rfl) (WOl.mk h0 hR1 hF1 ho1)
theorem cw_bestShift (hG : GOK G) (hR : CRep S M T a) (ho : M o = some (la 11 1 f)) (x z : Int32) : CqW G yX0_bestShift cX0_bestShift 5 (some .int) [(0, 10, 13, 28), (0, 10, 17, 19)] (xrm 17 22010 80100) [.ref a, .int x, .int z, .ref o] M (WOl T a o S (opShiftB S x z).1 (opShiftB S x z).2.toInt64 M) PF := by
  refine cqW_open (lv := [_, _, _, _, _]) hG (by decide +kernel) (Nat.le_of_ble_eq_true rfl) rfl (fun C hC hk hx => ?_)
  obtain ⟨va, ha⟩ := hR.rec
  refine x_aload_n hC dX0_bestShift_0 rfl rfl ?_
  refine x_iconst (v := 0) hC dX0_bestShift_1 (by decide) ?_
  refine x_aload_n hC dX0_bestShift_2 rfl rfl ?_
  refine x_iload_n hC dX0_bestShift_3 rfl rfl ?_
  refine x_iload_n hC dX0_bestShift_4 rfl rfl ?_
  refine x_qV (k := 4) (n := 24) (na := 2) hC (cq_bestShift hG hR _ _) (lw_V q1896 q1897 q1898 q81 q1899) ha rfl rfl (by decide +kernel) rfl ⟨Nat.le_of_ble_eq_true rfl, Nat.le_of_ble_eq_true rfl⟩ rfl (Nat.le_of_ble_eq_true rfl) (Nat.le_of_ble_eq_true rfl) (Nat.le_of_ble_eq_true rfl) ⟨Nat.le_of_ble_eq_true rfl, Nat.le_of_ble_eq_true rfl⟩ dX0_bestShift_5 ?_ (fun q9 E9 M9 h9 => ?thr)
  rintro _ M1 ⟨h0, rfl, hR1, hF1⟩
  case thr =>
    obtain ⟨⟨k, hk1, hk2⟩, hR9, hF9⟩ := h9
    rcases k with _ | k
    · cases hk2
      refine x_catchW (name := "java/lang/IndexOutOfBoundsException") hC hx [] (0, 10, 13, 28) [(0, 10, 17, 19)] rfl (fun z hz => by cases hz) (by decide) (by decide) q1511 q1543 ?_
      refine x_astore (lv' := [_, _, _, _, _]) hC dX0_bestShift_13 (by decide) rfl ?_
      refine x_iconst (v := 1) hC dX0_bestShift_15 (by decide) ?_
      exact x_iret hC hk dX0_bestShift_16 (Nat.le_of_ble_eq_true rfl) (Nat.le_of_ble_eq_true rfl) (WOl.x (k := 0) hk1 (by decide) hR9 hF9 ho)
    rcases k with _ | k
    · cases hk2
      refine x_catchW (name := "java/lang/IllegalArgumentException") hC hx [(0, 10, 13, 28)] (0, 10, 17, 19) [] rfl (fun z hz => by simp only [List.mem_cons, List.not_mem_nil, or_false] at hz; subst hz; exact ⟨by decide, _, q1511, nw_IAE_IOB hG⟩) (by decide) (by decide) q1332 q442 ?_
      refine x_astore (lv' := [_, _, _, _, _]) hC dX0_bestShift_17 (by decide) rfl ?_
      refine x_iconst (v := 2) hC dX0_bestShift_19 (by decide) ?_
      exact x_iret hC hk dX0_bestShift_20 (Nat.le_of_ble_eq_true rfl) (Nat.le_of_ble_eq_true rfl) (WOl.x (k := 1) hk1 (by decide) hR9 hF9 ho)
    · cases hk2
  have ho1 := hF1 o _ ho pw11
  refine x_i2l hC dX0_bestShift_8 rfl ?_
  refine x_last hC ho1 (by decide) in01 dX0_bestShift_9 ?_
  refine x_goto (tgt := 21) hC dX0_bestShift_10 (by decide) ?_
  refine x_iconst (v := 0) hC dX0_bestShift_21 (by decide) ?_
  exact x_iret hC hk dX0_bestShift_22 (Nat.le_of_ble_eq_true rfl) (Nat.le_of_ble_eq_true rfl) (WOl.mk h0 hR1 hF1 ho1)
theorem cw_commonPeaks (hG : GOK G) (hR : CRep S M T a) (ho : M o = some (la 11 1 f)) (x z m : Int32) : CqW G yX0_commonPeaks cX0_commonPeaks 6 (some .int) [(0, 12, 15, 28), (0, 12, 19, 19)] (xrm 17 22010 80100) [.ref a, .int x, .int z, .int m, .ref o] M (WOl T a o S (opCommon S x z m).1 (opCommon S x z m).2.toInt64 M) PF := by
  refine cqW_open (lv := [_, _, _, _, _, _]) hG (by decide +kernel) (Nat.le_of_ble_eq_true rfl) rfl (fun C hC hk hx => ?_)
  obtain ⟨va, ha⟩ := hR.rec
  refine x_aload hC dX0_commonPeaks_0 rfl ?_
  refine x_iconst (v := 0) hC dX0_commonPeaks_2 (by decide) ?_
  refine x_aload_n hC dX0_commonPeaks_3 rfl rfl ?_
  refine x_iload_n hC dX0_commonPeaks_4 rfl rfl ?_
  refine x_iload_n hC dX0_commonPeaks_5 rfl rfl ?_
  refine x_iload_n hC dX0_commonPeaks_6 rfl rfl ?_
  refine x_qV (k := 9) (n := 286) (na := 3) hC (cq_commonPeaks hG hR _ _ _) (lw_V q1908 q1909 q1910 q81 q1911) ha rfl rfl (by decide +kernel) rfl ⟨Nat.le_of_ble_eq_true rfl, Nat.le_of_ble_eq_true rfl⟩ rfl (Nat.le_of_ble_eq_true rfl) (Nat.le_of_ble_eq_true rfl) (Nat.le_of_ble_eq_true rfl) ⟨Nat.le_of_ble_eq_true rfl, Nat.le_of_ble_eq_true rfl⟩ dX0_commonPeaks_7 ?_ (fun q9 E9 M9 h9 => ?thr)
  rintro _ M1 ⟨h0, rfl, hR1, hF1⟩
  case thr =>
    obtain ⟨⟨k, hk1, hk2⟩, hR9, hF9⟩ := h9
    rcases k with _ | k
    · cases hk2
      refine x_catchW (name := "java/lang/IndexOutOfBoundsException") hC hx [] (0, 12, 15, 28) [(0, 12, 19, 19)] rfl (fun z hz => by cases hz) (by decide) (by decide) q1511 q1543 ?_
      refine x_astore (lv' := [_, _, _, _, _, _]) hC dX0_commonPeaks_15 (by decide) rfl ?_
      refine x_iconst (v := 1) hC dX0_commonPeaks_17 (by decide) ?_
      exact x_iret hC hk dX0_commonPeaks_18 (Nat.le_of_ble_eq_true rfl) (Nat.le_of_ble_eq_true rfl) (WOl.x (k := 0) hk1 (by decide) hR9 hF9 ho)
    rcases k with _ | k
    · cases hk2
      refine x_catchW (name := "java/lang/IllegalArgumentException") hC hx [(0, 12, 15, 28)] (0, 12, 19, 19) [] rfl (fun z hz => by simp only [List.mem_cons, List.not_mem_nil, or_false] at hz; subst hz; exact ⟨by decide, _, q1511, nw_IAE_IOB hG⟩) (by decide) (by decide) q1332 q442 ?_
      refine x_astore (lv' := [_, _, _, _, _, _]) hC dX0_commonPeaks_19 (by decide) rfl ?_
      refine x_iconst (v := 2) hC dX0_commonPeaks_21 (by decide) ?_
      exact x_iret hC hk dX0_commonPeaks_22 (Nat.le_of_ble_eq_true rfl) (Nat.le_of_ble_eq_true rfl) (WOl.x (k := 1) hk1 (by decide) hR9 hF9 ho)
    · cases hk2
  have ho1 := hF1 o _ ho pw11
  refine x_i2l hC dX0_commonPeaks_10 rfl ?_
  refine x_last hC ho1 (by decide) in01 dX0_commonPeaks_11 ?_
  refine x_goto (tgt := 23) hC dX0_commonPeaks_12 (by decide) ?_
  refine x_iconst (v := 0) hC dX0_commonPeaks_23 (by decide) ?_
  exact x_iret hC hk dX0_commonPeaks_24 (Nat.le_of_ble_eq_true rfl) (Nat.le_of_ble_eq_true rfl) (WOl.mk h0 hR1 hF1 ho1)
theorem cw_errorOfPeaks (hG : GOK G) (hR : CRep S M T a) (ho : M o = some (la 11 1 f)) (x z : Int32) : CqW G yX0_errorOfPeaks cX0_errorOfPeaks 5 (some .int) [(0, 9, 12, 28), (0, 9, 16, 19)] (xrm 17 22010 80100) [.ref a, .int x, .int z, .ref o] M (WOl T a o S (opErrP S x z).1 (opErrP S x z).2 M) PF := by
  refine cqW_open (lv := [_, _, _, _, _]) hG (by decide +kernel) (Nat.le_of_ble_eq_true rfl) rfl (fun C hC hk hx => ?_)
  obtain ⟨va, ha⟩ := hR.rec
  refine x_aload_n hC dX0_errorOfPeaks_0 rfl rfl ?_
  refine x_iconst (v := 0) hC dX0_errorOfPeaks_1 (by decide) ?_
  refine x_aload_n hC dX0_errorOfPeaks_2 rfl rfl ?_
  refine x_iload_n hC dX0_errorOfPeaks_3 rfl rfl ?_
  refine x_iload_n hC dX0_errorOfPeaks_4 rfl rfl ?_
  refine x_qV (k := 6) (n := 206) (na := 2) hC (cq_errorOfPeaks hG hR _ _) (lw_V q1923 q1924 q1925 q81 q1926) ha rfl rfl (by decide +kernel) rfl ⟨Nat.le_of_ble_eq_true rfl, Nat.le_of_ble_eq_true rfl⟩ rfl (Nat.le_of_ble_eq_true rfl) (Nat.le_of_ble_eq_true rfl) (Nat.le_of_ble_eq_true rfl) ⟨Nat.le_of_ble_eq_true rfl, Nat.le_of_ble_eq_true rfl⟩ dX0_errorOfPeaks_5 ?_ (fun q9 E9 M9 h9 => ?thr)
  rintro _ M1 ⟨h0, rfl, hR1, hF1⟩
  case thr =>
    obtain ⟨⟨k, hk1, hk2⟩, hR9, hF9⟩ := h9
    rcases k with _ | k
    · cases hk2
      refine x_catchW (name := "java/lang/IndexOutOfBoundsException") hC hx [] (0, 9, 12, 28) [(0, 9, 16, 19)] rfl (fun z hz => by cases hz) (by decide) (by decide) q1511 q1543 ?_
      refine x_astore (lv' := [_, _, _, _, _]) hC dX0_errorOfPeaks_12 (by decide) rfl ?_
      refine x_iconst (v := 1) hC dX0_errorOfPeaks_14 (by decide) ?_
      exact x_iret hC hk dX0_errorOfPeaks_15 (Nat.le_of_ble_eq_true rfl) (Nat.le_of_ble_eq_true rfl) (WOl.x (k := 0) hk1 (by decide) hR9 hF9 ho)
    rcases k with _ | k
    · cases hk2
      refine x_catchW (name := "java/lang/IllegalArgumentException") hC hx [(0, 9, 12, 28)] (0, 9, 16, 19) [] rfl (fun z hz => by simp only [List.mem_cons, List.not_mem_nil, or_false] at hz; subst hz; exact ⟨by decide, _, q1511, nw_IAE_IOB hG⟩) (by decide) (by decide) q1332 q442 ?_
      refine x_astore (lv' := [_, _, _, _, _]) hC dX0_errorOfPeaks_16 (by decide) rfl ?_
      refine x_iconst (v := 2) hC dX0_errorOfPeaks_18 (by decide) ?_
      exact x_iret hC hk dX0_errorOfPeaks_19 (Nat.le_of_ble_eq_true rfl) (Nat.le_of_ble_eq_true rfl) (WOl.x (k := 1) hk1 (by decide) hR9 hF9 ho)
    · cases hk2
  have ho1 := hF1 o _ ho pw11
  refine x_last hC ho1 (by decide) in01 dX0_errorOfPeaks_8 ?_
  refine x_goto (tgt := 20) hC dX0_errorOfPeaks_9 (by decide) ?_
  refine x_iconst (v := 0) hC dX0_errorOfPeaks_20 (by decide) ?_
  exact x_iret hC hk dX0_errorOfPeaks_21 (Nat.le_of_ble_eq_true rfl) (Nat.le_of_ble_eq_true rfl) (WOl.mk h0 hR1 hF1 ho1)
theorem cw_addSilence (hG : GOK G) (hT : T0 G T) (hR : CRep S M T a) (ho : M o = some (la 11 1 f)) (n : Int32) : CqW G yX0_addSilence cX0_addSilence 4 (some .int) [(0, 9, 12, 19), (0, 9, 15, 13)] (xrm 17 22010 80100) [.ref a, .int n, .ref o] M (WOl T a o (opAddS S n).2.2 (opAddS S n).1 (opAddS S n).2.1.toInt64 M) PF := by
  refine cqW_open (lv := [_, _, _, _]) hG (by decide +kernel) (Nat.le_of_ble_eq_true rfl) rfl (fun C hC hk hx => ?_)
  obtain ⟨va, ha⟩ := hR.rec
  refine x_aload_n hC dX0_addSilence_0 rfl rfl ?_
  refine x_iconst (v := 0) hC dX0_addSilence_1 (by decide) ?_
  refine x_aload_n hC dX0_addSilence_2 rfl rfl ?_
  refine x_iload_n hC dX0_addSilence_3 rfl rfl ?_
  refine x_qV (k := 1850) (n := 4900) (na := 1) hC (cq_addSilence hG hT hR _) (lw_V q1960 q1961 q1962 q81 q1963) ha rfl rfl (by decide +kernel) rfl ⟨Nat.le_of_ble_eq_true rfl, Nat.le_of_ble_eq_true rfl⟩ rfl (Nat.le_of_ble_eq_true rfl) (Nat.le_of_ble_eq_true rfl) (Nat.le_of_ble_eq_true rfl) ⟨Nat.le_of_ble_eq_true rfl, Nat.le_of_ble_eq_true rfl⟩ dX0_addSilence_4 ?_ (fun q9 E9 M9 h9 => ?thr)
  rintro _ M1 ⟨h0, rfl, hR1, hF1⟩
  case thr =>
    obtain ⟨⟨k, hk1, hk2⟩, hR9, hF9⟩ := h9
    rcases k with _ | k
    · cases hk2
      refine x_catchW (name := "java/lang/IllegalArgumentException") hC hx [] (0, 9, 12, 19) [(0, 9, 15, 13)] rfl (fun z hz => by cases hz) (by decide) (by decide) q1332 q442 ?_
      refine x_astore_n (lv' := [_, _, _, _]) hC dX0_addSilence_12 rfl (by decide) rfl ?_
      refine x_iconst (v := 1) hC dX0_addSilence_13 (by decide) ?_
      exact x_iret hC hk dX0_addSilence_14 (Nat.le_of_ble_eq_true rfl) (Nat.le_of_ble_eq_true rfl) (WOl.x (k := 0) hk1 (by decide) (by rw [e_opAddS (by rw [hk1]; decide)]; exact hR9) hF9 ho)
    rcases k with _ | k
    · cases hk2
      refine x_catchW (name := "java/lang/IllegalStateException") hC hx [(0, 9, 12, 19)] (0, 9, 15, 13) [] rfl (fun z hz => by simp only [List.mem_cons, List.not_mem_nil, or_false] at hz; subst hz; exact ⟨by decide, _, q1332, nw_ISE_IAE hG⟩) (by decide) (by decide) q1301 q1311 ?_
      refine x_astore_n (lv' := [_, _, _, _]) hC dX0_addSilence_15 rfl (by decide) rfl ?_
      refine x_iconst (v := 2) hC dX0_addSilence_16 (by decide) ?_
      exact x_iret hC hk dX0_addSilence_17 (Nat.le_of_ble_eq_true rfl) (Nat.le_of_ble_eq_true rfl) (WOl.x (k := 1) hk1 (by decide) (by rw [e_opAddS (by rw [hk1]; decide)]; exact hR9) hF9 ho)
    · cases hk2
  have ho1 := hF1 o _ ho pw11
  refine x_i2l hC dX0_addSilence_7 rfl ?_
  refine x_last hC ho1 (by decide) in01 dX0_addSilence_8 ?_
  refine x_goto (tgt := 18) hC dX0_addSilence_9 (by decide) ?_
  refine x_iconst (v := 0) hC dX0_addSilence_18 (by decide) ?_
  exact x_iret hC hk dX0_addSilence_19 (Nat.le_of_ble_eq_true rfl) (Nat.le_of_ble_eq_true rfl) (WOl.mk h0 hR1 hF1 ho1)
theorem cw_copyRecording (hG : GOK G) (hT : T0 G T) (hR : CRep S M T a) (ho : M o = some (la 11 1 f)) (x : Int32) : CqW G yX0_copyRecording cX0_copyRecording 4 (some .int) [(0, 9, 12, 28), (0, 9, 15, 19), (0, 9, 18, 13)] (xrm 17 22010 80100) [.ref a, .int x, .ref o] M (WOl T a o (opCopy S x).2.2 (opCopy S x).1 (opCopy S x).2.1.toInt64 M) PF := by
  refine cqW_open (lv := [_, _, _, _]) hG (by decide +kernel) (Nat.le_of_ble_eq_true rfl) rfl (fun C hC hk hx => ?_)
  obtain ⟨va, ha⟩ := hR.rec
  refine x_aload_n hC dX0_copyRecording_0 rfl rfl ?_
  refine x_iconst (v := 0) hC dX0_copyRecording_1 (by decide) ?_
  refine x_aload_n hC dX0_copyRecording_2 rfl rfl ?_
  refine x_iload_n hC dX0_copyRecording_3 rfl rfl ?_
  refine x_qV (k := 1850) (n := 4900) (na := 1) hC (cq_copyRecording hG hT hR _) (lw_V q2027 q2028 q2029 q81 q2030) ha rfl rfl (by decide +kernel) rfl ⟨Nat.le_of_ble_eq_true rfl, Nat.le_of_ble_eq_true rfl⟩ rfl (Nat.le_of_ble_eq_true rfl) (Nat.le_of_ble_eq_true rfl) (Nat.le_of_ble_eq_true rfl) ⟨Nat.le_of_ble_eq_true rfl, Nat.le_of_ble_eq_true rfl⟩ dX0_copyRecording_4 ?_ (fun q9 E9 M9 h9 => ?thr)
  rintro _ M1 ⟨h0, rfl, hR1, hF1⟩
  case thr =>
    obtain ⟨⟨k, hk1, hk2⟩, hR9, hF9⟩ := h9
    rcases k with _ | k
    · cases hk2
      refine x_catchW (name := "java/lang/IndexOutOfBoundsException") hC hx [] (0, 9, 12, 28) [(0, 9, 15, 19), (0, 9, 18, 13)] rfl (fun z hz => by cases hz) (by decide) (by decide) q1511 q1543 ?_
      refine x_astore_n (lv' := [_, _, _, _]) hC dX0_copyRecording_12 rfl (by decide) rfl ?_
      refine x_iconst (v := 1) hC dX0_copyRecording_13 (by decide) ?_
      exact x_iret hC hk dX0_copyRecording_14 (Nat.le_of_ble_eq_true rfl) (Nat.le_of_ble_eq_true rfl) (WOl.x (k := 0) hk1 (by decide) (by rw [e_opCopy (by rw [hk1]; decide)]; exact hR9) hF9 ho)
    rcases k with _ | k
    · cases hk2
      refine x_catchW (name := "java/lang/IllegalArgumentException") hC hx [(0, 9, 12, 28)] (0, 9, 15, 19) [(0, 9, 18, 13)] rfl (fun z hz => by simp only [List.mem_cons, List.not_mem_nil, or_false] at hz; subst hz; exact ⟨by decide, _, q1511, nw_IAE_IOB hG⟩) (by decide) (by decide) q1332 q442 ?_
      refine x_astore_n (lv' := [_, _, _, _]) hC dX0_copyRecording_15 rfl (by decide) rfl ?_
      refine x_iconst (v := 2) hC dX0_copyRecording_16 (by decide) ?_
      exact x_iret hC hk dX0_copyRecording_17 (Nat.le_of_ble_eq_true rfl) (Nat.le_of_ble_eq_true rfl) (WOl.x (k := 1) hk1 (by decide) (by rw [e_opCopy (by rw [hk1]; decide)]; exact hR9) hF9 ho)
    rcases k with _ | k
    · cases hk2
      refine x_catchW (name := "java/lang/IllegalStateException") hC hx [(0, 9, 12, 28), (0, 9, 15, 19)] (0, 9, 18, 13) [] rfl (fun z hz => by simp only [List.mem_cons, List.not_mem_nil, or_false] at hz; rcases hz with hz | hz <;> subst hz <;> first | exact ⟨by decide, _, q1511, nw_ISE_IOB hG⟩ | exact ⟨by decide, _, q1332, nw_ISE_IAE hG⟩) (by decide) (by decide) q1301 q1311 ?_
      refine x_astore_n (lv' := [_, _, _, _]) hC dX0_copyRecording_18 rfl (by decide) rfl ?_
      refine x_iconst (v := 3) hC dX0_copyRecording_19 (by decide) ?_
      exact x_iret hC hk dX0_copyRecording_20 (Nat.le_of_ble_eq_true rfl) (Nat.le_of_ble_eq_true rfl) (WOl.x (k := 2) hk1 (by decide) (by rw [e_opCopy (by rw [hk1]; decide)]; exact hR9) hF9 ho)
    · cases hk2
  have ho1 := hF1 o _ ho pw11
  refine x_i2l hC dX0_copyRecording_7 rfl ?_
  refine x_last hC ho1 (by decide) in01 dX0_copyRecording_8 ?_
  refine x_goto (tgt := 21) hC dX0_copyRecording_9 (by decide) ?_
  refine x_iconst (v := 0) hC dX0_copyRecording_21 (by decide) ?_
  exact x_iret hC hk dX0_copyRecording_22 (Nat.le_of_ble_eq_true rfl) (Nat.le_of_ble_eq_true rfl) (WOl.mk h0 hR1 hF1 ho1)
theorem cw_rename (hG : GOK G) (hT : T0 G T) (hR : CRep S M T a) (ho : M o = some (la 11 1 f)) (x : Int32) : CqW G yX0_rename cX0_rename 4 (some .int) [(0, 9, 12, 28), (0, 9, 15, 19)] (xrm 17 22010 80100) [.ref a, .int x, .ref o] M (WOl T a o (opRename S x).2.2 (opRename S x).1 (opRename S x).2.1.toInt64 M) PF := by
  refine cqW_open (lv := [_, _, _, _]) hG (by decide +kernel) (Nat.le_of_ble_eq_true rfl) rfl (fun C hC hk hx => ?_)
  obtain ⟨va, ha⟩ := hR.rec
  refine x_aload_n hC dX0_rename_0 rfl rfl ?_
  refine x_iconst (v := 0) hC dX0_rename_1 (by decide) ?_
  refine x_aload_n hC dX0_rename_2 rfl rfl ?_
  refine x_iload_n hC dX0_rename_3 rfl rfl ?_
  refine x_qV (k := 1850) (n := 4900) (na := 1) hC (cq_rename hG hT hR _) (lw_V q2035 q2036 q2037 q81 q2038) ha rfl rfl (by decide +kernel) rfl ⟨Nat.le_of_ble_eq_true rfl, Nat.le_of_ble_eq_true rfl⟩ rfl (Nat.le_of_ble_eq_true rfl) (Nat.le_of_ble_eq_true rfl) (Nat.le_of_ble_eq_true rfl) ⟨Nat.le_of_ble_eq_true rfl, Nat.le_of_ble_eq_true rfl⟩ dX0_rename_4 ?_ (fun q9 E9 M9 h9 => ?thr)
  rintro _ M1 ⟨h0, rfl, hR1, hF1⟩
  case thr =>
    obtain ⟨⟨k, hk1, hk2⟩, hR9, hF9⟩ := h9
    rcases k with _ | k
    · cases hk2
      refine x_catchW (name := "java/lang/IndexOutOfBoundsException") hC hx [] (0, 9, 12, 28) [(0, 9, 15, 19)] rfl (fun z hz => by cases hz) (by decide) (by decide) q1511 q1543 ?_
      refine x_astore_n (lv' := [_, _, _, _]) hC dX0_rename_12 rfl (by decide) rfl ?_
      refine x_iconst (v := 1) hC dX0_rename_13 (by decide) ?_
      exact x_iret hC hk dX0_rename_14 (Nat.le_of_ble_eq_true rfl) (Nat.le_of_ble_eq_true rfl) (WOl.x (k := 0) hk1 (by decide) (by rw [e_opRename (by rw [hk1]; decide)]; exact hR9) hF9 ho)
    rcases k with _ | k
    · cases hk2
      refine x_catchW (name := "java/lang/IllegalArgumentException") hC hx [(0, 9, 12, 28)] (0, 9, 15, 19) [] rfl (fun z hz => by simp only [List.mem_cons, List.not_mem_nil, or_false] at hz; subst hz; exact ⟨by decide, _, q1511, nw_IAE_IOB hG⟩) (by decide) (by decide) q1332 q442 ?_
      refine x_astore_n (lv' := [_, _, _, _]) hC dX0_rename_15 rfl (by decide) rfl ?_
      refine x_iconst (v := 2) hC dX0_rename_16 (by decide) ?_
      exact x_iret hC hk dX0_rename_17 (Nat.le_of_ble_eq_true rfl) (Nat.le_of_ble_eq_true rfl) (WOl.x (k := 1) hk1 (by decide) (by rw [e_opRename (by rw [hk1]; decide)]; exact hR9) hF9 ho)
    · cases hk2
  have ho1 := hF1 o _ ho pw11
  refine x_i2l hC dX0_rename_7 rfl ?_
  refine x_last hC ho1 (by decide) in01 dX0_rename_8 ?_
  refine x_goto (tgt := 18) hC dX0_rename_9 (by decide) ?_
  refine x_iconst (v := 0) hC dX0_rename_18 (by decide) ?_
  exact x_iret hC hk dX0_rename_19 (Nat.le_of_ble_eq_true rfl) (Nat.le_of_ble_eq_true rfl) (WOl.mk h0 hR1 hF1 ho1)
theorem cw_removeRecording (hG : GOK G) (hT : T0 G T) (hR : CRep S M T a) (ho : M o = some (la 11 1 f)) (x : Int32) : CqW G yX0_removeRecording cX0_removeRecording 4 (some .int) [(0, 9, 12, 28)] (xrm 17 22010 80100) [.ref a, .int x, .ref o] M (WOl T a o (opRemR S x).2.2 (opRemR S x).1 (opRemR S x).2.1.toInt64 M) PF := by
  refine cqW_open (lv := [_, _, _, _]) hG (by decide +kernel) (Nat.le_of_ble_eq_true rfl) rfl (fun C hC hk hx => ?_)
  obtain ⟨va, ha⟩ := hR.rec
  refine x_aload_n hC dX0_removeRecording_0 rfl rfl ?_
  refine x_iconst (v := 0) hC dX0_removeRecording_1 (by decide) ?_
  refine x_aload_n hC dX0_removeRecording_2 rfl rfl ?_
  refine x_iload_n hC dX0_removeRecording_3 rfl rfl ?_
  refine x_qV (k := 23) (n := 203) (na := 1) hC (cq_removeRecording hG hT hR _) (lw_V q2070 q2071 q2072 q81 q2073) ha rfl rfl (by decide +kernel) rfl ⟨Nat.le_of_ble_eq_true rfl, Nat.le_of_ble_eq_true rfl⟩ rfl (Nat.le_of_ble_eq_true rfl) (Nat.le_of_ble_eq_true rfl) (Nat.le_of_ble_eq_true rfl) ⟨Nat.le_of_ble_eq_true rfl, Nat.le_of_ble_eq_true rfl⟩ dX0_removeRecording_4 ?_ (fun q9 E9 M9 h9 => ?thr)
  rintro _ M1 ⟨h0, rfl, hR1, hF1⟩
  case thr =>
    obtain ⟨⟨k, hk1, hk2⟩, hR9, hF9⟩ := h9
    rcases k with _ | k
    · cases hk2
      refine x_catchW (name := "java/lang/IndexOutOfBoundsException") hC hx [] (0, 9, 12, 28) [] rfl (fun z hz => by cases hz) (by decide) (by decide) q1511 q1543 ?_
      refine x_astore_n (lv' := [_, _, _, _]) hC dX0_removeRecording_12 rfl (by decide) rfl ?_
      refine x_iconst (v := 1) hC dX0_removeRecording_13 (by decide) ?_
      exact x_iret hC hk dX0_removeRecording_14 (Nat.le_of_ble_eq_true rfl) (Nat.le_of_ble_eq_true rfl) (WOl.x (k := 0) hk1 (by decide) (by rw [e_opRemR (by rw [hk1]; decide)]; exact hR9) hF9 ho)
    · cases hk2
  have ho1 := hF1 o _ ho pw11
  refine x_i2l hC dX0_removeRecording_7 rfl ?_
  refine x_last hC ho1 (by decide) in01 dX0_removeRecording_8 ?_
  refine x_goto (tgt := 15) hC dX0_removeRecording_9 (by decide) ?_
  refine x_iconst (v := 0) hC dX0_removeRecording_15 (by decide) ?_
  exact x_iret hC hk dX0_removeRecording_16 (Nat.le_of_ble_eq_true rfl) (Nat.le_of_ble_eq_true rfl) (WOl.mk h0 hR1 hF1 ho1)
theorem cw_setSample (hG : GOK G) (hT : T0 G T) (hR : CRep S M T a) (ho : M o = some (la 11 1 f)) (x z v : Int32) : CqW G yX0_setSample cX0_setSample 6 (some .int) [(0, 12, 15, 28), (0, 12, 19, 19)] (xrm 17 22010 80100) [.ref a, .int x, .int z, .int v, .ref o] M (WOl T a o (opSetS S x z v).2.2 (opSetS S x z v).1 (opSetS S x z v).2.1.toInt64 M) PF := by
  refine cqW_open (lv := [_, _, _, _, _, _]) hG (by decide +kernel) (Nat.le_of_ble_eq_true rfl) rfl (fun C hC hk hx => ?_)
  obtain ⟨va, ha⟩ := hR.rec
  refine x_aload hC dX0_setSample_0 rfl ?_
  refine x_iconst (v := 0) hC dX0_setSample_2 (by decide) ?_
  refine x_aload_n hC dX0_setSample_3 rfl rfl ?_
  refine x_iload_n hC dX0_setSample_4 rfl rfl ?_
  refine x_iload_n hC dX0_setSample_5 rfl rfl ?_
  refine x_iload_n hC dX0_setSample_6 rfl rfl ?_
  refine x_qV (k := 29) (n := 303) (na := 3) hC (cq_setSample hG hT hR _ _ _) (lw_V q2090 q2091 q2092 q81 q2093) ha rfl rfl (by decide +kernel) rfl ⟨Nat.le_of_ble_eq_true rfl, Nat.le_of_ble_eq_true rfl⟩ rfl (Nat.le_of_ble_eq_true rfl) (Nat.le_of_ble_eq_true rfl) (Nat.le_of_ble_eq_true rfl) ⟨Nat.le_of_ble_eq_true rfl, Nat.le_of_ble_eq_true rfl⟩ dX0_setSample_7 ?_ (fun q9 E9 M9 h9 => ?thr)
  rintro _ M1 ⟨h0, rfl, hR1, hF1⟩
  case thr =>
    obtain ⟨⟨k, hk1, hk2⟩, hR9, hF9⟩ := h9
    rcases k with _ | k
    · cases hk2
      refine x_catchW (name := "java/lang/IndexOutOfBoundsException") hC hx [] (0, 12, 15, 28) [(0, 12, 19, 19)] rfl (fun z hz => by cases hz) (by decide) (by decide) q1511 q1543 ?_
      refine x_astore (lv' := [_, _, _, _, _, _]) hC dX0_setSample_15 (by decide) rfl ?_
      refine x_iconst (v := 1) hC dX0_setSample_17 (by decide) ?_
      exact x_iret hC hk dX0_setSample_18 (Nat.le_of_ble_eq_true rfl) (Nat.le_of_ble_eq_true rfl) (WOl.x (k := 0) hk1 (by decide) (by rw [e_opSetS (by rw [hk1]; decide)]; exact hR9) hF9 ho)
    rcases k with _ | k
    · cases hk2
      refine x_catchW (name := "java/lang/IllegalArgumentException") hC hx [(0, 12, 15, 28)] (0, 12, 19, 19) [] rfl (fun z hz => by simp only [List.mem_cons, List.not_mem_nil, or_false] at hz; subst hz; exact ⟨by decide, _, q1511, nw_IAE_IOB hG⟩) (by decide) (by decide) q1332 q442 ?_
      refine x_astore (lv' := [_, _, _, _, _, _]) hC dX0_setSample_19 (by decide) rfl ?_
      refine x_iconst (v := 2) hC dX0_setSample_21 (by decide) ?_
      exact x_iret hC hk dX0_setSample_22 (Nat.le_of_ble_eq_true rfl) (Nat.le_of_ble_eq_true rfl) (WOl.x (k := 1) hk1 (by decide) (by rw [e_opSetS (by rw [hk1]; decide)]; exact hR9) hF9 ho)
    · cases hk2
  have ho1 := hF1 o _ ho pw11
  refine x_i2l hC dX0_setSample_10 rfl ?_
  refine x_last hC ho1 (by decide) in01 dX0_setSample_11 ?_
  refine x_goto (tgt := 23) hC dX0_setSample_12 (by decide) ?_
  refine x_iconst (v := 0) hC dX0_setSample_23 (by decide) ?_
  exact x_iret hC hk dX0_setSample_24 (Nat.le_of_ble_eq_true rfl) (Nat.le_of_ble_eq_true rfl) (WOl.mk h0 hR1 hF1 ho1)
theorem cw_addRecording (hG : GOK G) (hT : T0 G T) (hR : CRep S M T a) (ho : M o = some (la 11 1 f)) (x z w : Int32) : CqW G yX0_addRecording cX0_addRecording 6 (some .int) [(0, 12, 15, 28), (0, 12, 19, 19)] (xrm 17 22010 80100) [.ref a, .int x, .int z, .int w, .ref o] M (WOl T a o (opAdd S x z w).2.2 (opAdd S x z w).1 (opAdd S x z w).2.1.toInt64 M) PF := by
  refine cqW_open (lv := [_, _, _, _, _, _]) hG (by decide +kernel) (Nat.le_of_ble_eq_true rfl) rfl (fun C hC hk hx => ?_)
  obtain ⟨va, ha⟩ := hR.rec
  refine x_aload hC dX0_addRecording_0 rfl ?_
  refine x_iconst (v := 0) hC dX0_addRecording_2 (by decide) ?_
  refine x_aload_n hC dX0_addRecording_3 rfl rfl ?_
  refine x_iload_n hC dX0_addRecording_4 rfl rfl ?_
  refine x_iload_n hC dX0_addRecording_5 rfl rfl ?_
  refine x_iload_n hC dX0_addRecording_6 rfl rfl ?_
  refine x_qV (k := 31) (n := 315) (na := 3) hC (cq_addRecording hG hT hR _ _ _) (lw_V q2111 q2112 q2113 q81 q2114) ha rfl rfl (by decide +kernel) rfl ⟨Nat.le_of_ble_eq_true rfl, Nat.le_of_ble_eq_true rfl⟩ rfl (Nat.le_of_ble_eq_true rfl) (Nat.le_of_ble_eq_true rfl) (Nat.le_of_ble_eq_true rfl) ⟨Nat.le_of_ble_eq_true rfl, Nat.le_of_ble_eq_true rfl⟩ dX0_addRecording_7 ?_ (fun q9 E9 M9 h9 => ?thr)
  rintro _ M1 ⟨h0, rfl, hR1, hF1⟩
  case thr =>
    obtain ⟨⟨k, hk1, hk2⟩, hR9, hF9⟩ := h9
    rcases k with _ | k
    · cases hk2
      refine x_catchW (name := "java/lang/IndexOutOfBoundsException") hC hx [] (0, 12, 15, 28) [(0, 12, 19, 19)] rfl (fun z hz => by cases hz) (by decide) (by decide) q1511 q1543 ?_
      refine x_astore (lv' := [_, _, _, _, _, _]) hC dX0_addRecording_15 (by decide) rfl ?_
      refine x_iconst (v := 1) hC dX0_addRecording_17 (by decide) ?_
      exact x_iret hC hk dX0_addRecording_18 (Nat.le_of_ble_eq_true rfl) (Nat.le_of_ble_eq_true rfl) (WOl.x (k := 0) hk1 (by decide) (by rw [e_opAdd (by rw [hk1]; decide)]; exact hR9) hF9 ho)
    rcases k with _ | k
    · cases hk2
      refine x_catchW (name := "java/lang/IllegalArgumentException") hC hx [(0, 12, 15, 28)] (0, 12, 19, 19) [] rfl (fun z hz => by simp only [List.mem_cons, List.not_mem_nil, or_false] at hz; subst hz; exact ⟨by decide, _, q1511, nw_IAE_IOB hG⟩) (by decide) (by decide) q1332 q442 ?_
      refine x_astore (lv' := [_, _, _, _, _, _]) hC dX0_addRecording_19 (by decide) rfl ?_
      refine x_iconst (v := 2) hC dX0_addRecording_21 (by decide) ?_
      exact x_iret hC hk dX0_addRecording_22 (Nat.le_of_ble_eq_true rfl) (Nat.le_of_ble_eq_true rfl) (WOl.x (k := 1) hk1 (by decide) (by rw [e_opAdd (by rw [hk1]; decide)]; exact hR9) hF9 ho)
    · cases hk2
  have ho1 := hF1 o _ ho pw11
  refine x_i2l hC dX0_addRecording_10 rfl ?_
  refine x_last hC ho1 (by decide) in01 dX0_addRecording_11 ?_
  refine x_goto (tgt := 23) hC dX0_addRecording_12 (by decide) ?_
  refine x_iconst (v := 0) hC dX0_addRecording_23 (by decide) ?_
  exact x_iret hC hk dX0_addRecording_24 (Nat.le_of_ble_eq_true rfl) (Nat.le_of_ble_eq_true rfl) (WOl.mk h0 hR1 hF1 ho1)
theorem cw_appendRecording (hG : GOK G) (hT : T0 G T) (hR : CRep S M T a) (ho : M o = some (la 11 1 f)) (x z : Int32) : CqW G yX0_appendRecording cX0_appendRecording 5 (some .int) [(0, 10, 13, 28), (0, 10, 17, 19), (0, 10, 21, 13)] (xrm 17 22010 80100) [.ref a, .int x, .int z, .ref o] M (WOl T a o (opAppR S x z).2.2 (opAppR S x z).1 (opAppR S x z).2.1.toInt64 M) PF := by
  refine cqW_open (lv := [_, _, _, _, _]) hG (by decide +kernel) (Nat.le_of_ble_eq_true rfl) rfl (fun C hC hk hx => ?_)
  obtain ⟨va, ha⟩ := hR.rec
  refine x_aload_n hC dX0_appendRecording_0 rfl rfl ?_
  refine x_iconst (v := 0) hC dX0_appendRecording_1 (by decide) ?_
  refine x_aload_n hC dX0_appendRecording_2 rfl rfl ?_
  refine x_iload_n hC dX0_appendRecording_3 rfl rfl ?_
  refine x_iload_n hC dX0_appendRecording_4 rfl rfl ?_
  refine x_qV (k := 31) (n := 315) (na := 2) hC (cq_appendRecording hG hT hR _ _) (lw_V q2119 q2120 q2121 q81 q2122) ha rfl rfl (by decide +kernel) rfl ⟨Nat.le_of_ble_eq_true rfl, Nat.le_of_ble_eq_true rfl⟩ rfl (Nat.le_of_ble_eq_true rfl) (Nat.le_of_ble_eq_true rfl) (Nat.le_of_ble_eq_true rfl) ⟨Nat.le_of_ble_eq_true rfl, Nat.le_of_ble_eq_true rfl⟩ dX0_appendRecording_5 ?_ (fun q9 E9 M9 h9 => ?thr)
  rintro _ M1 ⟨h0, rfl, hR1, hF1⟩
  case thr =>
    obtain ⟨⟨k, hk1, hk2⟩, hR9, hF9⟩ := h9
    rcases k with _ | k
    · cases hk2
      refine x_catchW (name := "java/lang/IndexOutOfBoundsException") hC hx [] (0, 10, 13, 28) [(0, 10, 17, 19), (0, 10, 21, 13)] rfl (fun z hz => by cases hz) (by decide) (by decide) q1511 q1543 ?_
      refine x_astore (lv' := [_, _, _, _, _]) hC dX0_appendRecording_13 (by decide) rfl ?_
      refine x_iconst (v := 1) hC dX0_appendRecording_15 (by decide) ?_
      exact x_iret hC hk dX0_appendRecording_16 (Nat.le_of_ble_eq_true rfl) (Nat.le_of_ble_eq_true rfl) (WOl.x (k := 0) hk1 (by decide) (by rw [e_opAppR (by rw [hk1]; decide)]; exact hR9) hF9 ho)
    rcases k with _ | k
    · cases hk2
      refine x_catchW (name := "java/lang/IllegalArgumentException") hC hx [(0, 10, 13, 28)] (0, 10, 17, 19) [(0, 10, 21, 13)] rfl (fun z hz => by simp only [List.mem_cons, List.not_mem_nil, or_false] at hz; subst hz; exact ⟨by decide, _, q1511, nw_IAE_IOB hG⟩) (by decide) (by decide) q1332 q442 ?_
      refine x_astore (lv' := [_, _, _, _, _]) hC dX0_appendRecording_17 (by decide) rfl ?_
      refine x_iconst (v := 2) hC dX0_appendRecording_19 (by decide) ?_
      exact x_iret hC hk dX0_appendRecording_20 (Nat.le_of_ble_eq_true rfl) (Nat.le_of_ble_eq_true rfl) (WOl.x (k := 1) hk1 (by decide) (by rw [e_opAppR (by rw [hk1]; decide)]; exact hR9) hF9 ho)
    rcases k with _ | k
    · cases hk2
      refine x_catchW (name := "java/lang/IllegalStateException") hC hx [(0, 10, 13, 28), (0, 10, 17, 19)] (0, 10, 21, 13) [] rfl (fun z hz => by simp only [List.mem_cons, List.not_mem_nil, or_false] at hz; rcases hz with hz | hz <;> subst hz <;> first | exact ⟨by decide, _, q1511, nw_ISE_IOB hG⟩ | exact ⟨by decide, _, q1332, nw_ISE_IAE hG⟩) (by decide) (by decide) q1301 q1311 ?_
      refine x_astore (lv' := [_, _, _, _, _]) hC dX0_appendRecording_21 (by decide) rfl ?_
      refine x_iconst (v := 3) hC dX0_appendRecording_23 (by decide) ?_
      exact x_iret hC hk dX0_appendRecording_24 (Nat.le_of_ble_eq_true rfl) (Nat.le_of_ble_eq_true rfl) (WOl.x (k := 2) hk1 (by decide) (by rw [e_opAppR (by rw [hk1]; decide)]; exact hR9) hF9 ho)
    · cases hk2
  have ho1 := hF1 o _ ho pw11
  refine x_i2l hC dX0_appendRecording_8 rfl ?_
  refine x_last hC ho1 (by decide) in01 dX0_appendRecording_9 ?_
  refine x_goto (tgt := 25) hC dX0_appendRecording_10 (by decide) ?_
  refine x_iconst (v := 0) hC dX0_appendRecording_25 (by decide) ?_
  exact x_iret hC hk dX0_appendRecording_26 (Nat.le_of_ble_eq_true rfl) (Nat.le_of_ble_eq_true rfl) (WOl.mk h0 hR1 hF1 ho1)
theorem cw_keepAbove (hG : GOK G) (hT : T0 G T) (hR : CRep S M T a) (ho : M o = some (la 11 1 f)) (x t : Int32) : CqW G yX0_keepAbove cX0_keepAbove 5 (some .int) [(0, 10, 13, 28), (0, 10, 17, 19)] (xrm 17 22010 80100) [.ref a, .int x, .int t, .ref o] M (WOl T a o (opKeepA S x t).2.2 (opKeepA S x t).1 (opKeepA S x t).2.1.toInt64 M) PF := by
  refine cqW_open (lv := [_, _, _, _, _]) hG (by decide +kernel) (Nat.le_of_ble_eq_true rfl) rfl (fun C hC hk hx => ?_)
  obtain ⟨va, ha⟩ := hR.rec
  refine x_aload_n hC dX0_keepAbove_0 rfl rfl ?_
  refine x_iconst (v := 0) hC dX0_keepAbove_1 (by decide) ?_
  refine x_aload_n hC dX0_keepAbove_2 rfl rfl ?_
  refine x_iload_n hC dX0_keepAbove_3 rfl rfl ?_
  refine x_iload_n hC dX0_keepAbove_4 rfl rfl ?_
  refine x_qV (k := 31) (n := 427) (na := 2) hC (cq_keepAbove hG hT hR _ _) (lw_V q2133 q2134 q2135 q81 q2136) ha rfl rfl (by decide +kernel) rfl ⟨Nat.le_of_ble_eq_true rfl, Nat.le_of_ble_eq_true rfl⟩ rfl (Nat.le_of_ble_eq_true rfl) (Nat.le_of_ble_eq_true rfl) (Nat.le_of_ble_eq_true rfl) ⟨Nat.le_of_ble_eq_true rfl, Nat.le_of_ble_eq_true rfl⟩ dX0_keepAbove_5 ?_ (fun q9 E9 M9 h9 => ?thr)
  rintro _ M1 ⟨h0, rfl, hR1, hF1⟩
  case thr =>
    obtain ⟨⟨k, hk1, hk2⟩, hR9, hF9⟩ := h9
    rcases k with _ | k
    · cases hk2
      refine x_catchW (name := "java/lang/IndexOutOfBoundsException") hC hx [] (0, 10, 13, 28) [(0, 10, 17, 19)] rfl (fun z hz => by cases hz) (by decide) (by decide) q1511 q1543 ?_
      refine x_astore (lv' := [_, _, _, _, _]) hC dX0_keepAbove_13 (by decide) rfl ?_
      refine x_iconst (v := 1) hC dX0_keepAbove_15 (by decide) ?_
      exact x_iret hC hk dX0_keepAbove_16 (Nat.le_of_ble_eq_true rfl) (Nat.le_of_ble_eq_true rfl) (WOl.x (k := 0) hk1 (by decide) (by rw [e_opKeepA (by rw [hk1]; decide)]; exact hR9) hF9 ho)
    rcases k with _ | k
    · cases hk2
      refine x_catchW (name := "java/lang/IllegalArgumentException") hC hx [(0, 10, 13, 28)] (0, 10, 17, 19) [] rfl (fun z hz => by simp only [List.mem_cons, List.not_mem_nil, or_false] at hz; subst hz; exact ⟨by decide, _, q1511, nw_IAE_IOB hG⟩) (by decide) (by decide) q1332 q442 ?_
      refine x_astore (lv' := [_, _, _, _, _]) hC dX0_keepAbove_17 (by decide) rfl ?_
      refine x_iconst (v := 2) hC dX0_keepAbove_19 (by decide) ?_
      exact x_iret hC hk dX0_keepAbove_20 (Nat.le_of_ble_eq_true rfl) (Nat.le_of_ble_eq_true rfl) (WOl.x (k := 1) hk1 (by decide) (by rw [e_opKeepA (by rw [hk1]; decide)]; exact hR9) hF9 ho)
    · cases hk2
  have ho1 := hF1 o _ ho pw11
  refine x_i2l hC dX0_keepAbove_8 rfl ?_
  refine x_last hC ho1 (by decide) in01 dX0_keepAbove_9 ?_
  refine x_goto (tgt := 21) hC dX0_keepAbove_10 (by decide) ?_
  refine x_iconst (v := 0) hC dX0_keepAbove_21 (by decide) ?_
  exact x_iret hC hk dX0_keepAbove_22 (Nat.le_of_ble_eq_true rfl) (Nat.le_of_ble_eq_true rfl) (WOl.mk h0 hR1 hF1 ho1)
theorem cw_scaleBand (hG : GOK G) (hT : T0 G T) (hR : CRep S M T a) (ho : M o = some (la 11 1 f)) (x lo hi fc : Int32) : CqW G yX0_scaleBand cX0_scaleBand 7 (some .int) [(0, 14, 17, 28), (0, 14, 21, 19)] (xrm 17 22010 80100) [.ref a, .int x, .int lo, .int hi, .int fc, .ref o] M (WOl T a o (opScale S x lo hi fc).2.2 (opScale S x lo hi fc).1 (opScale S x lo hi fc).2.1.toInt64 M) PF := by
  refine cqW_open (lv := [_, _, _, _, _, _, _]) hG (by decide +kernel) (Nat.le_of_ble_eq_true rfl) rfl (fun C hC hk hx => ?_)
  obtain ⟨va, ha⟩ := hR.rec
  refine x_aload hC dX0_scaleBand_0 rfl ?_
  refine x_iconst (v := 0) hC dX0_scaleBand_2 (by decide) ?_
  refine x_aload_n hC dX0_scaleBand_3 rfl rfl ?_
  refine x_iload_n hC dX0_scaleBand_4 rfl rfl ?_
  refine x_iload_n hC dX0_scaleBand_5 rfl rfl ?_
  refine x_iload_n hC dX0_scaleBand_6 rfl rfl ?_
  refine x_iload hC dX0_scaleBand_7 rfl ?_
  refine x_qV (k := 31) (n := 429) (na := 4) hC (cq_scaleBand hG hT hR _ _ _ _) (lw_V q2147 q2148 q2149 q81 q2150) ha rfl rfl (by decide +kernel) rfl ⟨Nat.le_of_ble_eq_true rfl, Nat.le_of_ble_eq_true rfl⟩ rfl (Nat.le_of_ble_eq_true rfl) (Nat.le_of_ble_eq_true rfl) (Nat.le_of_ble_eq_true rfl) ⟨Nat.le_of_ble_eq_true rfl, Nat.le_of_ble_eq_true rfl⟩ dX0_scaleBand_9 ?_ (fun q9 E9 M9 h9 => ?thr)
  rintro _ M1 ⟨h0, rfl, hR1, hF1⟩
  case thr =>
    obtain ⟨⟨k, hk1, hk2⟩, hR9, hF9⟩ := h9
    rcases k with _ | k
    · cases hk2
      refine x_catchW (name := "java/lang/IndexOutOfBoundsException") hC hx [] (0, 14, 17, 28) [(0, 14, 21, 19)] rfl (fun z hz => by cases hz) (by decide) (by decide) q1511 q1543 ?_
      refine x_astore (lv' := [_, _, _, _, _, _, _]) hC dX0_scaleBand_17 (by decide) rfl ?_
      refine x_iconst (v := 1) hC dX0_scaleBand_19 (by decide) ?_
      exact x_iret hC hk dX0_scaleBand_20 (Nat.le_of_ble_eq_true rfl) (Nat.le_of_ble_eq_true rfl) (WOl.x (k := 0) hk1 (by decide) (by rw [e_opScale (by rw [hk1]; decide)]; exact hR9) hF9 ho)
    rcases k with _ | k
    · cases hk2
      refine x_catchW (name := "java/lang/IllegalArgumentException") hC hx [(0, 14, 17, 28)] (0, 14, 21, 19) [] rfl (fun z hz => by simp only [List.mem_cons, List.not_mem_nil, or_false] at hz; subst hz; exact ⟨by decide, _, q1511, nw_IAE_IOB hG⟩) (by decide) (by decide) q1332 q442 ?_
      refine x_astore (lv' := [_, _, _, _, _, _, _]) hC dX0_scaleBand_21 (by decide) rfl ?_
      refine x_iconst (v := 2) hC dX0_scaleBand_23 (by decide) ?_
      exact x_iret hC hk dX0_scaleBand_24 (Nat.le_of_ble_eq_true rfl) (Nat.le_of_ble_eq_true rfl) (WOl.x (k := 1) hk1 (by decide) (by rw [e_opScale (by rw [hk1]; decide)]; exact hR9) hF9 ho)
    · cases hk2
  have ho1 := hF1 o _ ho pw11
  refine x_i2l hC dX0_scaleBand_12 rfl ?_
  refine x_last hC ho1 (by decide) in01 dX0_scaleBand_13 ?_
  refine x_goto (tgt := 25) hC dX0_scaleBand_14 (by decide) ?_
  refine x_iconst (v := 0) hC dX0_scaleBand_25 (by decide) ?_
  exact x_iret hC hk dX0_scaleBand_26 (Nat.le_of_ble_eq_true rfl) (Nat.le_of_ble_eq_true rfl) (WOl.mk h0 hR1 hF1 ho1)
end WRP28

