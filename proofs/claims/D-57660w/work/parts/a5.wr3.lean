/-! ===== the law's wrappers =====-/
section WRP42
variable {G : X_G} {M : X_M} {T : X_T} {a o : Nat} {S : X_S} {f : Nat → Int64} {fD : Nat → UInt64}
theorem cw_keepPeaks (hG : GOK G) (hT : T0 G T) (hR : CRep S M T a) (ho : M o = some (la 11 1 f)) (x z : Int32) : CqW G yX0_keepPeaks cX0_keepPeaks 5 (some .int) [(0, 10, 13, 28), (0, 10, 17, 19)] (xrm 17 22010 80100) [.ref a, .int x, .int z, .ref o] M (WOl T a o (opKeepP S x z).2.2 (opKeepP S x z).1 (opKeepP S x z).2.1.toInt64 M) PF := by
  refine cqW_open (lv := [_, _, _, _, _]) hG (by decide +kernel) (Nat.le_of_ble_eq_true rfl) rfl (fun C hC hk hx => ?_)
  obtain ⟨va, ha⟩ := hR.rec
  refine x_aload_n hC dX0_keepPeaks_0 rfl rfl ?_
  refine x_iconst (v := 0) hC dX0_keepPeaks_1 (by decide) ?_
  refine x_aload_n hC dX0_keepPeaks_2 rfl rfl ?_
  refine x_iload_n hC dX0_keepPeaks_3 rfl rfl ?_
  refine x_iload_n hC dX0_keepPeaks_4 rfl rfl ?_
  refine x_qV (k := 31) (n := 427) (na := 2) hC (cq_keepPeaks hG hT hR _ _) (lw_V q2161 q2162 q2163 q81 q2164) ha rfl rfl (by decide +kernel) rfl ⟨Nat.le_of_ble_eq_true rfl, Nat.le_of_ble_eq_true rfl⟩ rfl (Nat.le_of_ble_eq_true rfl) (Nat.le_of_ble_eq_true rfl) (Nat.le_of_ble_eq_true rfl) ⟨Nat.le_of_ble_eq_true rfl, Nat.le_of_ble_eq_true rfl⟩ dX0_keepPeaks_5 ?_ (fun q9 E9 M9 h9 => ?thr)
  rintro _ M1 ⟨h0, rfl, hR1, hF1⟩
  case thr =>
    obtain ⟨⟨k, hk1, hk2⟩, hR9, hF9⟩ := h9
    rcases k with _ | k
    · cases hk2
      refine x_catchW (name := "java/lang/IndexOutOfBoundsException") hC hx [] (0, 10, 13, 28) [(0, 10, 17, 19)] rfl (fun z hz => by cases hz) (by decide) (by decide) q1511 q1543 ?_
      refine x_astore (lv' := [_, _, _, _, _]) hC dX0_keepPeaks_13 (by decide) rfl ?_
      refine x_iconst (v := 1) hC dX0_keepPeaks_15 (by decide) ?_
      exact x_iret hC hk dX0_keepPeaks_16 (Nat.le_of_ble_eq_true rfl) (Nat.le_of_ble_eq_true rfl) (WOl.x (k := 0) hk1 (by decide) (by rw [e_opKeepP (by rw [hk1]; decide)]; exact hR9) hF9 ho)
    rcases k with _ | k
    · cases hk2
      refine x_catchW (name := "java/lang/IllegalArgumentException") hC hx [(0, 10, 13, 28)] (0, 10, 17, 19) [] rfl (fun z hz => by simp only [List.mem_cons, List.not_mem_nil, or_false] at hz; subst hz; exact ⟨by decide, _, q1511, nw_IAE_IOB hG⟩) (by decide) (by decide) q1332 q442 ?_
      refine x_astore (lv' := [_, _, _, _, _]) hC dX0_keepPeaks_17 (by decide) rfl ?_
      refine x_iconst (v := 2) hC dX0_keepPeaks_19 (by decide) ?_
      exact x_iret hC hk dX0_keepPeaks_20 (Nat.le_of_ble_eq_true rfl) (Nat.le_of_ble_eq_true rfl) (WOl.x (k := 1) hk1 (by decide) (by rw [e_opKeepP (by rw [hk1]; decide)]; exact hR9) hF9 ho)
    · cases hk2
  have ho1 := hF1 o _ ho pw11
  refine x_i2l hC dX0_keepPeaks_8 rfl ?_
  refine x_last hC ho1 (by decide) in01 dX0_keepPeaks_9 ?_
  refine x_goto (tgt := 21) hC dX0_keepPeaks_10 (by decide) ?_
  refine x_iconst (v := 0) hC dX0_keepPeaks_21 (by decide) ?_
  exact x_iret hC hk dX0_keepPeaks_22 (Nat.le_of_ble_eq_true rfl) (Nat.le_of_ble_eq_true rfl) (WOl.mk h0 hR1 hF1 ho1)
theorem cw_removeBand (hG : GOK G) (hT : T0 G T) (hR : CRep S M T a) (ho : M o = some (la 11 1 f)) (x lo hi : Int32) : CqW G yX0_removeBand cX0_removeBand 6 (some .int) [(0, 12, 15, 28), (0, 12, 19, 19)] (xrm 17 22010 80100) [.ref a, .int x, .int lo, .int hi, .ref o] M (WOl T a o (opRemB S x lo hi).2.2 (opRemB S x lo hi).1 (opRemB S x lo hi).2.1.toInt64 M) PF := by
  refine cqW_open (lv := [_, _, _, _, _, _]) hG (by decide +kernel) (Nat.le_of_ble_eq_true rfl) rfl (fun C hC hk hx => ?_)
  obtain ⟨va, ha⟩ := hR.rec
  refine x_aload hC dX0_removeBand_0 rfl ?_
  refine x_iconst (v := 0) hC dX0_removeBand_2 (by decide) ?_
  refine x_aload_n hC dX0_removeBand_3 rfl rfl ?_
  refine x_iload_n hC dX0_removeBand_4 rfl rfl ?_
  refine x_iload_n hC dX0_removeBand_5 rfl rfl ?_
  refine x_iload_n hC dX0_removeBand_6 rfl rfl ?_
  refine x_qV (k := 31) (n := 429) (na := 3) hC (cq_removeBand hG hT hR _ _ _) (lw_V q2168 q2169 q2170 q81 q2171) ha rfl rfl (by decide +kernel) rfl ⟨Nat.le_of_ble_eq_true rfl, Nat.le_of_ble_eq_true rfl⟩ rfl (Nat.le_of_ble_eq_true rfl) (Nat.le_of_ble_eq_true rfl) (Nat.le_of_ble_eq_true rfl) ⟨Nat.le_of_ble_eq_true rfl, Nat.le_of_ble_eq_true rfl⟩ dX0_removeBand_7 ?_ (fun q9 E9 M9 h9 => ?thr)
  rintro _ M1 ⟨h0, rfl, hR1, hF1⟩
  case thr =>
    obtain ⟨⟨k, hk1, hk2⟩, hR9, hF9⟩ := h9
    rcases k with _ | k
    · cases hk2
      refine x_catchW (name := "java/lang/IndexOutOfBoundsException") hC hx [] (0, 12, 15, 28) [(0, 12, 19, 19)] rfl (fun z hz => by cases hz) (by decide) (by decide) q1511 q1543 ?_
      refine x_astore (lv' := [_, _, _, _, _, _]) hC dX0_removeBand_15 (by decide) rfl ?_
      refine x_iconst (v := 1) hC dX0_removeBand_17 (by decide) ?_
      exact x_iret hC hk dX0_removeBand_18 (Nat.le_of_ble_eq_true rfl) (Nat.le_of_ble_eq_true rfl) (WOl.x (k := 0) hk1 (by decide) (by rw [e_opRemB (by rw [hk1]; decide)]; exact hR9) hF9 ho)
    rcases k with _ | k
    · cases hk2
      refine x_catchW (name := "java/lang/IllegalArgumentException") hC hx [(0, 12, 15, 28)] (0, 12, 19, 19) [] rfl (fun z hz => by simp only [List.mem_cons, List.not_mem_nil, or_false] at hz; subst hz; exact ⟨by decide, _, q1511, nw_IAE_IOB hG⟩) (by decide) (by decide) q1332 q442 ?_
      refine x_astore (lv' := [_, _, _, _, _, _]) hC dX0_removeBand_19 (by decide) rfl ?_
      refine x_iconst (v := 2) hC dX0_removeBand_21 (by decide) ?_
      exact x_iret hC hk dX0_removeBand_22 (Nat.le_of_ble_eq_true rfl) (Nat.le_of_ble_eq_true rfl) (WOl.x (k := 1) hk1 (by decide) (by rw [e_opRemB (by rw [hk1]; decide)]; exact hR9) hF9 ho)
    · cases hk2
  have ho1 := hF1 o _ ho pw11
  refine x_i2l hC dX0_removeBand_10 rfl ?_
  refine x_last hC ho1 (by decide) in01 dX0_removeBand_11 ?_
  refine x_goto (tgt := 23) hC dX0_removeBand_12 (by decide) ?_
  refine x_iconst (v := 0) hC dX0_removeBand_23 (by decide) ?_
  exact x_iret hC hk dX0_removeBand_24 (Nat.le_of_ble_eq_true rfl) (Nat.le_of_ble_eq_true rfl) (WOl.mk h0 hR1 hF1 ho1)
theorem cw_shift (hG : GOK G) (hT : T0 G T) (hR : CRep S M T a) (ho : M o = some (la 11 1 f)) (x z : Int32) : CqW G yX0_shift cX0_shift 5 (some .int) [(0, 10, 13, 28), (0, 10, 17, 19)] (xrm 17 22010 80100) [.ref a, .int x, .int z, .ref o] M (WOl T a o (opShift S x z).2.2 (opShift S x z).1 (opShift S x z).2.1.toInt64 M) PF := by
  refine cqW_open (lv := [_, _, _, _, _]) hG (by decide +kernel) (Nat.le_of_ble_eq_true rfl) rfl (fun C hC hk hx => ?_)
  obtain ⟨va, ha⟩ := hR.rec
  refine x_aload_n hC dX0_shift_0 rfl rfl ?_
  refine x_iconst (v := 0) hC dX0_shift_1 (by decide) ?_
  refine x_aload_n hC dX0_shift_2 rfl rfl ?_
  refine x_iload_n hC dX0_shift_3 rfl rfl ?_
  refine x_iload_n hC dX0_shift_4 rfl rfl ?_
  refine x_qV (k := 28) (n := 297) (na := 2) hC (cq_shift hG hT hR _ _) (lw_V q2180 q2181 q2182 q81 q2183) ha rfl rfl (by decide +kernel) rfl ⟨Nat.le_of_ble_eq_true rfl, Nat.le_of_ble_eq_true rfl⟩ rfl (Nat.le_of_ble_eq_true rfl) (Nat.le_of_ble_eq_true rfl) (Nat.le_of_ble_eq_true rfl) ⟨Nat.le_of_ble_eq_true rfl, Nat.le_of_ble_eq_true rfl⟩ dX0_shift_5 ?_ (fun q9 E9 M9 h9 => ?thr)
  rintro _ M1 ⟨h0, rfl, hR1, hF1⟩
  case thr =>
    obtain ⟨⟨k, hk1, hk2⟩, hR9, hF9⟩ := h9
    rcases k with _ | k
    · cases hk2
      refine x_catchW (name := "java/lang/IndexOutOfBoundsException") hC hx [] (0, 10, 13, 28) [(0, 10, 17, 19)] rfl (fun z hz => by cases hz) (by decide) (by decide) q1511 q1543 ?_
      refine x_astore (lv' := [_, _, _, _, _]) hC dX0_shift_13 (by decide) rfl ?_
      refine x_iconst (v := 1) hC dX0_shift_15 (by decide) ?_
      exact x_iret hC hk dX0_shift_16 (Nat.le_of_ble_eq_true rfl) (Nat.le_of_ble_eq_true rfl) (WOl.x (k := 0) hk1 (by decide) (by rw [e_opShift (by rw [hk1]; decide)]; exact hR9) hF9 ho)
    rcases k with _ | k
    · cases hk2
      refine x_catchW (name := "java/lang/IllegalArgumentException") hC hx [(0, 10, 13, 28)] (0, 10, 17, 19) [] rfl (fun z hz => by simp only [List.mem_cons, List.not_mem_nil, or_false] at hz; subst hz; exact ⟨by decide, _, q1511, nw_IAE_IOB hG⟩) (by decide) (by decide) q1332 q442 ?_
      refine x_astore (lv' := [_, _, _, _, _]) hC dX0_shift_17 (by decide) rfl ?_
      refine x_iconst (v := 2) hC dX0_shift_19 (by decide) ?_
      exact x_iret hC hk dX0_shift_20 (Nat.le_of_ble_eq_true rfl) (Nat.le_of_ble_eq_true rfl) (WOl.x (k := 1) hk1 (by decide) (by rw [e_opShift (by rw [hk1]; decide)]; exact hR9) hF9 ho)
    · cases hk2
  have ho1 := hF1 o _ ho pw11
  refine x_i2l hC dX0_shift_8 rfl ?_
  refine x_last hC ho1 (by decide) in01 dX0_shift_9 ?_
  refine x_goto (tgt := 21) hC dX0_shift_10 (by decide) ?_
  refine x_iconst (v := 0) hC dX0_shift_21 (by decide) ?_
  exact x_iret hC hk dX0_shift_22 (Nat.le_of_ble_eq_true rfl) (Nat.le_of_ble_eq_true rfl) (WOl.mk h0 hR1 hF1 ho1)
theorem cw_reverse (hG : GOK G) (hT : T0 G T) (hR : CRep S M T a) (ho : M o = some (la 11 1 f)) (x : Int32) : CqW G yX0_reverse cX0_reverse 4 (some .int) [(0, 9, 12, 28)] (xrm 17 22010 80100) [.ref a, .int x, .ref o] M (WOl T a o (opReverse S x).2.2 (opReverse S x).1 (opReverse S x).2.1.toInt64 M) PF := by
  refine cqW_open (lv := [_, _, _, _]) hG (by decide +kernel) (Nat.le_of_ble_eq_true rfl) rfl (fun C hC hk hx => ?_)
  obtain ⟨va, ha⟩ := hR.rec
  refine x_aload_n hC dX0_reverse_0 rfl rfl ?_
  refine x_iconst (v := 0) hC dX0_reverse_1 (by decide) ?_
  refine x_aload_n hC dX0_reverse_2 rfl rfl ?_
  refine x_iload_n hC dX0_reverse_3 rfl rfl ?_
  refine x_qV (k := 27) (n := 291) (na := 1) hC (cq_reverse hG hT hR _) (lw_V q2191 q2192 q2193 q81 q2194) ha rfl rfl (by decide +kernel) rfl ⟨Nat.le_of_ble_eq_true rfl, Nat.le_of_ble_eq_true rfl⟩ rfl (Nat.le_of_ble_eq_true rfl) (Nat.le_of_ble_eq_true rfl) (Nat.le_of_ble_eq_true rfl) ⟨Nat.le_of_ble_eq_true rfl, Nat.le_of_ble_eq_true rfl⟩ dX0_reverse_4 ?_ (fun q9 E9 M9 h9 => ?thr)
  rintro _ M1 ⟨h0, rfl, hR1, hF1⟩
  case thr =>
    obtain ⟨⟨k, hk1, hk2⟩, hR9, hF9⟩ := h9
    rcases k with _ | k
    · cases hk2
      refine x_catchW (name := "java/lang/IndexOutOfBoundsException") hC hx [] (0, 9, 12, 28) [] rfl (fun z hz => by cases hz) (by decide) (by decide) q1511 q1543 ?_
      refine x_astore_n (lv' := [_, _, _, _]) hC dX0_reverse_12 rfl (by decide) rfl ?_
      refine x_iconst (v := 1) hC dX0_reverse_13 (by decide) ?_
      exact x_iret hC hk dX0_reverse_14 (Nat.le_of_ble_eq_true rfl) (Nat.le_of_ble_eq_true rfl) (WOl.x (k := 0) hk1 (by decide) (by rw [e_opReverse (by rw [hk1]; decide)]; exact hR9) hF9 ho)
    · cases hk2
  have ho1 := hF1 o _ ho pw11
  refine x_i2l hC dX0_reverse_7 rfl ?_
  refine x_last hC ho1 (by decide) in01 dX0_reverse_8 ?_
  refine x_goto (tgt := 15) hC dX0_reverse_9 (by decide) ?_
  refine x_iconst (v := 0) hC dX0_reverse_15 (by decide) ?_
  exact x_iret hC hk dX0_reverse_16 (Nat.le_of_ble_eq_true rfl) (Nat.le_of_ble_eq_true rfl) (WOl.mk h0 hR1 hF1 ho1)
theorem cw_quantize (hG : GOK G) (hT : T0 G T) (hR : CRep S M T a) (ho : M o = some (la 11 1 f)) (x z : Int32) : CqW G yX0_quantize cX0_quantize 5 (some .int) [(0, 10, 13, 28), (0, 10, 17, 19)] (xrm 17 22010 80100) [.ref a, .int x, .int z, .ref o] M (WOl T a o (opQuant S x z).2.2 (opQuant S x z).1 (opQuant S x z).2.1.toInt64 M) PF := by
  refine cqW_open (lv := [_, _, _, _, _]) hG (by decide +kernel) (Nat.le_of_ble_eq_true rfl) rfl (fun C hC hk hx => ?_)
  obtain ⟨va, ha⟩ := hR.rec
  refine x_aload_n hC dX0_quantize_0 rfl rfl ?_
  refine x_iconst (v := 0) hC dX0_quantize_1 (by decide) ?_
  refine x_aload_n hC dX0_quantize_2 rfl rfl ?_
  refine x_iload_n hC dX0_quantize_3 rfl rfl ?_
  refine x_iload_n hC dX0_quantize_4 rfl rfl ?_
  refine x_qV (k := 28) (n := 297) (na := 2) hC (cq_quantize hG hT hR _ _) (lw_V q2198 q2199 q2200 q81 q2201) ha rfl rfl (by decide +kernel) rfl ⟨Nat.le_of_ble_eq_true rfl, Nat.le_of_ble_eq_true rfl⟩ rfl (Nat.le_of_ble_eq_true rfl) (Nat.le_of_ble_eq_true rfl) (Nat.le_of_ble_eq_true rfl) ⟨Nat.le_of_ble_eq_true rfl, Nat.le_of_ble_eq_true rfl⟩ dX0_quantize_5 ?_ (fun q9 E9 M9 h9 => ?thr)
  rintro _ M1 ⟨h0, rfl, hR1, hF1⟩
  case thr =>
    obtain ⟨⟨k, hk1, hk2⟩, hR9, hF9⟩ := h9
    rcases k with _ | k
    · cases hk2
      refine x_catchW (name := "java/lang/IndexOutOfBoundsException") hC hx [] (0, 10, 13, 28) [(0, 10, 17, 19)] rfl (fun z hz => by cases hz) (by decide) (by decide) q1511 q1543 ?_
      refine x_astore (lv' := [_, _, _, _, _]) hC dX0_quantize_13 (by decide) rfl ?_
      refine x_iconst (v := 1) hC dX0_quantize_15 (by decide) ?_
      exact x_iret hC hk dX0_quantize_16 (Nat.le_of_ble_eq_true rfl) (Nat.le_of_ble_eq_true rfl) (WOl.x (k := 0) hk1 (by decide) (by rw [e_opQuant (by rw [hk1]; decide)]; exact hR9) hF9 ho)
    rcases k with _ | k
    · cases hk2
      refine x_catchW (name := "java/lang/IllegalArgumentException") hC hx [(0, 10, 13, 28)] (0, 10, 17, 19) [] rfl (fun z hz => by simp only [List.mem_cons, List.not_mem_nil, or_false] at hz; subst hz; exact ⟨by decide, _, q1511, nw_IAE_IOB hG⟩) (by decide) (by decide) q1332 q442 ?_
      refine x_astore (lv' := [_, _, _, _, _]) hC dX0_quantize_17 (by decide) rfl ?_
      refine x_iconst (v := 2) hC dX0_quantize_19 (by decide) ?_
      exact x_iret hC hk dX0_quantize_20 (Nat.le_of_ble_eq_true rfl) (Nat.le_of_ble_eq_true rfl) (WOl.x (k := 1) hk1 (by decide) (by rw [e_opQuant (by rw [hk1]; decide)]; exact hR9) hF9 ho)
    · cases hk2
  have ho1 := hF1 o _ ho pw11
  refine x_i2l hC dX0_quantize_8 rfl ?_
  refine x_last hC ho1 (by decide) in01 dX0_quantize_9 ?_
  refine x_goto (tgt := 21) hC dX0_quantize_10 (by decide) ?_
  refine x_iconst (v := 0) hC dX0_quantize_21 (by decide) ?_
  exact x_iret hC hk dX0_quantize_22 (Nat.le_of_ble_eq_true rfl) (Nat.le_of_ble_eq_true rfl) (WOl.mk h0 hR1 hF1 ho1)
theorem cw_normalize (hG : GOK G) (hT : T0 G T) (hR : CRep S M T a) (ho : M o = some (la 11 1 f)) (x z : Int32) : CqW G yX0_normalize cX0_normalize 5 (some .int) [(0, 10, 13, 28), (0, 10, 17, 19), (0, 10, 21, 13)] (xrm 17 22010 80100) [.ref a, .int x, .int z, .ref o] M (WOl T a o (opNorm S x z).2.2 (opNorm S x z).1 (opNorm S x z).2.1.toInt64 M) PF := by
  refine cqW_open (lv := [_, _, _, _, _]) hG (by decide +kernel) (Nat.le_of_ble_eq_true rfl) rfl (fun C hC hk hx => ?_)
  obtain ⟨va, ha⟩ := hR.rec
  refine x_aload_n hC dX0_normalize_0 rfl rfl ?_
  refine x_iconst (v := 0) hC dX0_normalize_1 (by decide) ?_
  refine x_aload_n hC dX0_normalize_2 rfl rfl ?_
  refine x_iload_n hC dX0_normalize_3 rfl rfl ?_
  refine x_iload_n hC dX0_normalize_4 rfl rfl ?_
  refine x_qV (k := 29) (n := 303) (na := 2) hC (cq_normalize hG hT hR _ _) (lw_V q2209 q2210 q2211 q81 q2212) ha rfl rfl (by decide +kernel) rfl ⟨Nat.le_of_ble_eq_true rfl, Nat.le_of_ble_eq_true rfl⟩ rfl (Nat.le_of_ble_eq_true rfl) (Nat.le_of_ble_eq_true rfl) (Nat.le_of_ble_eq_true rfl) ⟨Nat.le_of_ble_eq_true rfl, Nat.le_of_ble_eq_true rfl⟩ dX0_normalize_5 ?_ (fun q9 E9 M9 h9 => ?thr)
  rintro _ M1 ⟨h0, rfl, hR1, hF1⟩
  case thr =>
    obtain ⟨⟨k, hk1, hk2⟩, hR9, hF9⟩ := h9
    rcases k with _ | k
    · cases hk2
      refine x_catchW (name := "java/lang/IndexOutOfBoundsException") hC hx [] (0, 10, 13, 28) [(0, 10, 17, 19), (0, 10, 21, 13)] rfl (fun z hz => by cases hz) (by decide) (by decide) q1511 q1543 ?_
      refine x_astore (lv' := [_, _, _, _, _]) hC dX0_normalize_13 (by decide) rfl ?_
      refine x_iconst (v := 1) hC dX0_normalize_15 (by decide) ?_
      exact x_iret hC hk dX0_normalize_16 (Nat.le_of_ble_eq_true rfl) (Nat.le_of_ble_eq_true rfl) (WOl.x (k := 0) hk1 (by decide) (by rw [e_opNorm (by rw [hk1]; decide)]; exact hR9) hF9 ho)
    rcases k with _ | k
    · cases hk2
      refine x_catchW (name := "java/lang/IllegalArgumentException") hC hx [(0, 10, 13, 28)] (0, 10, 17, 19) [(0, 10, 21, 13)] rfl (fun z hz => by simp only [List.mem_cons, List.not_mem_nil, or_false] at hz; subst hz; exact ⟨by decide, _, q1511, nw_IAE_IOB hG⟩) (by decide) (by decide) q1332 q442 ?_
      refine x_astore (lv' := [_, _, _, _, _]) hC dX0_normalize_17 (by decide) rfl ?_
      refine x_iconst (v := 2) hC dX0_normalize_19 (by decide) ?_
      exact x_iret hC hk dX0_normalize_20 (Nat.le_of_ble_eq_true rfl) (Nat.le_of_ble_eq_true rfl) (WOl.x (k := 1) hk1 (by decide) (by rw [e_opNorm (by rw [hk1]; decide)]; exact hR9) hF9 ho)
    rcases k with _ | k
    · cases hk2
      refine x_catchW (name := "java/lang/IllegalStateException") hC hx [(0, 10, 13, 28), (0, 10, 17, 19)] (0, 10, 21, 13) [] rfl (fun z hz => by simp only [List.mem_cons, List.not_mem_nil, or_false] at hz; rcases hz with hz | hz <;> subst hz <;> first | exact ⟨by decide, _, q1511, nw_ISE_IOB hG⟩ | exact ⟨by decide, _, q1332, nw_ISE_IAE hG⟩) (by decide) (by decide) q1301 q1311 ?_
      refine x_astore (lv' := [_, _, _, _, _]) hC dX0_normalize_21 (by decide) rfl ?_
      refine x_iconst (v := 3) hC dX0_normalize_23 (by decide) ?_
      exact x_iret hC hk dX0_normalize_24 (Nat.le_of_ble_eq_true rfl) (Nat.le_of_ble_eq_true rfl) (WOl.x (k := 2) hk1 (by decide) (by rw [e_opNorm (by rw [hk1]; decide)]; exact hR9) hF9 ho)
    · cases hk2
  have ho1 := hF1 o _ ho pw11
  refine x_i2l hC dX0_normalize_8 rfl ?_
  refine x_last hC ho1 (by decide) in01 dX0_normalize_9 ?_
  refine x_goto (tgt := 25) hC dX0_normalize_10 (by decide) ?_
  refine x_iconst (v := 0) hC dX0_normalize_25 (by decide) ?_
  exact x_iret hC hk dX0_normalize_26 (Nat.le_of_ble_eq_true rfl) (Nat.le_of_ble_eq_true rfl) (WOl.mk h0 hR1 hF1 ho1)
theorem cw_interleave (hG : GOK G) (hT : T0 G T) (hR : CRep S M T a) (ho : M o = some (la 11 1 f)) (x z : Int32) : CqW G yX0_interleave cX0_interleave 5 (some .int) [(0, 10, 13, 28), (0, 10, 17, 19), (0, 10, 21, 13)] (xrm 17 22010 80100) [.ref a, .int x, .int z, .ref o] M (WOl T a o (opInter S x z).2.2 (opInter S x z).1 (opInter S x z).2.1.toInt64 M) PF := by
  refine cqW_open (lv := [_, _, _, _, _]) hG (by decide +kernel) (Nat.le_of_ble_eq_true rfl) rfl (fun C hC hk hx => ?_)
  obtain ⟨va, ha⟩ := hR.rec
  refine x_aload_n hC dX0_interleave_0 rfl rfl ?_
  refine x_iconst (v := 0) hC dX0_interleave_1 (by decide) ?_
  refine x_aload_n hC dX0_interleave_2 rfl rfl ?_
  refine x_iload_n hC dX0_interleave_3 rfl rfl ?_
  refine x_iload_n hC dX0_interleave_4 rfl rfl ?_
  refine x_qV (k := 31) (n := 315) (na := 2) hC (cq_interleave hG hT hR _ _) (lw_V q2226 q2227 q2228 q81 q2229) ha rfl rfl (by decide +kernel) rfl ⟨Nat.le_of_ble_eq_true rfl, Nat.le_of_ble_eq_true rfl⟩ rfl (Nat.le_of_ble_eq_true rfl) (Nat.le_of_ble_eq_true rfl) (Nat.le_of_ble_eq_true rfl) ⟨Nat.le_of_ble_eq_true rfl, Nat.le_of_ble_eq_true rfl⟩ dX0_interleave_5 ?_ (fun q9 E9 M9 h9 => ?thr)
  rintro _ M1 ⟨h0, rfl, hR1, hF1⟩
  case thr =>
    obtain ⟨⟨k, hk1, hk2⟩, hR9, hF9⟩ := h9
    rcases k with _ | k
    · cases hk2
      refine x_catchW (name := "java/lang/IndexOutOfBoundsException") hC hx [] (0, 10, 13, 28) [(0, 10, 17, 19), (0, 10, 21, 13)] rfl (fun z hz => by cases hz) (by decide) (by decide) q1511 q1543 ?_
      refine x_astore (lv' := [_, _, _, _, _]) hC dX0_interleave_13 (by decide) rfl ?_
      refine x_iconst (v := 1) hC dX0_interleave_15 (by decide) ?_
      exact x_iret hC hk dX0_interleave_16 (Nat.le_of_ble_eq_true rfl) (Nat.le_of_ble_eq_true rfl) (WOl.x (k := 0) hk1 (by decide) (by rw [e_opInter (by rw [hk1]; decide)]; exact hR9) hF9 ho)
    rcases k with _ | k
    · cases hk2
      refine x_catchW (name := "java/lang/IllegalArgumentException") hC hx [(0, 10, 13, 28)] (0, 10, 17, 19) [(0, 10, 21, 13)] rfl (fun z hz => by simp only [List.mem_cons, List.not_mem_nil, or_false] at hz; subst hz; exact ⟨by decide, _, q1511, nw_IAE_IOB hG⟩) (by decide) (by decide) q1332 q442 ?_
      refine x_astore (lv' := [_, _, _, _, _]) hC dX0_interleave_17 (by decide) rfl ?_
      refine x_iconst (v := 2) hC dX0_interleave_19 (by decide) ?_
      exact x_iret hC hk dX0_interleave_20 (Nat.le_of_ble_eq_true rfl) (Nat.le_of_ble_eq_true rfl) (WOl.x (k := 1) hk1 (by decide) (by rw [e_opInter (by rw [hk1]; decide)]; exact hR9) hF9 ho)
    rcases k with _ | k
    · cases hk2
      refine x_catchW (name := "java/lang/IllegalStateException") hC hx [(0, 10, 13, 28), (0, 10, 17, 19)] (0, 10, 21, 13) [] rfl (fun z hz => by simp only [List.mem_cons, List.not_mem_nil, or_false] at hz; rcases hz with hz | hz <;> subst hz <;> first | exact ⟨by decide, _, q1511, nw_ISE_IOB hG⟩ | exact ⟨by decide, _, q1332, nw_ISE_IAE hG⟩) (by decide) (by decide) q1301 q1311 ?_
      refine x_astore (lv' := [_, _, _, _, _]) hC dX0_interleave_21 (by decide) rfl ?_
      refine x_iconst (v := 3) hC dX0_interleave_23 (by decide) ?_
      exact x_iret hC hk dX0_interleave_24 (Nat.le_of_ble_eq_true rfl) (Nat.le_of_ble_eq_true rfl) (WOl.x (k := 2) hk1 (by decide) (by rw [e_opInter (by rw [hk1]; decide)]; exact hR9) hF9 ho)
    · cases hk2
  have ho1 := hF1 o _ ho pw11
  refine x_i2l hC dX0_interleave_8 rfl ?_
  refine x_last hC ho1 (by decide) in01 dX0_interleave_9 ?_
  refine x_goto (tgt := 25) hC dX0_interleave_10 (by decide) ?_
  refine x_iconst (v := 0) hC dX0_interleave_25 (by decide) ?_
  exact x_iret hC hk dX0_interleave_26 (Nat.le_of_ble_eq_true rfl) (Nat.le_of_ble_eq_true rfl) (WOl.mk h0 hR1 hF1 ho1)
theorem cw_stretch (hG : GOK G) (hT : T0 G T) (hR : CRep S M T a) (ho : M o = some (la 11 1 f)) (x : Int32) : CqW G yX0_stretch cX0_stretch 4 (some .int) [(0, 9, 12, 28), (0, 9, 15, 13)] (xrm 17 22010 80100) [.ref a, .int x, .ref o] M (WOl T a o (opStretch S x).2.2 (opStretch S x).1 (opStretch S x).2.1.toInt64 M) PF := by
  refine cqW_open (lv := [_, _, _, _]) hG (by decide +kernel) (Nat.le_of_ble_eq_true rfl) rfl (fun C hC hk hx => ?_)
  obtain ⟨va, ha⟩ := hR.rec
  refine x_aload_n hC dX0_stretch_0 rfl rfl ?_
  refine x_iconst (v := 0) hC dX0_stretch_1 (by decide) ?_
  refine x_aload_n hC dX0_stretch_2 rfl rfl ?_
  refine x_iload_n hC dX0_stretch_3 rfl rfl ?_
  refine x_qV (k := 28) (n := 297) (na := 1) hC (cq_stretch hG hT hR _) (lw_V q2237 q2238 q2239 q81 q2240) ha rfl rfl (by decide +kernel) rfl ⟨Nat.le_of_ble_eq_true rfl, Nat.le_of_ble_eq_true rfl⟩ rfl (Nat.le_of_ble_eq_true rfl) (Nat.le_of_ble_eq_true rfl) (Nat.le_of_ble_eq_true rfl) ⟨Nat.le_of_ble_eq_true rfl, Nat.le_of_ble_eq_true rfl⟩ dX0_stretch_4 ?_ (fun q9 E9 M9 h9 => ?thr)
  rintro _ M1 ⟨h0, rfl, hR1, hF1⟩
  case thr =>
    obtain ⟨⟨k, hk1, hk2⟩, hR9, hF9⟩ := h9
    rcases k with _ | k
    · cases hk2
      refine x_catchW (name := "java/lang/IndexOutOfBoundsException") hC hx [] (0, 9, 12, 28) [(0, 9, 15, 13)] rfl (fun z hz => by cases hz) (by decide) (by decide) q1511 q1543 ?_
      refine x_astore_n (lv' := [_, _, _, _]) hC dX0_stretch_12 rfl (by decide) rfl ?_
      refine x_iconst (v := 1) hC dX0_stretch_13 (by decide) ?_
      exact x_iret hC hk dX0_stretch_14 (Nat.le_of_ble_eq_true rfl) (Nat.le_of_ble_eq_true rfl) (WOl.x (k := 0) hk1 (by decide) (by rw [e_opStretch (by rw [hk1]; decide)]; exact hR9) hF9 ho)
    rcases k with _ | k
    · cases hk2
      refine x_catchW (name := "java/lang/IllegalStateException") hC hx [(0, 9, 12, 28)] (0, 9, 15, 13) [] rfl (fun z hz => by simp only [List.mem_cons, List.not_mem_nil, or_false] at hz; subst hz; exact ⟨by decide, _, q1511, nw_ISE_IOB hG⟩) (by decide) (by decide) q1301 q1311 ?_
      refine x_astore_n (lv' := [_, _, _, _]) hC dX0_stretch_15 rfl (by decide) rfl ?_
      refine x_iconst (v := 2) hC dX0_stretch_16 (by decide) ?_
      exact x_iret hC hk dX0_stretch_17 (Nat.le_of_ble_eq_true rfl) (Nat.le_of_ble_eq_true rfl) (WOl.x (k := 1) hk1 (by decide) (by rw [e_opStretch (by rw [hk1]; decide)]; exact hR9) hF9 ho)
    · cases hk2
  have ho1 := hF1 o _ ho pw11
  refine x_i2l hC dX0_stretch_7 rfl ?_
  refine x_last hC ho1 (by decide) in01 dX0_stretch_8 ?_
  refine x_goto (tgt := 18) hC dX0_stretch_9 (by decide) ?_
  refine x_iconst (v := 0) hC dX0_stretch_18 (by decide) ?_
  exact x_iret hC hk dX0_stretch_19 (Nat.le_of_ble_eq_true rfl) (Nat.le_of_ble_eq_true rfl) (WOl.mk h0 hR1 hF1 ho1)
theorem cw_fold (hG : GOK G) (hT : T0 G T) (hR : CRep S M T a) (ho : M o = some (la 11 1 f)) (x : Int32) : CqW G yX0_fold cX0_fold 4 (some .int) [(0, 9, 12, 28), (0, 9, 15, 13)] (xrm 17 22010 80100) [.ref a, .int x, .ref o] M (WOl T a o (opFold S x).2.2 (opFold S x).1 (opFold S x).2.1.toInt64 M) PF := by
  refine cqW_open (lv := [_, _, _, _]) hG (by decide +kernel) (Nat.le_of_ble_eq_true rfl) rfl (fun C hC hk hx => ?_)
  obtain ⟨va, ha⟩ := hR.rec
  refine x_aload_n hC dX0_fold_0 rfl rfl ?_
  refine x_iconst (v := 0) hC dX0_fold_1 (by decide) ?_
  refine x_aload_n hC dX0_fold_2 rfl rfl ?_
  refine x_iload_n hC dX0_fold_3 rfl rfl ?_
  refine x_qV (k := 28) (n := 297) (na := 1) hC (cq_fold hG hT hR _) (lw_V q2249 q2250 q2251 q81 q2252) ha rfl rfl (by decide +kernel) rfl ⟨Nat.le_of_ble_eq_true rfl, Nat.le_of_ble_eq_true rfl⟩ rfl (Nat.le_of_ble_eq_true rfl) (Nat.le_of_ble_eq_true rfl) (Nat.le_of_ble_eq_true rfl) ⟨Nat.le_of_ble_eq_true rfl, Nat.le_of_ble_eq_true rfl⟩ dX0_fold_4 ?_ (fun q9 E9 M9 h9 => ?thr)
  rintro _ M1 ⟨h0, rfl, hR1, hF1⟩
  case thr =>
    obtain ⟨⟨k, hk1, hk2⟩, hR9, hF9⟩ := h9
    rcases k with _ | k
    · cases hk2
      refine x_catchW (name := "java/lang/IndexOutOfBoundsException") hC hx [] (0, 9, 12, 28) [(0, 9, 15, 13)] rfl (fun z hz => by cases hz) (by decide) (by decide) q1511 q1543 ?_
      refine x_astore_n (lv' := [_, _, _, _]) hC dX0_fold_12 rfl (by decide) rfl ?_
      refine x_iconst (v := 1) hC dX0_fold_13 (by decide) ?_
      exact x_iret hC hk dX0_fold_14 (Nat.le_of_ble_eq_true rfl) (Nat.le_of_ble_eq_true rfl) (WOl.x (k := 0) hk1 (by decide) (by rw [e_opFold (by rw [hk1]; decide)]; exact hR9) hF9 ho)
    rcases k with _ | k
    · cases hk2
      refine x_catchW (name := "java/lang/IllegalStateException") hC hx [(0, 9, 12, 28)] (0, 9, 15, 13) [] rfl (fun z hz => by simp only [List.mem_cons, List.not_mem_nil, or_false] at hz; subst hz; exact ⟨by decide, _, q1511, nw_ISE_IOB hG⟩) (by decide) (by decide) q1301 q1311 ?_
      refine x_astore_n (lv' := [_, _, _, _]) hC dX0_fold_15 rfl (by decide) rfl ?_
      refine x_iconst (v := 2) hC dX0_fold_16 (by decide) ?_
      exact x_iret hC hk dX0_fold_17 (Nat.le_of_ble_eq_true rfl) (Nat.le_of_ble_eq_true rfl) (WOl.x (k := 1) hk1 (by decide) (by rw [e_opFold (by rw [hk1]; decide)]; exact hR9) hF9 ho)
    · cases hk2
  have ho1 := hF1 o _ ho pw11
  refine x_i2l hC dX0_fold_7 rfl ?_
  refine x_last hC ho1 (by decide) in01 dX0_fold_8 ?_
  refine x_goto (tgt := 18) hC dX0_fold_9 (by decide) ?_
  refine x_iconst (v := 0) hC dX0_fold_18 (by decide) ?_
  exact x_iret hC hk dX0_fold_19 (Nat.le_of_ble_eq_true rfl) (Nat.le_of_ble_eq_true rfl) (WOl.mk h0 hR1 hF1 ho1)
theorem cw_undo (hG : GOK G) (hR : CRep S M T a) (ho : M o = some (la 11 1 f)) : CqW G yX0_undo cX0_undo 3 (some .int) [(0, 8, 11, 13)] (xrm 17 22010 80100) [.ref a, .ref o] M (WOl T a o (opUndo S).2.2 (opUndo S).1 (opUndo S).2.1.toInt64 M) PF := by
  refine cqW_open (lv := [_, _, _]) hG (by decide +kernel) (Nat.le_of_ble_eq_true rfl) rfl (fun C hC hk hx => ?_)
  obtain ⟨va, ha⟩ := hR.rec
  refine x_aload_n hC dX0_undo_0 rfl rfl ?_
  refine x_iconst (v := 0) hC dX0_undo_1 (by decide) ?_
  refine x_aload_n hC dX0_undo_2 rfl rfl ?_
  refine x_qV (k := 1) (n := 6) (na := 0) hC (cq_undo hG hR) (lw_V q2260 q2261 q2262 q81 q2263) ha rfl rfl (by decide +kernel) rfl ⟨Nat.le_of_ble_eq_true rfl, Nat.le_of_ble_eq_true rfl⟩ rfl (Nat.le_of_ble_eq_true rfl) (Nat.le_of_ble_eq_true rfl) (Nat.le_of_ble_eq_true rfl) ⟨Nat.le_of_ble_eq_true rfl, Nat.le_of_ble_eq_true rfl⟩ dX0_undo_3 ?_ (fun q9 E9 M9 h9 => ?thr)
  rintro _ M1 ⟨h0, rfl, hR1, hF1⟩
  case thr =>
    obtain ⟨⟨k, hk1, hk2⟩, hR9, hF9⟩ := h9
    rcases k with _ | k
    · cases hk2
      refine x_catchW (name := "java/lang/IllegalStateException") hC hx [] (0, 8, 11, 13) [] rfl (fun z hz => by cases hz) (by decide) (by decide) q1301 q1311 ?_
      refine x_astore_n (lv' := [_, _, _]) hC dX0_undo_11 rfl (by decide) rfl ?_
      refine x_iconst (v := 1) hC dX0_undo_12 (by decide) ?_
      exact x_iret hC hk dX0_undo_13 (Nat.le_of_ble_eq_true rfl) (Nat.le_of_ble_eq_true rfl) (WOl.x (k := 0) hk1 (by decide) (by rw [e_opUndo (by rw [hk1]; decide)]; exact hR9) hF9 ho)
    · cases hk2
  have ho1 := hF1 o _ ho pw11
  refine x_i2l hC dX0_undo_6 rfl ?_
  refine x_last hC ho1 (by decide) in01 dX0_undo_7 ?_
  refine x_goto (tgt := 14) hC dX0_undo_8 (by decide) ?_
  refine x_iconst (v := 0) hC dX0_undo_14 (by decide) ?_
  exact x_iret hC hk dX0_undo_15 (Nat.le_of_ble_eq_true rfl) (Nat.le_of_ble_eq_true rfl) (WOl.mk h0 hR1 hF1 ho1)
theorem cw_restore (hG : GOK G) (hT : T0 G T) (hR : CRep S M T a) (ho : M o = some (la 11 1 f)) : CqW G yX0_restore cX0_restore 3 (some .int) [(0, 8, 11, 13)] (xrm 17 22010 80100) [.ref a, .ref o] M (WOl T a o (opRestore S).2.2 (opRestore S).1 (opRestore S).2.1.toInt64 M) PF := by
  refine cqW_open (lv := [_, _, _]) hG (by decide +kernel) (Nat.le_of_ble_eq_true rfl) rfl (fun C hC hk hx => ?_)
  obtain ⟨va, ha⟩ := hR.rec
  refine x_aload_n hC dX0_restore_0 rfl rfl ?_
  refine x_iconst (v := 0) hC dX0_restore_1 (by decide) ?_
  refine x_aload_n hC dX0_restore_2 rfl rfl ?_
  refine x_qV (k := 45) (n := 400) (na := 0) hC (cq_restore hG hT hR) (lw_V q2282 q2283 q2284 q81 q2285) ha rfl rfl (by decide +kernel) rfl ⟨Nat.le_of_ble_eq_true rfl, Nat.le_of_ble_eq_true rfl⟩ rfl (Nat.le_of_ble_eq_true rfl) (Nat.le_of_ble_eq_true rfl) (Nat.le_of_ble_eq_true rfl) ⟨Nat.le_of_ble_eq_true rfl, Nat.le_of_ble_eq_true rfl⟩ dX0_restore_3 ?_ (fun q9 E9 M9 h9 => ?thr)
  rintro _ M1 ⟨h0, rfl, hR1, hF1⟩
  case thr =>
    obtain ⟨⟨k, hk1, hk2⟩, hR9, hF9⟩ := h9
    rcases k with _ | k
    · cases hk2
      refine x_catchW (name := "java/lang/IllegalStateException") hC hx [] (0, 8, 11, 13) [] rfl (fun z hz => by cases hz) (by decide) (by decide) q1301 q1311 ?_
      refine x_astore_n (lv' := [_, _, _]) hC dX0_restore_11 rfl (by decide) rfl ?_
      refine x_iconst (v := 1) hC dX0_restore_12 (by decide) ?_
      exact x_iret hC hk dX0_restore_13 (Nat.le_of_ble_eq_true rfl) (Nat.le_of_ble_eq_true rfl) (WOl.x (k := 0) hk1 (by decide) (by rw [e_opRestore (by rw [hk1]; decide)]; exact hR9) hF9 ho)
    · cases hk2
  have ho1 := hF1 o _ ho pw11
  refine x_i2l hC dX0_restore_6 rfl ?_
  refine x_last hC ho1 (by decide) in01 dX0_restore_7 ?_
  refine x_goto (tgt := 14) hC dX0_restore_8 (by decide) ?_
  refine x_iconst (v := 0) hC dX0_restore_14 (by decide) ?_
  exact x_iret hC hk dX0_restore_15 (Nat.le_of_ble_eq_true rfl) (Nat.le_of_ble_eq_true rfl) (WOl.mk h0 hR1 hF1 ho1)
theorem cw_formatSamples (hG : GOK G) (hT : T1 G T) (hM : M1c T M) (hR : CRep S M T a) (ho : M o = some (la 11 1 f)) (x : Int32) : CqW G yX0_formatSamples cX0_formatSamples 4 (some .int) [(0, 9, 12, 28)] (xrm 17 22010 80100) [.ref a, .int x, .ref o] M (WOl T a o (opFmtS S x).2.2 (opFmtS S x).1 (opFmtS S x).2.1.toInt64 M) PF := by
  refine cqW_open (lv := [_, _, _, _]) hG (by decide +kernel) (Nat.le_of_ble_eq_true rfl) rfl (fun C hC hk hx => ?_)
  obtain ⟨va, ha⟩ := hR.rec
  refine x_aload_n hC dX0_formatSamples_0 rfl rfl ?_
  refine x_iconst (v := 0) hC dX0_formatSamples_1 (by decide) ?_
  refine x_aload_n hC dX0_formatSamples_2 rfl rfl ?_
  refine x_iload_n hC dX0_formatSamples_3 rfl rfl ?_
  refine x_qV (k := 1000) (n := 2800) (na := 1) hC (cq_formatSamples hG hT hM hR _) (lw_V q2289 q2290 q2291 q81 q2292) ha rfl rfl (by decide +kernel) rfl ⟨Nat.le_of_ble_eq_true rfl, Nat.le_of_ble_eq_true rfl⟩ rfl (Nat.le_of_ble_eq_true rfl) (Nat.le_of_ble_eq_true rfl) (Nat.le_of_ble_eq_true rfl) ⟨Nat.le_of_ble_eq_true rfl, Nat.le_of_ble_eq_true rfl⟩ dX0_formatSamples_4 ?_ (fun q9 E9 M9 h9 => ?thr)
  rintro _ M1 ⟨h0, rfl, hR1, hF1⟩
  case thr =>
    obtain ⟨⟨k, hk1, hk2⟩, hR9, hF9⟩ := h9
    rcases k with _ | k
    · cases hk2
      refine x_catchW (name := "java/lang/IndexOutOfBoundsException") hC hx [] (0, 9, 12, 28) [] rfl (fun z hz => by cases hz) (by decide) (by decide) q1511 q1543 ?_
      refine x_astore_n (lv' := [_, _, _, _]) hC dX0_formatSamples_12 rfl (by decide) rfl ?_
      refine x_iconst (v := 1) hC dX0_formatSamples_13 (by decide) ?_
      exact x_iret hC hk dX0_formatSamples_14 (Nat.le_of_ble_eq_true rfl) (Nat.le_of_ble_eq_true rfl) (WOl.x (k := 0) hk1 (by decide) (by rw [e_opFmtS (by rw [hk1]; decide)]; exact hR9) hF9 ho)
    · cases hk2
  have ho1 := hF1 o _ ho pw11
  refine x_i2l hC dX0_formatSamples_7 rfl ?_
  refine x_last hC ho1 (by decide) in01 dX0_formatSamples_8 ?_
  refine x_goto (tgt := 15) hC dX0_formatSamples_9 (by decide) ?_
  refine x_iconst (v := 0) hC dX0_formatSamples_15 (by decide) ?_
  exact x_iret hC hk dX0_formatSamples_16 (Nat.le_of_ble_eq_true rfl) (Nat.le_of_ble_eq_true rfl) (WOl.mk h0 hR1 hF1 ho1)
theorem cw_formatPeaks (hG : GOK G) (hT : T1 G T) (hM : M1c T M) (hR : CRep S M T a) (ho : M o = some (la 11 1 f)) (x c : Int32) : CqW G yX0_formatPeaks cX0_formatPeaks 5 (some .int) [(0, 10, 13, 28), (0, 10, 17, 19)] (xrm 17 22010 80100) [.ref a, .int x, .int c, .ref o] M (WOl T a o (opFmtP S x c).2.2 (opFmtP S x c).1 (opFmtP S x c).2.1.toInt64 M) PF := by
  refine cqW_open (lv := [_, _, _, _, _]) hG (by decide +kernel) (Nat.le_of_ble_eq_true rfl) rfl (fun C hC hk hx => ?_)
  obtain ⟨va, ha⟩ := hR.rec
  refine x_aload_n hC dX0_formatPeaks_0 rfl rfl ?_
  refine x_iconst (v := 0) hC dX0_formatPeaks_1 (by decide) ?_
  refine x_aload_n hC dX0_formatPeaks_2 rfl rfl ?_
  refine x_iload_n hC dX0_formatPeaks_3 rfl rfl ?_
  refine x_iload_n hC dX0_formatPeaks_4 rfl rfl ?_
  refine x_qV (k := 1600) (n := 4200) (na := 2) hC (cq_formatPeaks hG hT hM hR _ _) (lw_V q2312 q2313 q2314 q81 q2315) ha rfl rfl (by decide +kernel) rfl ⟨Nat.le_of_ble_eq_true rfl, Nat.le_of_ble_eq_true rfl⟩ rfl (Nat.le_of_ble_eq_true rfl) (Nat.le_of_ble_eq_true rfl) (Nat.le_of_ble_eq_true rfl) ⟨Nat.le_of_ble_eq_true rfl, Nat.le_of_ble_eq_true rfl⟩ dX0_formatPeaks_5 ?_ (fun q9 E9 M9 h9 => ?thr)
  rintro _ M1 ⟨h0, rfl, hR1, hF1⟩
  case thr =>
    obtain ⟨⟨k, hk1, hk2⟩, hR9, hF9⟩ := h9
    rcases k with _ | k
    · cases hk2
      refine x_catchW (name := "java/lang/IndexOutOfBoundsException") hC hx [] (0, 10, 13, 28) [(0, 10, 17, 19)] rfl (fun z hz => by cases hz) (by decide) (by decide) q1511 q1543 ?_
      refine x_astore (lv' := [_, _, _, _, _]) hC dX0_formatPeaks_13 (by decide) rfl ?_
      refine x_iconst (v := 1) hC dX0_formatPeaks_15 (by decide) ?_
      exact x_iret hC hk dX0_formatPeaks_16 (Nat.le_of_ble_eq_true rfl) (Nat.le_of_ble_eq_true rfl) (WOl.x (k := 0) hk1 (by decide) (by rw [e_opFmtP (by rw [hk1]; decide)]; exact hR9) hF9 ho)
    rcases k with _ | k
    · cases hk2
      refine x_catchW (name := "java/lang/IllegalArgumentException") hC hx [(0, 10, 13, 28)] (0, 10, 17, 19) [] rfl (fun z hz => by simp only [List.mem_cons, List.not_mem_nil, or_false] at hz; subst hz; exact ⟨by decide, _, q1511, nw_IAE_IOB hG⟩) (by decide) (by decide) q1332 q442 ?_
      refine x_astore (lv' := [_, _, _, _, _]) hC dX0_formatPeaks_17 (by decide) rfl ?_
      refine x_iconst (v := 2) hC dX0_formatPeaks_19 (by decide) ?_
      exact x_iret hC hk dX0_formatPeaks_20 (Nat.le_of_ble_eq_true rfl) (Nat.le_of_ble_eq_true rfl) (WOl.x (k := 1) hk1 (by decide) (by rw [e_opFmtP (by rw [hk1]; decide)]; exact hR9) hF9 ho)
    · cases hk2
  have ho1 := hF1 o _ ho pw11
  refine x_i2l hC dX0_formatPeaks_8 rfl ?_
  refine x_last hC ho1 (by decide) in01 dX0_formatPeaks_9 ?_
  refine x_goto (tgt := 21) hC dX0_formatPeaks_10 (by decide) ?_
  refine x_iconst (v := 0) hC dX0_formatPeaks_21 (by decide) ?_
  exact x_iret hC hk dX0_formatPeaks_22 (Nat.le_of_ble_eq_true rfl) (Nat.le_of_ble_eq_true rfl) (WOl.mk h0 hR1 hF1 ho1)
theorem cw_formattedCharacter (hG : GOK G) (hR : CRep S M T a) (ho : M o = some (la 11 1 f)) (z : Int32) : CqW G yX0_formattedCharacter cX0_formattedCharacter 4 (some .int) [(0, 9, 12, 28)] (xrm 17 22010 80100) [.ref a, .int z, .ref o] M (WOl T a o S (opFmtC S z).1 (opFmtC S z).2.toInt64 M) PF := by
  refine cqW_open (lv := [_, _, _, _]) hG (by decide +kernel) (Nat.le_of_ble_eq_true rfl) rfl (fun C hC hk hx => ?_)
  obtain ⟨va, ha⟩ := hR.rec
  refine x_aload_n hC dX0_formattedCharacter_0 rfl rfl ?_
  refine x_iconst (v := 0) hC dX0_formattedCharacter_1 (by decide) ?_
  refine x_aload_n hC dX0_formattedCharacter_2 rfl rfl ?_
  refine x_iload_n hC dX0_formattedCharacter_3 rfl rfl ?_
  refine x_qV (k := 1) (n := 6) (na := 1) hC (cq_formattedCharacter hG hR _) (lw_V q2320 q2321 q2322 q81 q2323) ha rfl rfl (by decide +kernel) rfl ⟨Nat.le_of_ble_eq_true rfl, Nat.le_of_ble_eq_true rfl⟩ rfl (Nat.le_of_ble_eq_true rfl) (Nat.le_of_ble_eq_true rfl) (Nat.le_of_ble_eq_true rfl) ⟨Nat.le_of_ble_eq_true rfl, Nat.le_of_ble_eq_true rfl⟩ dX0_formattedCharacter_4 ?_ (fun q9 E9 M9 h9 => ?thr)
  rintro _ M1 ⟨h0, rfl, hR1, hF1⟩
  case thr =>
    obtain ⟨⟨k, hk1, hk2⟩, hR9, hF9⟩ := h9
    rcases k with _ | k
    · cases hk2
      refine x_catchW (name := "java/lang/IndexOutOfBoundsException") hC hx [] (0, 9, 12, 28) [] rfl (fun z hz => by cases hz) (by decide) (by decide) q1511 q1543 ?_
      refine x_astore_n (lv' := [_, _, _, _]) hC dX0_formattedCharacter_12 rfl (by decide) rfl ?_
      refine x_iconst (v := 1) hC dX0_formattedCharacter_13 (by decide) ?_
      exact x_iret hC hk dX0_formattedCharacter_14 (Nat.le_of_ble_eq_true rfl) (Nat.le_of_ble_eq_true rfl) (WOl.x (k := 0) hk1 (by decide) hR9 hF9 ho)
    · cases hk2
  have ho1 := hF1 o _ ho pw11
  refine x_i2l hC dX0_formattedCharacter_7 rfl ?_
  refine x_last hC ho1 (by decide) in01 dX0_formattedCharacter_8 ?_
  refine x_goto (tgt := 15) hC dX0_formattedCharacter_9 (by decide) ?_
  refine x_iconst (v := 0) hC dX0_formattedCharacter_15 (by decide) ?_
  exact x_iret hC hk dX0_formattedCharacter_16 (Nat.le_of_ble_eq_true rfl) (Nat.le_of_ble_eq_true rfl) (WOl.mk h0 hR1 hF1 ho1)
end WRP42

