/-! ===== the law's wrappers =====-/
section WRP0
variable {G : X_G} {M : X_M} {T : X_T} {a o : Nat} {S : X_S} {f : Nat → Int64} {fD : Nat → UInt64}
theorem cw_append (hG : GOK G) (hR : CRep S M T a) (ho : M o = some (la 11 1 f)) (w0 w1 w2 w3 w4 : Int32) : CqW G yX0_append cX0_append 8 (some .int) [(0, 16, 19, 13)] (xrm 17 22010 80100) [.ref a, .int w0, .int w1, .int w2, .int w3, .int w4, .ref o] M (WOl T a o (opAppend S w0 w1 w2 w3 w4).2.2 (opAppend S w0 w1 w2 w3 w4).1 (opAppend S w0 w1 w2 w3 w4).2.1.toInt64 M) PF := by
  refine cqW_open (lv := [_, _, _, _, _, _, _, _]) hG (by decide +kernel) (Nat.le_of_ble_eq_true rfl) rfl (fun C hC hk hx => ?_)
  obtain ⟨va, ha⟩ := hR.rec
  refine x_aload hC dX0_append_0 rfl ?_
  refine x_iconst (v := 0) hC dX0_append_2 (by decide) ?_
  refine x_aload_n hC dX0_append_3 rfl rfl ?_
  refine x_iload_n hC dX0_append_4 rfl rfl ?_
  refine x_iload_n hC dX0_append_5 rfl rfl ?_
  refine x_iload_n hC dX0_append_6 rfl rfl ?_
  refine x_iload hC dX0_append_7 rfl ?_
  refine x_iload hC dX0_append_9 rfl ?_
  refine x_qV (k := 2) (n := 11) (na := 5) hC (cq_append hG hR _ _ _ _ _) (lw_V q1302 q1303 q1304 q81 q1305) ha rfl rfl (by decide +kernel) rfl ⟨Nat.le_of_ble_eq_true rfl, Nat.le_of_ble_eq_true rfl⟩ rfl (Nat.le_of_ble_eq_true rfl) (Nat.le_of_ble_eq_true rfl) (Nat.le_of_ble_eq_true rfl) ⟨Nat.le_of_ble_eq_true rfl, Nat.le_of_ble_eq_true rfl⟩ dX0_append_11 ?_ (fun q9 E9 M9 h9 => ?thr)
  rintro _ M1 ⟨h0, rfl, hR1, hF1⟩
  case thr =>
    obtain ⟨⟨k, hk1, hk2⟩, hR9, hF9⟩ := h9
    rcases k with _ | k
    · cases hk2
      refine x_catchW (name := "java/lang/IllegalStateException") hC hx [] (0, 16, 19, 13) [] rfl (fun z hz => by cases hz) (by decide) (by decide) q1301 q1311 ?_
      refine x_astore (lv' := [_, _, _, _, _, _, _, _]) hC dX0_append_19 (by decide) rfl ?_
      refine x_iconst (v := 1) hC dX0_append_21 (by decide) ?_
      exact x_iret hC hk dX0_append_22 (Nat.le_of_ble_eq_true rfl) (Nat.le_of_ble_eq_true rfl) (WOl.x (k := 0) hk1 (by decide) (by rw [e_opAppend (by rw [hk1]; decide)]; exact hR9) hF9 ho)
    · cases hk2
  have ho1 := hF1 o _ ho pw11
  refine x_i2l hC dX0_append_14 rfl ?_
  refine x_last hC ho1 (by decide) in01 dX0_append_15 ?_
  refine x_goto (tgt := 23) hC dX0_append_16 (by decide) ?_
  refine x_iconst (v := 0) hC dX0_append_23 (by decide) ?_
  exact x_iret hC hk dX0_append_24 (Nat.le_of_ble_eq_true rfl) (Nat.le_of_ble_eq_true rfl) (WOl.mk h0 hR1 hF1 ho1)
theorem cw_truncate (hG : GOK G) (hR : CRep S M T a) (ho : M o = some (la 11 1 f)) (x : Int32) : CqW G yX0_truncate cX0_truncate 4 (some .int) [(0, 9, 12, 19)] (xrm 17 22010 80100) [.ref a, .int x, .ref o] M (WOl T a o (opTruncate S x).2.2 (opTruncate S x).1 (opTruncate S x).2.1.toInt64 M) PF := by
  refine cqW_open (lv := [_, _, _, _]) hG (by decide +kernel) (Nat.le_of_ble_eq_true rfl) rfl (fun C hC hk hx => ?_)
  obtain ⟨va, ha⟩ := hR.rec
  refine x_aload_n hC dX0_truncate_0 rfl rfl ?_
  refine x_iconst (v := 0) hC dX0_truncate_1 (by decide) ?_
  refine x_aload_n hC dX0_truncate_2 rfl rfl ?_
  refine x_iload_n hC dX0_truncate_3 rfl rfl ?_
  refine x_qV (k := 1) (n := 6) (na := 1) hC (cq_truncate hG hR _) (lw_V q1333 q1334 q1335 q81 q1336) ha rfl rfl (by decide +kernel) rfl ⟨Nat.le_of_ble_eq_true rfl, Nat.le_of_ble_eq_true rfl⟩ rfl (Nat.le_of_ble_eq_true rfl) (Nat.le_of_ble_eq_true rfl) (Nat.le_of_ble_eq_true rfl) ⟨Nat.le_of_ble_eq_true rfl, Nat.le_of_ble_eq_true rfl⟩ dX0_truncate_4 ?_ (fun q9 E9 M9 h9 => ?thr)
  rintro _ M1 ⟨h0, rfl, hR1, hF1⟩
  case thr =>
    obtain ⟨⟨k, hk1, hk2⟩, hR9, hF9⟩ := h9
    rcases k with _ | k
    · cases hk2
      refine x_catchW (name := "java/lang/IllegalArgumentException") hC hx [] (0, 9, 12, 19) [] rfl (fun z hz => by cases hz) (by decide) (by decide) q1332 q442 ?_
      refine x_astore_n (lv' := [_, _, _, _]) hC dX0_truncate_12 rfl (by decide) rfl ?_
      refine x_iconst (v := 1) hC dX0_truncate_13 (by decide) ?_
      exact x_iret hC hk dX0_truncate_14 (Nat.le_of_ble_eq_true rfl) (Nat.le_of_ble_eq_true rfl) (WOl.x (k := 0) hk1 (by decide) (by rw [e_opTruncate (by rw [hk1]; decide)]; exact hR9) hF9 ho)
    · cases hk2
  have ho1 := hF1 o _ ho pw11
  refine x_i2l hC dX0_truncate_7 rfl ?_
  refine x_last hC ho1 (by decide) in01 dX0_truncate_8 ?_
  refine x_goto (tgt := 15) hC dX0_truncate_9 (by decide) ?_
  refine x_iconst (v := 0) hC dX0_truncate_15 (by decide) ?_
  exact x_iret hC hk dX0_truncate_16 (Nat.le_of_ble_eq_true rfl) (Nat.le_of_ble_eq_true rfl) (WOl.mk h0 hR1 hF1 ho1)
theorem cw_parse (hG : GOK G) (hT0 : T0 G T) (hT : T2 G T) (hM : M2c T M) (hR : CRep S M T a) (ho : M o = some (la 11 1 f)) : CqW G yX0_parse cX0_parse 3 (some .int) [(0, 8, 11, 19)] (xrm 17 22010 80100) [.ref a, .ref o] M (WOl T a o (opParse S).2.2 (opParse S).1 (opParse S).2.1.toInt64 M) PF := by
  refine cqW_open (lv := [_, _, _]) hG (by decide +kernel) (Nat.le_of_ble_eq_true rfl) rfl (fun C hC hk hx => ?_)
  obtain ⟨va, ha⟩ := hR.rec
  refine x_aload_n hC dX0_parse_0 rfl rfl ?_
  refine x_iconst (v := 0) hC dX0_parse_1 (by decide) ?_
  refine x_aload_n hC dX0_parse_2 rfl rfl ?_
  refine x_qVX (k := 22010) (n := 80100) (na := 0) hC (cq_parse hG hT0 hT hM hR) (lw_VW q1348 q1349 q1350 q81 q1351) ha rfl rfl (by decide +kernel) rfl ⟨Nat.le_of_ble_eq_true rfl, Nat.le_of_ble_eq_true rfl⟩ rfl (Nat.le_of_ble_eq_true rfl) (Nat.le_of_ble_eq_true rfl) (Nat.le_of_ble_eq_true rfl) ⟨Nat.le_of_ble_eq_true rfl, Nat.le_of_ble_eq_true rfl⟩ dX0_parse_3 ?_ (fun q9 E9 M9 h9 => ?thr)
  rintro _ M1 ⟨h0, rfl, hR1, hF1⟩
  case thr =>
    obtain ⟨⟨k, hk1, hk2⟩, hR9, hF9⟩ := h9
    rcases k with _ | k
    · cases hk2
      refine x_catchW (name := "java/lang/IllegalArgumentException") hC hx [] (0, 8, 11, 19) [] rfl (fun z hz => by cases hz) (by decide) (by decide) q1332 q442 ?_
      refine x_astore_n (lv' := [_, _, _]) hC dX0_parse_11 rfl (by decide) rfl ?_
      refine x_iconst (v := 1) hC dX0_parse_12 (by decide) ?_
      exact x_iret hC hk dX0_parse_13 (Nat.le_of_ble_eq_true rfl) (Nat.le_of_ble_eq_true rfl) (WOl.x (k := 0) hk1 (by decide) hR9 hF9 ho)
    · cases hk2
  have ho1 := hF1 o _ ho pw11
  refine x_i2l hC dX0_parse_6 rfl ?_
  refine x_last hC ho1 (by decide) in01 dX0_parse_7 ?_
  refine x_goto (tgt := 14) hC dX0_parse_8 (by decide) ?_
  refine x_iconst (v := 0) hC dX0_parse_14 (by decide) ?_
  exact x_iret hC hk dX0_parse_15 (Nat.le_of_ble_eq_true rfl) (Nat.le_of_ble_eq_true rfl) (WOl.mk h0 hR1 hF1 ho1)
theorem cw_length (hG : GOK G) (hR : CRep S M T a) (ho : M o = some (la 11 1 f)) (x : Int32) : CqW G yX0_length cX0_length 4 (some .int) [(0, 9, 12, 28)] (xrm 17 22010 80100) [.ref a, .int x, .ref o] M (WOl T a o S (opLength S x).1 (opLength S x).2.toInt64 M) PF := by
  refine cqW_open (lv := [_, _, _, _]) hG (by decide +kernel) (Nat.le_of_ble_eq_true rfl) rfl (fun C hC hk hx => ?_)
  obtain ⟨va, ha⟩ := hR.rec
  refine x_aload_n hC dX0_length_0 rfl rfl ?_
  refine x_iconst (v := 0) hC dX0_length_1 (by decide) ?_
  refine x_aload_n hC dX0_length_2 rfl rfl ?_
  refine x_iload_n hC dX0_length_3 rfl rfl ?_
  refine x_qV (k := 1) (n := 6) (na := 1) hC (cq_length hG hR _) (lw_V q1530 q1531 q1532 q81 q1533) ha rfl rfl (by decide +kernel) rfl ⟨Nat.le_of_ble_eq_true rfl, Nat.le_of_ble_eq_true rfl⟩ rfl (Nat.le_of_ble_eq_true rfl) (Nat.le_of_ble_eq_true rfl) (Nat.le_of_ble_eq_true rfl) ⟨Nat.le_of_ble_eq_true rfl, Nat.le_of_ble_eq_true rfl⟩ dX0_length_4 ?_ (fun q9 E9 M9 h9 => ?thr)
  rintro _ M1 ⟨h0, rfl, hR1, hF1⟩
  case thr =>
    obtain ⟨⟨k, hk1, hk2⟩, hR9, hF9⟩ := h9
    rcases k with _ | k
    · cases hk2
      refine x_catchW (name := "java/lang/IndexOutOfBoundsException") hC hx [] (0, 9, 12, 28) [] rfl (fun z hz => by cases hz) (by decide) (by decide) q1511 q1543 ?_
      refine x_astore_n (lv' := [_, _, _, _]) hC dX0_length_12 rfl (by decide) rfl ?_
      refine x_iconst (v := 1) hC dX0_length_13 (by decide) ?_
      exact x_iret hC hk dX0_length_14 (Nat.le_of_ble_eq_true rfl) (Nat.le_of_ble_eq_true rfl) (WOl.x (k := 0) hk1 (by decide) hR9 hF9 ho)
    · cases hk2
  have ho1 := hF1 o _ ho pw11
  refine x_i2l hC dX0_length_7 rfl ?_
  refine x_last hC ho1 (by decide) in01 dX0_length_8 ?_
  refine x_goto (tgt := 15) hC dX0_length_9 (by decide) ?_
  refine x_iconst (v := 0) hC dX0_length_15 (by decide) ?_
  exact x_iret hC hk dX0_length_16 (Nat.le_of_ble_eq_true rfl) (Nat.le_of_ble_eq_true rfl) (WOl.mk h0 hR1 hF1 ho1)
theorem cw_nameCharacter (hG : GOK G) (hR : CRep S M T a) (ho : M o = some (la 11 1 f)) (x z : Int32) : CqW G yX0_nameCharacter cX0_nameCharacter 5 (some .int) [(0, 10, 13, 28)] (xrm 17 22010 80100) [.ref a, .int x, .int z, .ref o] M (WOl T a o S (opNameChar S x z).1 (opNameChar S x z).2.toInt64 M) PF := by
  refine cqW_open (lv := [_, _, _, _, _]) hG (by decide +kernel) (Nat.le_of_ble_eq_true rfl) rfl (fun C hC hk hx => ?_)
  obtain ⟨va, ha⟩ := hR.rec
  refine x_aload_n hC dX0_nameCharacter_0 rfl rfl ?_
  refine x_iconst (v := 0) hC dX0_nameCharacter_1 (by decide) ?_
  refine x_aload_n hC dX0_nameCharacter_2 rfl rfl ?_
  refine x_iload_n hC dX0_nameCharacter_3 rfl rfl ?_
  refine x_iload_n hC dX0_nameCharacter_4 rfl rfl ?_
  refine x_qV (k := 2) (n := 12) (na := 2) hC (cq_nameCharacter hG hR _ _) (lw_V q1565 q1566 q1567 q81 q1568) ha rfl rfl (by decide +kernel) rfl ⟨Nat.le_of_ble_eq_true rfl, Nat.le_of_ble_eq_true rfl⟩ rfl (Nat.le_of_ble_eq_true rfl) (Nat.le_of_ble_eq_true rfl) (Nat.le_of_ble_eq_true rfl) ⟨Nat.le_of_ble_eq_true rfl, Nat.le_of_ble_eq_true rfl⟩ dX0_nameCharacter_5 ?_ (fun q9 E9 M9 h9 => ?thr)
  rintro _ M1 ⟨h0, rfl, hR1, hF1⟩
  case thr =>
    obtain ⟨⟨k, hk1, hk2⟩, hR9, hF9⟩ := h9
    rcases k with _ | k
    · cases hk2
      refine x_catchW (name := "java/lang/IndexOutOfBoundsException") hC hx [] (0, 10, 13, 28) [] rfl (fun z hz => by cases hz) (by decide) (by decide) q1511 q1543 ?_
      refine x_astore (lv' := [_, _, _, _, _]) hC dX0_nameCharacter_13 (by decide) rfl ?_
      refine x_iconst (v := 1) hC dX0_nameCharacter_15 (by decide) ?_
      exact x_iret hC hk dX0_nameCharacter_16 (Nat.le_of_ble_eq_true rfl) (Nat.le_of_ble_eq_true rfl) (WOl.x (k := 0) hk1 (by decide) hR9 hF9 ho)
    · cases hk2
  have ho1 := hF1 o _ ho pw11
  refine x_i2l hC dX0_nameCharacter_8 rfl ?_
  refine x_last hC ho1 (by decide) in01 dX0_nameCharacter_9 ?_
  refine x_goto (tgt := 17) hC dX0_nameCharacter_10 (by decide) ?_
  refine x_iconst (v := 0) hC dX0_nameCharacter_17 (by decide) ?_
  exact x_iret hC hk dX0_nameCharacter_18 (Nat.le_of_ble_eq_true rfl) (Nat.le_of_ble_eq_true rfl) (WOl.mk h0 hR1 hF1 ho1)
theorem cw_sample (hG : GOK G) (hR : CRep S M T a) (ho : M o = some (la 11 1 f)) (x z : Int32) : CqW G yX0_sample cX0_sample 5 (some .int) [(0, 10, 13, 28)] (xrm 17 22010 80100) [.ref a, .int x, .int z, .ref o] M (WOl T a o S (opSample S x z).1 (opSample S x z).2.toInt64 M) PF := by
  refine cqW_open (lv := [_, _, _, _, _]) hG (by decide +kernel) (Nat.le_of_ble_eq_true rfl) rfl (fun C hC hk hx => ?_)
  obtain ⟨va, ha⟩ := hR.rec
  refine x_aload_n hC dX0_sample_0 rfl rfl ?_
  refine x_iconst (v := 0) hC dX0_sample_1 (by decide) ?_
  refine x_aload_n hC dX0_sample_2 rfl rfl ?_
  refine x_iload_n hC dX0_sample_3 rfl rfl ?_
  refine x_iload_n hC dX0_sample_4 rfl rfl ?_
  refine x_qV (k := 2) (n := 12) (na := 2) hC (cq_sample hG hR _ _) (lw_V q1572 q1573 q1574 q81 q1575) ha rfl rfl (by decide +kernel) rfl ⟨Nat.le_of_ble_eq_true rfl, Nat.le_of_ble_eq_true rfl⟩ rfl (Nat.le_of_ble_eq_true rfl) (Nat.le_of_ble_eq_true rfl) (Nat.le_of_ble_eq_true rfl) ⟨Nat.le_of_ble_eq_true rfl, Nat.le_of_ble_eq_true rfl⟩ dX0_sample_5 ?_ (fun q9 E9 M9 h9 => ?thr)
  rintro _ M1 ⟨h0, rfl, hR1, hF1⟩
  case thr =>
    obtain ⟨⟨k, hk1, hk2⟩, hR9, hF9⟩ := h9
    rcases k with _ | k
    · cases hk2
      refine x_catchW (name := "java/lang/IndexOutOfBoundsException") hC hx [] (0, 10, 13, 28) [] rfl (fun z hz => by cases hz) (by decide) (by decide) q1511 q1543 ?_
      refine x_astore (lv' := [_, _, _, _, _]) hC dX0_sample_13 (by decide) rfl ?_
      refine x_iconst (v := 1) hC dX0_sample_15 (by decide) ?_
      exact x_iret hC hk dX0_sample_16 (Nat.le_of_ble_eq_true rfl) (Nat.le_of_ble_eq_true rfl) (WOl.x (k := 0) hk1 (by decide) hR9 hF9 ho)
    · cases hk2
  have ho1 := hF1 o _ ho pw11
  refine x_i2l hC dX0_sample_8 rfl ?_
  refine x_last hC ho1 (by decide) in01 dX0_sample_9 ?_
  refine x_goto (tgt := 17) hC dX0_sample_10 (by decide) ?_
  refine x_iconst (v := 0) hC dX0_sample_17 (by decide) ?_
  exact x_iret hC hk dX0_sample_18 (Nat.le_of_ble_eq_true rfl) (Nat.le_of_ble_eq_true rfl) (WOl.mk h0 hR1 hF1 ho1)
theorem cw_energy (hG : GOK G) (hR : CRep S M T a) (ho : M o = some (la 11 1 f)) (x : Int32) : CqW G yX0_energy cX0_energy 4 (some .int) [(0, 8, 11, 28)] (xrm 17 22010 80100) [.ref a, .int x, .ref o] M (WOl T a o S (opEnergy S x).1 (opEnergy S x).2 M) PF := by
  refine cqW_open (lv := [_, _, _, _]) hG (by decide +kernel) (Nat.le_of_ble_eq_true rfl) rfl (fun C hC hk hx => ?_)
  obtain ⟨va, ha⟩ := hR.rec
  refine x_aload_n hC dX0_energy_0 rfl rfl ?_
  refine x_iconst (v := 0) hC dX0_energy_1 (by decide) ?_
  refine x_aload_n hC dX0_energy_2 rfl rfl ?_
  refine x_iload_n hC dX0_energy_3 rfl rfl ?_
  refine x_qV (k := 1) (n := 6) (na := 1) hC (cq_energy hG hR _) (lw_V q1588 q1589 q1590 q81 q1591) ha rfl rfl (by decide +kernel) rfl ⟨Nat.le_of_ble_eq_true rfl, Nat.le_of_ble_eq_true rfl⟩ rfl (Nat.le_of_ble_eq_true rfl) (Nat.le_of_ble_eq_true rfl) (Nat.le_of_ble_eq_true rfl) ⟨Nat.le_of_ble_eq_true rfl, Nat.le_of_ble_eq_true rfl⟩ dX0_energy_4 ?_ (fun q9 E9 M9 h9 => ?thr)
  rintro _ M1 ⟨h0, rfl, hR1, hF1⟩
  case thr =>
    obtain ⟨⟨k, hk1, hk2⟩, hR9, hF9⟩ := h9
    rcases k with _ | k
    · cases hk2
      refine x_catchW (name := "java/lang/IndexOutOfBoundsException") hC hx [] (0, 8, 11, 28) [] rfl (fun z hz => by cases hz) (by decide) (by decide) q1511 q1543 ?_
      refine x_astore_n (lv' := [_, _, _, _]) hC dX0_energy_11 rfl (by decide) rfl ?_
      refine x_iconst (v := 1) hC dX0_energy_12 (by decide) ?_
      exact x_iret hC hk dX0_energy_13 (Nat.le_of_ble_eq_true rfl) (Nat.le_of_ble_eq_true rfl) (WOl.x (k := 0) hk1 (by decide) hR9 hF9 ho)
    · cases hk2
  have ho1 := hF1 o _ ho pw11
  refine x_last hC ho1 (by decide) in01 dX0_energy_7 ?_
  refine x_goto (tgt := 14) hC dX0_energy_8 (by decide) ?_
  refine x_iconst (v := 0) hC dX0_energy_14 (by decide) ?_
  exact x_iret hC hk dX0_energy_15 (Nat.le_of_ble_eq_true rfl) (Nat.le_of_ble_eq_true rfl) (WOl.mk h0 hR1 hF1 ho1)
theorem cw_loudestPlace (hG : GOK G) (hR : CRep S M T a) (ho : M o = some (la 11 1 f)) (x : Int32) : CqW G yX0_loudestPlace cX0_loudestPlace 4 (some .int) [(0, 9, 12, 28)] (xrm 17 22010 80100) [.ref a, .int x, .ref o] M (WOl T a o S (opLoudPl S x).1 (opLoudPl S x).2.toInt64 M) PF := by
  refine cqW_open (lv := [_, _, _, _]) hG (by decide +kernel) (Nat.le_of_ble_eq_true rfl) rfl (fun C hC hk hx => ?_)
  obtain ⟨va, ha⟩ := hR.rec
  refine x_aload_n hC dX0_loudestPlace_0 rfl rfl ?_
  refine x_iconst (v := 0) hC dX0_loudestPlace_1 (by decide) ?_
  refine x_aload_n hC dX0_loudestPlace_2 rfl rfl ?_
  refine x_iload_n hC dX0_loudestPlace_3 rfl rfl ?_
  refine x_qV (k := 1) (n := 6) (na := 1) hC (cq_loudestPlace hG hR _) (lw_V q1599 q1600 q1601 q81 q1602) ha rfl rfl (by decide +kernel) rfl ⟨Nat.le_of_ble_eq_true rfl, Nat.le_of_ble_eq_true rfl⟩ rfl (Nat.le_of_ble_eq_true rfl) (Nat.le_of_ble_eq_true rfl) (Nat.le_of_ble_eq_true rfl) ⟨Nat.le_of_ble_eq_true rfl, Nat.le_of_ble_eq_true rfl⟩ dX0_loudestPlace_4 ?_ (fun q9 E9 M9 h9 => ?thr)
  rintro _ M1 ⟨h0, rfl, hR1, hF1⟩
  case thr =>
    obtain ⟨⟨k, hk1, hk2⟩, hR9, hF9⟩ := h9
    rcases k with _ | k
    · cases hk2
      refine x_catchW (name := "java/lang/IndexOutOfBoundsException") hC hx [] (0, 9, 12, 28) [] rfl (fun z hz => by cases hz) (by decide) (by decide) q1511 q1543 ?_
      refine x_astore_n (lv' := [_, _, _, _]) hC dX0_loudestPlace_12 rfl (by decide) rfl ?_
      refine x_iconst (v := 1) hC dX0_loudestPlace_13 (by decide) ?_
      exact x_iret hC hk dX0_loudestPlace_14 (Nat.le_of_ble_eq_true rfl) (Nat.le_of_ble_eq_true rfl) (WOl.x (k := 0) hk1 (by decide) hR9 hF9 ho)
    · cases hk2
  have ho1 := hF1 o _ ho pw11
  refine x_i2l hC dX0_loudestPlace_7 rfl ?_
  refine x_last hC ho1 (by decide) in01 dX0_loudestPlace_8 ?_
  refine x_goto (tgt := 15) hC dX0_loudestPlace_9 (by decide) ?_
  refine x_iconst (v := 0) hC dX0_loudestPlace_15 (by decide) ?_
  exact x_iret hC hk dX0_loudestPlace_16 (Nat.le_of_ble_eq_true rfl) (Nat.le_of_ble_eq_true rfl) (WOl.mk h0 hR1 hF1 ho1)
theorem cw_meanLoudness (hG : GOK G) (hR : CRep S M T a) (ho : M o = some (da 11 1 fD)) (x : Int32) : CqW G yX0_meanLoudness cX0_meanLoudness 4 (some .int) [(0, 8, 11, 28)] (xrm 17 22010 80100) [.ref a, .int x, .ref o] M (WOd T a o S (opMeanLoud S x).1 (opMeanLoud S x).2 M) PF := by
  refine cqW_open (lv := [_, _, _, _]) hG (by decide +kernel) (Nat.le_of_ble_eq_true rfl) rfl (fun C hC hk hx => ?_)
  obtain ⟨va, ha⟩ := hR.rec
  refine x_aload_n hC dX0_meanLoudness_0 rfl rfl ?_
  refine x_iconst (v := 0) hC dX0_meanLoudness_1 (by decide) ?_
  refine x_aload_n hC dX0_meanLoudness_2 rfl rfl ?_
  refine x_iload_n hC dX0_meanLoudness_3 rfl rfl ?_
  refine x_qV (k := 1) (n := 6) (na := 1) hC (cq_meanLoudness hG hR _) (lw_V q1609 q1610 q1611 q81 q1612) ha rfl rfl (by decide +kernel) rfl ⟨Nat.le_of_ble_eq_true rfl, Nat.le_of_ble_eq_true rfl⟩ rfl (Nat.le_of_ble_eq_true rfl) (Nat.le_of_ble_eq_true rfl) (Nat.le_of_ble_eq_true rfl) ⟨Nat.le_of_ble_eq_true rfl, Nat.le_of_ble_eq_true rfl⟩ dX0_meanLoudness_4 ?_ (fun q9 E9 M9 h9 => ?thr)
  rintro _ M1 ⟨h0, rfl, hR1, hF1⟩
  case thr =>
    obtain ⟨⟨k, hk1, hk2⟩, hR9, hF9⟩ := h9
    rcases k with _ | k
    · cases hk2
      refine x_catchW (name := "java/lang/IndexOutOfBoundsException") hC hx [] (0, 8, 11, 28) [] rfl (fun z hz => by cases hz) (by decide) (by decide) q1511 q1543 ?_
      refine x_astore_n (lv' := [_, _, _, _]) hC dX0_meanLoudness_11 rfl (by decide) rfl ?_
      refine x_iconst (v := 1) hC dX0_meanLoudness_12 (by decide) ?_
      exact x_iret hC hk dX0_meanLoudness_13 (Nat.le_of_ble_eq_true rfl) (Nat.le_of_ble_eq_true rfl) (WOd.x (k := 0) hk1 (by decide) hR9 hF9 ho)
    · cases hk2
  have ho1 := hF1 o _ ho pw11
  refine x_dast hC ho1 (by decide) in01 dX0_meanLoudness_7 ?_
  refine x_goto (tgt := 14) hC dX0_meanLoudness_8 (by decide) ?_
  refine x_iconst (v := 0) hC dX0_meanLoudness_14 (by decide) ?_
  exact x_iret hC hk dX0_meanLoudness_15 (Nat.le_of_ble_eq_true rfl) (Nat.le_of_ble_eq_true rfl) (WOd.mk h0 hR1 hF1 ho1)
theorem cw_signChanges (hG : GOK G) (hR : CRep S M T a) (ho : M o = some (la 11 1 f)) (x : Int32) : CqW G yX0_signChanges cX0_signChanges 4 (some .int) [(0, 9, 12, 28)] (xrm 17 22010 80100) [.ref a, .int x, .ref o] M (WOl T a o S (opSigns S x).1 (opSigns S x).2.toInt64 M) PF := by
  refine cqW_open (lv := [_, _, _, _]) hG (by decide +kernel) (Nat.le_of_ble_eq_true rfl) rfl (fun C hC hk hx => ?_)
  obtain ⟨va, ha⟩ := hR.rec
  refine x_aload_n hC dX0_signChanges_0 rfl rfl ?_
  refine x_iconst (v := 0) hC dX0_signChanges_1 (by decide) ?_
  refine x_aload_n hC dX0_signChanges_2 rfl rfl ?_
  refine x_iload_n hC dX0_signChanges_3 rfl rfl ?_
  refine x_qV (k := 1) (n := 6) (na := 1) hC (cq_signChanges hG hR _) (lw_V q1616 q1617 q1618 q81 q1619) ha rfl rfl (by decide +kernel) rfl ⟨Nat.le_of_ble_eq_true rfl, Nat.le_of_ble_eq_true rfl⟩ rfl (Nat.le_of_ble_eq_true rfl) (Nat.le_of_ble_eq_true rfl) (Nat.le_of_ble_eq_true rfl) ⟨Nat.le_of_ble_eq_true rfl, Nat.le_of_ble_eq_true rfl⟩ dX0_signChanges_4 ?_ (fun q9 E9 M9 h9 => ?thr)
  rintro _ M1 ⟨h0, rfl, hR1, hF1⟩
  case thr =>
    obtain ⟨⟨k, hk1, hk2⟩, hR9, hF9⟩ := h9
    rcases k with _ | k
    · cases hk2
      refine x_catchW (name := "java/lang/IndexOutOfBoundsException") hC hx [] (0, 9, 12, 28) [] rfl (fun z hz => by cases hz) (by decide) (by decide) q1511 q1543 ?_
      refine x_astore_n (lv' := [_, _, _, _]) hC dX0_signChanges_12 rfl (by decide) rfl ?_
      refine x_iconst (v := 1) hC dX0_signChanges_13 (by decide) ?_
      exact x_iret hC hk dX0_signChanges_14 (Nat.le_of_ble_eq_true rfl) (Nat.le_of_ble_eq_true rfl) (WOl.x (k := 0) hk1 (by decide) hR9 hF9 ho)
    · cases hk2
  have ho1 := hF1 o _ ho pw11
  refine x_i2l hC dX0_signChanges_7 rfl ?_
  refine x_last hC ho1 (by decide) in01 dX0_signChanges_8 ?_
  refine x_goto (tgt := 15) hC dX0_signChanges_9 (by decide) ?_
  refine x_iconst (v := 0) hC dX0_signChanges_15 (by decide) ?_
  exact x_iret hC hk dX0_signChanges_16 (Nat.le_of_ble_eq_true rfl) (Nat.le_of_ble_eq_true rfl) (WOl.mk h0 hR1 hF1 ho1)
theorem cw_samplesBetween (hG : GOK G) (hR : CRep S M T a) (ho : M o = some (la 11 1 f)) (x lo hi : Int32) : CqW G yX0_samplesBetween cX0_samplesBetween 6 (some .int) [(0, 12, 15, 28), (0, 12, 19, 19)] (xrm 17 22010 80100) [.ref a, .int x, .int lo, .int hi, .ref o] M (WOl T a o S (opBetw S x lo hi).1 (opBetw S x lo hi).2.toInt64 M) PF := by
  refine cqW_open (lv := [_, _, _, _, _, _]) hG (by decide +kernel) (Nat.le_of_ble_eq_true rfl) rfl (fun C hC hk hx => ?_)
  obtain ⟨va, ha⟩ := hR.rec
  refine x_aload hC dX0_samplesBetween_0 rfl ?_
  refine x_iconst (v := 0) hC dX0_samplesBetween_2 (by decide) ?_
  refine x_aload_n hC dX0_samplesBetween_3 rfl rfl ?_
  refine x_iload_n hC dX0_samplesBetween_4 rfl rfl ?_
  refine x_iload_n hC dX0_samplesBetween_5 rfl rfl ?_
  refine x_iload_n hC dX0_samplesBetween_6 rfl rfl ?_
  refine x_qV (k := 2) (n := 12) (na := 3) hC (cq_samplesBetween hG hR _ _ _) (lw_V q1627 q1628 q1629 q81 q1630) ha rfl rfl (by decide +kernel) rfl ⟨Nat.le_of_ble_eq_true rfl, Nat.le_of_ble_eq_true rfl⟩ rfl (Nat.le_of_ble_eq_true rfl) (Nat.le_of_ble_eq_true rfl) (Nat.le_of_ble_eq_true rfl) ⟨Nat.le_of_ble_eq_true rfl, Nat.le_of_ble_eq_true rfl⟩ dX0_samplesBetween_7 ?_ (fun q9 E9 M9 h9 => ?thr)
  rintro _ M1 ⟨h0, rfl, hR1, hF1⟩
  case thr =>
    obtain ⟨⟨k, hk1, hk2⟩, hR9, hF9⟩ := h9
    rcases k with _ | k
    · cases hk2
      refine x_catchW (name := "java/lang/IndexOutOfBoundsException") hC hx [] (0, 12, 15, 28) [(0, 12, 19, 19)] rfl (fun z hz => by cases hz) (by decide) (by decide) q1511 q1543 ?_
      refine x_astore (lv' := [_, _, _, _, _, _]) hC dX0_samplesBetween_15 (by decide) rfl ?_
      refine x_iconst (v := 1) hC dX0_samplesBetween_17 (by decide) ?_
      exact x_iret hC hk dX0_samplesBetween_18 (Nat.le_of_ble_eq_true rfl) (Nat.le_of_ble_eq_true rfl) (WOl.x (k := 0) hk1 (by decide) hR9 hF9 ho)
    rcases k with _ | k
    · cases hk2
      refine x_catchW (name := "java/lang/IllegalArgumentException") hC hx [(0, 12, 15, 28)] (0, 12, 19, 19) [] rfl (fun z hz => by simp only [List.mem_cons, List.not_mem_nil, or_false] at hz; subst hz; exact ⟨by decide, _, q1511, nw_IAE_IOB hG⟩) (by decide) (by decide) q1332 q442 ?_
      refine x_astore (lv' := [_, _, _, _, _, _]) hC dX0_samplesBetween_19 (by decide) rfl ?_
      refine x_iconst (v := 2) hC dX0_samplesBetween_21 (by decide) ?_
      exact x_iret hC hk dX0_samplesBetween_22 (Nat.le_of_ble_eq_true rfl) (Nat.le_of_ble_eq_true rfl) (WOl.x (k := 1) hk1 (by decide) hR9 hF9 ho)
    · cases hk2
  have ho1 := hF1 o _ ho pw11
  refine x_i2l hC dX0_samplesBetween_10 rfl ?_
  refine x_last hC ho1 (by decide) in01 dX0_samplesBetween_11 ?_
  refine x_goto (tgt := 23) hC dX0_samplesBetween_12 (by decide) ?_
  refine x_iconst (v := 0) hC dX0_samplesBetween_23 (by decide) ?_
  exact x_iret hC hk dX0_samplesBetween_24 (Nat.le_of_ble_eq_true rfl) (Nat.le_of_ble_eq_true rfl) (WOl.mk h0 hR1 hF1 ho1)
theorem cw_isSymmetric (hG : GOK G) (hR : CRep S M T a) (ho : M o = some (la 11 1 f)) (x : Int32) : CqW G yX0_isSymmetric cX0_isSymmetric 4 (some .int) [(0, 16, 19, 28)] (xrm 17 22010 80100) [.ref a, .int x, .ref o] M (WOl T a o S (opSym S x).1 (if (opSym S x).2 = 0 then 0 else 1) M) PF := by
  refine cqW_open (lv := [_, _, _, _]) hG (by decide +kernel) (Nat.le_of_ble_eq_true rfl) rfl (fun C hC hk hx => ?_)
  obtain ⟨va, ha⟩ := hR.rec
  refine x_aload_n hC dX0_isSymmetric_0 rfl rfl ?_
  refine x_iconst (v := 0) hC dX0_isSymmetric_1 (by decide) ?_
  refine x_aload_n hC dX0_isSymmetric_2 rfl rfl ?_
  refine x_iload_n hC dX0_isSymmetric_3 rfl rfl ?_
  refine x_qV (k := 2) (n := 70) (na := 1) hC (cq_isSymmetric hG hR _) (lw_V q1638 q1639 q1640 q81 q1641) ha rfl rfl (by decide +kernel) rfl ⟨Nat.le_of_ble_eq_true rfl, Nat.le_of_ble_eq_true rfl⟩ rfl (Nat.le_of_ble_eq_true rfl) (Nat.le_of_ble_eq_true rfl) (Nat.le_of_ble_eq_true rfl) ⟨Nat.le_of_ble_eq_true rfl, Nat.le_of_ble_eq_true rfl⟩ dX0_isSymmetric_4 ?_ (fun q9 E9 M9 h9 => ?thr)
  rintro _ M1 ⟨h0, rfl, hR1, hF1⟩
  case thr =>
    obtain ⟨⟨k, hk1, hk2⟩, hR9, hF9⟩ := h9
    rcases k with _ | k
    · cases hk2
      refine x_catchW (name := "java/lang/IndexOutOfBoundsException") hC hx [] (0, 16, 19, 28) [] rfl (fun z hz => by cases hz) (by decide) (by decide) q1511 q1543 ?_
      refine x_astore_n (lv' := [_, _, _, _]) hC dX0_isSymmetric_19 rfl (by decide) rfl ?_
      refine x_iconst (v := 1) hC dX0_isSymmetric_20 (by decide) ?_
      exact x_iret hC hk dX0_isSymmetric_21 (Nat.le_of_ble_eq_true rfl) (Nat.le_of_ble_eq_true rfl) (WOl.x (k := 0) hk1 (by decide) hR9 hF9 ho)
    · cases hk2
  have ho1 := hF1 o _ ho pw11
  refine x_if_eq (tgt := 14) hC dX0_isSymmetric_7 (by decide) (fun c => ?_) (fun c => ?_)
  · refine x_lconst (v := 0) hC dX0_isSymmetric_14 (by decide) ?_
    refine x_last hC ho1 (by decide) in01 dX0_isSymmetric_15 ?_
    refine x_goto (tgt := 22) hC dX0_isSymmetric_16 (by decide) ?_
    refine x_iconst (v := 0) hC dX0_isSymmetric_22 (by decide) ?_
    rw [if_pos c] at hk
    exact x_iret hC hk dX0_isSymmetric_23 (Nat.le_of_ble_eq_true rfl) (Nat.le_of_ble_eq_true rfl) (WOl.mk h0 hR1 hF1 ho1)
  · refine x_lconst (v := 1) hC dX0_isSymmetric_10 (by decide) ?_
    refine x_goto (tgt := 15) hC dX0_isSymmetric_11 (by decide) ?_
    refine x_last hC ho1 (by decide) in01 dX0_isSymmetric_15 ?_
    refine x_goto (tgt := 22) hC dX0_isSymmetric_16 (by decide) ?_
    refine x_iconst (v := 0) hC dX0_isSymmetric_22 (by decide) ?_
    rw [if_neg c] at hk
    exact x_iret hC hk dX0_isSymmetric_23 (Nat.le_of_ble_eq_true rfl) (Nat.le_of_ble_eq_true rfl) (WOl.mk h0 hR1 hF1 ho1)
theorem cw_loudestRecording (hG : GOK G) (hR : CRep S M T a) (ho : M o = some (la 11 1 f)) : CqW G yX0_loudestRecording cX0_loudestRecording 3 (some .int) [(0, 8, 11, 63)] (xrm 17 22010 80100) [.ref a, .ref o] M (WOl T a o S (opLoudRec S).1 (opLoudRec S).2.toInt64 M) PF := by
  refine cqW_open (lv := [_, _, _]) hG (by decide +kernel) (Nat.le_of_ble_eq_true rfl) rfl (fun C hC hk hx => ?_)
  obtain ⟨va, ha⟩ := hR.rec
  refine x_aload_n hC dX0_loudestRecording_0 rfl rfl ?_
  refine x_iconst (v := 0) hC dX0_loudestRecording_1 (by decide) ?_
  refine x_aload_n hC dX0_loudestRecording_2 rfl rfl ?_
  refine x_qV (k := 1) (n := 6) (na := 0) hC (cq_loudestRecording hG hR) (lw_V q1654 q1655 q1656 q81 q1657) ha rfl rfl (by decide +kernel) rfl ⟨Nat.le_of_ble_eq_true rfl, Nat.le_of_ble_eq_true rfl⟩ rfl (Nat.le_of_ble_eq_true rfl) (Nat.le_of_ble_eq_true rfl) (Nat.le_of_ble_eq_true rfl) ⟨Nat.le_of_ble_eq_true rfl, Nat.le_of_ble_eq_true rfl⟩ dX0_loudestRecording_3 ?_ (fun q9 E9 M9 h9 => ?thr)
  rintro _ M1 ⟨h0, rfl, hR1, hF1⟩
  case thr =>
    obtain ⟨⟨k, hk1, hk2⟩, hR9, hF9⟩ := h9
    rcases k with _ | k
    · cases hk2
      refine x_catchW (name := "java/util/NoSuchElementException") hC hx [] (0, 8, 11, 63) [] rfl (fun z hz => by cases hz) (by decide) (by decide) q1653 q1107 ?_
      refine x_astore_n (lv' := [_, _, _]) hC dX0_loudestRecording_11 rfl (by decide) rfl ?_
      refine x_iconst (v := 1) hC dX0_loudestRecording_12 (by decide) ?_
      exact x_iret hC hk dX0_loudestRecording_13 (Nat.le_of_ble_eq_true rfl) (Nat.le_of_ble_eq_true rfl) (WOl.x (k := 0) hk1 (by decide) hR9 hF9 ho)
    · cases hk2
  have ho1 := hF1 o _ ho pw11
  refine x_i2l hC dX0_loudestRecording_6 rfl ?_
  refine x_last hC ho1 (by decide) in01 dX0_loudestRecording_7 ?_
  refine x_goto (tgt := 14) hC dX0_loudestRecording_8 (by decide) ?_
  refine x_iconst (v := 0) hC dX0_loudestRecording_14 (by decide) ?_
  exact x_iret hC hk dX0_loudestRecording_15 (Nat.le_of_ble_eq_true rfl) (Nat.le_of_ble_eq_true rfl) (WOl.mk h0 hR1 hF1 ho1)
theorem cw_walsh (hG : GOK G) (hR : CRep S M T a) (ho : M o = some (la 11 1 f)) (n x z : Int32) : CqW G yX0_walsh cX0_walsh 6 (some .int) [(0, 12, 15, 19)] (xrm 17 22010 80100) [.ref a, .int n, .int x, .int z, .ref o] M (WOl T a o S (opWalsh n x z).1 (opWalsh n x z).2.toInt64 M) PF := by
  refine cqW_open (lv := [_, _, _, _, _, _]) hG (by decide +kernel) (Nat.le_of_ble_eq_true rfl) rfl (fun C hC hk hx => ?_)
  obtain ⟨va, ha⟩ := hR.rec
  refine x_aload hC dX0_walsh_0 rfl ?_
  refine x_iconst (v := 0) hC dX0_walsh_2 (by decide) ?_
  refine x_aload_n hC dX0_walsh_3 rfl rfl ?_
  refine x_iload_n hC dX0_walsh_4 rfl rfl ?_
  refine x_iload_n hC dX0_walsh_5 rfl rfl ?_
  refine x_iload_n hC dX0_walsh_6 rfl rfl ?_
  refine x_qV (k := 2) (n := 12) (na := 3) hC (cq_walsh hG hR _ _ _) (lw_V q1666 q1667 q1668 q81 q1669) ha rfl rfl (by decide +kernel) rfl ⟨Nat.le_of_ble_eq_true rfl, Nat.le_of_ble_eq_true rfl⟩ rfl (Nat.le_of_ble_eq_true rfl) (Nat.le_of_ble_eq_true rfl) (Nat.le_of_ble_eq_true rfl) ⟨Nat.le_of_ble_eq_true rfl, Nat.le_of_ble_eq_true rfl⟩ dX0_walsh_7 ?_ (fun q9 E9 M9 h9 => ?thr)
  rintro _ M1 ⟨h0, rfl, hR1, hF1⟩
  case thr =>
    obtain ⟨⟨k, hk1, hk2⟩, hR9, hF9⟩ := h9
    rcases k with _ | k
    · cases hk2
      refine x_catchW (name := "java/lang/IllegalArgumentException") hC hx [] (0, 12, 15, 19) [] rfl (fun z hz => by cases hz) (by decide) (by decide) q1332 q442 ?_
      refine x_astore (lv' := [_, _, _, _, _, _]) hC dX0_walsh_15 (by decide) rfl ?_
      refine x_iconst (v := 1) hC dX0_walsh_17 (by decide) ?_
      exact x_iret hC hk dX0_walsh_18 (Nat.le_of_ble_eq_true rfl) (Nat.le_of_ble_eq_true rfl) (WOl.x (k := 0) hk1 (by decide) hR9 hF9 ho)
    · cases hk2
  have ho1 := hF1 o _ ho pw11
  refine x_i2l hC dX0_walsh_10 rfl ?_
  refine x_last hC ho1 (by decide) in01 dX0_walsh_11 ?_
  refine x_goto (tgt := 19) hC dX0_walsh_12 (by decide) ?_
  refine x_iconst (v := 0) hC dX0_walsh_19 (by decide) ?_
  exact x_iret hC hk dX0_walsh_20 (Nat.le_of_ble_eq_true rfl) (Nat.le_of_ble_eq_true rfl) (WOl.mk h0 hR1 hF1 ho1)
end WRP0

