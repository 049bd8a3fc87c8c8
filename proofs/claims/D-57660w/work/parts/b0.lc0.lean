/-! ===== the law's cases ===== -/
section LC0
variable {G : X_G} {C : X_C} {nm : String} {M : X_M} {T : X_T} {b L x m o od i kc ks : Nat} {xs : Nat → Int32} {v6 v7 v8 : Option Value}
theorem lc_0 (hG : GOK G) (hC : Cx G C (yL nm) cL_law 9 (some .boolean) room_1) (hT0 : T0 G T) (hT1 : T1 G T) (hT2 : T2 G T) (h : XLS T b L x m o od xs M) (hi : i + 5 < L) (hL : L ≤ 144) (hr : kc + 22010 ≤ room_1.cells ∧ ks + 80100 ≤ room_1.slots) (next : LN G C T b L x m o od i xs (kc + 22010) (ks + 80100)) : Wg G C M kc ks 304 [some (.ref b), some (.ref x), some (.ref m), some (.ref o), some (.ref od), some (.int (nI i)), v6, v7, v8] [] := by
  have hls := h
  obtain ⟨hb, hM1c, hM2c, ⟨S, P, V, A, hR, hm, hS⟩, ⟨f, ho⟩, ⟨fd, hd⟩⟩ := h
  obtain ⟨va, ha⟩ := hR.rec
  refine x_aload_n hC dL_law_304 rfl rfl ?_
  refine x_aload_n hC dL_law_305 rfl rfl ?_
  refine x_iload hC dL_law_306 rfl ?_
  refine x_iconst (v := nI 1) hC dL_law_308 (by decide) ?_
  refine x_iaddN hC dL_law_309 ?_
  refine x_ialdN hC hb (by omega) (by first | decide | omega) dL_law_310 ?_
  refine x_aload_n hC dL_law_311 rfl rfl ?_
  refine x_iload hC dL_law_312 rfl ?_
  refine x_iconst (v := nI 2) hC dL_law_314 (by decide) ?_
  refine x_iaddN hC dL_law_315 ?_
  refine x_ialdN hC hb (by omega) (by first | decide | omega) dL_law_316 ?_
  refine x_aload_n hC dL_law_317 rfl rfl ?_
  refine x_iload hC dL_law_318 rfl ?_
  refine x_iconst (v := nI 3) hC dL_law_320 (by decide) ?_
  refine x_iaddN hC dL_law_321 ?_
  refine x_ialdN hC hb (by omega) (by first | decide | omega) dL_law_322 ?_
  refine x_aload_n hC dL_law_323 rfl rfl ?_
  refine x_iload hC dL_law_324 rfl ?_
  refine x_iconst (v := nI 4) hC dL_law_326 (by decide) ?_
  refine x_iaddN hC dL_law_327 ?_
  refine x_ialdN hC hb (by omega) (by first | decide | omega) dL_law_328 ?_
  refine x_aload_n hC dL_law_329 rfl rfl ?_
  refine x_iload hC dL_law_330 rfl ?_
  refine x_iconst (v := nI 5) hC dL_law_332 (by decide) ?_
  refine x_iaddN hC dL_law_333 ?_
  refine x_ialdN hC hb (by omega) (by first | decide | omega) dL_law_334 ?_
  refine x_aload_n hC dL_law_335 rfl rfl ?_
  refine x_qSX (k := kc + 22010) (n := ks + 80100) (na := 7) hC (cw_append hG  hR ho (xs (i + 1)) (xs (i + 2)) (xs (i + 3)) (xs (i + 4)) (xs (i + 5))) (lw_SW q1298 q1299 q80 q1300) (by decide +kernel) rfl ⟨Nat.le_of_ble_eq_true rfl, Nat.le_of_ble_eq_true rfl⟩ rfl (Nat.le_of_ble_eq_true rfl) (Nat.le_refl _) (Nat.le_refl _) hr dL_law_336 ?_ (fun q9 E9 M9 h9 => h9.elim)
  rintro _ M1 ⟨rfl, hR1, ⟨f1, ho1, hv1⟩, hFO⟩
  have hF1 := hFO.q ho rfl
  have hb1 := hF1.z pl0 hb
  have hm1 := hm.pl hF1
  have hox : (∃ f, M1 o = some (la 11 1 f)) ∧ (∃ f, M1 od = some (da 11 1 f)) := ⟨⟨f1, ho1⟩, xls_od hFO ho hd⟩
  refine x_istore (lv' := [_, _, _, _, _, _, _, _, _]) hC dL_law_339 (by decide) rfl ?_
  refine x_aload_n hC dL_law_341 rfl rfl ?_
  refine x_aload_n hC dL_law_342 rfl rfl ?_
  refine x_iload hC dL_law_343 rfl ?_
  refine x_iconst (v := nI 1) hC dL_law_345 (by decide) ?_
  refine x_iaddN hC dL_law_346 ?_
  refine x_ialdN hC hb1 (by omega) (by first | decide | omega) dL_law_347 ?_
  refine x_aload_n hC dL_law_348 rfl rfl ?_
  refine x_iload hC dL_law_349 rfl ?_
  refine x_iconst (v := nI 2) hC dL_law_351 (by decide) ?_
  refine x_iaddN hC dL_law_352 ?_
  refine x_ialdN hC hb1 (by omega) (by first | decide | omega) dL_law_353 ?_
  refine x_aload_n hC dL_law_354 rfl rfl ?_
  refine x_iload hC dL_law_355 rfl ?_
  refine x_iconst (v := nI 3) hC dL_law_357 (by decide) ?_
  refine x_iaddN hC dL_law_358 ?_
  refine x_ialdN hC hb1 (by omega) (by first | decide | omega) dL_law_359 ?_
  refine x_aload_n hC dL_law_360 rfl rfl ?_
  refine x_iload hC dL_law_361 rfl ?_
  refine x_iconst (v := nI 4) hC dL_law_363 (by decide) ?_
  refine x_iaddN hC dL_law_364 ?_
  refine x_ialdN hC hb1 (by omega) (by first | decide | omega) dL_law_365 ?_
  refine x_aload_n hC dL_law_366 rfl rfl ?_
  refine x_iload hC dL_law_367 rfl ?_
  refine x_iconst (v := nI 5) hC dL_law_369 (by decide) ?_
  refine x_iaddN hC dL_law_370 ?_
  refine x_ialdN hC hb1 (by omega) (by first | decide | omega) dL_law_371 ?_
  refine x_callV0 (na := 5) hC (ct_append hG hm1 hS (xs (i + 1)) (xs (i + 2)) (xs (i + 3)) (xs (i + 4)) (xs (i + 5))) (lw_V q2398 q2399 q2400 q89 q2401) hm1.1 rfl rfl (by decide +kernel) rfl ⟨Nat.le_of_ble_eq_true rfl, Nat.le_of_ble_eq_true rfl⟩ rfl (Nat.le_of_ble_eq_true rfl) ⟨rfl, rfl⟩ hr dL_law_372 ?_
  rintro _ M2 ⟨bv, P2, V2, rfl, hb2, hm2, hF2, hS2, hV6⟩
  refine x_istore (lv' := [_, _, _, _, _, _, _, _, _]) hC dL_law_375 (by decide) rfl ?_
  refine x_aload_n hC dL_law_377 rfl rfl ?_
  refine x_callV0 (na := 0) hC (ct_thrown hG hm2) (lw_V q2394 q2395 q2396 q89 q2397) hm2.1 rfl rfl (by decide +kernel) rfl ⟨Nat.le_of_ble_eq_true rfl, Nat.le_of_ble_eq_true rfl⟩ rfl (Nat.le_of_ble_eq_true rfl) ⟨rfl, rfl⟩ hr dL_law_378 ?_
  rintro _ M3 ⟨rfl, hM3⟩
  subst hM3
  refine x_iload hC dL_law_381 rfl ?_
  refine x_icmp_eq (tgt := 388) hC dL_law_383 (by decide) (fun _ => ?_) (fun c => absurd hV6 c)
  have fin : ∀ w6 w7 w8, Wg G C M3 (kc + 22010) (ks + 80100) 405 [some (.ref b), some (.ref x), some (.ref m), some (.ref o), some (.ref od), some (.int (nI i)), w6, w7, w8] [] := by
    intro w6 w7 w8
    refine x_goto (tgt := 4085) hC dL_law_405 (by decide) ?_
    exact next M3 _ _ _ (hls.nx hF1 hox.1 hox.2 hR1 hF2 hm2 hS2)
  refine x_iload hC dL_law_388 rfl ?_
  refine x_if_ne (tgt := 405) hC dL_law_390 (by decide) (fun _ => fin _ _ _) (fun c => ?_)
  have hv1 := hv1 c
  have hb2 := hb2 c
  have ho3 := hF2.z (by decide) ho1
  refine x_aload_n hC dL_law_393 rfl rfl ?_
  refine x_iconst (v := 0) hC dL_law_394 (by decide) ?_
  refine x_lald hC ho3 in01 dL_law_395 ?_
  refine x_iload hC dL_law_396 rfl ?_
  refine x_i2l hC dL_law_398 rfl ?_
  refine x_lcmp hC dL_law_399 ?_
  refine x_if_eq (tgt := 405) hC dL_law_400 (by decide) (fun _ => fin _ _ _) (fun c9 => absurd (lg_same (show f1 (Int32.toNatClampNeg 0) = bv.toInt64 from by rw [hb2]; exact hv1)) c9)
theorem lc_1 (hG : GOK G) (hC : Cx G C (yL nm) cL_law 9 (some .boolean) room_1) (hT0 : T0 G T) (hT1 : T1 G T) (hT2 : T2 G T) (h : XLS T b L x m o od xs M) (hi : i + 5 < L) (hL : L ≤ 144) (hr : kc + 22010 ≤ room_1.cells ∧ ks + 80100 ≤ room_1.slots) (next : LN G C T b L x m o od i xs (kc + 22010) (ks + 80100)) : Wg G C M kc ks 408 [some (.ref b), some (.ref x), some (.ref m), some (.ref o), some (.ref od), some (.int (nI i)), v6, v7, v8] [] := by
  have hls := h
  obtain ⟨hb, hM1c, hM2c, ⟨S, P, V, A, hR, hm, hS⟩, ⟨f, ho⟩, ⟨fd, hd⟩⟩ := h
  obtain ⟨va, ha⟩ := hR.rec
  refine x_aload_n hC dL_law_408 rfl rfl ?_
  refine x_aload_n hC dL_law_409 rfl rfl ?_
  refine x_iload hC dL_law_410 rfl ?_
  refine x_iconst (v := nI 1) hC dL_law_412 (by decide) ?_
  refine x_iaddN hC dL_law_413 ?_
  refine x_ialdN hC hb (by omega) (by first | decide | omega) dL_law_414 ?_
  refine x_aload_n hC dL_law_415 rfl rfl ?_
  refine x_qSX (k := kc + 22010) (n := ks + 80100) (na := 3) hC (cw_truncate hG  hR ho (xs (i + 1))) (lw_SW q1329 q1330 q80 q1331) (by decide +kernel) rfl ⟨Nat.le_of_ble_eq_true rfl, Nat.le_of_ble_eq_true rfl⟩ rfl (Nat.le_of_ble_eq_true rfl) (Nat.le_refl _) (Nat.le_refl _) hr dL_law_416 ?_ (fun q9 E9 M9 h9 => h9.elim)
  rintro _ M1 ⟨rfl, hR1, ⟨f1, ho1, hv1⟩, hFO⟩
  have hF1 := hFO.q ho rfl
  have hb1 := hF1.z pl0 hb
  have hm1 := hm.pl hF1
  have hox : (∃ f, M1 o = some (la 11 1 f)) ∧ (∃ f, M1 od = some (da 11 1 f)) := ⟨⟨f1, ho1⟩, xls_od hFO ho hd⟩
  refine x_istore (lv' := [_, _, _, _, _, _, _, _, _]) hC dL_law_419 (by decide) rfl ?_
  refine x_aload_n hC dL_law_421 rfl rfl ?_
  refine x_aload_n hC dL_law_422 rfl rfl ?_
  refine x_iload hC dL_law_423 rfl ?_
  refine x_iconst (v := nI 1) hC dL_law_425 (by decide) ?_
  refine x_iaddN hC dL_law_426 ?_
  refine x_ialdN hC hb1 (by omega) (by first | decide | omega) dL_law_427 ?_
  refine x_callV0 (na := 1) hC (ct_truncate hG hm1 hS (xs (i + 1))) (lw_V q2410 q2411 q2412 q89 q2413) hm1.1 rfl rfl (by decide +kernel) rfl ⟨Nat.le_of_ble_eq_true rfl, Nat.le_of_ble_eq_true rfl⟩ rfl (Nat.le_of_ble_eq_true rfl) ⟨rfl, rfl⟩ hr dL_law_428 ?_
  rintro _ M2 ⟨bv, P2, V2, rfl, hb2, hm2, hF2, hS2, hV6⟩
  refine x_istore (lv' := [_, _, _, _, _, _, _, _, _]) hC dL_law_431 (by decide) rfl ?_
  refine x_aload_n hC dL_law_433 rfl rfl ?_
  refine x_callV0 (na := 0) hC (ct_thrown hG hm2) (lw_V q2394 q2395 q2396 q89 q2397) hm2.1 rfl rfl (by decide +kernel) rfl ⟨Nat.le_of_ble_eq_true rfl, Nat.le_of_ble_eq_true rfl⟩ rfl (Nat.le_of_ble_eq_true rfl) ⟨rfl, rfl⟩ hr dL_law_434 ?_
  rintro _ M3 ⟨rfl, hM3⟩
  subst hM3
  refine x_iload hC dL_law_437 rfl ?_
  refine x_icmp_eq (tgt := 444) hC dL_law_439 (by decide) (fun _ => ?_) (fun c => absurd hV6 c)
  have fin : ∀ w6 w7 w8, Wg G C M3 (kc + 22010) (ks + 80100) 461 [some (.ref b), some (.ref x), some (.ref m), some (.ref o), some (.ref od), some (.int (nI i)), w6, w7, w8] [] := by
    intro w6 w7 w8
    refine x_goto (tgt := 4085) hC dL_law_461 (by decide) ?_
    exact next M3 _ _ _ (hls.nx hF1 hox.1 hox.2 hR1 hF2 hm2 hS2)
  refine x_iload hC dL_law_444 rfl ?_
  refine x_if_ne (tgt := 461) hC dL_law_446 (by decide) (fun _ => fin _ _ _) (fun c => ?_)
  have hv1 := hv1 c
  have hb2 := hb2 c
  have ho3 := hF2.z (by decide) ho1
  refine x_aload_n hC dL_law_449 rfl rfl ?_
  refine x_iconst (v := 0) hC dL_law_450 (by decide) ?_
  refine x_lald hC ho3 in01 dL_law_451 ?_
  refine x_iload hC dL_law_452 rfl ?_
  refine x_i2l hC dL_law_454 rfl ?_
  refine x_lcmp hC dL_law_455 ?_
  refine x_if_eq (tgt := 461) hC dL_law_456 (by decide) (fun _ => fin _ _ _) (fun c9 => absurd (lg_same (show f1 (Int32.toNatClampNeg 0) = bv.toInt64 from by rw [hb2]; exact hv1)) c9)
theorem lc_2 (hG : GOK G) (hC : Cx G C (yL nm) cL_law 9 (some .boolean) room_1) (hT0 : T0 G T) (hT1 : T1 G T) (hT2 : T2 G T) (h : XLS T b L x m o od xs M) (hi : i + 5 < L) (hL : L ≤ 144) (hr : kc + 22010 ≤ room_1.cells ∧ ks + 80100 ≤ room_1.slots) (next : LN G C T b L x m o od i xs (kc + 22010) (ks + 80100)) : Wg G C M kc ks 464 [some (.ref b), some (.ref x), some (.ref m), some (.ref o), some (.ref od), some (.int (nI i)), v6, v7, v8] [] := by
  have hls := h
  obtain ⟨hb, hM1c, hM2c, ⟨S, P, V, A, hR, hm, hS⟩, ⟨f, ho⟩, ⟨fd, hd⟩⟩ := h
  obtain ⟨va, ha⟩ := hR.rec
  refine x_aload_n hC dL_law_464 rfl rfl ?_
  refine x_aload_n hC dL_law_465 rfl rfl ?_
  refine x_qSX (k := kc + 22010) (n := ks + 80100) (na := 2) hC (cw_parse hG hT0 hT2 hM2c hR ho ) (lw_SW q1345 q1346 q80 q1347) (by decide +kernel) rfl ⟨Nat.le_of_ble_eq_true rfl, Nat.le_of_ble_eq_true rfl⟩ rfl (Nat.le_of_ble_eq_true rfl) (Nat.le_refl _) (Nat.le_refl _) hr dL_law_466 ?_ (fun q9 E9 M9 h9 => h9.elim)
  rintro _ M1 ⟨rfl, hR1, ⟨f1, ho1, hv1⟩, hFO⟩
  have hF1 := hFO.q ho rfl
  have hb1 := hF1.z pl0 hb
  have hm1 := hm.pl hF1
  have hox : (∃ f, M1 o = some (la 11 1 f)) ∧ (∃ f, M1 od = some (da 11 1 f)) := ⟨⟨f1, ho1⟩, xls_od hFO ho hd⟩
  refine x_istore (lv' := [_, _, _, _, _, _, _, _, _]) hC dL_law_469 (by decide) rfl ?_
  refine x_aload_n hC dL_law_471 rfl rfl ?_
  refine x_callV0 (na := 0) hC (ct_parse hG hm1 hS) (lw_V q2417 q2418 q2419 q89 q2420) hm1.1 rfl rfl (by decide +kernel) rfl ⟨Nat.le_of_ble_eq_true rfl, Nat.le_of_ble_eq_true rfl⟩ rfl (Nat.le_of_ble_eq_true rfl) ⟨rfl, rfl⟩ hr dL_law_472 ?_
  rintro _ M2 ⟨bv, P2, V2, rfl, hb2, hm2, hF2, hS2, hV6⟩
  refine x_istore (lv' := [_, _, _, _, _, _, _, _, _]) hC dL_law_475 (by decide) rfl ?_
  refine x_aload_n hC dL_law_477 rfl rfl ?_
  refine x_callV0 (na := 0) hC (ct_thrown hG hm2) (lw_V q2394 q2395 q2396 q89 q2397) hm2.1 rfl rfl (by decide +kernel) rfl ⟨Nat.le_of_ble_eq_true rfl, Nat.le_of_ble_eq_true rfl⟩ rfl (Nat.le_of_ble_eq_true rfl) ⟨rfl, rfl⟩ hr dL_law_478 ?_
  rintro _ M3 ⟨rfl, hM3⟩
  subst hM3
  refine x_iload hC dL_law_481 rfl ?_
  refine x_icmp_eq (tgt := 488) hC dL_law_483 (by decide) (fun _ => ?_) (fun c => absurd hV6 c)
  have fin : ∀ w6 w7 w8, Wg G C M3 (kc + 22010) (ks + 80100) 505 [some (.ref b), some (.ref x), some (.ref m), some (.ref o), some (.ref od), some (.int (nI i)), w6, w7, w8] [] := by
    intro w6 w7 w8
    refine x_goto (tgt := 4085) hC dL_law_505 (by decide) ?_
    exact next M3 _ _ _ (hls.nx hF1 hox.1 hox.2 hR1 hF2 hm2 hS2)
  refine x_iload hC dL_law_488 rfl ?_
  refine x_if_ne (tgt := 505) hC dL_law_490 (by decide) (fun _ => fin _ _ _) (fun c => ?_)
  have hv1 := hv1 c
  have hb2 := hb2 c
  have ho3 := hF2.z (by decide) ho1
  refine x_aload_n hC dL_law_493 rfl rfl ?_
  refine x_iconst (v := 0) hC dL_law_494 (by decide) ?_
  refine x_lald hC ho3 in01 dL_law_495 ?_
  refine x_iload hC dL_law_496 rfl ?_
  refine x_i2l hC dL_law_498 rfl ?_
  refine x_lcmp hC dL_law_499 ?_
  refine x_if_eq (tgt := 505) hC dL_law_500 (by decide) (fun _ => fin _ _ _) (fun c9 => absurd (lg_same (show f1 (Int32.toNatClampNeg 0) = bv.toInt64 from by rw [hb2]; exact hv1)) c9)
theorem lc_3 (hG : GOK G) (hC : Cx G C (yL nm) cL_law 9 (some .boolean) room_1) (hT0 : T0 G T) (hT1 : T1 G T) (hT2 : T2 G T) (h : XLS T b L x m o od xs M) (hi : i + 5 < L) (hL : L ≤ 144) (hr : kc + 22010 ≤ room_1.cells ∧ ks + 80100 ≤ room_1.slots) (next : LN G C T b L x m o od i xs (kc + 22010) (ks + 80100)) : Wg G C M kc ks 508 [some (.ref b), some (.ref x), some (.ref m), some (.ref o), some (.ref od), some (.int (nI i)), v6, v7, v8] [] := by
  have hls := h
  obtain ⟨hb, hM1c, hM2c, ⟨S, P, V, A, hR, hm, hS⟩, ⟨f, ho⟩, ⟨fd, hd⟩⟩ := h
  obtain ⟨va, ha⟩ := hR.rec
  refine x_aload_n hC dL_law_508 rfl rfl ?_
  refine x_callV (k := kc + 22010) (n := ks + 80100) (na := 0) hC (cp_errorKind hG hR) (lw_V q254 q255 q256 q81 q257) ha rfl rfl (by decide +kernel) rfl ⟨Nat.le_of_ble_eq_true rfl, Nat.le_of_ble_eq_true rfl⟩ rfl (Nat.le_of_ble_eq_true rfl) (Nat.add_le_add_left (Nat.le_of_ble_eq_true rfl) _) (Nat.add_le_add_left (Nat.le_of_ble_eq_true rfl) _) hr dL_law_509 ?_
  rintro _ M1 ⟨rfl, hM1⟩
  have hR1 : CRep S M1 T x := by rw [hM1]; exact hR
  have hF1 : Fr PW M M1 := by rw [hM1]; exact Fr.rf
  have hm1 := hm.pl (pw_pl hF1)
  refine x_aload_n hC dL_law_512 rfl rfl ?_
  refine x_callV0 (na := 0) hC (ct_errorKind hG hm1 hS) (lw_V q2475 q2476 q2477 q89 q2478) hm1.1 rfl rfl (by decide +kernel) rfl ⟨Nat.le_of_ble_eq_true rfl, Nat.le_of_ble_eq_true rfl⟩ rfl (Nat.le_of_ble_eq_true rfl) ⟨rfl, rfl⟩ hr dL_law_513 ?_
  rintro _ M2 ⟨bv, P2, V2, rfl, hb2, hm2, hF2, hS2, -⟩
  refine x_icmp_eq (tgt := 4085) hC dL_law_516 (by decide) (fun c => ?_) (fun c => ?_)
  · exact next M2 _ _ _ (hls.nx (pw_pl hF1) ⟨f, hF1 o _ ho pw11⟩ ⟨fd, hF1 od _ hd pw11⟩ hR1 hF2 hm2 hS2)
  · exact absurd (hb2 rfl).symm c
theorem lc_4 (hG : GOK G) (hC : Cx G C (yL nm) cL_law 9 (some .boolean) room_1) (hT0 : T0 G T) (hT1 : T1 G T) (hT2 : T2 G T) (h : XLS T b L x m o od xs M) (hi : i + 5 < L) (hL : L ≤ 144) (hr : kc + 22010 ≤ room_1.cells ∧ ks + 80100 ≤ room_1.slots) (next : LN G C T b L x m o od i xs (kc + 22010) (ks + 80100)) : Wg G C M kc ks 521 [some (.ref b), some (.ref x), some (.ref m), some (.ref o), some (.ref od), some (.int (nI i)), v6, v7, v8] [] := by
  have hls := h
  obtain ⟨hb, hM1c, hM2c, ⟨S, P, V, A, hR, hm, hS⟩, ⟨f, ho⟩, ⟨fd, hd⟩⟩ := h
  obtain ⟨va, ha⟩ := hR.rec
  refine x_aload_n hC dL_law_521 rfl rfl ?_
  refine x_callV (k := kc + 22010) (n := ks + 80100) (na := 0) hC (cp_errorOffset hG hR) (lw_V q258 q259 q260 q81 q261) ha rfl rfl (by decide +kernel) rfl ⟨Nat.le_of_ble_eq_true rfl, Nat.le_of_ble_eq_true rfl⟩ rfl (Nat.le_of_ble_eq_true rfl) (Nat.add_le_add_left (Nat.le_of_ble_eq_true rfl) _) (Nat.add_le_add_left (Nat.le_of_ble_eq_true rfl) _) hr dL_law_522 ?_
  rintro _ M1 ⟨rfl, hM1⟩
  have hR1 : CRep S M1 T x := by rw [hM1]; exact hR
  have hF1 : Fr PW M M1 := by rw [hM1]; exact Fr.rf
  have hm1 := hm.pl (pw_pl hF1)
  refine x_aload_n hC dL_law_525 rfl rfl ?_
  refine x_callV0 (na := 0) hC (ct_errorOffset hG hm1 hS) (lw_V q2479 q2480 q2481 q89 q2482) hm1.1 rfl rfl (by decide +kernel) rfl ⟨Nat.le_of_ble_eq_true rfl, Nat.le_of_ble_eq_true rfl⟩ rfl (Nat.le_of_ble_eq_true rfl) ⟨rfl, rfl⟩ hr dL_law_526 ?_
  rintro _ M2 ⟨bv, P2, V2, rfl, hb2, hm2, hF2, hS2, -⟩
  refine x_icmp_eq (tgt := 4085) hC dL_law_529 (by decide) (fun c => ?_) (fun c => ?_)
  · exact next M2 _ _ _ (hls.nx (pw_pl hF1) ⟨f, hF1 o _ ho pw11⟩ ⟨fd, hF1 od _ hd pw11⟩ hR1 hF2 hm2 hS2)
  · exact absurd (hb2 rfl).symm c
theorem lc_5 (hG : GOK G) (hC : Cx G C (yL nm) cL_law 9 (some .boolean) room_1) (hT0 : T0 G T) (hT1 : T1 G T) (hT2 : T2 G T) (h : XLS T b L x m o od xs M) (hi : i + 5 < L) (hL : L ≤ 144) (hr : kc + 22010 ≤ room_1.cells ∧ ks + 80100 ≤ room_1.slots) (next : LN G C T b L x m o od i xs (kc + 22010) (ks + 80100)) : Wg G C M kc ks 534 [some (.ref b), some (.ref x), some (.ref m), some (.ref o), some (.ref od), some (.int (nI i)), v6, v7, v8] [] := by
  have hls := h
  obtain ⟨hb, hM1c, hM2c, ⟨S, P, V, A, hR, hm, hS⟩, ⟨f, ho⟩, ⟨fd, hd⟩⟩ := h
  obtain ⟨va, ha⟩ := hR.rec
  refine x_aload_n hC dL_law_534 rfl rfl ?_
  refine x_callV (k := kc + 22010) (n := ks + 80100) (na := 0) hC (cp_recordingCount hG hR) (lw_V q262 q263 q264 q81 q265) ha rfl rfl (by decide +kernel) rfl ⟨Nat.le_of_ble_eq_true rfl, Nat.le_of_ble_eq_true rfl⟩ rfl (Nat.le_of_ble_eq_true rfl) (Nat.add_le_add_left (Nat.le_of_ble_eq_true rfl) _) (Nat.add_le_add_left (Nat.le_of_ble_eq_true rfl) _) hr dL_law_535 ?_
  rintro _ M1 ⟨rfl, hM1⟩
  have hR1 : CRep S M1 T x := by rw [hM1]; exact hR
  have hF1 : Fr PW M M1 := by rw [hM1]; exact Fr.rf
  have hm1 := hm.pl (pw_pl hF1)
  refine x_aload_n hC dL_law_538 rfl rfl ?_
  refine x_callV0 (na := 0) hC (ct_recordingCount hG hm1 hS) (lw_V q2483 q2484 q2485 q89 q2486) hm1.1 rfl rfl (by decide +kernel) rfl ⟨Nat.le_of_ble_eq_true rfl, Nat.le_of_ble_eq_true rfl⟩ rfl (Nat.le_of_ble_eq_true rfl) ⟨rfl, rfl⟩ hr dL_law_539 ?_
  rintro _ M2 ⟨bv, P2, V2, rfl, hb2, hm2, hF2, hS2, -⟩
  refine x_icmp_eq (tgt := 4085) hC dL_law_542 (by decide) (fun c => ?_) (fun c => ?_)
  · exact next M2 _ _ _ (hls.nx (pw_pl hF1) ⟨f, hF1 o _ ho pw11⟩ ⟨fd, hF1 od _ hd pw11⟩ hR1 hF2 hm2 hS2)
  · exact absurd (hb2 rfl).symm c
theorem lc_6 (hG : GOK G) (hC : Cx G C (yL nm) cL_law 9 (some .boolean) room_1) (hT0 : T0 G T) (hT1 : T1 G T) (hT2 : T2 G T) (h : XLS T b L x m o od xs M) (hi : i + 5 < L) (hL : L ≤ 144) (hr : kc + 22010 ≤ room_1.cells ∧ ks + 80100 ≤ room_1.slots) (next : LN G C T b L x m o od i xs (kc + 22010) (ks + 80100)) : Wg G C M kc ks 547 [some (.ref b), some (.ref x), some (.ref m), some (.ref o), some (.ref od), some (.int (nI i)), v6, v7, v8] [] := by
  have hls := h
  obtain ⟨hb, hM1c, hM2c, ⟨S, P, V, A, hR, hm, hS⟩, ⟨f, ho⟩, ⟨fd, hd⟩⟩ := h
  obtain ⟨va, ha⟩ := hR.rec
  refine x_aload_n hC dL_law_547 rfl rfl ?_
  refine x_aload_n hC dL_law_548 rfl rfl ?_
  refine x_iload hC dL_law_549 rfl ?_
  refine x_iconst (v := nI 1) hC dL_law_551 (by decide) ?_
  refine x_iaddN hC dL_law_552 ?_
  refine x_ialdN hC hb (by omega) (by first | decide | omega) dL_law_553 ?_
  refine x_aload_n hC dL_law_554 rfl rfl ?_
  refine x_qSX (k := kc + 22010) (n := ks + 80100) (na := 3) hC (cw_length hG  hR ho (xs (i + 1))) (lw_SW q1508 q1509 q80 q1510) (by decide +kernel) rfl ⟨Nat.le_of_ble_eq_true rfl, Nat.le_of_ble_eq_true rfl⟩ rfl (Nat.le_of_ble_eq_true rfl) (Nat.le_refl _) (Nat.le_refl _) hr dL_law_555 ?_ (fun q9 E9 M9 h9 => h9.elim)
  rintro _ M1 ⟨rfl, hR1, ⟨f1, ho1, hv1⟩, hFO⟩
  have hF1 := hFO.q ho rfl
  have hb1 := hF1.z pl0 hb
  have hm1 := hm.pl hF1
  have hox : (∃ f, M1 o = some (la 11 1 f)) ∧ (∃ f, M1 od = some (da 11 1 f)) := ⟨⟨f1, ho1⟩, xls_od hFO ho hd⟩
  refine x_istore (lv' := [_, _, _, _, _, _, _, _, _]) hC dL_law_558 (by decide) rfl ?_
  refine x_aload_n hC dL_law_560 rfl rfl ?_
  refine x_aload_n hC dL_law_561 rfl rfl ?_
  refine x_iload hC dL_law_562 rfl ?_
  refine x_iconst (v := nI 1) hC dL_law_564 (by decide) ?_
  refine x_iaddN hC dL_law_565 ?_
  refine x_ialdN hC hb1 (by omega) (by first | decide | omega) dL_law_566 ?_
  refine x_callV0 (na := 1) hC (ct_length hG hm1 hS (xs (i + 1))) (lw_V q2487 q2488 q2489 q89 q2490) hm1.1 rfl rfl (by decide +kernel) rfl ⟨Nat.le_of_ble_eq_true rfl, Nat.le_of_ble_eq_true rfl⟩ rfl (Nat.le_of_ble_eq_true rfl) ⟨rfl, rfl⟩ hr dL_law_567 ?_
  rintro _ M2 ⟨bv, P2, V2, rfl, hb2, hm2, hF2, hS2, hV6⟩
  refine x_istore (lv' := [_, _, _, _, _, _, _, _, _]) hC dL_law_570 (by decide) rfl ?_
  refine x_aload_n hC dL_law_572 rfl rfl ?_
  refine x_callV0 (na := 0) hC (ct_thrown hG hm2) (lw_V q2394 q2395 q2396 q89 q2397) hm2.1 rfl rfl (by decide +kernel) rfl ⟨Nat.le_of_ble_eq_true rfl, Nat.le_of_ble_eq_true rfl⟩ rfl (Nat.le_of_ble_eq_true rfl) ⟨rfl, rfl⟩ hr dL_law_573 ?_
  rintro _ M3 ⟨rfl, hM3⟩
  subst hM3
  refine x_iload hC dL_law_576 rfl ?_
  refine x_icmp_eq (tgt := 583) hC dL_law_578 (by decide) (fun _ => ?_) (fun c => absurd hV6 c)
  have fin : ∀ w6 w7 w8, Wg G C M3 (kc + 22010) (ks + 80100) 600 [some (.ref b), some (.ref x), some (.ref m), some (.ref o), some (.ref od), some (.int (nI i)), w6, w7, w8] [] := by
    intro w6 w7 w8
    refine x_goto (tgt := 4085) hC dL_law_600 (by decide) ?_
    exact next M3 _ _ _ (hls.nx hF1 hox.1 hox.2 hR1 hF2 hm2 hS2)
  refine x_iload hC dL_law_583 rfl ?_
  refine x_if_ne (tgt := 600) hC dL_law_585 (by decide) (fun _ => fin _ _ _) (fun c => ?_)
  have hv1 := hv1 c
  have hb2 := hb2 c
  have ho3 := hF2.z (by decide) ho1
  refine x_aload_n hC dL_law_588 rfl rfl ?_
  refine x_iconst (v := 0) hC dL_law_589 (by decide) ?_
  refine x_lald hC ho3 in01 dL_law_590 ?_
  refine x_iload hC dL_law_591 rfl ?_
  refine x_i2l hC dL_law_593 rfl ?_
  refine x_lcmp hC dL_law_594 ?_
  refine x_if_eq (tgt := 600) hC dL_law_595 (by decide) (fun _ => fin _ _ _) (fun c9 => absurd (lg_same (show f1 (Int32.toNatClampNeg 0) = bv.toInt64 from by rw [hb2]; exact hv1)) c9)
theorem lc_7 (hG : GOK G) (hC : Cx G C (yL nm) cL_law 9 (some .boolean) room_1) (hT0 : T0 G T) (hT1 : T1 G T) (hT2 : T2 G T) (h : XLS T b L x m o od xs M) (hi : i + 5 < L) (hL : L ≤ 144) (hr : kc + 22010 ≤ room_1.cells ∧ ks + 80100 ≤ room_1.slots) (next : LN G C T b L x m o od i xs (kc + 22010) (ks + 80100)) : Wg G C M kc ks 603 [some (.ref b), some (.ref x), some (.ref m), some (.ref o), some (.ref od), some (.int (nI i)), v6, v7, v8] [] := by
  have hls := h
  obtain ⟨hb, hM1c, hM2c, ⟨S, P, V, A, hR, hm, hS⟩, ⟨f, ho⟩, ⟨fd, hd⟩⟩ := h
  obtain ⟨va, ha⟩ := hR.rec
  refine x_aload_n hC dL_law_603 rfl rfl ?_
  refine x_aload_n hC dL_law_604 rfl rfl ?_
  refine x_iload hC dL_law_605 rfl ?_
  refine x_iconst (v := nI 1) hC dL_law_607 (by decide) ?_
  refine x_iaddN hC dL_law_608 ?_
  refine x_ialdN hC hb (by omega) (by first | decide | omega) dL_law_609 ?_
  refine x_aload_n hC dL_law_610 rfl rfl ?_
  refine x_iload hC dL_law_611 rfl ?_
  refine x_iconst (v := nI 2) hC dL_law_613 (by decide) ?_
  refine x_iaddN hC dL_law_614 ?_
  refine x_ialdN hC hb (by omega) (by first | decide | omega) dL_law_615 ?_
  refine x_aload_n hC dL_law_616 rfl rfl ?_
  refine x_qSX (k := kc + 22010) (n := ks + 80100) (na := 4) hC (cw_nameCharacter hG  hR ho (xs (i + 1)) (xs (i + 2))) (lw_SW q1562 q1563 q80 q1564) (by decide +kernel) rfl ⟨Nat.le_of_ble_eq_true rfl, Nat.le_of_ble_eq_true rfl⟩ rfl (Nat.le_of_ble_eq_true rfl) (Nat.le_refl _) (Nat.le_refl _) hr dL_law_617 ?_ (fun q9 E9 M9 h9 => h9.elim)
  rintro _ M1 ⟨rfl, hR1, ⟨f1, ho1, hv1⟩, hFO⟩
  have hF1 := hFO.q ho rfl
  have hb1 := hF1.z pl0 hb
  have hm1 := hm.pl hF1
  have hox : (∃ f, M1 o = some (la 11 1 f)) ∧ (∃ f, M1 od = some (da 11 1 f)) := ⟨⟨f1, ho1⟩, xls_od hFO ho hd⟩
  refine x_istore (lv' := [_, _, _, _, _, _, _, _, _]) hC dL_law_620 (by decide) rfl ?_
  refine x_aload_n hC dL_law_622 rfl rfl ?_
  refine x_aload_n hC dL_law_623 rfl rfl ?_
  refine x_iload hC dL_law_624 rfl ?_
  refine x_iconst (v := nI 1) hC dL_law_626 (by decide) ?_
  refine x_iaddN hC dL_law_627 ?_
  refine x_ialdN hC hb1 (by omega) (by first | decide | omega) dL_law_628 ?_
  refine x_aload_n hC dL_law_629 rfl rfl ?_
  refine x_iload hC dL_law_630 rfl ?_
  refine x_iconst (v := nI 2) hC dL_law_632 (by decide) ?_
  refine x_iaddN hC dL_law_633 ?_
  refine x_ialdN hC hb1 (by omega) (by first | decide | omega) dL_law_634 ?_
  refine x_callV0 (na := 2) hC (ct_nameCharacter hG hm1 hS (xs (i + 1)) (xs (i + 2))) (lw_V q2499 q2500 q2501 q89 q2502) hm1.1 rfl rfl (by decide +kernel) rfl ⟨Nat.le_of_ble_eq_true rfl, Nat.le_of_ble_eq_true rfl⟩ rfl (Nat.le_of_ble_eq_true rfl) ⟨rfl, rfl⟩ hr dL_law_635 ?_
  rintro _ M2 ⟨bv, P2, V2, rfl, hb2, hm2, hF2, hS2, hV6⟩
  refine x_istore (lv' := [_, _, _, _, _, _, _, _, _]) hC dL_law_638 (by decide) rfl ?_
  refine x_aload_n hC dL_law_640 rfl rfl ?_
  refine x_callV0 (na := 0) hC (ct_thrown hG hm2) (lw_V q2394 q2395 q2396 q89 q2397) hm2.1 rfl rfl (by decide +kernel) rfl ⟨Nat.le_of_ble_eq_true rfl, Nat.le_of_ble_eq_true rfl⟩ rfl (Nat.le_of_ble_eq_true rfl) ⟨rfl, rfl⟩ hr dL_law_641 ?_
  rintro _ M3 ⟨rfl, hM3⟩
  subst hM3
  refine x_iload hC dL_law_644 rfl ?_
  refine x_icmp_eq (tgt := 651) hC dL_law_646 (by decide) (fun _ => ?_) (fun c => absurd hV6 c)
  have fin : ∀ w6 w7 w8, Wg G C M3 (kc + 22010) (ks + 80100) 668 [some (.ref b), some (.ref x), some (.ref m), some (.ref o), some (.ref od), some (.int (nI i)), w6, w7, w8] [] := by
    intro w6 w7 w8
    refine x_goto (tgt := 4085) hC dL_law_668 (by decide) ?_
    exact next M3 _ _ _ (hls.nx hF1 hox.1 hox.2 hR1 hF2 hm2 hS2)
  refine x_iload hC dL_law_651 rfl ?_
  refine x_if_ne (tgt := 668) hC dL_law_653 (by decide) (fun _ => fin _ _ _) (fun c => ?_)
  have hv1 := hv1 c
  have hb2 := hb2 c
  have ho3 := hF2.z (by decide) ho1
  refine x_aload_n hC dL_law_656 rfl rfl ?_
  refine x_iconst (v := 0) hC dL_law_657 (by decide) ?_
  refine x_lald hC ho3 in01 dL_law_658 ?_
  refine x_iload hC dL_law_659 rfl ?_
  refine x_i2l hC dL_law_661 rfl ?_
  refine x_lcmp hC dL_law_662 ?_
  refine x_if_eq (tgt := 668) hC dL_law_663 (by decide) (fun _ => fin _ _ _) (fun c9 => absurd (lg_same (show f1 (Int32.toNatClampNeg 0) = bv.toInt64 from by rw [hb2]; exact hv1)) c9)
theorem lc_8 (hG : GOK G) (hC : Cx G C (yL nm) cL_law 9 (some .boolean) room_1) (hT0 : T0 G T) (hT1 : T1 G T) (hT2 : T2 G T) (h : XLS T b L x m o od xs M) (hi : i + 5 < L) (hL : L ≤ 144) (hr : kc + 22010 ≤ room_1.cells ∧ ks + 80100 ≤ room_1.slots) (next : LN G C T b L x m o od i xs (kc + 22010) (ks + 80100)) : Wg G C M kc ks 671 [some (.ref b), some (.ref x), some (.ref m), some (.ref o), some (.ref od), some (.int (nI i)), v6, v7, v8] [] := by
  have hls := h
  obtain ⟨hb, hM1c, hM2c, ⟨S, P, V, A, hR, hm, hS⟩, ⟨f, ho⟩, ⟨fd, hd⟩⟩ := h
  obtain ⟨va, ha⟩ := hR.rec
  refine x_aload_n hC dL_law_671 rfl rfl ?_
  refine x_callV (k := kc + 22010) (n := ks + 80100) (na := 0) hC (cp_findRecording hG hR) (lw_V q270 q271 q272 q81 q273) ha rfl rfl (by decide +kernel) rfl ⟨Nat.le_of_ble_eq_true rfl, Nat.le_of_ble_eq_true rfl⟩ rfl (Nat.le_of_ble_eq_true rfl) (Nat.add_le_add_left (Nat.le_of_ble_eq_true rfl) _) (Nat.add_le_add_left (Nat.le_of_ble_eq_true rfl) _) hr dL_law_672 ?_
  rintro _ M1 ⟨h0, rfl, hR1, hF1⟩
  have hm1 := hm.pl (pw_pl hF1)
  refine x_aload_n hC dL_law_675 rfl rfl ?_
  refine x_callV0 (na := 0) hC (ct_findRecording hG hm1 hS) (lw_V q2503 q2504 q2505 q89 q2506) hm1.1 rfl rfl (by decide +kernel) rfl ⟨Nat.le_of_ble_eq_true rfl, Nat.le_of_ble_eq_true rfl⟩ rfl (Nat.le_of_ble_eq_true rfl) ⟨rfl, rfl⟩ hr dL_law_676 ?_
  rintro _ M2 ⟨bv, P2, V2, rfl, hb2, hm2, hF2, hS2, -⟩
  refine x_icmp_eq (tgt := 4085) hC dL_law_679 (by decide) (fun c => ?_) (fun c => ?_)
  · exact next M2 _ _ _ (hls.nx (pw_pl hF1) ⟨f, hF1 o _ ho pw11⟩ ⟨fd, hF1 od _ hd pw11⟩ hR1 hF2 hm2 hS2)
  · exact absurd (hb2 rfl).symm c
theorem lc_9 (hG : GOK G) (hC : Cx G C (yL nm) cL_law 9 (some .boolean) room_1) (hT0 : T0 G T) (hT1 : T1 G T) (hT2 : T2 G T) (h : XLS T b L x m o od xs M) (hi : i + 5 < L) (hL : L ≤ 144) (hr : kc + 22010 ≤ room_1.cells ∧ ks + 80100 ≤ room_1.slots) (next : LN G C T b L x m o od i xs (kc + 22010) (ks + 80100)) : Wg G C M kc ks 684 [some (.ref b), some (.ref x), some (.ref m), some (.ref o), some (.ref od), some (.int (nI i)), v6, v7, v8] [] := by
  have hls := h
  obtain ⟨hb, hM1c, hM2c, ⟨S, P, V, A, hR, hm, hS⟩, ⟨f, ho⟩, ⟨fd, hd⟩⟩ := h
  obtain ⟨va, ha⟩ := hR.rec
  refine x_aload_n hC dL_law_684 rfl rfl ?_
  refine x_aload_n hC dL_law_685 rfl rfl ?_
  refine x_iload hC dL_law_686 rfl ?_
  refine x_iconst (v := nI 1) hC dL_law_688 (by decide) ?_
  refine x_iaddN hC dL_law_689 ?_
  refine x_ialdN hC hb (by omega) (by first | decide | omega) dL_law_690 ?_
  refine x_aload_n hC dL_law_691 rfl rfl ?_
  refine x_iload hC dL_law_692 rfl ?_
  refine x_iconst (v := nI 2) hC dL_law_694 (by decide) ?_
  refine x_iaddN hC dL_law_695 ?_
  refine x_ialdN hC hb (by omega) (by first | decide | omega) dL_law_696 ?_
  refine x_aload_n hC dL_law_697 rfl rfl ?_
  refine x_qSX (k := kc + 22010) (n := ks + 80100) (na := 4) hC (cw_sample hG  hR ho (xs (i + 1)) (xs (i + 2))) (lw_SW q1569 q1570 q80 q1571) (by decide +kernel) rfl ⟨Nat.le_of_ble_eq_true rfl, Nat.le_of_ble_eq_true rfl⟩ rfl (Nat.le_of_ble_eq_true rfl) (Nat.le_refl _) (Nat.le_refl _) hr dL_law_698 ?_ (fun q9 E9 M9 h9 => h9.elim)
  rintro _ M1 ⟨rfl, hR1, ⟨f1, ho1, hv1⟩, hFO⟩
  have hF1 := hFO.q ho rfl
  have hb1 := hF1.z pl0 hb
  have hm1 := hm.pl hF1
  have hox : (∃ f, M1 o = some (la 11 1 f)) ∧ (∃ f, M1 od = some (da 11 1 f)) := ⟨⟨f1, ho1⟩, xls_od hFO ho hd⟩
  refine x_istore (lv' := [_, _, _, _, _, _, _, _, _]) hC dL_law_701 (by decide) rfl ?_
  refine x_aload_n hC dL_law_703 rfl rfl ?_
  refine x_aload_n hC dL_law_704 rfl rfl ?_
  refine x_iload hC dL_law_705 rfl ?_
  refine x_iconst (v := nI 1) hC dL_law_707 (by decide) ?_
  refine x_iaddN hC dL_law_708 ?_
  refine x_ialdN hC hb1 (by omega) (by first | decide | omega) dL_law_709 ?_
  refine x_aload_n hC dL_law_710 rfl rfl ?_
  refine x_iload hC dL_law_711 rfl ?_
  refine x_iconst (v := nI 2) hC dL_law_713 (by decide) ?_
  refine x_iaddN hC dL_law_714 ?_
  refine x_ialdN hC hb1 (by omega) (by first | decide | omega) dL_law_715 ?_
  refine x_callV0 (na := 2) hC (ct_sample hG hm1 hS (xs (i + 1)) (xs (i + 2))) (lw_V q2507 q2508 q2509 q89 q2510) hm1.1 rfl rfl (by decide +kernel) rfl ⟨Nat.le_of_ble_eq_true rfl, Nat.le_of_ble_eq_true rfl⟩ rfl (Nat.le_of_ble_eq_true rfl) ⟨rfl, rfl⟩ hr dL_law_716 ?_
  rintro _ M2 ⟨bv, P2, V2, rfl, hb2, hm2, hF2, hS2, hV6⟩
  refine x_istore (lv' := [_, _, _, _, _, _, _, _, _]) hC dL_law_719 (by decide) rfl ?_
  refine x_aload_n hC dL_law_721 rfl rfl ?_
  refine x_callV0 (na := 0) hC (ct_thrown hG hm2) (lw_V q2394 q2395 q2396 q89 q2397) hm2.1 rfl rfl (by decide +kernel) rfl ⟨Nat.le_of_ble_eq_true rfl, Nat.le_of_ble_eq_true rfl⟩ rfl (Nat.le_of_ble_eq_true rfl) ⟨rfl, rfl⟩ hr dL_law_722 ?_
  rintro _ M3 ⟨rfl, hM3⟩
  subst hM3
  refine x_iload hC dL_law_725 rfl ?_
  refine x_icmp_eq (tgt := 732) hC dL_law_727 (by decide) (fun _ => ?_) (fun c => absurd hV6 c)
  have fin : ∀ w6 w7 w8, Wg G C M3 (kc + 22010) (ks + 80100) 749 [some (.ref b), some (.ref x), some (.ref m), some (.ref o), some (.ref od), some (.int (nI i)), w6, w7, w8] [] := by
    intro w6 w7 w8
    refine x_goto (tgt := 4085) hC dL_law_749 (by decide) ?_
    exact next M3 _ _ _ (hls.nx hF1 hox.1 hox.2 hR1 hF2 hm2 hS2)
  refine x_iload hC dL_law_732 rfl ?_
  refine x_if_ne (tgt := 749) hC dL_law_734 (by decide) (fun _ => fin _ _ _) (fun c => ?_)
  have hv1 := hv1 c
  have hb2 := hb2 c
  have ho3 := hF2.z (by decide) ho1
  refine x_aload_n hC dL_law_737 rfl rfl ?_
  refine x_iconst (v := 0) hC dL_law_738 (by decide) ?_
  refine x_lald hC ho3 in01 dL_law_739 ?_
  refine x_iload hC dL_law_740 rfl ?_
  refine x_i2l hC dL_law_742 rfl ?_
  refine x_lcmp hC dL_law_743 ?_
  refine x_if_eq (tgt := 749) hC dL_law_744 (by decide) (fun _ => fin _ _ _) (fun c9 => absurd (lg_same (show f1 (Int32.toNatClampNeg 0) = bv.toInt64 from by rw [hb2]; exact hv1)) c9)
theorem lc_10 (hG : GOK G) (hC : Cx G C (yL nm) cL_law 9 (some .boolean) room_1) (hT0 : T0 G T) (hT1 : T1 G T) (hT2 : T2 G T) (h : XLS T b L x m o od xs M) (hi : i + 5 < L) (hL : L ≤ 144) (hr : kc + 22010 ≤ room_1.cells ∧ ks + 80100 ≤ room_1.slots) (next : LN G C T b L x m o od i xs (kc + 22010) (ks + 80100)) : Wg G C M kc ks 752 [some (.ref b), some (.ref x), some (.ref m), some (.ref o), some (.ref od), some (.int (nI i)), v6, v7, v8] [] := by
  have hls := h
  obtain ⟨hb, hM1c, hM2c, ⟨S, P, V, A, hR, hm, hS⟩, ⟨f, ho⟩, ⟨fd, hd⟩⟩ := h
  obtain ⟨va, ha⟩ := hR.rec
  refine x_aload_n hC dL_law_752 rfl rfl ?_
  refine x_aload_n hC dL_law_753 rfl rfl ?_
  refine x_iload hC dL_law_754 rfl ?_
  refine x_iconst (v := nI 1) hC dL_law_756 (by decide) ?_
  refine x_iaddN hC dL_law_757 ?_
  refine x_ialdN hC hb (by omega) (by first | decide | omega) dL_law_758 ?_
  refine x_aload_n hC dL_law_759 rfl rfl ?_
  refine x_qSX (k := kc + 22010) (n := ks + 80100) (na := 3) hC (cw_energy hG  hR ho (xs (i + 1))) (lw_SW q1585 q1586 q80 q1587) (by decide +kernel) rfl ⟨Nat.le_of_ble_eq_true rfl, Nat.le_of_ble_eq_true rfl⟩ rfl (Nat.le_of_ble_eq_true rfl) (Nat.le_refl _) (Nat.le_refl _) hr dL_law_760 ?_ (fun q9 E9 M9 h9 => h9.elim)
  rintro _ M1 ⟨rfl, hR1, ⟨f1, ho1, hv1⟩, hFO⟩
  have hF1 := hFO.q ho rfl
  have hb1 := hF1.z pl0 hb
  have hm1 := hm.pl hF1
  have hox : (∃ f, M1 o = some (la 11 1 f)) ∧ (∃ f, M1 od = some (da 11 1 f)) := ⟨⟨f1, ho1⟩, xls_od hFO ho hd⟩
  refine x_istore (lv' := [_, _, _, _, _, _, _, _, _]) hC dL_law_763 (by decide) rfl ?_
  refine x_aload_n hC dL_law_765 rfl rfl ?_
  refine x_aload_n hC dL_law_766 rfl rfl ?_
  refine x_iload hC dL_law_767 rfl ?_
  refine x_iconst (v := nI 1) hC dL_law_769 (by decide) ?_
  refine x_iaddN hC dL_law_770 ?_
  refine x_ialdN hC hb1 (by omega) (by first | decide | omega) dL_law_771 ?_
  refine x_callV0 (na := 1) hC (ct_energy hG hm1 hS (xs (i + 1))) (lw_V q2519 q2520 q2521 q89 q2522) hm1.1 rfl rfl (by decide +kernel) rfl ⟨Nat.le_of_ble_eq_true rfl, Nat.le_of_ble_eq_true rfl⟩ rfl (Nat.le_of_ble_eq_true rfl) ⟨rfl, rfl⟩ hr dL_law_772 ?_
  rintro _ M2 ⟨bv, P2, V2, rfl, hb2, hm2, hF2, hS2, hV6⟩
  refine x_lstore (lv' := [_, _, _, _, _, _, _, _, _]) hC dL_law_775 (by decide) rfl ?_
  refine x_aload_n hC dL_law_777 rfl rfl ?_
  refine x_callV0 (na := 0) hC (ct_thrown hG hm2) (lw_V q2394 q2395 q2396 q89 q2397) hm2.1 rfl rfl (by decide +kernel) rfl ⟨Nat.le_of_ble_eq_true rfl, Nat.le_of_ble_eq_true rfl⟩ rfl (Nat.le_of_ble_eq_true rfl) ⟨rfl, rfl⟩ hr dL_law_778 ?_
  rintro _ M3 ⟨rfl, hM3⟩
  subst hM3
  refine x_iload hC dL_law_781 rfl ?_
  refine x_icmp_eq (tgt := 788) hC dL_law_783 (by decide) (fun _ => ?_) (fun c => absurd hV6 c)
  have fin : ∀ w6 w7 w8, Wg G C M3 (kc + 22010) (ks + 80100) 804 [some (.ref b), some (.ref x), some (.ref m), some (.ref o), some (.ref od), some (.int (nI i)), w6, w7, w8] [] := by
    intro w6 w7 w8
    refine x_goto (tgt := 4085) hC dL_law_804 (by decide) ?_
    exact next M3 _ _ _ (hls.nx hF1 hox.1 hox.2 hR1 hF2 hm2 hS2)
  refine x_iload hC dL_law_788 rfl ?_
  refine x_if_ne (tgt := 804) hC dL_law_790 (by decide) (fun _ => fin _ _ _) (fun c => ?_)
  have hv1 := hv1 c
  have hb2 := hb2 c
  have ho3 := hF2.z (by decide) ho1
  refine x_aload_n hC dL_law_793 rfl rfl ?_
  refine x_iconst (v := 0) hC dL_law_794 (by decide) ?_
  refine x_lald hC ho3 in01 dL_law_795 ?_
  refine x_lload hC dL_law_796 rfl ?_
  refine x_lcmp hC dL_law_798 ?_
  refine x_if_eq (tgt := 804) hC dL_law_799 (by decide) (fun _ => fin _ _ _) (fun c9 => absurd (lg_same (show f1 (Int32.toNatClampNeg 0) = bv from by rw [hb2]; exact hv1)) c9)
theorem lc_11 (hG : GOK G) (hC : Cx G C (yL nm) cL_law 9 (some .boolean) room_1) (hT0 : T0 G T) (hT1 : T1 G T) (hT2 : T2 G T) (h : XLS T b L x m o od xs M) (hi : i + 5 < L) (hL : L ≤ 144) (hr : kc + 22010 ≤ room_1.cells ∧ ks + 80100 ≤ room_1.slots) (next : LN G C T b L x m o od i xs (kc + 22010) (ks + 80100)) : Wg G C M kc ks 807 [some (.ref b), some (.ref x), some (.ref m), some (.ref o), some (.ref od), some (.int (nI i)), v6, v7, v8] [] := by
  have hls := h
  obtain ⟨hb, hM1c, hM2c, ⟨S, P, V, A, hR, hm, hS⟩, ⟨f, ho⟩, ⟨fd, hd⟩⟩ := h
  obtain ⟨va, ha⟩ := hR.rec
  refine x_aload_n hC dL_law_807 rfl rfl ?_
  refine x_aload_n hC dL_law_808 rfl rfl ?_
  refine x_iload hC dL_law_809 rfl ?_
  refine x_iconst (v := nI 1) hC dL_law_811 (by decide) ?_
  refine x_iaddN hC dL_law_812 ?_
  refine x_ialdN hC hb (by omega) (by first | decide | omega) dL_law_813 ?_
  refine x_aload_n hC dL_law_814 rfl rfl ?_
  refine x_qSX (k := kc + 22010) (n := ks + 80100) (na := 3) hC (cw_loudestPlace hG  hR ho (xs (i + 1))) (lw_SW q1596 q1597 q80 q1598) (by decide +kernel) rfl ⟨Nat.le_of_ble_eq_true rfl, Nat.le_of_ble_eq_true rfl⟩ rfl (Nat.le_of_ble_eq_true rfl) (Nat.le_refl _) (Nat.le_refl _) hr dL_law_815 ?_ (fun q9 E9 M9 h9 => h9.elim)
  rintro _ M1 ⟨rfl, hR1, ⟨f1, ho1, hv1⟩, hFO⟩
  have hF1 := hFO.q ho rfl
  have hb1 := hF1.z pl0 hb
  have hm1 := hm.pl hF1
  have hox : (∃ f, M1 o = some (la 11 1 f)) ∧ (∃ f, M1 od = some (da 11 1 f)) := ⟨⟨f1, ho1⟩, xls_od hFO ho hd⟩
  refine x_istore (lv' := [_, _, _, _, _, _, _, _, _]) hC dL_law_818 (by decide) rfl ?_
  refine x_aload_n hC dL_law_820 rfl rfl ?_
  refine x_aload_n hC dL_law_821 rfl rfl ?_
  refine x_iload hC dL_law_822 rfl ?_
  refine x_iconst (v := nI 1) hC dL_law_824 (by decide) ?_
  refine x_iaddN hC dL_law_825 ?_
  refine x_ialdN hC hb1 (by omega) (by first | decide | omega) dL_law_826 ?_
  refine x_callV0 (na := 1) hC (ct_loudestPlace hG hm1 hS (xs (i + 1))) (lw_V q2531 q2532 q2533 q89 q2534) hm1.1 rfl rfl (by decide +kernel) rfl ⟨Nat.le_of_ble_eq_true rfl, Nat.le_of_ble_eq_true rfl⟩ rfl (Nat.le_of_ble_eq_true rfl) ⟨rfl, rfl⟩ hr dL_law_827 ?_
  rintro _ M2 ⟨bv, P2, V2, rfl, hb2, hm2, hF2, hS2, hV6⟩
  refine x_istore (lv' := [_, _, _, _, _, _, _, _, _]) hC dL_law_830 (by decide) rfl ?_
  refine x_aload_n hC dL_law_832 rfl rfl ?_
  refine x_callV0 (na := 0) hC (ct_thrown hG hm2) (lw_V q2394 q2395 q2396 q89 q2397) hm2.1 rfl rfl (by decide +kernel) rfl ⟨Nat.le_of_ble_eq_true rfl, Nat.le_of_ble_eq_true rfl⟩ rfl (Nat.le_of_ble_eq_true rfl) ⟨rfl, rfl⟩ hr dL_law_833 ?_
  rintro _ M3 ⟨rfl, hM3⟩
  subst hM3
  refine x_iload hC dL_law_836 rfl ?_
  refine x_icmp_eq (tgt := 843) hC dL_law_838 (by decide) (fun _ => ?_) (fun c => absurd hV6 c)
  have fin : ∀ w6 w7 w8, Wg G C M3 (kc + 22010) (ks + 80100) 860 [some (.ref b), some (.ref x), some (.ref m), some (.ref o), some (.ref od), some (.int (nI i)), w6, w7, w8] [] := by
    intro w6 w7 w8
    refine x_goto (tgt := 4085) hC dL_law_860 (by decide) ?_
    exact next M3 _ _ _ (hls.nx hF1 hox.1 hox.2 hR1 hF2 hm2 hS2)
  refine x_iload hC dL_law_843 rfl ?_
  refine x_if_ne (tgt := 860) hC dL_law_845 (by decide) (fun _ => fin _ _ _) (fun c => ?_)
  have hv1 := hv1 c
  have hb2 := hb2 c
  have ho3 := hF2.z (by decide) ho1
  refine x_aload_n hC dL_law_848 rfl rfl ?_
  refine x_iconst (v := 0) hC dL_law_849 (by decide) ?_
  refine x_lald hC ho3 in01 dL_law_850 ?_
  refine x_iload hC dL_law_851 rfl ?_
  refine x_i2l hC dL_law_853 rfl ?_
  refine x_lcmp hC dL_law_854 ?_
  refine x_if_eq (tgt := 860) hC dL_law_855 (by decide) (fun _ => fin _ _ _) (fun c9 => absurd (lg_same (show f1 (Int32.toNatClampNeg 0) = bv.toInt64 from by rw [hb2]; exact hv1)) c9)
theorem lc_12 (hG : GOK G) (hC : Cx G C (yL nm) cL_law 9 (some .boolean) room_1) (hT0 : T0 G T) (hT1 : T1 G T) (hT2 : T2 G T) (h : XLS T b L x m o od xs M) (hi : i + 5 < L) (hL : L ≤ 144) (hr : kc + 22010 ≤ room_1.cells ∧ ks + 80100 ≤ room_1.slots) (next : LN G C T b L x m o od i xs (kc + 22010) (ks + 80100)) : Wg G C M kc ks 863 [some (.ref b), some (.ref x), some (.ref m), some (.ref o), some (.ref od), some (.int (nI i)), v6, v7, v8] [] := by
  have hls := h
  obtain ⟨hb, hM1c, hM2c, ⟨S, P, V, A, hR, hm, hS⟩, ⟨f, ho⟩, ⟨fd, hd⟩⟩ := h
  obtain ⟨va, ha⟩ := hR.rec
  refine x_aload_n hC dL_law_863 rfl rfl ?_
  refine x_aload_n hC dL_law_864 rfl rfl ?_
  refine x_iload hC dL_law_865 rfl ?_
  refine x_iconst (v := nI 1) hC dL_law_867 (by decide) ?_
  refine x_iaddN hC dL_law_868 ?_
  refine x_ialdN hC hb (by omega) (by first | decide | omega) dL_law_869 ?_
  refine x_aload hC dL_law_870 rfl ?_
  refine x_qSX (k := kc + 22010) (n := ks + 80100) (na := 3) hC (cw_meanLoudness hG  hR hd (xs (i + 1))) (lw_SW q1606 q1607 q80 q1608) (by decide +kernel) rfl ⟨Nat.le_of_ble_eq_true rfl, Nat.le_of_ble_eq_true rfl⟩ rfl (Nat.le_of_ble_eq_true rfl) (Nat.le_refl _) (Nat.le_refl _) hr dL_law_872 ?_ (fun q9 E9 M9 h9 => h9.elim)
  rintro _ M1 ⟨rfl, hR1, ⟨f1, ho1, hv1⟩, hFO⟩
  have hF1 := hFO.q hd rfl
  have hb1 := hF1.z pl0 hb
  have hm1 := hm.pl hF1
  have hox : (∃ f, M1 o = some (la 11 1 f)) ∧ (∃ f, M1 od = some (da 11 1 f)) := ⟨xls_o hFO ho hd, ⟨f1, ho1⟩⟩
  refine x_istore (lv' := [_, _, _, _, _, _, _, _, _]) hC dL_law_875 (by decide) rfl ?_
  refine x_aload_n hC dL_law_877 rfl rfl ?_
  refine x_aload_n hC dL_law_878 rfl rfl ?_
  refine x_iload hC dL_law_879 rfl ?_
  refine x_iconst (v := nI 1) hC dL_law_881 (by decide) ?_
  refine x_iaddN hC dL_law_882 ?_
  refine x_ialdN hC hb1 (by omega) (by first | decide | omega) dL_law_883 ?_
  refine x_callV0 (na := 1) hC (ct_meanLoudness hG hm1 hS (xs (i + 1))) (lw_V q2544 q2545 q2546 q89 q2547) hm1.1 rfl rfl (by decide +kernel) rfl ⟨Nat.le_of_ble_eq_true rfl, Nat.le_of_ble_eq_true rfl⟩ rfl (Nat.le_of_ble_eq_true rfl) ⟨rfl, rfl⟩ hr dL_law_884 ?_
  rintro _ M2 ⟨bv, P2, V2, rfl, hb2, hm2, hF2, hS2, hV6⟩
  refine x_dstore (lv' := [_, _, _, _, _, _, _, _, _]) hC dL_law_887 (by decide) rfl ?_
  refine x_aload_n hC dL_law_889 rfl rfl ?_
  refine x_callV0 (na := 0) hC (ct_thrown hG hm2) (lw_V q2394 q2395 q2396 q89 q2397) hm2.1 rfl rfl (by decide +kernel) rfl ⟨Nat.le_of_ble_eq_true rfl, Nat.le_of_ble_eq_true rfl⟩ rfl (Nat.le_of_ble_eq_true rfl) ⟨rfl, rfl⟩ hr dL_law_890 ?_
  rintro _ M3 ⟨rfl, hM3⟩
  subst hM3
  refine x_iload hC dL_law_893 rfl ?_
  refine x_icmp_eq (tgt := 900) hC dL_law_895 (by decide) (fun _ => ?_) (fun c => absurd hV6 c)
  have fin : ∀ w6 w7 w8, Wg G C M3 (kc + 22010) (ks + 80100) 937 [some (.ref b), some (.ref x), some (.ref m), some (.ref o), some (.ref od), some (.int (nI i)), w6, w7, w8] [] := by
    intro w6 w7 w8
    refine x_goto (tgt := 4085) hC dL_law_937 (by decide) ?_
    exact next M3 _ _ _ (hls.nx hF1 hox.1 hox.2 hR1 hF2 hm2 hS2)
  refine x_iload hC dL_law_900 rfl ?_
  refine x_if_ne (tgt := 937) hC dL_law_902 (by decide) (fun _ => fin _ _ _) (fun c => ?_)
  have hv1 := hv1 c
  have hb2 := hb2 c
  have ho3 := hF2.z (by decide) ho1
  have e1 : f1 (Int32.toNatClampNeg 0) = bv := by rw [hb2]; exact hv1
  refine x_aload hC dL_law_905 rfl ?_
  refine x_iconst (v := 0) hC dL_law_907 (by decide) ?_
  refine x_dald hC ho3 in01 dL_law_908 ?_
  refine x_dload hC dL_law_909 rfl ?_
  refine x_dcmp hC dL_law_911 ?_
  rw [e1]
  refine x_if_eq (tgt := 937) hC dL_law_912 (by decide) (fun _ => fin _ _ _) (fun c9 => ?_)
  refine x_aload hC dL_law_915 rfl ?_
  refine x_iconst (v := 0) hC dL_law_917 (by decide) ?_
  refine x_dald hC ho3 in01 dL_law_918 ?_
  refine x_aload hC dL_law_919 rfl ?_
  refine x_iconst (v := 0) hC dL_law_921 (by decide) ?_
  refine x_dald hC ho3 in01 dL_law_922 ?_
  refine x_dcmp hC dL_law_923 ?_
  rw [e1]
  refine x_if_eq (tgt := 935) hC dL_law_924 (by decide) (fun c8 => absurd c8 c9) (fun _ => ?_)
  refine x_dload hC dL_law_927 rfl ?_
  refine x_dload hC dL_law_929 rfl ?_
  refine x_dcmp hC dL_law_931 ?_
  refine x_if_ne (tgt := 937) hC dL_law_932 (by decide) (fun _ => fin _ _ _) (fun c8 => absurd c8 c9)
theorem lc_13 (hG : GOK G) (hC : Cx G C (yL nm) cL_law 9 (some .boolean) room_1) (hT0 : T0 G T) (hT1 : T1 G T) (hT2 : T2 G T) (h : XLS T b L x m o od xs M) (hi : i + 5 < L) (hL : L ≤ 144) (hr : kc + 22010 ≤ room_1.cells ∧ ks + 80100 ≤ room_1.slots) (next : LN G C T b L x m o od i xs (kc + 22010) (ks + 80100)) : Wg G C M kc ks 940 [some (.ref b), some (.ref x), some (.ref m), some (.ref o), some (.ref od), some (.int (nI i)), v6, v7, v8] [] := by
  have hls := h
  obtain ⟨hb, hM1c, hM2c, ⟨S, P, V, A, hR, hm, hS⟩, ⟨f, ho⟩, ⟨fd, hd⟩⟩ := h
  obtain ⟨va, ha⟩ := hR.rec
  refine x_aload_n hC dL_law_940 rfl rfl ?_
  refine x_aload_n hC dL_law_941 rfl rfl ?_
  refine x_iload hC dL_law_942 rfl ?_
  refine x_iconst (v := nI 1) hC dL_law_944 (by decide) ?_
  refine x_iaddN hC dL_law_945 ?_
  refine x_ialdN hC hb (by omega) (by first | decide | omega) dL_law_946 ?_
  refine x_aload_n hC dL_law_947 rfl rfl ?_
  refine x_qSX (k := kc + 22010) (n := ks + 80100) (na := 3) hC (cw_signChanges hG  hR ho (xs (i + 1))) (lw_SW q1613 q1614 q80 q1615) (by decide +kernel) rfl ⟨Nat.le_of_ble_eq_true rfl, Nat.le_of_ble_eq_true rfl⟩ rfl (Nat.le_of_ble_eq_true rfl) (Nat.le_refl _) (Nat.le_refl _) hr dL_law_948 ?_ (fun q9 E9 M9 h9 => h9.elim)
  rintro _ M1 ⟨rfl, hR1, ⟨f1, ho1, hv1⟩, hFO⟩
  have hF1 := hFO.q ho rfl
  have hb1 := hF1.z pl0 hb
  have hm1 := hm.pl hF1
  have hox : (∃ f, M1 o = some (la 11 1 f)) ∧ (∃ f, M1 od = some (da 11 1 f)) := ⟨⟨f1, ho1⟩, xls_od hFO ho hd⟩
  refine x_istore (lv' := [_, _, _, _, _, _, _, _, _]) hC dL_law_951 (by decide) rfl ?_
  refine x_aload_n hC dL_law_953 rfl rfl ?_
  refine x_aload_n hC dL_law_954 rfl rfl ?_
  refine x_iload hC dL_law_955 rfl ?_
  refine x_iconst (v := nI 1) hC dL_law_957 (by decide) ?_
  refine x_iaddN hC dL_law_958 ?_
  refine x_ialdN hC hb1 (by omega) (by first | decide | omega) dL_law_959 ?_
  refine x_callV0 (na := 1) hC (ct_signChanges hG hm1 hS (xs (i + 1))) (lw_V q2548 q2549 q2550 q89 q2551) hm1.1 rfl rfl (by decide +kernel) rfl ⟨Nat.le_of_ble_eq_true rfl, Nat.le_of_ble_eq_true rfl⟩ rfl (Nat.le_of_ble_eq_true rfl) ⟨rfl, rfl⟩ hr dL_law_960 ?_
  rintro _ M2 ⟨bv, P2, V2, rfl, hb2, hm2, hF2, hS2, hV6⟩
  refine x_istore (lv' := [_, _, _, _, _, _, _, _, _]) hC dL_law_963 (by decide) rfl ?_
  refine x_aload_n hC dL_law_965 rfl rfl ?_
  refine x_callV0 (na := 0) hC (ct_thrown hG hm2) (lw_V q2394 q2395 q2396 q89 q2397) hm2.1 rfl rfl (by decide +kernel) rfl ⟨Nat.le_of_ble_eq_true rfl, Nat.le_of_ble_eq_true rfl⟩ rfl (Nat.le_of_ble_eq_true rfl) ⟨rfl, rfl⟩ hr dL_law_966 ?_
  rintro _ M3 ⟨rfl, hM3⟩
  subst hM3
  refine x_iload hC dL_law_969 rfl ?_
  refine x_icmp_eq (tgt := 976) hC dL_law_971 (by decide) (fun _ => ?_) (fun c => absurd hV6 c)
  have fin : ∀ w6 w7 w8, Wg G C M3 (kc + 22010) (ks + 80100) 993 [some (.ref b), some (.ref x), some (.ref m), some (.ref o), some (.ref od), some (.int (nI i)), w6, w7, w8] [] := by
    intro w6 w7 w8
    refine x_goto (tgt := 4085) hC dL_law_993 (by decide) ?_
    exact next M3 _ _ _ (hls.nx hF1 hox.1 hox.2 hR1 hF2 hm2 hS2)
  refine x_iload hC dL_law_976 rfl ?_
  refine x_if_ne (tgt := 993) hC dL_law_978 (by decide) (fun _ => fin _ _ _) (fun c => ?_)
  have hv1 := hv1 c
  have hb2 := hb2 c
  have ho3 := hF2.z (by decide) ho1
  refine x_aload_n hC dL_law_981 rfl rfl ?_
  refine x_iconst (v := 0) hC dL_law_982 (by decide) ?_
  refine x_lald hC ho3 in01 dL_law_983 ?_
  refine x_iload hC dL_law_984 rfl ?_
  refine x_i2l hC dL_law_986 rfl ?_
  refine x_lcmp hC dL_law_987 ?_
  refine x_if_eq (tgt := 993) hC dL_law_988 (by decide) (fun _ => fin _ _ _) (fun c9 => absurd (lg_same (show f1 (Int32.toNatClampNeg 0) = bv.toInt64 from by rw [hb2]; exact hv1)) c9)
theorem lc_14 (hG : GOK G) (hC : Cx G C (yL nm) cL_law 9 (some .boolean) room_1) (hT0 : T0 G T) (hT1 : T1 G T) (hT2 : T2 G T) (h : XLS T b L x m o od xs M) (hi : i + 5 < L) (hL : L ≤ 144) (hr : kc + 22010 ≤ room_1.cells ∧ ks + 80100 ≤ room_1.slots) (next : LN G C T b L x m o od i xs (kc + 22010) (ks + 80100)) : Wg G C M kc ks 996 [some (.ref b), some (.ref x), some (.ref m), some (.ref o), some (.ref od), some (.int (nI i)), v6, v7, v8] [] := by
  have hls := h
  obtain ⟨hb, hM1c, hM2c, ⟨S, P, V, A, hR, hm, hS⟩, ⟨f, ho⟩, ⟨fd, hd⟩⟩ := h
  obtain ⟨va, ha⟩ := hR.rec
  refine x_aload_n hC dL_law_996 rfl rfl ?_
  refine x_aload_n hC dL_law_997 rfl rfl ?_
  refine x_iload hC dL_law_998 rfl ?_
  refine x_iconst (v := nI 1) hC dL_law_1000 (by decide) ?_
  refine x_iaddN hC dL_law_1001 ?_
  refine x_ialdN hC hb (by omega) (by first | decide | omega) dL_law_1002 ?_
  refine x_aload_n hC dL_law_1003 rfl rfl ?_
  refine x_iload hC dL_law_1004 rfl ?_
  refine x_iconst (v := nI 2) hC dL_law_1006 (by decide) ?_
  refine x_iaddN hC dL_law_1007 ?_
  refine x_ialdN hC hb (by omega) (by first | decide | omega) dL_law_1008 ?_
  refine x_aload_n hC dL_law_1009 rfl rfl ?_
  refine x_iload hC dL_law_1010 rfl ?_
  refine x_iconst (v := nI 3) hC dL_law_1012 (by decide) ?_
  refine x_iaddN hC dL_law_1013 ?_
  refine x_ialdN hC hb (by omega) (by first | decide | omega) dL_law_1014 ?_
  refine x_aload_n hC dL_law_1015 rfl rfl ?_
  refine x_qSX (k := kc + 22010) (n := ks + 80100) (na := 5) hC (cw_samplesBetween hG  hR ho (xs (i + 1)) (xs (i + 2)) (xs (i + 3))) (lw_SW q1624 q1625 q80 q1626) (by decide +kernel) rfl ⟨Nat.le_of_ble_eq_true rfl, Nat.le_of_ble_eq_true rfl⟩ rfl (Nat.le_of_ble_eq_true rfl) (Nat.le_refl _) (Nat.le_refl _) hr dL_law_1016 ?_ (fun q9 E9 M9 h9 => h9.elim)
  rintro _ M1 ⟨rfl, hR1, ⟨f1, ho1, hv1⟩, hFO⟩
  have hF1 := hFO.q ho rfl
  have hb1 := hF1.z pl0 hb
  have hm1 := hm.pl hF1
  have hox : (∃ f, M1 o = some (la 11 1 f)) ∧ (∃ f, M1 od = some (da 11 1 f)) := ⟨⟨f1, ho1⟩, xls_od hFO ho hd⟩
  refine x_istore (lv' := [_, _, _, _, _, _, _, _, _]) hC dL_law_1019 (by decide) rfl ?_
  refine x_aload_n hC dL_law_1021 rfl rfl ?_
  refine x_aload_n hC dL_law_1022 rfl rfl ?_
  refine x_iload hC dL_law_1023 rfl ?_
  refine x_iconst (v := nI 1) hC dL_law_1025 (by decide) ?_
  refine x_iaddN hC dL_law_1026 ?_
  refine x_ialdN hC hb1 (by omega) (by first | decide | omega) dL_law_1027 ?_
  refine x_aload_n hC dL_law_1028 rfl rfl ?_
  refine x_iload hC dL_law_1029 rfl ?_
  refine x_iconst (v := nI 2) hC dL_law_1031 (by decide) ?_
  refine x_iaddN hC dL_law_1032 ?_
  refine x_ialdN hC hb1 (by omega) (by first | decide | omega) dL_law_1033 ?_
  refine x_aload_n hC dL_law_1034 rfl rfl ?_
  refine x_iload hC dL_law_1035 rfl ?_
  refine x_iconst (v := nI 3) hC dL_law_1037 (by decide) ?_
  refine x_iaddN hC dL_law_1038 ?_
  refine x_ialdN hC hb1 (by omega) (by first | decide | omega) dL_law_1039 ?_
  refine x_callV0 (na := 3) hC (ct_samplesBetween hG hm1 hS (xs (i + 1)) (xs (i + 2)) (xs (i + 3))) (lw_V q2536 q2537 q2538 q89 q2539) hm1.1 rfl rfl (by decide +kernel) rfl ⟨Nat.le_of_ble_eq_true rfl, Nat.le_of_ble_eq_true rfl⟩ rfl (Nat.le_of_ble_eq_true rfl) ⟨rfl, rfl⟩ hr dL_law_1040 ?_
  rintro _ M2 ⟨bv, P2, V2, rfl, hb2, hm2, hF2, hS2, hV6⟩
  refine x_istore (lv' := [_, _, _, _, _, _, _, _, _]) hC dL_law_1043 (by decide) rfl ?_
  refine x_aload_n hC dL_law_1045 rfl rfl ?_
  refine x_callV0 (na := 0) hC (ct_thrown hG hm2) (lw_V q2394 q2395 q2396 q89 q2397) hm2.1 rfl rfl (by decide +kernel) rfl ⟨Nat.le_of_ble_eq_true rfl, Nat.le_of_ble_eq_true rfl⟩ rfl (Nat.le_of_ble_eq_true rfl) ⟨rfl, rfl⟩ hr dL_law_1046 ?_
  rintro _ M3 ⟨rfl, hM3⟩
  subst hM3
  refine x_iload hC dL_law_1049 rfl ?_
  refine x_icmp_eq (tgt := 1056) hC dL_law_1051 (by decide) (fun _ => ?_) (fun c => absurd hV6 c)
  have fin : ∀ w6 w7 w8, Wg G C M3 (kc + 22010) (ks + 80100) 1073 [some (.ref b), some (.ref x), some (.ref m), some (.ref o), some (.ref od), some (.int (nI i)), w6, w7, w8] [] := by
    intro w6 w7 w8
    refine x_goto (tgt := 4085) hC dL_law_1073 (by decide) ?_
    exact next M3 _ _ _ (hls.nx hF1 hox.1 hox.2 hR1 hF2 hm2 hS2)
  refine x_iload hC dL_law_1056 rfl ?_
  refine x_if_ne (tgt := 1073) hC dL_law_1058 (by decide) (fun _ => fin _ _ _) (fun c => ?_)
  have hv1 := hv1 c
  have hb2 := hb2 c
  have ho3 := hF2.z (by decide) ho1
  refine x_aload_n hC dL_law_1061 rfl rfl ?_
  refine x_iconst (v := 0) hC dL_law_1062 (by decide) ?_
  refine x_lald hC ho3 in01 dL_law_1063 ?_
  refine x_iload hC dL_law_1064 rfl ?_
  refine x_i2l hC dL_law_1066 rfl ?_
  refine x_lcmp hC dL_law_1067 ?_
  refine x_if_eq (tgt := 1073) hC dL_law_1068 (by decide) (fun _ => fin _ _ _) (fun c9 => absurd (lg_same (show f1 (Int32.toNatClampNeg 0) = bv.toInt64 from by rw [hb2]; exact hv1)) c9)
theorem lc_15 (hG : GOK G) (hC : Cx G C (yL nm) cL_law 9 (some .boolean) room_1) (hT0 : T0 G T) (hT1 : T1 G T) (hT2 : T2 G T) (h : XLS T b L x m o od xs M) (hi : i + 5 < L) (hL : L ≤ 144) (hr : kc + 22010 ≤ room_1.cells ∧ ks + 80100 ≤ room_1.slots) (next : LN G C T b L x m o od i xs (kc + 22010) (ks + 80100)) : Wg G C M kc ks 1076 [some (.ref b), some (.ref x), some (.ref m), some (.ref o), some (.ref od), some (.int (nI i)), v6, v7, v8] [] := by
  have hls := h
  obtain ⟨hb, hM1c, hM2c, ⟨S, P, V, A, hR, hm, hS⟩, ⟨f, ho⟩, ⟨fd, hd⟩⟩ := h
  obtain ⟨va, ha⟩ := hR.rec
  refine x_aload_n hC dL_law_1076 rfl rfl ?_
  refine x_aload_n hC dL_law_1077 rfl rfl ?_
  refine x_iload hC dL_law_1078 rfl ?_
  refine x_iconst (v := nI 1) hC dL_law_1080 (by decide) ?_
  refine x_iaddN hC dL_law_1081 ?_
  refine x_ialdN hC hb (by omega) (by first | decide | omega) dL_law_1082 ?_
  refine x_aload_n hC dL_law_1083 rfl rfl ?_
  refine x_qSX (k := kc + 22010) (n := ks + 80100) (na := 3) hC (cw_isSymmetric hG  hR ho (xs (i + 1))) (lw_SW q1635 q1636 q80 q1637) (by decide +kernel) rfl ⟨Nat.le_of_ble_eq_true rfl, Nat.le_of_ble_eq_true rfl⟩ rfl (Nat.le_of_ble_eq_true rfl) (Nat.le_refl _) (Nat.le_refl _) hr dL_law_1084 ?_ (fun q9 E9 M9 h9 => h9.elim)
  rintro _ M1 ⟨rfl, hR1, ⟨f1, ho1, hv1⟩, hFO⟩
  have hF1 := hFO.q ho rfl
  have hb1 := hF1.z pl0 hb
  have hm1 := hm.pl hF1
  have hox : (∃ f, M1 o = some (la 11 1 f)) ∧ (∃ f, M1 od = some (da 11 1 f)) := ⟨⟨f1, ho1⟩, xls_od hFO ho hd⟩
  refine x_istore (lv' := [_, _, _, _, _, _, _, _, _]) hC dL_law_1087 (by decide) rfl ?_
  refine x_aload_n hC dL_law_1089 rfl rfl ?_
  refine x_aload_n hC dL_law_1090 rfl rfl ?_
  refine x_iload hC dL_law_1091 rfl ?_
  refine x_iconst (v := nI 1) hC dL_law_1093 (by decide) ?_
  refine x_iaddN hC dL_law_1094 ?_
  refine x_ialdN hC hb1 (by omega) (by first | decide | omega) dL_law_1095 ?_
  refine x_callV0 (na := 1) hC (ct_isSymmetric hG hm1 hS (xs (i + 1))) (lw_V q2556 q2557 q2558 q89 q2559) hm1.1 rfl rfl (by decide +kernel) rfl ⟨Nat.le_of_ble_eq_true rfl, Nat.le_of_ble_eq_true rfl⟩ rfl (Nat.le_of_ble_eq_true rfl) ⟨rfl, rfl⟩ hr dL_law_1096 ?_
  rintro _ M2 ⟨bv, P2, V2, rfl, hb2, hm2, hF2, hS2, hV6⟩
  refine x_istore (lv' := [_, _, _, _, _, _, _, _, _]) hC dL_law_1099 (by decide) rfl ?_
  refine x_aload_n hC dL_law_1101 rfl rfl ?_
  refine x_callV0 (na := 0) hC (ct_thrown hG hm2) (lw_V q2394 q2395 q2396 q89 q2397) hm2.1 rfl rfl (by decide +kernel) rfl ⟨Nat.le_of_ble_eq_true rfl, Nat.le_of_ble_eq_true rfl⟩ rfl (Nat.le_of_ble_eq_true rfl) ⟨rfl, rfl⟩ hr dL_law_1102 ?_
  rintro _ M3 ⟨rfl, hM3⟩
  subst hM3
  refine x_iload hC dL_law_1105 rfl ?_
  refine x_icmp_eq (tgt := 1112) hC dL_law_1107 (by decide) (fun _ => ?_) (fun c => absurd hV6 c)
  have fin : ∀ w6 w7 w8, Wg G C M3 (kc + 22010) (ks + 80100) 1136 [some (.ref b), some (.ref x), some (.ref m), some (.ref o), some (.ref od), some (.int (nI i)), w6, w7, w8] [] := by
    intro w6 w7 w8
    refine x_goto (tgt := 4085) hC dL_law_1136 (by decide) ?_
    exact next M3 _ _ _ (hls.nx hF1 hox.1 hox.2 hR1 hF2 hm2 hS2)
  refine x_iload hC dL_law_1112 rfl ?_
  refine x_if_ne (tgt := 1136) hC dL_law_1114 (by decide) (fun _ => fin _ _ _) (fun c => ?_)
  have hv1 := hv1 c
  have hb2 := hb2 c
  have ho3 := hF2.z (by decide) ho1
  have e1 : f1 (Int32.toNatClampNeg 0) = if bv = 0 then 0 else 1 := by rw [hb2]; exact hv1
  refine x_aload_n hC dL_law_1117 rfl rfl ?_
  refine x_iconst (v := 0) hC dL_law_1118 (by decide) ?_
  refine x_lald hC ho3 in01 dL_law_1119 ?_
  refine x_iload hC dL_law_1120 rfl ?_
  refine x_if_eq (tgt := 1129) hC dL_law_1122 (by decide) (fun c5 => ?_) (fun c5 => ?_)
  · refine x_lconst (v := 0) hC dL_law_1129 (by decide) ?_
    refine x_lcmp hC dL_law_1130 ?_
    refine x_if_eq (tgt := 1136) hC dL_law_1131 (by decide) (fun _ => fin _ _ _) (fun c9 => absurd (lg_same (e1.trans (if_pos c5))) c9)
  · refine x_lconst (v := 1) hC dL_law_1125 (by decide) ?_
    refine x_goto (tgt := 1130) hC dL_law_1126 (by decide) ?_
    refine x_lcmp hC dL_law_1130 ?_
    refine x_if_eq (tgt := 1136) hC dL_law_1131 (by decide) (fun _ => fin _ _ _) (fun c9 => absurd (lg_same (e1.trans (if_neg c5))) c9)
end LC0

