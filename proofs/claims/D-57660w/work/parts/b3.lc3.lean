/-! ===== the law's cases ===== -/
section LC48
variable {G : X_G} {C : X_C} {nm : String} {M : X_M} {T : X_T} {b L x m o od i kc ks : Nat} {xs : Nat → Int32} {v6 v7 v8 : Option Value}
theorem lc_48 (hG : GOK G) (hC : Cx G C (yL nm) cL_law 9 (some .boolean) room_1) (hT0 : T0 G T) (hT1 : T1 G T) (hT2 : T2 G T) (h : XLS T b L x m o od xs M) (hi : i + 5 < L) (hL : L ≤ 144) (hr : kc + 22010 ≤ room_1.cells ∧ ks + 80100 ≤ room_1.slots) (next : LN G C T b L x m o od i xs (kc + 22010) (ks + 80100)) : Wg G C M kc ks 3364 [some (.ref b), some (.ref x), some (.ref m), some (.ref o), some (.ref od), some (.int (nI i)), v6, v7, v8] [] := by
  have hls := h
  obtain ⟨hb, hM1c, hM2c, ⟨S, P, V, A, hR, hm, hS⟩, ⟨f, ho⟩, ⟨fd, hd⟩⟩ := h
  obtain ⟨va, ha⟩ := hR.rec
  refine x_aload_n hC dL_law_3364 rfl rfl ?_
  refine x_aload_n hC dL_law_3365 rfl rfl ?_
  refine x_iload hC dL_law_3366 rfl ?_
  refine x_iconst (v := nI 1) hC dL_law_3368 (by decide) ?_
  refine x_iaddN hC dL_law_3369 ?_
  refine x_ialdN hC hb (by omega) (by first | decide | omega) dL_law_3370 ?_
  refine x_aload_n hC dL_law_3371 rfl rfl ?_
  refine x_iload hC dL_law_3372 rfl ?_
  refine x_iconst (v := nI 2) hC dL_law_3374 (by decide) ?_
  refine x_iaddN hC dL_law_3375 ?_
  refine x_ialdN hC hb (by omega) (by first | decide | omega) dL_law_3376 ?_
  refine x_aload_n hC dL_law_3377 rfl rfl ?_
  refine x_qSX (k := kc + 22010) (n := ks + 80100) (na := 4) hC (cw_shift hG hT0 hR ho (xs (i + 1)) (xs (i + 2))) (lw_SW q2177 q2178 q80 q2179) (by decide +kernel) rfl ⟨Nat.le_of_ble_eq_true rfl, Nat.le_of_ble_eq_true rfl⟩ rfl (Nat.le_of_ble_eq_true rfl) (Nat.le_refl _) (Nat.le_refl _) hr dL_law_3378 ?_ (fun q9 E9 M9 h9 => h9.elim)
  rintro _ M1 ⟨rfl, hR1, ⟨f1, ho1, hv1⟩, hFO⟩
  have hF1 := hFO.q ho rfl
  have hb1 := hF1.z pl0 hb
  have hm1 := hm.pl hF1
  have hox : (∃ f, M1 o = some (la 11 1 f)) ∧ (∃ f, M1 od = some (da 11 1 f)) := ⟨⟨f1, ho1⟩, xls_od hFO ho hd⟩
  refine x_istore (lv' := [_, _, _, _, _, _, _, _, _]) hC dL_law_3381 (by decide) rfl ?_
  refine x_aload_n hC dL_law_3383 rfl rfl ?_
  refine x_aload_n hC dL_law_3384 rfl rfl ?_
  refine x_iload hC dL_law_3385 rfl ?_
  refine x_iconst (v := nI 1) hC dL_law_3387 (by decide) ?_
  refine x_iaddN hC dL_law_3388 ?_
  refine x_ialdN hC hb1 (by omega) (by first | decide | omega) dL_law_3389 ?_
  refine x_aload_n hC dL_law_3390 rfl rfl ?_
  refine x_iload hC dL_law_3391 rfl ?_
  refine x_iconst (v := nI 2) hC dL_law_3393 (by decide) ?_
  refine x_iaddN hC dL_law_3394 ?_
  refine x_ialdN hC hb1 (by omega) (by first | decide | omega) dL_law_3395 ?_
  refine x_callV0 (na := 2) hC (ct_shift hG hm1 hS (xs (i + 1)) (xs (i + 2))) (lw_V q2835 q2836 q2837 q89 q2838) hm1.1 rfl rfl (by decide +kernel) rfl ⟨Nat.le_of_ble_eq_true rfl, Nat.le_of_ble_eq_true rfl⟩ rfl (Nat.le_of_ble_eq_true rfl) ⟨rfl, rfl⟩ hr dL_law_3396 ?_
  rintro _ M2 ⟨bv, P2, V2, rfl, hb2, hm2, hF2, hS2, hV6⟩
  refine x_istore (lv' := [_, _, _, _, _, _, _, _, _]) hC dL_law_3399 (by decide) rfl ?_
  refine x_aload_n hC dL_law_3401 rfl rfl ?_
  refine x_callV0 (na := 0) hC (ct_thrown hG hm2) (lw_V q2394 q2395 q2396 q89 q2397) hm2.1 rfl rfl (by decide +kernel) rfl ⟨Nat.le_of_ble_eq_true rfl, Nat.le_of_ble_eq_true rfl⟩ rfl (Nat.le_of_ble_eq_true rfl) ⟨rfl, rfl⟩ hr dL_law_3402 ?_
  rintro _ M3 ⟨rfl, hM3⟩
  subst hM3
  refine x_iload hC dL_law_3405 rfl ?_
  refine x_icmp_eq (tgt := 3412) hC dL_law_3407 (by decide) (fun _ => ?_) (fun c => absurd hV6 c)
  have fin : ∀ w6 w7 w8, Wg G C M3 (kc + 22010) (ks + 80100) 3429 [some (.ref b), some (.ref x), some (.ref m), some (.ref o), some (.ref od), some (.int (nI i)), w6, w7, w8] [] := by
    intro w6 w7 w8
    refine x_goto (tgt := 4085) hC dL_law_3429 (by decide) ?_
    exact next M3 _ _ _ (hls.nx hF1 hox.1 hox.2 hR1 hF2 hm2 hS2)
  refine x_iload hC dL_law_3412 rfl ?_
  refine x_if_ne (tgt := 3429) hC dL_law_3414 (by decide) (fun _ => fin _ _ _) (fun c => ?_)
  have hv1 := hv1 c
  have hb2 := hb2 c
  have ho3 := hF2.z (by decide) ho1
  refine x_aload_n hC dL_law_3417 rfl rfl ?_
  refine x_iconst (v := 0) hC dL_law_3418 (by decide) ?_
  refine x_lald hC ho3 in01 dL_law_3419 ?_
  refine x_iload hC dL_law_3420 rfl ?_
  refine x_i2l hC dL_law_3422 rfl ?_
  refine x_lcmp hC dL_law_3423 ?_
  refine x_if_eq (tgt := 3429) hC dL_law_3424 (by decide) (fun _ => fin _ _ _) (fun c9 => absurd (lg_same (show f1 (Int32.toNatClampNeg 0) = bv.toInt64 from by rw [hb2]; exact hv1)) c9)
theorem lc_49 (hG : GOK G) (hC : Cx G C (yL nm) cL_law 9 (some .boolean) room_1) (hT0 : T0 G T) (hT1 : T1 G T) (hT2 : T2 G T) (h : XLS T b L x m o od xs M) (hi : i + 5 < L) (hL : L ≤ 144) (hr : kc + 22010 ≤ room_1.cells ∧ ks + 80100 ≤ room_1.slots) (next : LN G C T b L x m o od i xs (kc + 22010) (ks + 80100)) : Wg G C M kc ks 3432 [some (.ref b), some (.ref x), some (.ref m), some (.ref o), some (.ref od), some (.int (nI i)), v6, v7, v8] [] := by
  have hls := h
  obtain ⟨hb, hM1c, hM2c, ⟨S, P, V, A, hR, hm, hS⟩, ⟨f, ho⟩, ⟨fd, hd⟩⟩ := h
  obtain ⟨va, ha⟩ := hR.rec
  refine x_aload_n hC dL_law_3432 rfl rfl ?_
  refine x_aload_n hC dL_law_3433 rfl rfl ?_
  refine x_iload hC dL_law_3434 rfl ?_
  refine x_iconst (v := nI 1) hC dL_law_3436 (by decide) ?_
  refine x_iaddN hC dL_law_3437 ?_
  refine x_ialdN hC hb (by omega) (by first | decide | omega) dL_law_3438 ?_
  refine x_aload_n hC dL_law_3439 rfl rfl ?_
  refine x_qSX (k := kc + 22010) (n := ks + 80100) (na := 3) hC (cw_reverse hG hT0 hR ho (xs (i + 1))) (lw_SW q2188 q2189 q80 q2190) (by decide +kernel) rfl ⟨Nat.le_of_ble_eq_true rfl, Nat.le_of_ble_eq_true rfl⟩ rfl (Nat.le_of_ble_eq_true rfl) (Nat.le_refl _) (Nat.le_refl _) hr dL_law_3440 ?_ (fun q9 E9 M9 h9 => h9.elim)
  rintro _ M1 ⟨rfl, hR1, ⟨f1, ho1, hv1⟩, hFO⟩
  have hF1 := hFO.q ho rfl
  have hb1 := hF1.z pl0 hb
  have hm1 := hm.pl hF1
  have hox : (∃ f, M1 o = some (la 11 1 f)) ∧ (∃ f, M1 od = some (da 11 1 f)) := ⟨⟨f1, ho1⟩, xls_od hFO ho hd⟩
  refine x_istore (lv' := [_, _, _, _, _, _, _, _, _]) hC dL_law_3443 (by decide) rfl ?_
  refine x_aload_n hC dL_law_3445 rfl rfl ?_
  refine x_aload_n hC dL_law_3446 rfl rfl ?_
  refine x_iload hC dL_law_3447 rfl ?_
  refine x_iconst (v := nI 1) hC dL_law_3449 (by decide) ?_
  refine x_iaddN hC dL_law_3450 ?_
  refine x_ialdN hC hb1 (by omega) (by first | decide | omega) dL_law_3451 ?_
  refine x_callV0 (na := 1) hC (ct_reverse hG hm1 hS (xs (i + 1))) (lw_V q2807 q2808 q2809 q89 q2810) hm1.1 rfl rfl (by decide +kernel) rfl ⟨Nat.le_of_ble_eq_true rfl, Nat.le_of_ble_eq_true rfl⟩ rfl (Nat.le_of_ble_eq_true rfl) ⟨rfl, rfl⟩ hr dL_law_3452 ?_
  rintro _ M2 ⟨bv, P2, V2, rfl, hb2, hm2, hF2, hS2, hV6⟩
  refine x_istore (lv' := [_, _, _, _, _, _, _, _, _]) hC dL_law_3455 (by decide) rfl ?_
  refine x_aload_n hC dL_law_3457 rfl rfl ?_
  refine x_callV0 (na := 0) hC (ct_thrown hG hm2) (lw_V q2394 q2395 q2396 q89 q2397) hm2.1 rfl rfl (by decide +kernel) rfl ⟨Nat.le_of_ble_eq_true rfl, Nat.le_of_ble_eq_true rfl⟩ rfl (Nat.le_of_ble_eq_true rfl) ⟨rfl, rfl⟩ hr dL_law_3458 ?_
  rintro _ M3 ⟨rfl, hM3⟩
  subst hM3
  refine x_iload hC dL_law_3461 rfl ?_
  refine x_icmp_eq (tgt := 3468) hC dL_law_3463 (by decide) (fun _ => ?_) (fun c => absurd hV6 c)
  have fin : ∀ w6 w7 w8, Wg G C M3 (kc + 22010) (ks + 80100) 3485 [some (.ref b), some (.ref x), some (.ref m), some (.ref o), some (.ref od), some (.int (nI i)), w6, w7, w8] [] := by
    intro w6 w7 w8
    refine x_goto (tgt := 4085) hC dL_law_3485 (by decide) ?_
    exact next M3 _ _ _ (hls.nx hF1 hox.1 hox.2 hR1 hF2 hm2 hS2)
  refine x_iload hC dL_law_3468 rfl ?_
  refine x_if_ne (tgt := 3485) hC dL_law_3470 (by decide) (fun _ => fin _ _ _) (fun c => ?_)
  have hv1 := hv1 c
  have hb2 := hb2 c
  have ho3 := hF2.z (by decide) ho1
  refine x_aload_n hC dL_law_3473 rfl rfl ?_
  refine x_iconst (v := 0) hC dL_law_3474 (by decide) ?_
  refine x_lald hC ho3 in01 dL_law_3475 ?_
  refine x_iload hC dL_law_3476 rfl ?_
  refine x_i2l hC dL_law_3478 rfl ?_
  refine x_lcmp hC dL_law_3479 ?_
  refine x_if_eq (tgt := 3485) hC dL_law_3480 (by decide) (fun _ => fin _ _ _) (fun c9 => absurd (lg_same (show f1 (Int32.toNatClampNeg 0) = bv.toInt64 from by rw [hb2]; exact hv1)) c9)
theorem lc_50 (hG : GOK G) (hC : Cx G C (yL nm) cL_law 9 (some .boolean) room_1) (hT0 : T0 G T) (hT1 : T1 G T) (hT2 : T2 G T) (h : XLS T b L x m o od xs M) (hi : i + 5 < L) (hL : L ≤ 144) (hr : kc + 22010 ≤ room_1.cells ∧ ks + 80100 ≤ room_1.slots) (next : LN G C T b L x m o od i xs (kc + 22010) (ks + 80100)) : Wg G C M kc ks 3488 [some (.ref b), some (.ref x), some (.ref m), some (.ref o), some (.ref od), some (.int (nI i)), v6, v7, v8] [] := by
  have hls := h
  obtain ⟨hb, hM1c, hM2c, ⟨S, P, V, A, hR, hm, hS⟩, ⟨f, ho⟩, ⟨fd, hd⟩⟩ := h
  obtain ⟨va, ha⟩ := hR.rec
  refine x_aload_n hC dL_law_3488 rfl rfl ?_
  refine x_aload_n hC dL_law_3489 rfl rfl ?_
  refine x_iload hC dL_law_3490 rfl ?_
  refine x_iconst (v := nI 1) hC dL_law_3492 (by decide) ?_
  refine x_iaddN hC dL_law_3493 ?_
  refine x_ialdN hC hb (by omega) (by first | decide | omega) dL_law_3494 ?_
  refine x_aload_n hC dL_law_3495 rfl rfl ?_
  refine x_iload hC dL_law_3496 rfl ?_
  refine x_iconst (v := nI 2) hC dL_law_3498 (by decide) ?_
  refine x_iaddN hC dL_law_3499 ?_
  refine x_ialdN hC hb (by omega) (by first | decide | omega) dL_law_3500 ?_
  refine x_aload_n hC dL_law_3501 rfl rfl ?_
  refine x_qSX (k := kc + 22010) (n := ks + 80100) (na := 4) hC (cw_quantize hG hT0 hR ho (xs (i + 1)) (xs (i + 2))) (lw_SW q2195 q2196 q80 q2197) (by decide +kernel) rfl ⟨Nat.le_of_ble_eq_true rfl, Nat.le_of_ble_eq_true rfl⟩ rfl (Nat.le_of_ble_eq_true rfl) (Nat.le_refl _) (Nat.le_refl _) hr dL_law_3502 ?_ (fun q9 E9 M9 h9 => h9.elim)
  rintro _ M1 ⟨rfl, hR1, ⟨f1, ho1, hv1⟩, hFO⟩
  have hF1 := hFO.q ho rfl
  have hb1 := hF1.z pl0 hb
  have hm1 := hm.pl hF1
  have hox : (∃ f, M1 o = some (la 11 1 f)) ∧ (∃ f, M1 od = some (da 11 1 f)) := ⟨⟨f1, ho1⟩, xls_od hFO ho hd⟩
  refine x_istore (lv' := [_, _, _, _, _, _, _, _, _]) hC dL_law_3505 (by decide) rfl ?_
  refine x_aload_n hC dL_law_3507 rfl rfl ?_
  refine x_aload_n hC dL_law_3508 rfl rfl ?_
  refine x_iload hC dL_law_3509 rfl ?_
  refine x_iconst (v := nI 1) hC dL_law_3511 (by decide) ?_
  refine x_iaddN hC dL_law_3512 ?_
  refine x_ialdN hC hb1 (by omega) (by first | decide | omega) dL_law_3513 ?_
  refine x_aload_n hC dL_law_3514 rfl rfl ?_
  refine x_iload hC dL_law_3515 rfl ?_
  refine x_iconst (v := nI 2) hC dL_law_3517 (by decide) ?_
  refine x_iaddN hC dL_law_3518 ?_
  refine x_ialdN hC hb1 (by omega) (by first | decide | omega) dL_law_3519 ?_
  refine x_callV0 (na := 2) hC (ct_quantize hG hm1 hS (xs (i + 1)) (xs (i + 2))) (lw_V q2811 q2812 q2813 q89 q2814) hm1.1 rfl rfl (by decide +kernel) rfl ⟨Nat.le_of_ble_eq_true rfl, Nat.le_of_ble_eq_true rfl⟩ rfl (Nat.le_of_ble_eq_true rfl) ⟨rfl, rfl⟩ hr dL_law_3520 ?_
  rintro _ M2 ⟨bv, P2, V2, rfl, hb2, hm2, hF2, hS2, hV6⟩
  refine x_istore (lv' := [_, _, _, _, _, _, _, _, _]) hC dL_law_3523 (by decide) rfl ?_
  refine x_aload_n hC dL_law_3525 rfl rfl ?_
  refine x_callV0 (na := 0) hC (ct_thrown hG hm2) (lw_V q2394 q2395 q2396 q89 q2397) hm2.1 rfl rfl (by decide +kernel) rfl ⟨Nat.le_of_ble_eq_true rfl, Nat.le_of_ble_eq_true rfl⟩ rfl (Nat.le_of_ble_eq_true rfl) ⟨rfl, rfl⟩ hr dL_law_3526 ?_
  rintro _ M3 ⟨rfl, hM3⟩
  subst hM3
  refine x_iload hC dL_law_3529 rfl ?_
  refine x_icmp_eq (tgt := 3536) hC dL_law_3531 (by decide) (fun _ => ?_) (fun c => absurd hV6 c)
  have fin : ∀ w6 w7 w8, Wg G C M3 (kc + 22010) (ks + 80100) 3553 [some (.ref b), some (.ref x), some (.ref m), some (.ref o), some (.ref od), some (.int (nI i)), w6, w7, w8] [] := by
    intro w6 w7 w8
    refine x_goto (tgt := 4085) hC dL_law_3553 (by decide) ?_
    exact next M3 _ _ _ (hls.nx hF1 hox.1 hox.2 hR1 hF2 hm2 hS2)
  refine x_iload hC dL_law_3536 rfl ?_
  refine x_if_ne (tgt := 3553) hC dL_law_3538 (by decide) (fun _ => fin _ _ _) (fun c => ?_)
  have hv1 := hv1 c
  have hb2 := hb2 c
  have ho3 := hF2.z (by decide) ho1
  refine x_aload_n hC dL_law_3541 rfl rfl ?_
  refine x_iconst (v := 0) hC dL_law_3542 (by decide) ?_
  refine x_lald hC ho3 in01 dL_law_3543 ?_
  refine x_iload hC dL_law_3544 rfl ?_
  refine x_i2l hC dL_law_3546 rfl ?_
  refine x_lcmp hC dL_law_3547 ?_
  refine x_if_eq (tgt := 3553) hC dL_law_3548 (by decide) (fun _ => fin _ _ _) (fun c9 => absurd (lg_same (show f1 (Int32.toNatClampNeg 0) = bv.toInt64 from by rw [hb2]; exact hv1)) c9)
theorem lc_51 (hG : GOK G) (hC : Cx G C (yL nm) cL_law 9 (some .boolean) room_1) (hT0 : T0 G T) (hT1 : T1 G T) (hT2 : T2 G T) (h : XLS T b L x m o od xs M) (hi : i + 5 < L) (hL : L ≤ 144) (hr : kc + 22010 ≤ room_1.cells ∧ ks + 80100 ≤ room_1.slots) (next : LN G C T b L x m o od i xs (kc + 22010) (ks + 80100)) : Wg G C M kc ks 3556 [some (.ref b), some (.ref x), some (.ref m), some (.ref o), some (.ref od), some (.int (nI i)), v6, v7, v8] [] := by
  have hls := h
  obtain ⟨hb, hM1c, hM2c, ⟨S, P, V, A, hR, hm, hS⟩, ⟨f, ho⟩, ⟨fd, hd⟩⟩ := h
  obtain ⟨va, ha⟩ := hR.rec
  refine x_aload_n hC dL_law_3556 rfl rfl ?_
  refine x_aload_n hC dL_law_3557 rfl rfl ?_
  refine x_iload hC dL_law_3558 rfl ?_
  refine x_iconst (v := nI 1) hC dL_law_3560 (by decide) ?_
  refine x_iaddN hC dL_law_3561 ?_
  refine x_ialdN hC hb (by omega) (by first | decide | omega) dL_law_3562 ?_
  refine x_aload_n hC dL_law_3563 rfl rfl ?_
  refine x_iload hC dL_law_3564 rfl ?_
  refine x_iconst (v := nI 2) hC dL_law_3566 (by decide) ?_
  refine x_iaddN hC dL_law_3567 ?_
  refine x_ialdN hC hb (by omega) (by first | decide | omega) dL_law_3568 ?_
  refine x_aload_n hC dL_law_3569 rfl rfl ?_
  refine x_qSX (k := kc + 22010) (n := ks + 80100) (na := 4) hC (cw_normalize hG hT0 hR ho (xs (i + 1)) (xs (i + 2))) (lw_SW q2206 q2207 q80 q2208) (by decide +kernel) rfl ⟨Nat.le_of_ble_eq_true rfl, Nat.le_of_ble_eq_true rfl⟩ rfl (Nat.le_of_ble_eq_true rfl) (Nat.le_refl _) (Nat.le_refl _) hr dL_law_3570 ?_ (fun q9 E9 M9 h9 => h9.elim)
  rintro _ M1 ⟨rfl, hR1, ⟨f1, ho1, hv1⟩, hFO⟩
  have hF1 := hFO.q ho rfl
  have hb1 := hF1.z pl0 hb
  have hm1 := hm.pl hF1
  have hox : (∃ f, M1 o = some (la 11 1 f)) ∧ (∃ f, M1 od = some (da 11 1 f)) := ⟨⟨f1, ho1⟩, xls_od hFO ho hd⟩
  refine x_istore (lv' := [_, _, _, _, _, _, _, _, _]) hC dL_law_3573 (by decide) rfl ?_
  refine x_aload_n hC dL_law_3575 rfl rfl ?_
  refine x_aload_n hC dL_law_3576 rfl rfl ?_
  refine x_iload hC dL_law_3577 rfl ?_
  refine x_iconst (v := nI 1) hC dL_law_3579 (by decide) ?_
  refine x_iaddN hC dL_law_3580 ?_
  refine x_ialdN hC hb1 (by omega) (by first | decide | omega) dL_law_3581 ?_
  refine x_aload_n hC dL_law_3582 rfl rfl ?_
  refine x_iload hC dL_law_3583 rfl ?_
  refine x_iconst (v := nI 2) hC dL_law_3585 (by decide) ?_
  refine x_iaddN hC dL_law_3586 ?_
  refine x_ialdN hC hb1 (by omega) (by first | decide | omega) dL_law_3587 ?_
  refine x_callV0 (na := 2) hC (ct_normalize hG hm1 hS (xs (i + 1)) (xs (i + 2))) (lw_V q2815 q2816 q2817 q89 q2818) hm1.1 rfl rfl (by decide +kernel) rfl ⟨Nat.le_of_ble_eq_true rfl, Nat.le_of_ble_eq_true rfl⟩ rfl (Nat.le_of_ble_eq_true rfl) ⟨rfl, rfl⟩ hr dL_law_3588 ?_
  rintro _ M2 ⟨bv, P2, V2, rfl, hb2, hm2, hF2, hS2, hV6⟩
  refine x_istore (lv' := [_, _, _, _, _, _, _, _, _]) hC dL_law_3591 (by decide) rfl ?_
  refine x_aload_n hC dL_law_3593 rfl rfl ?_
  refine x_callV0 (na := 0) hC (ct_thrown hG hm2) (lw_V q2394 q2395 q2396 q89 q2397) hm2.1 rfl rfl (by decide +kernel) rfl ⟨Nat.le_of_ble_eq_true rfl, Nat.le_of_ble_eq_true rfl⟩ rfl (Nat.le_of_ble_eq_true rfl) ⟨rfl, rfl⟩ hr dL_law_3594 ?_
  rintro _ M3 ⟨rfl, hM3⟩
  subst hM3
  refine x_iload hC dL_law_3597 rfl ?_
  refine x_icmp_eq (tgt := 3604) hC dL_law_3599 (by decide) (fun _ => ?_) (fun c => absurd hV6 c)
  have fin : ∀ w6 w7 w8, Wg G C M3 (kc + 22010) (ks + 80100) 3621 [some (.ref b), some (.ref x), some (.ref m), some (.ref o), some (.ref od), some (.int (nI i)), w6, w7, w8] [] := by
    intro w6 w7 w8
    refine x_goto (tgt := 4085) hC dL_law_3621 (by decide) ?_
    exact next M3 _ _ _ (hls.nx hF1 hox.1 hox.2 hR1 hF2 hm2 hS2)
  refine x_iload hC dL_law_3604 rfl ?_
  refine x_if_ne (tgt := 3621) hC dL_law_3606 (by decide) (fun _ => fin _ _ _) (fun c => ?_)
  have hv1 := hv1 c
  have hb2 := hb2 c
  have ho3 := hF2.z (by decide) ho1
  refine x_aload_n hC dL_law_3609 rfl rfl ?_
  refine x_iconst (v := 0) hC dL_law_3610 (by decide) ?_
  refine x_lald hC ho3 in01 dL_law_3611 ?_
  refine x_iload hC dL_law_3612 rfl ?_
  refine x_i2l hC dL_law_3614 rfl ?_
  refine x_lcmp hC dL_law_3615 ?_
  refine x_if_eq (tgt := 3621) hC dL_law_3616 (by decide) (fun _ => fin _ _ _) (fun c9 => absurd (lg_same (show f1 (Int32.toNatClampNeg 0) = bv.toInt64 from by rw [hb2]; exact hv1)) c9)
theorem lc_52 (hG : GOK G) (hC : Cx G C (yL nm) cL_law 9 (some .boolean) room_1) (hT0 : T0 G T) (hT1 : T1 G T) (hT2 : T2 G T) (h : XLS T b L x m o od xs M) (hi : i + 5 < L) (hL : L ≤ 144) (hr : kc + 22010 ≤ room_1.cells ∧ ks + 80100 ≤ room_1.slots) (next : LN G C T b L x m o od i xs (kc + 22010) (ks + 80100)) : Wg G C M kc ks 3624 [some (.ref b), some (.ref x), some (.ref m), some (.ref o), some (.ref od), some (.int (nI i)), v6, v7, v8] [] := by
  have hls := h
  obtain ⟨hb, hM1c, hM2c, ⟨S, P, V, A, hR, hm, hS⟩, ⟨f, ho⟩, ⟨fd, hd⟩⟩ := h
  obtain ⟨va, ha⟩ := hR.rec
  refine x_aload_n hC dL_law_3624 rfl rfl ?_
  refine x_aload_n hC dL_law_3625 rfl rfl ?_
  refine x_iload hC dL_law_3626 rfl ?_
  refine x_iconst (v := nI 1) hC dL_law_3628 (by decide) ?_
  refine x_iaddN hC dL_law_3629 ?_
  refine x_ialdN hC hb (by omega) (by first | decide | omega) dL_law_3630 ?_
  refine x_aload_n hC dL_law_3631 rfl rfl ?_
  refine x_iload hC dL_law_3632 rfl ?_
  refine x_iconst (v := nI 2) hC dL_law_3634 (by decide) ?_
  refine x_iaddN hC dL_law_3635 ?_
  refine x_ialdN hC hb (by omega) (by first | decide | omega) dL_law_3636 ?_
  refine x_aload_n hC dL_law_3637 rfl rfl ?_
  refine x_qSX (k := kc + 22010) (n := ks + 80100) (na := 4) hC (cw_interleave hG hT0 hR ho (xs (i + 1)) (xs (i + 2))) (lw_SW q2223 q2224 q80 q2225) (by decide +kernel) rfl ⟨Nat.le_of_ble_eq_true rfl, Nat.le_of_ble_eq_true rfl⟩ rfl (Nat.le_of_ble_eq_true rfl) (Nat.le_refl _) (Nat.le_refl _) hr dL_law_3638 ?_ (fun q9 E9 M9 h9 => h9.elim)
  rintro _ M1 ⟨rfl, hR1, ⟨f1, ho1, hv1⟩, hFO⟩
  have hF1 := hFO.q ho rfl
  have hb1 := hF1.z pl0 hb
  have hm1 := hm.pl hF1
  have hox : (∃ f, M1 o = some (la 11 1 f)) ∧ (∃ f, M1 od = some (da 11 1 f)) := ⟨⟨f1, ho1⟩, xls_od hFO ho hd⟩
  refine x_istore (lv' := [_, _, _, _, _, _, _, _, _]) hC dL_law_3641 (by decide) rfl ?_
  refine x_aload_n hC dL_law_3643 rfl rfl ?_
  refine x_aload_n hC dL_law_3644 rfl rfl ?_
  refine x_iload hC dL_law_3645 rfl ?_
  refine x_iconst (v := nI 1) hC dL_law_3647 (by decide) ?_
  refine x_iaddN hC dL_law_3648 ?_
  refine x_ialdN hC hb1 (by omega) (by first | decide | omega) dL_law_3649 ?_
  refine x_aload_n hC dL_law_3650 rfl rfl ?_
  refine x_iload hC dL_law_3651 rfl ?_
  refine x_iconst (v := nI 2) hC dL_law_3653 (by decide) ?_
  refine x_iaddN hC dL_law_3654 ?_
  refine x_ialdN hC hb1 (by omega) (by first | decide | omega) dL_law_3655 ?_
  refine x_callV0 (na := 2) hC (ct_interleave hG hm1 hS (xs (i + 1)) (xs (i + 2))) (lw_V q2823 q2824 q2825 q89 q2826) hm1.1 rfl rfl (by decide +kernel) rfl ⟨Nat.le_of_ble_eq_true rfl, Nat.le_of_ble_eq_true rfl⟩ rfl (Nat.le_of_ble_eq_true rfl) ⟨rfl, rfl⟩ hr dL_law_3656 ?_
  rintro _ M2 ⟨bv, P2, V2, rfl, hb2, hm2, hF2, hS2, hV6⟩
  refine x_istore (lv' := [_, _, _, _, _, _, _, _, _]) hC dL_law_3659 (by decide) rfl ?_
  refine x_aload_n hC dL_law_3661 rfl rfl ?_
  refine x_callV0 (na := 0) hC (ct_thrown hG hm2) (lw_V q2394 q2395 q2396 q89 q2397) hm2.1 rfl rfl (by decide +kernel) rfl ⟨Nat.le_of_ble_eq_true rfl, Nat.le_of_ble_eq_true rfl⟩ rfl (Nat.le_of_ble_eq_true rfl) ⟨rfl, rfl⟩ hr dL_law_3662 ?_
  rintro _ M3 ⟨rfl, hM3⟩
  subst hM3
  refine x_iload hC dL_law_3665 rfl ?_
  refine x_icmp_eq (tgt := 3672) hC dL_law_3667 (by decide) (fun _ => ?_) (fun c => absurd hV6 c)
  have fin : ∀ w6 w7 w8, Wg G C M3 (kc + 22010) (ks + 80100) 3689 [some (.ref b), some (.ref x), some (.ref m), some (.ref o), some (.ref od), some (.int (nI i)), w6, w7, w8] [] := by
    intro w6 w7 w8
    refine x_goto (tgt := 4085) hC dL_law_3689 (by decide) ?_
    exact next M3 _ _ _ (hls.nx hF1 hox.1 hox.2 hR1 hF2 hm2 hS2)
  refine x_iload hC dL_law_3672 rfl ?_
  refine x_if_ne (tgt := 3689) hC dL_law_3674 (by decide) (fun _ => fin _ _ _) (fun c => ?_)
  have hv1 := hv1 c
  have hb2 := hb2 c
  have ho3 := hF2.z (by decide) ho1
  refine x_aload_n hC dL_law_3677 rfl rfl ?_
  refine x_iconst (v := 0) hC dL_law_3678 (by decide) ?_
  refine x_lald hC ho3 in01 dL_law_3679 ?_
  refine x_iload hC dL_law_3680 rfl ?_
  refine x_i2l hC dL_law_3682 rfl ?_
  refine x_lcmp hC dL_law_3683 ?_
  refine x_if_eq (tgt := 3689) hC dL_law_3684 (by decide) (fun _ => fin _ _ _) (fun c9 => absurd (lg_same (show f1 (Int32.toNatClampNeg 0) = bv.toInt64 from by rw [hb2]; exact hv1)) c9)
theorem lc_53 (hG : GOK G) (hC : Cx G C (yL nm) cL_law 9 (some .boolean) room_1) (hT0 : T0 G T) (hT1 : T1 G T) (hT2 : T2 G T) (h : XLS T b L x m o od xs M) (hi : i + 5 < L) (hL : L ≤ 144) (hr : kc + 22010 ≤ room_1.cells ∧ ks + 80100 ≤ room_1.slots) (next : LN G C T b L x m o od i xs (kc + 22010) (ks + 80100)) : Wg G C M kc ks 3692 [some (.ref b), some (.ref x), some (.ref m), some (.ref o), some (.ref od), some (.int (nI i)), v6, v7, v8] [] := by
  have hls := h
  obtain ⟨hb, hM1c, hM2c, ⟨S, P, V, A, hR, hm, hS⟩, ⟨f, ho⟩, ⟨fd, hd⟩⟩ := h
  obtain ⟨va, ha⟩ := hR.rec
  refine x_aload_n hC dL_law_3692 rfl rfl ?_
  refine x_aload_n hC dL_law_3693 rfl rfl ?_
  refine x_iload hC dL_law_3694 rfl ?_
  refine x_iconst (v := nI 1) hC dL_law_3696 (by decide) ?_
  refine x_iaddN hC dL_law_3697 ?_
  refine x_ialdN hC hb (by omega) (by first | decide | omega) dL_law_3698 ?_
  refine x_aload_n hC dL_law_3699 rfl rfl ?_
  refine x_qSX (k := kc + 22010) (n := ks + 80100) (na := 3) hC (cw_stretch hG hT0 hR ho (xs (i + 1))) (lw_SW q2234 q2235 q80 q2236) (by decide +kernel) rfl ⟨Nat.le_of_ble_eq_true rfl, Nat.le_of_ble_eq_true rfl⟩ rfl (Nat.le_of_ble_eq_true rfl) (Nat.le_refl _) (Nat.le_refl _) hr dL_law_3700 ?_ (fun q9 E9 M9 h9 => h9.elim)
  rintro _ M1 ⟨rfl, hR1, ⟨f1, ho1, hv1⟩, hFO⟩
  have hF1 := hFO.q ho rfl
  have hb1 := hF1.z pl0 hb
  have hm1 := hm.pl hF1
  have hox : (∃ f, M1 o = some (la 11 1 f)) ∧ (∃ f, M1 od = some (da 11 1 f)) := ⟨⟨f1, ho1⟩, xls_od hFO ho hd⟩
  refine x_istore (lv' := [_, _, _, _, _, _, _, _, _]) hC dL_law_3703 (by decide) rfl ?_
  refine x_aload_n hC dL_law_3705 rfl rfl ?_
  refine x_aload_n hC dL_law_3706 rfl rfl ?_
  refine x_iload hC dL_law_3707 rfl ?_
  refine x_iconst (v := nI 1) hC dL_law_3709 (by decide) ?_
  refine x_iaddN hC dL_law_3710 ?_
  refine x_ialdN hC hb1 (by omega) (by first | decide | omega) dL_law_3711 ?_
  refine x_callV0 (na := 1) hC (ct_stretch hG hm1 hS (xs (i + 1))) (lw_V q2827 q2828 q2829 q89 q2830) hm1.1 rfl rfl (by decide +kernel) rfl ⟨Nat.le_of_ble_eq_true rfl, Nat.le_of_ble_eq_true rfl⟩ rfl (Nat.le_of_ble_eq_true rfl) ⟨rfl, rfl⟩ hr dL_law_3712 ?_
  rintro _ M2 ⟨bv, P2, V2, rfl, hb2, hm2, hF2, hS2, hV6⟩
  refine x_istore (lv' := [_, _, _, _, _, _, _, _, _]) hC dL_law_3715 (by decide) rfl ?_
  refine x_aload_n hC dL_law_3717 rfl rfl ?_
  refine x_callV0 (na := 0) hC (ct_thrown hG hm2) (lw_V q2394 q2395 q2396 q89 q2397) hm2.1 rfl rfl (by decide +kernel) rfl ⟨Nat.le_of_ble_eq_true rfl, Nat.le_of_ble_eq_true rfl⟩ rfl (Nat.le_of_ble_eq_true rfl) ⟨rfl, rfl⟩ hr dL_law_3718 ?_
  rintro _ M3 ⟨rfl, hM3⟩
  subst hM3
  refine x_iload hC dL_law_3721 rfl ?_
  refine x_icmp_eq (tgt := 3728) hC dL_law_3723 (by decide) (fun _ => ?_) (fun c => absurd hV6 c)
  have fin : ∀ w6 w7 w8, Wg G C M3 (kc + 22010) (ks + 80100) 3745 [some (.ref b), some (.ref x), some (.ref m), some (.ref o), some (.ref od), some (.int (nI i)), w6, w7, w8] [] := by
    intro w6 w7 w8
    refine x_goto (tgt := 4085) hC dL_law_3745 (by decide) ?_
    exact next M3 _ _ _ (hls.nx hF1 hox.1 hox.2 hR1 hF2 hm2 hS2)
  refine x_iload hC dL_law_3728 rfl ?_
  refine x_if_ne (tgt := 3745) hC dL_law_3730 (by decide) (fun _ => fin _ _ _) (fun c => ?_)
  have hv1 := hv1 c
  have hb2 := hb2 c
  have ho3 := hF2.z (by decide) ho1
  refine x_aload_n hC dL_law_3733 rfl rfl ?_
  refine x_iconst (v := 0) hC dL_law_3734 (by decide) ?_
  refine x_lald hC ho3 in01 dL_law_3735 ?_
  refine x_iload hC dL_law_3736 rfl ?_
  refine x_i2l hC dL_law_3738 rfl ?_
  refine x_lcmp hC dL_law_3739 ?_
  refine x_if_eq (tgt := 3745) hC dL_law_3740 (by decide) (fun _ => fin _ _ _) (fun c9 => absurd (lg_same (show f1 (Int32.toNatClampNeg 0) = bv.toInt64 from by rw [hb2]; exact hv1)) c9)
theorem lc_54 (hG : GOK G) (hC : Cx G C (yL nm) cL_law 9 (some .boolean) room_1) (hT0 : T0 G T) (hT1 : T1 G T) (hT2 : T2 G T) (h : XLS T b L x m o od xs M) (hi : i + 5 < L) (hL : L ≤ 144) (hr : kc + 22010 ≤ room_1.cells ∧ ks + 80100 ≤ room_1.slots) (next : LN G C T b L x m o od i xs (kc + 22010) (ks + 80100)) : Wg G C M kc ks 3748 [some (.ref b), some (.ref x), some (.ref m), some (.ref o), some (.ref od), some (.int (nI i)), v6, v7, v8] [] := by
  have hls := h
  obtain ⟨hb, hM1c, hM2c, ⟨S, P, V, A, hR, hm, hS⟩, ⟨f, ho⟩, ⟨fd, hd⟩⟩ := h
  obtain ⟨va, ha⟩ := hR.rec
  refine x_aload_n hC dL_law_3748 rfl rfl ?_
  refine x_aload_n hC dL_law_3749 rfl rfl ?_
  refine x_iload hC dL_law_3750 rfl ?_
  refine x_iconst (v := nI 1) hC dL_law_3752 (by decide) ?_
  refine x_iaddN hC dL_law_3753 ?_
  refine x_ialdN hC hb (by omega) (by first | decide | omega) dL_law_3754 ?_
  refine x_aload_n hC dL_law_3755 rfl rfl ?_
  refine x_qSX (k := kc + 22010) (n := ks + 80100) (na := 3) hC (cw_fold hG hT0 hR ho (xs (i + 1))) (lw_SW q2246 q2247 q80 q2248) (by decide +kernel) rfl ⟨Nat.le_of_ble_eq_true rfl, Nat.le_of_ble_eq_true rfl⟩ rfl (Nat.le_of_ble_eq_true rfl) (Nat.le_refl _) (Nat.le_refl _) hr dL_law_3756 ?_ (fun q9 E9 M9 h9 => h9.elim)
  rintro _ M1 ⟨rfl, hR1, ⟨f1, ho1, hv1⟩, hFO⟩
  have hF1 := hFO.q ho rfl
  have hb1 := hF1.z pl0 hb
  have hm1 := hm.pl hF1
  have hox : (∃ f, M1 o = some (la 11 1 f)) ∧ (∃ f, M1 od = some (da 11 1 f)) := ⟨⟨f1, ho1⟩, xls_od hFO ho hd⟩
  refine x_istore (lv' := [_, _, _, _, _, _, _, _, _]) hC dL_law_3759 (by decide) rfl ?_
  refine x_aload_n hC dL_law_3761 rfl rfl ?_
  refine x_aload_n hC dL_law_3762 rfl rfl ?_
  refine x_iload hC dL_law_3763 rfl ?_
  refine x_iconst (v := nI 1) hC dL_law_3765 (by decide) ?_
  refine x_iaddN hC dL_law_3766 ?_
  refine x_ialdN hC hb1 (by omega) (by first | decide | omega) dL_law_3767 ?_
  refine x_callV0 (na := 1) hC (ct_fold hG hm1 hS (xs (i + 1))) (lw_V q2839 q2840 q2841 q89 q2842) hm1.1 rfl rfl (by decide +kernel) rfl ⟨Nat.le_of_ble_eq_true rfl, Nat.le_of_ble_eq_true rfl⟩ rfl (Nat.le_of_ble_eq_true rfl) ⟨rfl, rfl⟩ hr dL_law_3768 ?_
  rintro _ M2 ⟨bv, P2, V2, rfl, hb2, hm2, hF2, hS2, hV6⟩
  refine x_istore (lv' := [_, _, _, _, _, _, _, _, _]) hC dL_law_3771 (by decide) rfl ?_
  refine x_aload_n hC dL_law_3773 rfl rfl ?_
  refine x_callV0 (na := 0) hC (ct_thrown hG hm2) (lw_V q2394 q2395 q2396 q89 q2397) hm2.1 rfl rfl (by decide +kernel) rfl ⟨Nat.le_of_ble_eq_true rfl, Nat.le_of_ble_eq_true rfl⟩ rfl (Nat.le_of_ble_eq_true rfl) ⟨rfl, rfl⟩ hr dL_law_3774 ?_
  rintro _ M3 ⟨rfl, hM3⟩
  subst hM3
  refine x_iload hC dL_law_3777 rfl ?_
  refine x_icmp_eq (tgt := 3784) hC dL_law_3779 (by decide) (fun _ => ?_) (fun c => absurd hV6 c)
  have fin : ∀ w6 w7 w8, Wg G C M3 (kc + 22010) (ks + 80100) 3801 [some (.ref b), some (.ref x), some (.ref m), some (.ref o), some (.ref od), some (.int (nI i)), w6, w7, w8] [] := by
    intro w6 w7 w8
    refine x_goto (tgt := 4085) hC dL_law_3801 (by decide) ?_
    exact next M3 _ _ _ (hls.nx hF1 hox.1 hox.2 hR1 hF2 hm2 hS2)
  refine x_iload hC dL_law_3784 rfl ?_
  refine x_if_ne (tgt := 3801) hC dL_law_3786 (by decide) (fun _ => fin _ _ _) (fun c => ?_)
  have hv1 := hv1 c
  have hb2 := hb2 c
  have ho3 := hF2.z (by decide) ho1
  refine x_aload_n hC dL_law_3789 rfl rfl ?_
  refine x_iconst (v := 0) hC dL_law_3790 (by decide) ?_
  refine x_lald hC ho3 in01 dL_law_3791 ?_
  refine x_iload hC dL_law_3792 rfl ?_
  refine x_i2l hC dL_law_3794 rfl ?_
  refine x_lcmp hC dL_law_3795 ?_
  refine x_if_eq (tgt := 3801) hC dL_law_3796 (by decide) (fun _ => fin _ _ _) (fun c9 => absurd (lg_same (show f1 (Int32.toNatClampNeg 0) = bv.toInt64 from by rw [hb2]; exact hv1)) c9)
theorem lc_55 (hG : GOK G) (hC : Cx G C (yL nm) cL_law 9 (some .boolean) room_1) (hT0 : T0 G T) (hT1 : T1 G T) (hT2 : T2 G T) (h : XLS T b L x m o od xs M) (hi : i + 5 < L) (hL : L ≤ 144) (hr : kc + 22010 ≤ room_1.cells ∧ ks + 80100 ≤ room_1.slots) (next : LN G C T b L x m o od i xs (kc + 22010) (ks + 80100)) : Wg G C M kc ks 3804 [some (.ref b), some (.ref x), some (.ref m), some (.ref o), some (.ref od), some (.int (nI i)), v6, v7, v8] [] := by
  have hls := h
  obtain ⟨hb, hM1c, hM2c, ⟨S, P, V, A, hR, hm, hS⟩, ⟨f, ho⟩, ⟨fd, hd⟩⟩ := h
  obtain ⟨va, ha⟩ := hR.rec
  refine x_aload_n hC dL_law_3804 rfl rfl ?_
  refine x_aload_n hC dL_law_3805 rfl rfl ?_
  refine x_qSX (k := kc + 22010) (n := ks + 80100) (na := 2) hC (cw_undo hG  hR ho ) (lw_SW q2257 q2258 q80 q2259) (by decide +kernel) rfl ⟨Nat.le_of_ble_eq_true rfl, Nat.le_of_ble_eq_true rfl⟩ rfl (Nat.le_of_ble_eq_true rfl) (Nat.le_refl _) (Nat.le_refl _) hr dL_law_3806 ?_ (fun q9 E9 M9 h9 => h9.elim)
  rintro _ M1 ⟨rfl, hR1, ⟨f1, ho1, hv1⟩, hFO⟩
  have hF1 := hFO.q ho rfl
  have hb1 := hF1.z pl0 hb
  have hm1 := hm.pl hF1
  have hox : (∃ f, M1 o = some (la 11 1 f)) ∧ (∃ f, M1 od = some (da 11 1 f)) := ⟨⟨f1, ho1⟩, xls_od hFO ho hd⟩
  refine x_istore (lv' := [_, _, _, _, _, _, _, _, _]) hC dL_law_3809 (by decide) rfl ?_
  refine x_aload_n hC dL_law_3811 rfl rfl ?_
  refine x_callV0 (na := 0) hC (ct_undo hG hm1 hS) (lw_V q2843 q2844 q2845 q89 q2846) hm1.1 rfl rfl (by decide +kernel) rfl ⟨Nat.le_of_ble_eq_true rfl, Nat.le_of_ble_eq_true rfl⟩ rfl (Nat.le_of_ble_eq_true rfl) ⟨rfl, rfl⟩ hr dL_law_3812 ?_
  rintro _ M2 ⟨bv, P2, V2, rfl, hb2, hm2, hF2, hS2, hV6⟩
  refine x_istore (lv' := [_, _, _, _, _, _, _, _, _]) hC dL_law_3815 (by decide) rfl ?_
  refine x_aload_n hC dL_law_3817 rfl rfl ?_
  refine x_callV0 (na := 0) hC (ct_thrown hG hm2) (lw_V q2394 q2395 q2396 q89 q2397) hm2.1 rfl rfl (by decide +kernel) rfl ⟨Nat.le_of_ble_eq_true rfl, Nat.le_of_ble_eq_true rfl⟩ rfl (Nat.le_of_ble_eq_true rfl) ⟨rfl, rfl⟩ hr dL_law_3818 ?_
  rintro _ M3 ⟨rfl, hM3⟩
  subst hM3
  refine x_iload hC dL_law_3821 rfl ?_
  refine x_icmp_eq (tgt := 3828) hC dL_law_3823 (by decide) (fun _ => ?_) (fun c => absurd hV6 c)
  have fin : ∀ w6 w7 w8, Wg G C M3 (kc + 22010) (ks + 80100) 3845 [some (.ref b), some (.ref x), some (.ref m), some (.ref o), some (.ref od), some (.int (nI i)), w6, w7, w8] [] := by
    intro w6 w7 w8
    refine x_goto (tgt := 4085) hC dL_law_3845 (by decide) ?_
    exact next M3 _ _ _ (hls.nx hF1 hox.1 hox.2 hR1 hF2 hm2 hS2)
  refine x_iload hC dL_law_3828 rfl ?_
  refine x_if_ne (tgt := 3845) hC dL_law_3830 (by decide) (fun _ => fin _ _ _) (fun c => ?_)
  have hv1 := hv1 c
  have hb2 := hb2 c
  have ho3 := hF2.z (by decide) ho1
  refine x_aload_n hC dL_law_3833 rfl rfl ?_
  refine x_iconst (v := 0) hC dL_law_3834 (by decide) ?_
  refine x_lald hC ho3 in01 dL_law_3835 ?_
  refine x_iload hC dL_law_3836 rfl ?_
  refine x_i2l hC dL_law_3838 rfl ?_
  refine x_lcmp hC dL_law_3839 ?_
  refine x_if_eq (tgt := 3845) hC dL_law_3840 (by decide) (fun _ => fin _ _ _) (fun c9 => absurd (lg_same (show f1 (Int32.toNatClampNeg 0) = bv.toInt64 from by rw [hb2]; exact hv1)) c9)
theorem lc_56 (hG : GOK G) (hC : Cx G C (yL nm) cL_law 9 (some .boolean) room_1) (hT0 : T0 G T) (hT1 : T1 G T) (hT2 : T2 G T) (h : XLS T b L x m o od xs M) (hi : i + 5 < L) (hL : L ≤ 144) (hr : kc + 22010 ≤ room_1.cells ∧ ks + 80100 ≤ room_1.slots) (next : LN G C T b L x m o od i xs (kc + 22010) (ks + 80100)) : Wg G C M kc ks 3848 [some (.ref b), some (.ref x), some (.ref m), some (.ref o), some (.ref od), some (.int (nI i)), v6, v7, v8] [] := by
  have hls := h
  obtain ⟨hb, hM1c, hM2c, ⟨S, P, V, A, hR, hm, hS⟩, ⟨f, ho⟩, ⟨fd, hd⟩⟩ := h
  obtain ⟨va, ha⟩ := hR.rec
  refine x_aload_n hC dL_law_3848 rfl rfl ?_
  refine x_callV (k := kc + 22010) (n := ks + 80100) (na := 0) hC (cq_save hG hT0 hR) (lw_V q1049 q1050 q1051 q81 q1052) ha rfl rfl (by decide +kernel) rfl ⟨Nat.le_of_ble_eq_true rfl, Nat.le_of_ble_eq_true rfl⟩ rfl (Nat.le_of_ble_eq_true rfl) (Nat.add_le_add_left (Nat.le_of_ble_eq_true rfl) _) (Nat.add_le_add_left (Nat.le_of_ble_eq_true rfl) _) hr dL_law_3849 ?_
  rintro _ M1 ⟨h0, rfl, hR1, hF1⟩
  have hm1 := hm.pl (pw_pl hF1)
  refine x_aload_n hC dL_law_3852 rfl rfl ?_
  refine x_callV0 (na := 0) hC (ct_save hG hm1 hS) (lw_V q2847 q2848 q2849 q89 q2850) hm1.1 rfl rfl (by decide +kernel) rfl ⟨Nat.le_of_ble_eq_true rfl, Nat.le_of_ble_eq_true rfl⟩ rfl (Nat.le_of_ble_eq_true rfl) ⟨rfl, rfl⟩ hr dL_law_3853 ?_
  rintro _ M2 ⟨bv, P2, V2, rfl, hb2, hm2, hF2, hS2, -⟩
  refine x_icmp_eq (tgt := 4085) hC dL_law_3856 (by decide) (fun c => ?_) (fun c => ?_)
  · exact next M2 _ _ _ (hls.nx (pw_pl hF1) ⟨f, hF1 o _ ho pw11⟩ ⟨fd, hF1 od _ hd pw11⟩ hR1 hF2 hm2 hS2)
  · exact absurd (hb2 rfl).symm c
theorem lc_57 (hG : GOK G) (hC : Cx G C (yL nm) cL_law 9 (some .boolean) room_1) (hT0 : T0 G T) (hT1 : T1 G T) (hT2 : T2 G T) (h : XLS T b L x m o od xs M) (hi : i + 5 < L) (hL : L ≤ 144) (hr : kc + 22010 ≤ room_1.cells ∧ ks + 80100 ≤ room_1.slots) (next : LN G C T b L x m o od i xs (kc + 22010) (ks + 80100)) : Wg G C M kc ks 3861 [some (.ref b), some (.ref x), some (.ref m), some (.ref o), some (.ref od), some (.int (nI i)), v6, v7, v8] [] := by
  have hls := h
  obtain ⟨hb, hM1c, hM2c, ⟨S, P, V, A, hR, hm, hS⟩, ⟨f, ho⟩, ⟨fd, hd⟩⟩ := h
  obtain ⟨va, ha⟩ := hR.rec
  refine x_aload_n hC dL_law_3861 rfl rfl ?_
  refine x_aload_n hC dL_law_3862 rfl rfl ?_
  refine x_qSX (k := kc + 22010) (n := ks + 80100) (na := 2) hC (cw_restore hG hT0 hR ho ) (lw_SW q2279 q2280 q80 q2281) (by decide +kernel) rfl ⟨Nat.le_of_ble_eq_true rfl, Nat.le_of_ble_eq_true rfl⟩ rfl (Nat.le_of_ble_eq_true rfl) (Nat.le_refl _) (Nat.le_refl _) hr dL_law_3863 ?_ (fun q9 E9 M9 h9 => h9.elim)
  rintro _ M1 ⟨rfl, hR1, ⟨f1, ho1, hv1⟩, hFO⟩
  have hF1 := hFO.q ho rfl
  have hb1 := hF1.z pl0 hb
  have hm1 := hm.pl hF1
  have hox : (∃ f, M1 o = some (la 11 1 f)) ∧ (∃ f, M1 od = some (da 11 1 f)) := ⟨⟨f1, ho1⟩, xls_od hFO ho hd⟩
  refine x_istore (lv' := [_, _, _, _, _, _, _, _, _]) hC dL_law_3866 (by decide) rfl ?_
  refine x_aload_n hC dL_law_3868 rfl rfl ?_
  refine x_callV0 (na := 0) hC (ct_restore hG hm1 hS) (lw_V q2851 q2852 q2853 q89 q2854) hm1.1 rfl rfl (by decide +kernel) rfl ⟨Nat.le_of_ble_eq_true rfl, Nat.le_of_ble_eq_true rfl⟩ rfl (Nat.le_of_ble_eq_true rfl) ⟨rfl, rfl⟩ hr dL_law_3869 ?_
  rintro _ M2 ⟨bv, P2, V2, rfl, hb2, hm2, hF2, hS2, hV6⟩
  refine x_istore (lv' := [_, _, _, _, _, _, _, _, _]) hC dL_law_3872 (by decide) rfl ?_
  refine x_aload_n hC dL_law_3874 rfl rfl ?_
  refine x_callV0 (na := 0) hC (ct_thrown hG hm2) (lw_V q2394 q2395 q2396 q89 q2397) hm2.1 rfl rfl (by decide +kernel) rfl ⟨Nat.le_of_ble_eq_true rfl, Nat.le_of_ble_eq_true rfl⟩ rfl (Nat.le_of_ble_eq_true rfl) ⟨rfl, rfl⟩ hr dL_law_3875 ?_
  rintro _ M3 ⟨rfl, hM3⟩
  subst hM3
  refine x_iload hC dL_law_3878 rfl ?_
  refine x_icmp_eq (tgt := 3885) hC dL_law_3880 (by decide) (fun _ => ?_) (fun c => absurd hV6 c)
  have fin : ∀ w6 w7 w8, Wg G C M3 (kc + 22010) (ks + 80100) 3902 [some (.ref b), some (.ref x), some (.ref m), some (.ref o), some (.ref od), some (.int (nI i)), w6, w7, w8] [] := by
    intro w6 w7 w8
    refine x_goto (tgt := 4085) hC dL_law_3902 (by decide) ?_
    exact next M3 _ _ _ (hls.nx hF1 hox.1 hox.2 hR1 hF2 hm2 hS2)
  refine x_iload hC dL_law_3885 rfl ?_
  refine x_if_ne (tgt := 3902) hC dL_law_3887 (by decide) (fun _ => fin _ _ _) (fun c => ?_)
  have hv1 := hv1 c
  have hb2 := hb2 c
  have ho3 := hF2.z (by decide) ho1
  refine x_aload_n hC dL_law_3890 rfl rfl ?_
  refine x_iconst (v := 0) hC dL_law_3891 (by decide) ?_
  refine x_lald hC ho3 in01 dL_law_3892 ?_
  refine x_iload hC dL_law_3893 rfl ?_
  refine x_i2l hC dL_law_3895 rfl ?_
  refine x_lcmp hC dL_law_3896 ?_
  refine x_if_eq (tgt := 3902) hC dL_law_3897 (by decide) (fun _ => fin _ _ _) (fun c9 => absurd (lg_same (show f1 (Int32.toNatClampNeg 0) = bv.toInt64 from by rw [hb2]; exact hv1)) c9)
theorem lc_58 (hG : GOK G) (hC : Cx G C (yL nm) cL_law 9 (some .boolean) room_1) (hT0 : T0 G T) (hT1 : T1 G T) (hT2 : T2 G T) (h : XLS T b L x m o od xs M) (hi : i + 5 < L) (hL : L ≤ 144) (hr : kc + 22010 ≤ room_1.cells ∧ ks + 80100 ≤ room_1.slots) (next : LN G C T b L x m o od i xs (kc + 22010) (ks + 80100)) : Wg G C M kc ks 3905 [some (.ref b), some (.ref x), some (.ref m), some (.ref o), some (.ref od), some (.int (nI i)), v6, v7, v8] [] := by
  have hls := h
  obtain ⟨hb, hM1c, hM2c, ⟨S, P, V, A, hR, hm, hS⟩, ⟨f, ho⟩, ⟨fd, hd⟩⟩ := h
  obtain ⟨va, ha⟩ := hR.rec
  refine x_aload_n hC dL_law_3905 rfl rfl ?_
  refine x_aload_n hC dL_law_3906 rfl rfl ?_
  refine x_iload hC dL_law_3907 rfl ?_
  refine x_iconst (v := nI 1) hC dL_law_3909 (by decide) ?_
  refine x_iaddN hC dL_law_3910 ?_
  refine x_ialdN hC hb (by omega) (by first | decide | omega) dL_law_3911 ?_
  refine x_aload_n hC dL_law_3912 rfl rfl ?_
  refine x_qSX (k := kc + 22010) (n := ks + 80100) (na := 3) hC (cw_formatSamples hG hT1 hM1c hR ho (xs (i + 1))) (lw_SW q2286 q2287 q80 q2288) (by decide +kernel) rfl ⟨Nat.le_of_ble_eq_true rfl, Nat.le_of_ble_eq_true rfl⟩ rfl (Nat.le_of_ble_eq_true rfl) (Nat.le_refl _) (Nat.le_refl _) hr dL_law_3913 ?_ (fun q9 E9 M9 h9 => h9.elim)
  rintro _ M1 ⟨rfl, hR1, ⟨f1, ho1, hv1⟩, hFO⟩
  have hF1 := hFO.q ho rfl
  have hb1 := hF1.z pl0 hb
  have hm1 := hm.pl hF1
  have hox : (∃ f, M1 o = some (la 11 1 f)) ∧ (∃ f, M1 od = some (da 11 1 f)) := ⟨⟨f1, ho1⟩, xls_od hFO ho hd⟩
  refine x_istore (lv' := [_, _, _, _, _, _, _, _, _]) hC dL_law_3916 (by decide) rfl ?_
  refine x_aload_n hC dL_law_3918 rfl rfl ?_
  refine x_aload_n hC dL_law_3919 rfl rfl ?_
  refine x_iload hC dL_law_3920 rfl ?_
  refine x_iconst (v := nI 1) hC dL_law_3922 (by decide) ?_
  refine x_iaddN hC dL_law_3923 ?_
  refine x_ialdN hC hb1 (by omega) (by first | decide | omega) dL_law_3924 ?_
  refine x_callV0 (na := 1) hC (ct_formatSamples hG hm1 hS (xs (i + 1))) (lw_V q2855 q2856 q2857 q89 q2858) hm1.1 rfl rfl (by decide +kernel) rfl ⟨Nat.le_of_ble_eq_true rfl, Nat.le_of_ble_eq_true rfl⟩ rfl (Nat.le_of_ble_eq_true rfl) ⟨rfl, rfl⟩ hr dL_law_3925 ?_
  rintro _ M2 ⟨bv, P2, V2, rfl, hb2, hm2, hF2, hS2, hV6⟩
  refine x_istore (lv' := [_, _, _, _, _, _, _, _, _]) hC dL_law_3928 (by decide) rfl ?_
  refine x_aload_n hC dL_law_3930 rfl rfl ?_
  refine x_callV0 (na := 0) hC (ct_thrown hG hm2) (lw_V q2394 q2395 q2396 q89 q2397) hm2.1 rfl rfl (by decide +kernel) rfl ⟨Nat.le_of_ble_eq_true rfl, Nat.le_of_ble_eq_true rfl⟩ rfl (Nat.le_of_ble_eq_true rfl) ⟨rfl, rfl⟩ hr dL_law_3931 ?_
  rintro _ M3 ⟨rfl, hM3⟩
  subst hM3
  refine x_iload hC dL_law_3934 rfl ?_
  refine x_icmp_eq (tgt := 3941) hC dL_law_3936 (by decide) (fun _ => ?_) (fun c => absurd hV6 c)
  have fin : ∀ w6 w7 w8, Wg G C M3 (kc + 22010) (ks + 80100) 3958 [some (.ref b), some (.ref x), some (.ref m), some (.ref o), some (.ref od), some (.int (nI i)), w6, w7, w8] [] := by
    intro w6 w7 w8
    refine x_goto (tgt := 4085) hC dL_law_3958 (by decide) ?_
    exact next M3 _ _ _ (hls.nx hF1 hox.1 hox.2 hR1 hF2 hm2 hS2)
  refine x_iload hC dL_law_3941 rfl ?_
  refine x_if_ne (tgt := 3958) hC dL_law_3943 (by decide) (fun _ => fin _ _ _) (fun c => ?_)
  have hv1 := hv1 c
  have hb2 := hb2 c
  have ho3 := hF2.z (by decide) ho1
  refine x_aload_n hC dL_law_3946 rfl rfl ?_
  refine x_iconst (v := 0) hC dL_law_3947 (by decide) ?_
  refine x_lald hC ho3 in01 dL_law_3948 ?_
  refine x_iload hC dL_law_3949 rfl ?_
  refine x_i2l hC dL_law_3951 rfl ?_
  refine x_lcmp hC dL_law_3952 ?_
  refine x_if_eq (tgt := 3958) hC dL_law_3953 (by decide) (fun _ => fin _ _ _) (fun c9 => absurd (lg_same (show f1 (Int32.toNatClampNeg 0) = bv.toInt64 from by rw [hb2]; exact hv1)) c9)
theorem lc_59 (hG : GOK G) (hC : Cx G C (yL nm) cL_law 9 (some .boolean) room_1) (hT0 : T0 G T) (hT1 : T1 G T) (hT2 : T2 G T) (h : XLS T b L x m o od xs M) (hi : i + 5 < L) (hL : L ≤ 144) (hr : kc + 22010 ≤ room_1.cells ∧ ks + 80100 ≤ room_1.slots) (next : LN G C T b L x m o od i xs (kc + 22010) (ks + 80100)) : Wg G C M kc ks 3961 [some (.ref b), some (.ref x), some (.ref m), some (.ref o), some (.ref od), some (.int (nI i)), v6, v7, v8] [] := by
  have hls := h
  obtain ⟨hb, hM1c, hM2c, ⟨S, P, V, A, hR, hm, hS⟩, ⟨f, ho⟩, ⟨fd, hd⟩⟩ := h
  obtain ⟨va, ha⟩ := hR.rec
  refine x_aload_n hC dL_law_3961 rfl rfl ?_
  refine x_aload_n hC dL_law_3962 rfl rfl ?_
  refine x_iload hC dL_law_3963 rfl ?_
  refine x_iconst (v := nI 1) hC dL_law_3965 (by decide) ?_
  refine x_iaddN hC dL_law_3966 ?_
  refine x_ialdN hC hb (by omega) (by first | decide | omega) dL_law_3967 ?_
  refine x_aload_n hC dL_law_3968 rfl rfl ?_
  refine x_iload hC dL_law_3969 rfl ?_
  refine x_iconst (v := nI 2) hC dL_law_3971 (by decide) ?_
  refine x_iaddN hC dL_law_3972 ?_
  refine x_ialdN hC hb (by omega) (by first | decide | omega) dL_law_3973 ?_
  refine x_aload_n hC dL_law_3974 rfl rfl ?_
  refine x_qSX (k := kc + 22010) (n := ks + 80100) (na := 4) hC (cw_formatPeaks hG hT1 hM1c hR ho (xs (i + 1)) (xs (i + 2))) (lw_SW q2309 q2310 q80 q2311) (by decide +kernel) rfl ⟨Nat.le_of_ble_eq_true rfl, Nat.le_of_ble_eq_true rfl⟩ rfl (Nat.le_of_ble_eq_true rfl) (Nat.le_refl _) (Nat.le_refl _) hr dL_law_3975 ?_ (fun q9 E9 M9 h9 => h9.elim)
  rintro _ M1 ⟨rfl, hR1, ⟨f1, ho1, hv1⟩, hFO⟩
  have hF1 := hFO.q ho rfl
  have hb1 := hF1.z pl0 hb
  have hm1 := hm.pl hF1
  have hox : (∃ f, M1 o = some (la 11 1 f)) ∧ (∃ f, M1 od = some (da 11 1 f)) := ⟨⟨f1, ho1⟩, xls_od hFO ho hd⟩
  refine x_istore (lv' := [_, _, _, _, _, _, _, _, _]) hC dL_law_3978 (by decide) rfl ?_
  refine x_aload_n hC dL_law_3980 rfl rfl ?_
  refine x_aload_n hC dL_law_3981 rfl rfl ?_
  refine x_iload hC dL_law_3982 rfl ?_
  refine x_iconst (v := nI 1) hC dL_law_3984 (by decide) ?_
  refine x_iaddN hC dL_law_3985 ?_
  refine x_ialdN hC hb1 (by omega) (by first | decide | omega) dL_law_3986 ?_
  refine x_aload_n hC dL_law_3987 rfl rfl ?_
  refine x_iload hC dL_law_3988 rfl ?_
  refine x_iconst (v := nI 2) hC dL_law_3990 (by decide) ?_
  refine x_iaddN hC dL_law_3991 ?_
  refine x_ialdN hC hb1 (by omega) (by first | decide | omega) dL_law_3992 ?_
  refine x_callV0 (na := 2) hC (ct_formatPeaks hG hm1 hS (xs (i + 1)) (xs (i + 2))) (lw_V q2867 q2868 q2869 q89 q2870) hm1.1 rfl rfl (by decide +kernel) rfl ⟨Nat.le_of_ble_eq_true rfl, Nat.le_of_ble_eq_true rfl⟩ rfl (Nat.le_of_ble_eq_true rfl) ⟨rfl, rfl⟩ hr dL_law_3993 ?_
  rintro _ M2 ⟨bv, P2, V2, rfl, hb2, hm2, hF2, hS2, hV6⟩
  refine x_istore (lv' := [_, _, _, _, _, _, _, _, _]) hC dL_law_3996 (by decide) rfl ?_
  refine x_aload_n hC dL_law_3998 rfl rfl ?_
  refine x_callV0 (na := 0) hC (ct_thrown hG hm2) (lw_V q2394 q2395 q2396 q89 q2397) hm2.1 rfl rfl (by decide +kernel) rfl ⟨Nat.le_of_ble_eq_true rfl, Nat.le_of_ble_eq_true rfl⟩ rfl (Nat.le_of_ble_eq_true rfl) ⟨rfl, rfl⟩ hr dL_law_3999 ?_
  rintro _ M3 ⟨rfl, hM3⟩
  subst hM3
  refine x_iload hC dL_law_4002 rfl ?_
  refine x_icmp_eq (tgt := 4009) hC dL_law_4004 (by decide) (fun _ => ?_) (fun c => absurd hV6 c)
  have fin : ∀ w6 w7 w8, Wg G C M3 (kc + 22010) (ks + 80100) 4026 [some (.ref b), some (.ref x), some (.ref m), some (.ref o), some (.ref od), some (.int (nI i)), w6, w7, w8] [] := by
    intro w6 w7 w8
    refine x_goto (tgt := 4085) hC dL_law_4026 (by decide) ?_
    exact next M3 _ _ _ (hls.nx hF1 hox.1 hox.2 hR1 hF2 hm2 hS2)
  refine x_iload hC dL_law_4009 rfl ?_
  refine x_if_ne (tgt := 4026) hC dL_law_4011 (by decide) (fun _ => fin _ _ _) (fun c => ?_)
  have hv1 := hv1 c
  have hb2 := hb2 c
  have ho3 := hF2.z (by decide) ho1
  refine x_aload_n hC dL_law_4014 rfl rfl ?_
  refine x_iconst (v := 0) hC dL_law_4015 (by decide) ?_
  refine x_lald hC ho3 in01 dL_law_4016 ?_
  refine x_iload hC dL_law_4017 rfl ?_
  refine x_i2l hC dL_law_4019 rfl ?_
  refine x_lcmp hC dL_law_4020 ?_
  refine x_if_eq (tgt := 4026) hC dL_law_4021 (by decide) (fun _ => fin _ _ _) (fun c9 => absurd (lg_same (show f1 (Int32.toNatClampNeg 0) = bv.toInt64 from by rw [hb2]; exact hv1)) c9)
theorem lc_60 (hG : GOK G) (hC : Cx G C (yL nm) cL_law 9 (some .boolean) room_1) (hT0 : T0 G T) (hT1 : T1 G T) (hT2 : T2 G T) (h : XLS T b L x m o od xs M) (hi : i + 5 < L) (hL : L ≤ 144) (hr : kc + 22010 ≤ room_1.cells ∧ ks + 80100 ≤ room_1.slots) (next : LN G C T b L x m o od i xs (kc + 22010) (ks + 80100)) : Wg G C M kc ks 4029 [some (.ref b), some (.ref x), some (.ref m), some (.ref o), some (.ref od), some (.int (nI i)), v6, v7, v8] [] := by
  have hls := h
  obtain ⟨hb, hM1c, hM2c, ⟨S, P, V, A, hR, hm, hS⟩, ⟨f, ho⟩, ⟨fd, hd⟩⟩ := h
  obtain ⟨va, ha⟩ := hR.rec
  refine x_aload_n hC dL_law_4029 rfl rfl ?_
  refine x_aload_n hC dL_law_4030 rfl rfl ?_
  refine x_iload hC dL_law_4031 rfl ?_
  refine x_iconst (v := nI 1) hC dL_law_4033 (by decide) ?_
  refine x_iaddN hC dL_law_4034 ?_
  refine x_ialdN hC hb (by omega) (by first | decide | omega) dL_law_4035 ?_
  refine x_aload_n hC dL_law_4036 rfl rfl ?_
  refine x_qSX (k := kc + 22010) (n := ks + 80100) (na := 3) hC (cw_formattedCharacter hG  hR ho (xs (i + 1))) (lw_SW q2317 q2318 q80 q2319) (by decide +kernel) rfl ⟨Nat.le_of_ble_eq_true rfl, Nat.le_of_ble_eq_true rfl⟩ rfl (Nat.le_of_ble_eq_true rfl) (Nat.le_refl _) (Nat.le_refl _) hr dL_law_4037 ?_ (fun q9 E9 M9 h9 => h9.elim)
  rintro _ M1 ⟨rfl, hR1, ⟨f1, ho1, hv1⟩, hFO⟩
  have hF1 := hFO.q ho rfl
  have hb1 := hF1.z pl0 hb
  have hm1 := hm.pl hF1
  have hox : (∃ f, M1 o = some (la 11 1 f)) ∧ (∃ f, M1 od = some (da 11 1 f)) := ⟨⟨f1, ho1⟩, xls_od hFO ho hd⟩
  refine x_istore (lv' := [_, _, _, _, _, _, _, _, _]) hC dL_law_4040 (by decide) rfl ?_
  refine x_aload_n hC dL_law_4042 rfl rfl ?_
  refine x_aload_n hC dL_law_4043 rfl rfl ?_
  refine x_iload hC dL_law_4044 rfl ?_
  refine x_iconst (v := nI 1) hC dL_law_4046 (by decide) ?_
  refine x_iaddN hC dL_law_4047 ?_
  refine x_ialdN hC hb1 (by omega) (by first | decide | omega) dL_law_4048 ?_
  refine x_callV0 (na := 1) hC (ct_formattedCharacter hG hm1 hS (xs (i + 1))) (lw_V q2871 q2872 q2873 q89 q2874) hm1.1 rfl rfl (by decide +kernel) rfl ⟨Nat.le_of_ble_eq_true rfl, Nat.le_of_ble_eq_true rfl⟩ rfl (Nat.le_of_ble_eq_true rfl) ⟨rfl, rfl⟩ hr dL_law_4049 ?_
  rintro _ M2 ⟨bv, P2, V2, rfl, hb2, hm2, hF2, hS2, hV6⟩
  refine x_istore (lv' := [_, _, _, _, _, _, _, _, _]) hC dL_law_4052 (by decide) rfl ?_
  refine x_aload_n hC dL_law_4054 rfl rfl ?_
  refine x_callV0 (na := 0) hC (ct_thrown hG hm2) (lw_V q2394 q2395 q2396 q89 q2397) hm2.1 rfl rfl (by decide +kernel) rfl ⟨Nat.le_of_ble_eq_true rfl, Nat.le_of_ble_eq_true rfl⟩ rfl (Nat.le_of_ble_eq_true rfl) ⟨rfl, rfl⟩ hr dL_law_4055 ?_
  rintro _ M3 ⟨rfl, hM3⟩
  subst hM3
  refine x_iload hC dL_law_4058 rfl ?_
  refine x_icmp_eq (tgt := 4065) hC dL_law_4060 (by decide) (fun _ => ?_) (fun c => absurd hV6 c)
  have fin : ∀ w6 w7 w8, Wg G C M3 (kc + 22010) (ks + 80100) 4082 [some (.ref b), some (.ref x), some (.ref m), some (.ref o), some (.ref od), some (.int (nI i)), w6, w7, w8] [] := by
    intro w6 w7 w8
    refine x_goto (tgt := 4085) hC dL_law_4082 (by decide) ?_
    exact next M3 _ _ _ (hls.nx hF1 hox.1 hox.2 hR1 hF2 hm2 hS2)
  refine x_iload hC dL_law_4065 rfl ?_
  refine x_if_ne (tgt := 4082) hC dL_law_4067 (by decide) (fun _ => fin _ _ _) (fun c => ?_)
  have hv1 := hv1 c
  have hb2 := hb2 c
  have ho3 := hF2.z (by decide) ho1
  refine x_aload_n hC dL_law_4070 rfl rfl ?_
  refine x_iconst (v := 0) hC dL_law_4071 (by decide) ?_
  refine x_lald hC ho3 in01 dL_law_4072 ?_
  refine x_iload hC dL_law_4073 rfl ?_
  refine x_i2l hC dL_law_4075 rfl ?_
  refine x_lcmp hC dL_law_4076 ?_
  refine x_if_eq (tgt := 4082) hC dL_law_4077 (by decide) (fun _ => fin _ _ _) (fun c9 => absurd (lg_same (show f1 (Int32.toNatClampNeg 0) = bv.toInt64 from by rw [hb2]; exact hv1)) c9)
end LC48

