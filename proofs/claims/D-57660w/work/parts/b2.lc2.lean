/-! ===== the law's cases ===== -/
section LC32
variable {G : X_G} {C : X_C} {nm : String} {M : X_M} {T : X_T} {b L x m o od i kc ks : Nat} {xs : Nat → Int32} {v6 v7 v8 : Option Value}
theorem lc_32 (hG : GOK G) (hC : Cx G C (yL nm) cL_law 9 (some .boolean) room_1) (hT0 : T0 G T) (hT1 : T1 G T) (hT2 : T2 G T) (h : XLS T b L x m o od xs M) (hi : i + 5 < L) (hL : L ≤ 144) (hr : kc + 22010 ≤ room_1.cells ∧ ks + 80100 ≤ room_1.slots) (next : LN G C T b L x m o od i xs (kc + 22010) (ks + 80100)) : Wg G C M kc ks 2254 [some (.ref b), some (.ref x), some (.ref m), some (.ref o), some (.ref od), some (.int (nI i)), v6, v7, v8] [] := by
  have hls := h
  obtain ⟨hb, hM1c, hM2c, ⟨S, P, V, A, hR, hm, hS⟩, ⟨f, ho⟩, ⟨fd, hd⟩⟩ := h
  obtain ⟨va, ha⟩ := hR.rec
  refine x_aload_n hC dL_law_2254 rfl rfl ?_
  refine x_aload_n hC dL_law_2255 rfl rfl ?_
  refine x_iload hC dL_law_2256 rfl ?_
  refine x_iconst (v := nI 1) hC dL_law_2258 (by decide) ?_
  refine x_iaddN hC dL_law_2259 ?_
  refine x_ialdN hC hb (by omega) (by first | decide | omega) dL_law_2260 ?_
  refine x_aload_n hC dL_law_2261 rfl rfl ?_
  refine x_qSX (k := kc + 22010) (n := ks + 80100) (na := 3) hC (cw_nearest hG  hR ho (xs (i + 1))) (lw_SW q1879 q1880 q80 q1881) (by decide +kernel) rfl ⟨Nat.le_of_ble_eq_true rfl, Nat.le_of_ble_eq_true rfl⟩ rfl (Nat.le_of_ble_eq_true rfl) (Nat.le_refl _) (Nat.le_refl _) hr dL_law_2262 ?_ (fun q9 E9 M9 h9 => h9.elim)
  rintro _ M1 ⟨rfl, hR1, ⟨f1, ho1, hv1⟩, hFO⟩
  have hF1 := hFO.q ho rfl
  have hb1 := hF1.z pl0 hb
  have hm1 := hm.pl hF1
  have hox : (∃ f, M1 o = some (la 11 1 f)) ∧ (∃ f, M1 od = some (da 11 1 f)) := ⟨⟨f1, ho1⟩, xls_od hFO ho hd⟩
  refine x_istore (lv' := [_, _, _, _, _, _, _, _, _]) hC dL_law_2265 (by decide) rfl ?_
  refine x_aload_n hC dL_law_2267 rfl rfl ?_
  refine x_aload_n hC dL_law_2268 rfl rfl ?_
  refine x_iload hC dL_law_2269 rfl ?_
  refine x_iconst (v := nI 1) hC dL_law_2271 (by decide) ?_
  refine x_iaddN hC dL_law_2272 ?_
  refine x_ialdN hC hb1 (by omega) (by first | decide | omega) dL_law_2273 ?_
  refine x_callV0 (na := 1) hC (ct_nearest hG hm1 hS (xs (i + 1))) (lw_V q2688 q2689 q2690 q89 q2691) hm1.1 rfl rfl (by decide +kernel) rfl ⟨Nat.le_of_ble_eq_true rfl, Nat.le_of_ble_eq_true rfl⟩ rfl (Nat.le_of_ble_eq_true rfl) ⟨rfl, rfl⟩ hr dL_law_2274 ?_
  rintro _ M2 ⟨bv, P2, V2, rfl, hb2, hm2, hF2, hS2, hV6⟩
  refine x_istore (lv' := [_, _, _, _, _, _, _, _, _]) hC dL_law_2277 (by decide) rfl ?_
  refine x_aload_n hC dL_law_2279 rfl rfl ?_
  refine x_callV0 (na := 0) hC (ct_thrown hG hm2) (lw_V q2394 q2395 q2396 q89 q2397) hm2.1 rfl rfl (by decide +kernel) rfl ⟨Nat.le_of_ble_eq_true rfl, Nat.le_of_ble_eq_true rfl⟩ rfl (Nat.le_of_ble_eq_true rfl) ⟨rfl, rfl⟩ hr dL_law_2280 ?_
  rintro _ M3 ⟨rfl, hM3⟩
  subst hM3
  refine x_iload hC dL_law_2283 rfl ?_
  refine x_icmp_eq (tgt := 2290) hC dL_law_2285 (by decide) (fun _ => ?_) (fun c => absurd hV6 c)
  have fin : ∀ w6 w7 w8, Wg G C M3 (kc + 22010) (ks + 80100) 2307 [some (.ref b), some (.ref x), some (.ref m), some (.ref o), some (.ref od), some (.int (nI i)), w6, w7, w8] [] := by
    intro w6 w7 w8
    refine x_goto (tgt := 4085) hC dL_law_2307 (by decide) ?_
    exact next M3 _ _ _ (hls.nx hF1 hox.1 hox.2 hR1 hF2 hm2 hS2)
  refine x_iload hC dL_law_2290 rfl ?_
  refine x_if_ne (tgt := 2307) hC dL_law_2292 (by decide) (fun _ => fin _ _ _) (fun c => ?_)
  have hv1 := hv1 c
  have hb2 := hb2 c
  have ho3 := hF2.z (by decide) ho1
  refine x_aload_n hC dL_law_2295 rfl rfl ?_
  refine x_iconst (v := 0) hC dL_law_2296 (by decide) ?_
  refine x_lald hC ho3 in01 dL_law_2297 ?_
  refine x_iload hC dL_law_2298 rfl ?_
  refine x_i2l hC dL_law_2300 rfl ?_
  refine x_lcmp hC dL_law_2301 ?_
  refine x_if_eq (tgt := 2307) hC dL_law_2302 (by decide) (fun _ => fin _ _ _) (fun c9 => absurd (lg_same (show f1 (Int32.toNatClampNeg 0) = bv.toInt64 from by rw [hb2]; exact hv1)) c9)
theorem lc_33 (hG : GOK G) (hC : Cx G C (yL nm) cL_law 9 (some .boolean) room_1) (hT0 : T0 G T) (hT1 : T1 G T) (hT2 : T2 G T) (h : XLS T b L x m o od xs M) (hi : i + 5 < L) (hL : L ≤ 144) (hr : kc + 22010 ≤ room_1.cells ∧ ks + 80100 ≤ room_1.slots) (next : LN G C T b L x m o od i xs (kc + 22010) (ks + 80100)) : Wg G C M kc ks 2310 [some (.ref b), some (.ref x), some (.ref m), some (.ref o), some (.ref od), some (.int (nI i)), v6, v7, v8] [] := by
  have hls := h
  obtain ⟨hb, hM1c, hM2c, ⟨S, P, V, A, hR, hm, hS⟩, ⟨f, ho⟩, ⟨fd, hd⟩⟩ := h
  obtain ⟨va, ha⟩ := hR.rec
  refine x_aload_n hC dL_law_2310 rfl rfl ?_
  refine x_aload_n hC dL_law_2311 rfl rfl ?_
  refine x_iload hC dL_law_2312 rfl ?_
  refine x_iconst (v := nI 1) hC dL_law_2314 (by decide) ?_
  refine x_iaddN hC dL_law_2315 ?_
  refine x_ialdN hC hb (by omega) (by first | decide | omega) dL_law_2316 ?_
  refine x_aload_n hC dL_law_2317 rfl rfl ?_
  refine x_iload hC dL_law_2318 rfl ?_
  refine x_iconst (v := nI 2) hC dL_law_2320 (by decide) ?_
  refine x_iaddN hC dL_law_2321 ?_
  refine x_ialdN hC hb (by omega) (by first | decide | omega) dL_law_2322 ?_
  refine x_aload_n hC dL_law_2323 rfl rfl ?_
  refine x_iload hC dL_law_2324 rfl ?_
  refine x_iconst (v := nI 3) hC dL_law_2326 (by decide) ?_
  refine x_iaddN hC dL_law_2327 ?_
  refine x_ialdN hC hb (by omega) (by first | decide | omega) dL_law_2328 ?_
  refine x_aload_n hC dL_law_2329 rfl rfl ?_
  refine x_qSX (k := kc + 22010) (n := ks + 80100) (na := 5) hC (cw_correlation hG  hR ho (xs (i + 1)) (xs (i + 2)) (xs (i + 3))) (lw_SW q1886 q1887 q80 q1888) (by decide +kernel) rfl ⟨Nat.le_of_ble_eq_true rfl, Nat.le_of_ble_eq_true rfl⟩ rfl (Nat.le_of_ble_eq_true rfl) (Nat.le_refl _) (Nat.le_refl _) hr dL_law_2330 ?_ (fun q9 E9 M9 h9 => h9.elim)
  rintro _ M1 ⟨rfl, hR1, ⟨f1, ho1, hv1⟩, hFO⟩
  have hF1 := hFO.q ho rfl
  have hb1 := hF1.z pl0 hb
  have hm1 := hm.pl hF1
  have hox : (∃ f, M1 o = some (la 11 1 f)) ∧ (∃ f, M1 od = some (da 11 1 f)) := ⟨⟨f1, ho1⟩, xls_od hFO ho hd⟩
  refine x_istore (lv' := [_, _, _, _, _, _, _, _, _]) hC dL_law_2333 (by decide) rfl ?_
  refine x_aload_n hC dL_law_2335 rfl rfl ?_
  refine x_aload_n hC dL_law_2336 rfl rfl ?_
  refine x_iload hC dL_law_2337 rfl ?_
  refine x_iconst (v := nI 1) hC dL_law_2339 (by decide) ?_
  refine x_iaddN hC dL_law_2340 ?_
  refine x_ialdN hC hb1 (by omega) (by first | decide | omega) dL_law_2341 ?_
  refine x_aload_n hC dL_law_2342 rfl rfl ?_
  refine x_iload hC dL_law_2343 rfl ?_
  refine x_iconst (v := nI 2) hC dL_law_2345 (by decide) ?_
  refine x_iaddN hC dL_law_2346 ?_
  refine x_ialdN hC hb1 (by omega) (by first | decide | omega) dL_law_2347 ?_
  refine x_aload_n hC dL_law_2348 rfl rfl ?_
  refine x_iload hC dL_law_2349 rfl ?_
  refine x_iconst (v := nI 3) hC dL_law_2351 (by decide) ?_
  refine x_iaddN hC dL_law_2352 ?_
  refine x_ialdN hC hb1 (by omega) (by first | decide | omega) dL_law_2353 ?_
  refine x_callV0 (na := 3) hC (ct_correlation hG hm1 hS (xs (i + 1)) (xs (i + 2)) (xs (i + 3))) (lw_V q2696 q2697 q2698 q89 q2699) hm1.1 rfl rfl (by decide +kernel) rfl ⟨Nat.le_of_ble_eq_true rfl, Nat.le_of_ble_eq_true rfl⟩ rfl (Nat.le_of_ble_eq_true rfl) ⟨rfl, rfl⟩ hr dL_law_2354 ?_
  rintro _ M2 ⟨bv, P2, V2, rfl, hb2, hm2, hF2, hS2, hV6⟩
  refine x_lstore (lv' := [_, _, _, _, _, _, _, _, _]) hC dL_law_2357 (by decide) rfl ?_
  refine x_aload_n hC dL_law_2359 rfl rfl ?_
  refine x_callV0 (na := 0) hC (ct_thrown hG hm2) (lw_V q2394 q2395 q2396 q89 q2397) hm2.1 rfl rfl (by decide +kernel) rfl ⟨Nat.le_of_ble_eq_true rfl, Nat.le_of_ble_eq_true rfl⟩ rfl (Nat.le_of_ble_eq_true rfl) ⟨rfl, rfl⟩ hr dL_law_2360 ?_
  rintro _ M3 ⟨rfl, hM3⟩
  subst hM3
  refine x_iload hC dL_law_2363 rfl ?_
  refine x_icmp_eq (tgt := 2370) hC dL_law_2365 (by decide) (fun _ => ?_) (fun c => absurd hV6 c)
  have fin : ∀ w6 w7 w8, Wg G C M3 (kc + 22010) (ks + 80100) 2386 [some (.ref b), some (.ref x), some (.ref m), some (.ref o), some (.ref od), some (.int (nI i)), w6, w7, w8] [] := by
    intro w6 w7 w8
    refine x_goto (tgt := 4085) hC dL_law_2386 (by decide) ?_
    exact next M3 _ _ _ (hls.nx hF1 hox.1 hox.2 hR1 hF2 hm2 hS2)
  refine x_iload hC dL_law_2370 rfl ?_
  refine x_if_ne (tgt := 2386) hC dL_law_2372 (by decide) (fun _ => fin _ _ _) (fun c => ?_)
  have hv1 := hv1 c
  have hb2 := hb2 c
  have ho3 := hF2.z (by decide) ho1
  refine x_aload_n hC dL_law_2375 rfl rfl ?_
  refine x_iconst (v := 0) hC dL_law_2376 (by decide) ?_
  refine x_lald hC ho3 in01 dL_law_2377 ?_
  refine x_lload hC dL_law_2378 rfl ?_
  refine x_lcmp hC dL_law_2380 ?_
  refine x_if_eq (tgt := 2386) hC dL_law_2381 (by decide) (fun _ => fin _ _ _) (fun c9 => absurd (lg_same (show f1 (Int32.toNatClampNeg 0) = bv from by rw [hb2]; exact hv1)) c9)
theorem lc_34 (hG : GOK G) (hC : Cx G C (yL nm) cL_law 9 (some .boolean) room_1) (hT0 : T0 G T) (hT1 : T1 G T) (hT2 : T2 G T) (h : XLS T b L x m o od xs M) (hi : i + 5 < L) (hL : L ≤ 144) (hr : kc + 22010 ≤ room_1.cells ∧ ks + 80100 ≤ room_1.slots) (next : LN G C T b L x m o od i xs (kc + 22010) (ks + 80100)) : Wg G C M kc ks 2389 [some (.ref b), some (.ref x), some (.ref m), some (.ref o), some (.ref od), some (.int (nI i)), v6, v7, v8] [] := by
  have hls := h
  obtain ⟨hb, hM1c, hM2c, ⟨S, P, V, A, hR, hm, hS⟩, ⟨f, ho⟩, ⟨fd, hd⟩⟩ := h
  obtain ⟨va, ha⟩ := hR.rec
  refine x_aload_n hC dL_law_2389 rfl rfl ?_
  refine x_aload_n hC dL_law_2390 rfl rfl ?_
  refine x_iload hC dL_law_2391 rfl ?_
  refine x_iconst (v := nI 1) hC dL_law_2393 (by decide) ?_
  refine x_iaddN hC dL_law_2394 ?_
  refine x_ialdN hC hb (by omega) (by first | decide | omega) dL_law_2395 ?_
  refine x_aload_n hC dL_law_2396 rfl rfl ?_
  refine x_iload hC dL_law_2397 rfl ?_
  refine x_iconst (v := nI 2) hC dL_law_2399 (by decide) ?_
  refine x_iaddN hC dL_law_2400 ?_
  refine x_ialdN hC hb (by omega) (by first | decide | omega) dL_law_2401 ?_
  refine x_aload_n hC dL_law_2402 rfl rfl ?_
  refine x_qSX (k := kc + 22010) (n := ks + 80100) (na := 4) hC (cw_bestShift hG  hR ho (xs (i + 1)) (xs (i + 2))) (lw_SW q1893 q1894 q80 q1895) (by decide +kernel) rfl ⟨Nat.le_of_ble_eq_true rfl, Nat.le_of_ble_eq_true rfl⟩ rfl (Nat.le_of_ble_eq_true rfl) (Nat.le_refl _) (Nat.le_refl _) hr dL_law_2403 ?_ (fun q9 E9 M9 h9 => h9.elim)
  rintro _ M1 ⟨rfl, hR1, ⟨f1, ho1, hv1⟩, hFO⟩
  have hF1 := hFO.q ho rfl
  have hb1 := hF1.z pl0 hb
  have hm1 := hm.pl hF1
  have hox : (∃ f, M1 o = some (la 11 1 f)) ∧ (∃ f, M1 od = some (da 11 1 f)) := ⟨⟨f1, ho1⟩, xls_od hFO ho hd⟩
  refine x_istore (lv' := [_, _, _, _, _, _, _, _, _]) hC dL_law_2406 (by decide) rfl ?_
  refine x_aload_n hC dL_law_2408 rfl rfl ?_
  refine x_aload_n hC dL_law_2409 rfl rfl ?_
  refine x_iload hC dL_law_2410 rfl ?_
  refine x_iconst (v := nI 1) hC dL_law_2412 (by decide) ?_
  refine x_iaddN hC dL_law_2413 ?_
  refine x_ialdN hC hb1 (by omega) (by first | decide | omega) dL_law_2414 ?_
  refine x_aload_n hC dL_law_2415 rfl rfl ?_
  refine x_iload hC dL_law_2416 rfl ?_
  refine x_iconst (v := nI 2) hC dL_law_2418 (by decide) ?_
  refine x_iaddN hC dL_law_2419 ?_
  refine x_ialdN hC hb1 (by omega) (by first | decide | omega) dL_law_2420 ?_
  refine x_callV0 (na := 2) hC (ct_bestShift hG hm1 hS (xs (i + 1)) (xs (i + 2))) (lw_V q2709 q2710 q2711 q89 q2712) hm1.1 rfl rfl (by decide +kernel) rfl ⟨Nat.le_of_ble_eq_true rfl, Nat.le_of_ble_eq_true rfl⟩ rfl (Nat.le_of_ble_eq_true rfl) ⟨rfl, rfl⟩ hr dL_law_2421 ?_
  rintro _ M2 ⟨bv, P2, V2, rfl, hb2, hm2, hF2, hS2, hV6⟩
  refine x_istore (lv' := [_, _, _, _, _, _, _, _, _]) hC dL_law_2424 (by decide) rfl ?_
  refine x_aload_n hC dL_law_2426 rfl rfl ?_
  refine x_callV0 (na := 0) hC (ct_thrown hG hm2) (lw_V q2394 q2395 q2396 q89 q2397) hm2.1 rfl rfl (by decide +kernel) rfl ⟨Nat.le_of_ble_eq_true rfl, Nat.le_of_ble_eq_true rfl⟩ rfl (Nat.le_of_ble_eq_true rfl) ⟨rfl, rfl⟩ hr dL_law_2427 ?_
  rintro _ M3 ⟨rfl, hM3⟩
  subst hM3
  refine x_iload hC dL_law_2430 rfl ?_
  refine x_icmp_eq (tgt := 2437) hC dL_law_2432 (by decide) (fun _ => ?_) (fun c => absurd hV6 c)
  have fin : ∀ w6 w7 w8, Wg G C M3 (kc + 22010) (ks + 80100) 2454 [some (.ref b), some (.ref x), some (.ref m), some (.ref o), some (.ref od), some (.int (nI i)), w6, w7, w8] [] := by
    intro w6 w7 w8
    refine x_goto (tgt := 4085) hC dL_law_2454 (by decide) ?_
    exact next M3 _ _ _ (hls.nx hF1 hox.1 hox.2 hR1 hF2 hm2 hS2)
  refine x_iload hC dL_law_2437 rfl ?_
  refine x_if_ne (tgt := 2454) hC dL_law_2439 (by decide) (fun _ => fin _ _ _) (fun c => ?_)
  have hv1 := hv1 c
  have hb2 := hb2 c
  have ho3 := hF2.z (by decide) ho1
  refine x_aload_n hC dL_law_2442 rfl rfl ?_
  refine x_iconst (v := 0) hC dL_law_2443 (by decide) ?_
  refine x_lald hC ho3 in01 dL_law_2444 ?_
  refine x_iload hC dL_law_2445 rfl ?_
  refine x_i2l hC dL_law_2447 rfl ?_
  refine x_lcmp hC dL_law_2448 ?_
  refine x_if_eq (tgt := 2454) hC dL_law_2449 (by decide) (fun _ => fin _ _ _) (fun c9 => absurd (lg_same (show f1 (Int32.toNatClampNeg 0) = bv.toInt64 from by rw [hb2]; exact hv1)) c9)
theorem lc_35 (hG : GOK G) (hC : Cx G C (yL nm) cL_law 9 (some .boolean) room_1) (hT0 : T0 G T) (hT1 : T1 G T) (hT2 : T2 G T) (h : XLS T b L x m o od xs M) (hi : i + 5 < L) (hL : L ≤ 144) (hr : kc + 22010 ≤ room_1.cells ∧ ks + 80100 ≤ room_1.slots) (next : LN G C T b L x m o od i xs (kc + 22010) (ks + 80100)) : Wg G C M kc ks 2457 [some (.ref b), some (.ref x), some (.ref m), some (.ref o), some (.ref od), some (.int (nI i)), v6, v7, v8] [] := by
  have hls := h
  obtain ⟨hb, hM1c, hM2c, ⟨S, P, V, A, hR, hm, hS⟩, ⟨f, ho⟩, ⟨fd, hd⟩⟩ := h
  obtain ⟨va, ha⟩ := hR.rec
  refine x_aload_n hC dL_law_2457 rfl rfl ?_
  refine x_aload_n hC dL_law_2458 rfl rfl ?_
  refine x_iload hC dL_law_2459 rfl ?_
  refine x_iconst (v := nI 1) hC dL_law_2461 (by decide) ?_
  refine x_iaddN hC dL_law_2462 ?_
  refine x_ialdN hC hb (by omega) (by first | decide | omega) dL_law_2463 ?_
  refine x_aload_n hC dL_law_2464 rfl rfl ?_
  refine x_iload hC dL_law_2465 rfl ?_
  refine x_iconst (v := nI 2) hC dL_law_2467 (by decide) ?_
  refine x_iaddN hC dL_law_2468 ?_
  refine x_ialdN hC hb (by omega) (by first | decide | omega) dL_law_2469 ?_
  refine x_aload_n hC dL_law_2470 rfl rfl ?_
  refine x_iload hC dL_law_2471 rfl ?_
  refine x_iconst (v := nI 3) hC dL_law_2473 (by decide) ?_
  refine x_iaddN hC dL_law_2474 ?_
  refine x_ialdN hC hb (by omega) (by first | decide | omega) dL_law_2475 ?_
  refine x_aload_n hC dL_law_2476 rfl rfl ?_
  refine x_qSX (k := kc + 22010) (n := ks + 80100) (na := 5) hC (cw_commonPeaks hG  hR ho (xs (i + 1)) (xs (i + 2)) (xs (i + 3))) (lw_SW q1905 q1906 q80 q1907) (by decide +kernel) rfl ⟨Nat.le_of_ble_eq_true rfl, Nat.le_of_ble_eq_true rfl⟩ rfl (Nat.le_of_ble_eq_true rfl) (Nat.le_refl _) (Nat.le_refl _) hr dL_law_2477 ?_ (fun q9 E9 M9 h9 => h9.elim)
  rintro _ M1 ⟨rfl, hR1, ⟨f1, ho1, hv1⟩, hFO⟩
  have hF1 := hFO.q ho rfl
  have hb1 := hF1.z pl0 hb
  have hm1 := hm.pl hF1
  have hox : (∃ f, M1 o = some (la 11 1 f)) ∧ (∃ f, M1 od = some (da 11 1 f)) := ⟨⟨f1, ho1⟩, xls_od hFO ho hd⟩
  refine x_istore (lv' := [_, _, _, _, _, _, _, _, _]) hC dL_law_2480 (by decide) rfl ?_
  refine x_aload_n hC dL_law_2482 rfl rfl ?_
  refine x_aload_n hC dL_law_2483 rfl rfl ?_
  refine x_iload hC dL_law_2484 rfl ?_
  refine x_iconst (v := nI 1) hC dL_law_2486 (by decide) ?_
  refine x_iaddN hC dL_law_2487 ?_
  refine x_ialdN hC hb1 (by omega) (by first | decide | omega) dL_law_2488 ?_
  refine x_aload_n hC dL_law_2489 rfl rfl ?_
  refine x_iload hC dL_law_2490 rfl ?_
  refine x_iconst (v := nI 2) hC dL_law_2492 (by decide) ?_
  refine x_iaddN hC dL_law_2493 ?_
  refine x_ialdN hC hb1 (by omega) (by first | decide | omega) dL_law_2494 ?_
  refine x_aload_n hC dL_law_2495 rfl rfl ?_
  refine x_iload hC dL_law_2496 rfl ?_
  refine x_iconst (v := nI 3) hC dL_law_2498 (by decide) ?_
  refine x_iaddN hC dL_law_2499 ?_
  refine x_ialdN hC hb1 (by omega) (by first | decide | omega) dL_law_2500 ?_
  refine x_callV0 (na := 3) hC (ct_commonPeaks hG hm1 hS (xs (i + 1)) (xs (i + 2)) (xs (i + 3))) (lw_V q2717 q2718 q2719 q89 q2720) hm1.1 rfl rfl (by decide +kernel) rfl ⟨Nat.le_of_ble_eq_true rfl, Nat.le_of_ble_eq_true rfl⟩ rfl (Nat.le_of_ble_eq_true rfl) ⟨rfl, rfl⟩ hr dL_law_2501 ?_
  rintro _ M2 ⟨bv, P2, V2, rfl, hb2, hm2, hF2, hS2, hV6⟩
  refine x_istore (lv' := [_, _, _, _, _, _, _, _, _]) hC dL_law_2504 (by decide) rfl ?_
  refine x_aload_n hC dL_law_2506 rfl rfl ?_
  refine x_callV0 (na := 0) hC (ct_thrown hG hm2) (lw_V q2394 q2395 q2396 q89 q2397) hm2.1 rfl rfl (by decide +kernel) rfl ⟨Nat.le_of_ble_eq_true rfl, Nat.le_of_ble_eq_true rfl⟩ rfl (Nat.le_of_ble_eq_true rfl) ⟨rfl, rfl⟩ hr dL_law_2507 ?_
  rintro _ M3 ⟨rfl, hM3⟩
  subst hM3
  refine x_iload hC dL_law_2510 rfl ?_
  refine x_icmp_eq (tgt := 2517) hC dL_law_2512 (by decide) (fun _ => ?_) (fun c => absurd hV6 c)
  have fin : ∀ w6 w7 w8, Wg G C M3 (kc + 22010) (ks + 80100) 2534 [some (.ref b), some (.ref x), some (.ref m), some (.ref o), some (.ref od), some (.int (nI i)), w6, w7, w8] [] := by
    intro w6 w7 w8
    refine x_goto (tgt := 4085) hC dL_law_2534 (by decide) ?_
    exact next M3 _ _ _ (hls.nx hF1 hox.1 hox.2 hR1 hF2 hm2 hS2)
  refine x_iload hC dL_law_2517 rfl ?_
  refine x_if_ne (tgt := 2534) hC dL_law_2519 (by decide) (fun _ => fin _ _ _) (fun c => ?_)
  have hv1 := hv1 c
  have hb2 := hb2 c
  have ho3 := hF2.z (by decide) ho1
  refine x_aload_n hC dL_law_2522 rfl rfl ?_
  refine x_iconst (v := 0) hC dL_law_2523 (by decide) ?_
  refine x_lald hC ho3 in01 dL_law_2524 ?_
  refine x_iload hC dL_law_2525 rfl ?_
  refine x_i2l hC dL_law_2527 rfl ?_
  refine x_lcmp hC dL_law_2528 ?_
  refine x_if_eq (tgt := 2534) hC dL_law_2529 (by decide) (fun _ => fin _ _ _) (fun c9 => absurd (lg_same (show f1 (Int32.toNatClampNeg 0) = bv.toInt64 from by rw [hb2]; exact hv1)) c9)
theorem lc_36 (hG : GOK G) (hC : Cx G C (yL nm) cL_law 9 (some .boolean) room_1) (hT0 : T0 G T) (hT1 : T1 G T) (hT2 : T2 G T) (h : XLS T b L x m o od xs M) (hi : i + 5 < L) (hL : L ≤ 144) (hr : kc + 22010 ≤ room_1.cells ∧ ks + 80100 ≤ room_1.slots) (next : LN G C T b L x m o od i xs (kc + 22010) (ks + 80100)) : Wg G C M kc ks 2537 [some (.ref b), some (.ref x), some (.ref m), some (.ref o), some (.ref od), some (.int (nI i)), v6, v7, v8] [] := by
  have hls := h
  obtain ⟨hb, hM1c, hM2c, ⟨S, P, V, A, hR, hm, hS⟩, ⟨f, ho⟩, ⟨fd, hd⟩⟩ := h
  obtain ⟨va, ha⟩ := hR.rec
  refine x_aload_n hC dL_law_2537 rfl rfl ?_
  refine x_aload_n hC dL_law_2538 rfl rfl ?_
  refine x_iload hC dL_law_2539 rfl ?_
  refine x_iconst (v := nI 1) hC dL_law_2541 (by decide) ?_
  refine x_iaddN hC dL_law_2542 ?_
  refine x_ialdN hC hb (by omega) (by first | decide | omega) dL_law_2543 ?_
  refine x_aload_n hC dL_law_2544 rfl rfl ?_
  refine x_iload hC dL_law_2545 rfl ?_
  refine x_iconst (v := nI 2) hC dL_law_2547 (by decide) ?_
  refine x_iaddN hC dL_law_2548 ?_
  refine x_ialdN hC hb (by omega) (by first | decide | omega) dL_law_2549 ?_
  refine x_aload_n hC dL_law_2550 rfl rfl ?_
  refine x_qSX (k := kc + 22010) (n := ks + 80100) (na := 4) hC (cw_errorOfPeaks hG  hR ho (xs (i + 1)) (xs (i + 2))) (lw_SW q1920 q1921 q80 q1922) (by decide +kernel) rfl ⟨Nat.le_of_ble_eq_true rfl, Nat.le_of_ble_eq_true rfl⟩ rfl (Nat.le_of_ble_eq_true rfl) (Nat.le_refl _) (Nat.le_refl _) hr dL_law_2551 ?_ (fun q9 E9 M9 h9 => h9.elim)
  rintro _ M1 ⟨rfl, hR1, ⟨f1, ho1, hv1⟩, hFO⟩
  have hF1 := hFO.q ho rfl
  have hb1 := hF1.z pl0 hb
  have hm1 := hm.pl hF1
  have hox : (∃ f, M1 o = some (la 11 1 f)) ∧ (∃ f, M1 od = some (da 11 1 f)) := ⟨⟨f1, ho1⟩, xls_od hFO ho hd⟩
  refine x_istore (lv' := [_, _, _, _, _, _, _, _, _]) hC dL_law_2554 (by decide) rfl ?_
  refine x_aload_n hC dL_law_2556 rfl rfl ?_
  refine x_aload_n hC dL_law_2557 rfl rfl ?_
  refine x_iload hC dL_law_2558 rfl ?_
  refine x_iconst (v := nI 1) hC dL_law_2560 (by decide) ?_
  refine x_iaddN hC dL_law_2561 ?_
  refine x_ialdN hC hb1 (by omega) (by first | decide | omega) dL_law_2562 ?_
  refine x_aload_n hC dL_law_2563 rfl rfl ?_
  refine x_iload hC dL_law_2564 rfl ?_
  refine x_iconst (v := nI 2) hC dL_law_2566 (by decide) ?_
  refine x_iaddN hC dL_law_2567 ?_
  refine x_ialdN hC hb1 (by omega) (by first | decide | omega) dL_law_2568 ?_
  refine x_callV0 (na := 2) hC (ct_errorOfPeaks hG hm1 hS (xs (i + 1)) (xs (i + 2))) (lw_V q2725 q2726 q2727 q89 q2728) hm1.1 rfl rfl (by decide +kernel) rfl ⟨Nat.le_of_ble_eq_true rfl, Nat.le_of_ble_eq_true rfl⟩ rfl (Nat.le_of_ble_eq_true rfl) ⟨rfl, rfl⟩ hr dL_law_2569 ?_
  rintro _ M2 ⟨bv, P2, V2, rfl, hb2, hm2, hF2, hS2, hV6⟩
  refine x_lstore (lv' := [_, _, _, _, _, _, _, _, _]) hC dL_law_2572 (by decide) rfl ?_
  refine x_aload_n hC dL_law_2574 rfl rfl ?_
  refine x_callV0 (na := 0) hC (ct_thrown hG hm2) (lw_V q2394 q2395 q2396 q89 q2397) hm2.1 rfl rfl (by decide +kernel) rfl ⟨Nat.le_of_ble_eq_true rfl, Nat.le_of_ble_eq_true rfl⟩ rfl (Nat.le_of_ble_eq_true rfl) ⟨rfl, rfl⟩ hr dL_law_2575 ?_
  rintro _ M3 ⟨rfl, hM3⟩
  subst hM3
  refine x_iload hC dL_law_2578 rfl ?_
  refine x_icmp_eq (tgt := 2585) hC dL_law_2580 (by decide) (fun _ => ?_) (fun c => absurd hV6 c)
  have fin : ∀ w6 w7 w8, Wg G C M3 (kc + 22010) (ks + 80100) 2601 [some (.ref b), some (.ref x), some (.ref m), some (.ref o), some (.ref od), some (.int (nI i)), w6, w7, w8] [] := by
    intro w6 w7 w8
    refine x_goto (tgt := 4085) hC dL_law_2601 (by decide) ?_
    exact next M3 _ _ _ (hls.nx hF1 hox.1 hox.2 hR1 hF2 hm2 hS2)
  refine x_iload hC dL_law_2585 rfl ?_
  refine x_if_ne (tgt := 2601) hC dL_law_2587 (by decide) (fun _ => fin _ _ _) (fun c => ?_)
  have hv1 := hv1 c
  have hb2 := hb2 c
  have ho3 := hF2.z (by decide) ho1
  refine x_aload_n hC dL_law_2590 rfl rfl ?_
  refine x_iconst (v := 0) hC dL_law_2591 (by decide) ?_
  refine x_lald hC ho3 in01 dL_law_2592 ?_
  refine x_lload hC dL_law_2593 rfl ?_
  refine x_lcmp hC dL_law_2595 ?_
  refine x_if_eq (tgt := 2601) hC dL_law_2596 (by decide) (fun _ => fin _ _ _) (fun c9 => absurd (lg_same (show f1 (Int32.toNatClampNeg 0) = bv from by rw [hb2]; exact hv1)) c9)
theorem lc_37 (hG : GOK G) (hC : Cx G C (yL nm) cL_law 9 (some .boolean) room_1) (hT0 : T0 G T) (hT1 : T1 G T) (hT2 : T2 G T) (h : XLS T b L x m o od xs M) (hi : i + 5 < L) (hL : L ≤ 144) (hr : kc + 22010 ≤ room_1.cells ∧ ks + 80100 ≤ room_1.slots) (next : LN G C T b L x m o od i xs (kc + 22010) (ks + 80100)) : Wg G C M kc ks 2604 [some (.ref b), some (.ref x), some (.ref m), some (.ref o), some (.ref od), some (.int (nI i)), v6, v7, v8] [] := by
  have hls := h
  obtain ⟨hb, hM1c, hM2c, ⟨S, P, V, A, hR, hm, hS⟩, ⟨f, ho⟩, ⟨fd, hd⟩⟩ := h
  obtain ⟨va, ha⟩ := hR.rec
  refine x_aload_n hC dL_law_2604 rfl rfl ?_
  refine x_aload_n hC dL_law_2605 rfl rfl ?_
  refine x_iload hC dL_law_2606 rfl ?_
  refine x_iconst (v := nI 1) hC dL_law_2608 (by decide) ?_
  refine x_iaddN hC dL_law_2609 ?_
  refine x_ialdN hC hb (by omega) (by first | decide | omega) dL_law_2610 ?_
  refine x_aload_n hC dL_law_2611 rfl rfl ?_
  refine x_qSX (k := kc + 22010) (n := ks + 80100) (na := 3) hC (cw_addSilence hG hT0 hR ho (xs (i + 1))) (lw_SW q1957 q1958 q80 q1959) (by decide +kernel) rfl ⟨Nat.le_of_ble_eq_true rfl, Nat.le_of_ble_eq_true rfl⟩ rfl (Nat.le_of_ble_eq_true rfl) (Nat.le_refl _) (Nat.le_refl _) hr dL_law_2612 ?_ (fun q9 E9 M9 h9 => h9.elim)
  rintro _ M1 ⟨rfl, hR1, ⟨f1, ho1, hv1⟩, hFO⟩
  have hF1 := hFO.q ho rfl
  have hb1 := hF1.z pl0 hb
  have hm1 := hm.pl hF1
  have hox : (∃ f, M1 o = some (la 11 1 f)) ∧ (∃ f, M1 od = some (da 11 1 f)) := ⟨⟨f1, ho1⟩, xls_od hFO ho hd⟩
  refine x_istore (lv' := [_, _, _, _, _, _, _, _, _]) hC dL_law_2615 (by decide) rfl ?_
  refine x_aload_n hC dL_law_2617 rfl rfl ?_
  refine x_aload_n hC dL_law_2618 rfl rfl ?_
  refine x_iload hC dL_law_2619 rfl ?_
  refine x_iconst (v := nI 1) hC dL_law_2621 (by decide) ?_
  refine x_iaddN hC dL_law_2622 ?_
  refine x_ialdN hC hb1 (by omega) (by first | decide | omega) dL_law_2623 ?_
  refine x_callV0 (na := 1) hC (ct_addSilence hG hm1 hS (xs (i + 1))) (lw_V q2751 q2752 q2753 q89 q2754) hm1.1 rfl rfl (by decide +kernel) rfl ⟨Nat.le_of_ble_eq_true rfl, Nat.le_of_ble_eq_true rfl⟩ rfl (Nat.le_of_ble_eq_true rfl) ⟨rfl, rfl⟩ hr dL_law_2624 ?_
  rintro _ M2 ⟨bv, P2, V2, rfl, hb2, hm2, hF2, hS2, hV6⟩
  refine x_istore (lv' := [_, _, _, _, _, _, _, _, _]) hC dL_law_2627 (by decide) rfl ?_
  refine x_aload_n hC dL_law_2629 rfl rfl ?_
  refine x_callV0 (na := 0) hC (ct_thrown hG hm2) (lw_V q2394 q2395 q2396 q89 q2397) hm2.1 rfl rfl (by decide +kernel) rfl ⟨Nat.le_of_ble_eq_true rfl, Nat.le_of_ble_eq_true rfl⟩ rfl (Nat.le_of_ble_eq_true rfl) ⟨rfl, rfl⟩ hr dL_law_2630 ?_
  rintro _ M3 ⟨rfl, hM3⟩
  subst hM3
  refine x_iload hC dL_law_2633 rfl ?_
  refine x_icmp_eq (tgt := 2640) hC dL_law_2635 (by decide) (fun _ => ?_) (fun c => absurd hV6 c)
  have fin : ∀ w6 w7 w8, Wg G C M3 (kc + 22010) (ks + 80100) 2657 [some (.ref b), some (.ref x), some (.ref m), some (.ref o), some (.ref od), some (.int (nI i)), w6, w7, w8] [] := by
    intro w6 w7 w8
    refine x_goto (tgt := 4085) hC dL_law_2657 (by decide) ?_
    exact next M3 _ _ _ (hls.nx hF1 hox.1 hox.2 hR1 hF2 hm2 hS2)
  refine x_iload hC dL_law_2640 rfl ?_
  refine x_if_ne (tgt := 2657) hC dL_law_2642 (by decide) (fun _ => fin _ _ _) (fun c => ?_)
  have hv1 := hv1 c
  have hb2 := hb2 c
  have ho3 := hF2.z (by decide) ho1
  refine x_aload_n hC dL_law_2645 rfl rfl ?_
  refine x_iconst (v := 0) hC dL_law_2646 (by decide) ?_
  refine x_lald hC ho3 in01 dL_law_2647 ?_
  refine x_iload hC dL_law_2648 rfl ?_
  refine x_i2l hC dL_law_2650 rfl ?_
  refine x_lcmp hC dL_law_2651 ?_
  refine x_if_eq (tgt := 2657) hC dL_law_2652 (by decide) (fun _ => fin _ _ _) (fun c9 => absurd (lg_same (show f1 (Int32.toNatClampNeg 0) = bv.toInt64 from by rw [hb2]; exact hv1)) c9)
theorem lc_38 (hG : GOK G) (hC : Cx G C (yL nm) cL_law 9 (some .boolean) room_1) (hT0 : T0 G T) (hT1 : T1 G T) (hT2 : T2 G T) (h : XLS T b L x m o od xs M) (hi : i + 5 < L) (hL : L ≤ 144) (hr : kc + 22010 ≤ room_1.cells ∧ ks + 80100 ≤ room_1.slots) (next : LN G C T b L x m o od i xs (kc + 22010) (ks + 80100)) : Wg G C M kc ks 2660 [some (.ref b), some (.ref x), some (.ref m), some (.ref o), some (.ref od), some (.int (nI i)), v6, v7, v8] [] := by
  have hls := h
  obtain ⟨hb, hM1c, hM2c, ⟨S, P, V, A, hR, hm, hS⟩, ⟨f, ho⟩, ⟨fd, hd⟩⟩ := h
  obtain ⟨va, ha⟩ := hR.rec
  refine x_aload_n hC dL_law_2660 rfl rfl ?_
  refine x_aload_n hC dL_law_2661 rfl rfl ?_
  refine x_iload hC dL_law_2662 rfl ?_
  refine x_iconst (v := nI 1) hC dL_law_2664 (by decide) ?_
  refine x_iaddN hC dL_law_2665 ?_
  refine x_ialdN hC hb (by omega) (by first | decide | omega) dL_law_2666 ?_
  refine x_aload_n hC dL_law_2667 rfl rfl ?_
  refine x_qSX (k := kc + 22010) (n := ks + 80100) (na := 3) hC (cw_copyRecording hG hT0 hR ho (xs (i + 1))) (lw_SW q2024 q2025 q80 q2026) (by decide +kernel) rfl ⟨Nat.le_of_ble_eq_true rfl, Nat.le_of_ble_eq_true rfl⟩ rfl (Nat.le_of_ble_eq_true rfl) (Nat.le_refl _) (Nat.le_refl _) hr dL_law_2668 ?_ (fun q9 E9 M9 h9 => h9.elim)
  rintro _ M1 ⟨rfl, hR1, ⟨f1, ho1, hv1⟩, hFO⟩
  have hF1 := hFO.q ho rfl
  have hb1 := hF1.z pl0 hb
  have hm1 := hm.pl hF1
  have hox : (∃ f, M1 o = some (la 11 1 f)) ∧ (∃ f, M1 od = some (da 11 1 f)) := ⟨⟨f1, ho1⟩, xls_od hFO ho hd⟩
  refine x_istore (lv' := [_, _, _, _, _, _, _, _, _]) hC dL_law_2671 (by decide) rfl ?_
  refine x_aload_n hC dL_law_2673 rfl rfl ?_
  refine x_aload_n hC dL_law_2674 rfl rfl ?_
  refine x_iload hC dL_law_2675 rfl ?_
  refine x_iconst (v := nI 1) hC dL_law_2677 (by decide) ?_
  refine x_iaddN hC dL_law_2678 ?_
  refine x_ialdN hC hb1 (by omega) (by first | decide | omega) dL_law_2679 ?_
  refine x_callV0 (na := 1) hC (ct_copyRecording hG hm1 hS (xs (i + 1))) (lw_V q2763 q2764 q2765 q89 q2766) hm1.1 rfl rfl (by decide +kernel) rfl ⟨Nat.le_of_ble_eq_true rfl, Nat.le_of_ble_eq_true rfl⟩ rfl (Nat.le_of_ble_eq_true rfl) ⟨rfl, rfl⟩ hr dL_law_2680 ?_
  rintro _ M2 ⟨bv, P2, V2, rfl, hb2, hm2, hF2, hS2, hV6⟩
  refine x_istore (lv' := [_, _, _, _, _, _, _, _, _]) hC dL_law_2683 (by decide) rfl ?_
  refine x_aload_n hC dL_law_2685 rfl rfl ?_
  refine x_callV0 (na := 0) hC (ct_thrown hG hm2) (lw_V q2394 q2395 q2396 q89 q2397) hm2.1 rfl rfl (by decide +kernel) rfl ⟨Nat.le_of_ble_eq_true rfl, Nat.le_of_ble_eq_true rfl⟩ rfl (Nat.le_of_ble_eq_true rfl) ⟨rfl, rfl⟩ hr dL_law_2686 ?_
  rintro _ M3 ⟨rfl, hM3⟩
  subst hM3
  refine x_iload hC dL_law_2689 rfl ?_
  refine x_icmp_eq (tgt := 2696) hC dL_law_2691 (by decide) (fun _ => ?_) (fun c => absurd hV6 c)
  have fin : ∀ w6 w7 w8, Wg G C M3 (kc + 22010) (ks + 80100) 2713 [some (.ref b), some (.ref x), some (.ref m), some (.ref o), some (.ref od), some (.int (nI i)), w6, w7, w8] [] := by
    intro w6 w7 w8
    refine x_goto (tgt := 4085) hC dL_law_2713 (by decide) ?_
    exact next M3 _ _ _ (hls.nx hF1 hox.1 hox.2 hR1 hF2 hm2 hS2)
  refine x_iload hC dL_law_2696 rfl ?_
  refine x_if_ne (tgt := 2713) hC dL_law_2698 (by decide) (fun _ => fin _ _ _) (fun c => ?_)
  have hv1 := hv1 c
  have hb2 := hb2 c
  have ho3 := hF2.z (by decide) ho1
  refine x_aload_n hC dL_law_2701 rfl rfl ?_
  refine x_iconst (v := 0) hC dL_law_2702 (by decide) ?_
  refine x_lald hC ho3 in01 dL_law_2703 ?_
  refine x_iload hC dL_law_2704 rfl ?_
  refine x_i2l hC dL_law_2706 rfl ?_
  refine x_lcmp hC dL_law_2707 ?_
  refine x_if_eq (tgt := 2713) hC dL_law_2708 (by decide) (fun _ => fin _ _ _) (fun c9 => absurd (lg_same (show f1 (Int32.toNatClampNeg 0) = bv.toInt64 from by rw [hb2]; exact hv1)) c9)
theorem lc_39 (hG : GOK G) (hC : Cx G C (yL nm) cL_law 9 (some .boolean) room_1) (hT0 : T0 G T) (hT1 : T1 G T) (hT2 : T2 G T) (h : XLS T b L x m o od xs M) (hi : i + 5 < L) (hL : L ≤ 144) (hr : kc + 22010 ≤ room_1.cells ∧ ks + 80100 ≤ room_1.slots) (next : LN G C T b L x m o od i xs (kc + 22010) (ks + 80100)) : Wg G C M kc ks 2716 [some (.ref b), some (.ref x), some (.ref m), some (.ref o), some (.ref od), some (.int (nI i)), v6, v7, v8] [] := by
  have hls := h
  obtain ⟨hb, hM1c, hM2c, ⟨S, P, V, A, hR, hm, hS⟩, ⟨f, ho⟩, ⟨fd, hd⟩⟩ := h
  obtain ⟨va, ha⟩ := hR.rec
  refine x_aload_n hC dL_law_2716 rfl rfl ?_
  refine x_aload_n hC dL_law_2717 rfl rfl ?_
  refine x_iload hC dL_law_2718 rfl ?_
  refine x_iconst (v := nI 1) hC dL_law_2720 (by decide) ?_
  refine x_iaddN hC dL_law_2721 ?_
  refine x_ialdN hC hb (by omega) (by first | decide | omega) dL_law_2722 ?_
  refine x_aload_n hC dL_law_2723 rfl rfl ?_
  refine x_qSX (k := kc + 22010) (n := ks + 80100) (na := 3) hC (cw_rename hG hT0 hR ho (xs (i + 1))) (lw_SW q2032 q2033 q80 q2034) (by decide +kernel) rfl ⟨Nat.le_of_ble_eq_true rfl, Nat.le_of_ble_eq_true rfl⟩ rfl (Nat.le_of_ble_eq_true rfl) (Nat.le_refl _) (Nat.le_refl _) hr dL_law_2724 ?_ (fun q9 E9 M9 h9 => h9.elim)
  rintro _ M1 ⟨rfl, hR1, ⟨f1, ho1, hv1⟩, hFO⟩
  have hF1 := hFO.q ho rfl
  have hb1 := hF1.z pl0 hb
  have hm1 := hm.pl hF1
  have hox : (∃ f, M1 o = some (la 11 1 f)) ∧ (∃ f, M1 od = some (da 11 1 f)) := ⟨⟨f1, ho1⟩, xls_od hFO ho hd⟩
  refine x_istore (lv' := [_, _, _, _, _, _, _, _, _]) hC dL_law_2727 (by decide) rfl ?_
  refine x_aload_n hC dL_law_2729 rfl rfl ?_
  refine x_aload_n hC dL_law_2730 rfl rfl ?_
  refine x_iload hC dL_law_2731 rfl ?_
  refine x_iconst (v := nI 1) hC dL_law_2733 (by decide) ?_
  refine x_iaddN hC dL_law_2734 ?_
  refine x_ialdN hC hb1 (by omega) (by first | decide | omega) dL_law_2735 ?_
  refine x_callV0 (na := 1) hC (ct_rename hG hm1 hS (xs (i + 1))) (lw_V q2771 q2772 q2773 q89 q2774) hm1.1 rfl rfl (by decide +kernel) rfl ⟨Nat.le_of_ble_eq_true rfl, Nat.le_of_ble_eq_true rfl⟩ rfl (Nat.le_of_ble_eq_true rfl) ⟨rfl, rfl⟩ hr dL_law_2736 ?_
  rintro _ M2 ⟨bv, P2, V2, rfl, hb2, hm2, hF2, hS2, hV6⟩
  refine x_istore (lv' := [_, _, _, _, _, _, _, _, _]) hC dL_law_2739 (by decide) rfl ?_
  refine x_aload_n hC dL_law_2741 rfl rfl ?_
  refine x_callV0 (na := 0) hC (ct_thrown hG hm2) (lw_V q2394 q2395 q2396 q89 q2397) hm2.1 rfl rfl (by decide +kernel) rfl ⟨Nat.le_of_ble_eq_true rfl, Nat.le_of_ble_eq_true rfl⟩ rfl (Nat.le_of_ble_eq_true rfl) ⟨rfl, rfl⟩ hr dL_law_2742 ?_
  rintro _ M3 ⟨rfl, hM3⟩
  subst hM3
  refine x_iload hC dL_law_2745 rfl ?_
  refine x_icmp_eq (tgt := 2752) hC dL_law_2747 (by decide) (fun _ => ?_) (fun c => absurd hV6 c)
  have fin : ∀ w6 w7 w8, Wg G C M3 (kc + 22010) (ks + 80100) 2769 [some (.ref b), some (.ref x), some (.ref m), some (.ref o), some (.ref od), some (.int (nI i)), w6, w7, w8] [] := by
    intro w6 w7 w8
    refine x_goto (tgt := 4085) hC dL_law_2769 (by decide) ?_
    exact next M3 _ _ _ (hls.nx hF1 hox.1 hox.2 hR1 hF2 hm2 hS2)
  refine x_iload hC dL_law_2752 rfl ?_
  refine x_if_ne (tgt := 2769) hC dL_law_2754 (by decide) (fun _ => fin _ _ _) (fun c => ?_)
  have hv1 := hv1 c
  have hb2 := hb2 c
  have ho3 := hF2.z (by decide) ho1
  refine x_aload_n hC dL_law_2757 rfl rfl ?_
  refine x_iconst (v := 0) hC dL_law_2758 (by decide) ?_
  refine x_lald hC ho3 in01 dL_law_2759 ?_
  refine x_iload hC dL_law_2760 rfl ?_
  refine x_i2l hC dL_law_2762 rfl ?_
  refine x_lcmp hC dL_law_2763 ?_
  refine x_if_eq (tgt := 2769) hC dL_law_2764 (by decide) (fun _ => fin _ _ _) (fun c9 => absurd (lg_same (show f1 (Int32.toNatClampNeg 0) = bv.toInt64 from by rw [hb2]; exact hv1)) c9)
theorem lc_40 (hG : GOK G) (hC : Cx G C (yL nm) cL_law 9 (some .boolean) room_1) (hT0 : T0 G T) (hT1 : T1 G T) (hT2 : T2 G T) (h : XLS T b L x m o od xs M) (hi : i + 5 < L) (hL : L ≤ 144) (hr : kc + 22010 ≤ room_1.cells ∧ ks + 80100 ≤ room_1.slots) (next : LN G C T b L x m o od i xs (kc + 22010) (ks + 80100)) : Wg G C M kc ks 2772 [some (.ref b), some (.ref x), some (.ref m), some (.ref o), some (.ref od), some (.int (nI i)), v6, v7, v8] [] := by
  have hls := h
  obtain ⟨hb, hM1c, hM2c, ⟨S, P, V, A, hR, hm, hS⟩, ⟨f, ho⟩, ⟨fd, hd⟩⟩ := h
  obtain ⟨va, ha⟩ := hR.rec
  refine x_aload_n hC dL_law_2772 rfl rfl ?_
  refine x_aload_n hC dL_law_2773 rfl rfl ?_
  refine x_iload hC dL_law_2774 rfl ?_
  refine x_iconst (v := nI 1) hC dL_law_2776 (by decide) ?_
  refine x_iaddN hC dL_law_2777 ?_
  refine x_ialdN hC hb (by omega) (by first | decide | omega) dL_law_2778 ?_
  refine x_aload_n hC dL_law_2779 rfl rfl ?_
  refine x_qSX (k := kc + 22010) (n := ks + 80100) (na := 3) hC (cw_removeRecording hG hT0 hR ho (xs (i + 1))) (lw_SW q2067 q2068 q80 q2069) (by decide +kernel) rfl ⟨Nat.le_of_ble_eq_true rfl, Nat.le_of_ble_eq_true rfl⟩ rfl (Nat.le_of_ble_eq_true rfl) (Nat.le_refl _) (Nat.le_refl _) hr dL_law_2780 ?_ (fun q9 E9 M9 h9 => h9.elim)
  rintro _ M1 ⟨rfl, hR1, ⟨f1, ho1, hv1⟩, hFO⟩
  have hF1 := hFO.q ho rfl
  have hb1 := hF1.z pl0 hb
  have hm1 := hm.pl hF1
  have hox : (∃ f, M1 o = some (la 11 1 f)) ∧ (∃ f, M1 od = some (da 11 1 f)) := ⟨⟨f1, ho1⟩, xls_od hFO ho hd⟩
  refine x_istore (lv' := [_, _, _, _, _, _, _, _, _]) hC dL_law_2783 (by decide) rfl ?_
  refine x_aload_n hC dL_law_2785 rfl rfl ?_
  refine x_aload_n hC dL_law_2786 rfl rfl ?_
  refine x_iload hC dL_law_2787 rfl ?_
  refine x_iconst (v := nI 1) hC dL_law_2789 (by decide) ?_
  refine x_iaddN hC dL_law_2790 ?_
  refine x_ialdN hC hb1 (by omega) (by first | decide | omega) dL_law_2791 ?_
  refine x_callV0 (na := 1) hC (ct_removeRecording hG hm1 hS (xs (i + 1))) (lw_V q2779 q2780 q2781 q89 q2782) hm1.1 rfl rfl (by decide +kernel) rfl ⟨Nat.le_of_ble_eq_true rfl, Nat.le_of_ble_eq_true rfl⟩ rfl (Nat.le_of_ble_eq_true rfl) ⟨rfl, rfl⟩ hr dL_law_2792 ?_
  rintro _ M2 ⟨bv, P2, V2, rfl, hb2, hm2, hF2, hS2, hV6⟩
  refine x_istore (lv' := [_, _, _, _, _, _, _, _, _]) hC dL_law_2795 (by decide) rfl ?_
  refine x_aload_n hC dL_law_2797 rfl rfl ?_
  refine x_callV0 (na := 0) hC (ct_thrown hG hm2) (lw_V q2394 q2395 q2396 q89 q2397) hm2.1 rfl rfl (by decide +kernel) rfl ⟨Nat.le_of_ble_eq_true rfl, Nat.le_of_ble_eq_true rfl⟩ rfl (Nat.le_of_ble_eq_true rfl) ⟨rfl, rfl⟩ hr dL_law_2798 ?_
  rintro _ M3 ⟨rfl, hM3⟩
  subst hM3
  refine x_iload hC dL_law_2801 rfl ?_
  refine x_icmp_eq (tgt := 2808) hC dL_law_2803 (by decide) (fun _ => ?_) (fun c => absurd hV6 c)
  have fin : ∀ w6 w7 w8, Wg G C M3 (kc + 22010) (ks + 80100) 2825 [some (.ref b), some (.ref x), some (.ref m), some (.ref o), some (.ref od), some (.int (nI i)), w6, w7, w8] [] := by
    intro w6 w7 w8
    refine x_goto (tgt := 4085) hC dL_law_2825 (by decide) ?_
    exact next M3 _ _ _ (hls.nx hF1 hox.1 hox.2 hR1 hF2 hm2 hS2)
  refine x_iload hC dL_law_2808 rfl ?_
  refine x_if_ne (tgt := 2825) hC dL_law_2810 (by decide) (fun _ => fin _ _ _) (fun c => ?_)
  have hv1 := hv1 c
  have hb2 := hb2 c
  have ho3 := hF2.z (by decide) ho1
  refine x_aload_n hC dL_law_2813 rfl rfl ?_
  refine x_iconst (v := 0) hC dL_law_2814 (by decide) ?_
  refine x_lald hC ho3 in01 dL_law_2815 ?_
  refine x_iload hC dL_law_2816 rfl ?_
  refine x_i2l hC dL_law_2818 rfl ?_
  refine x_lcmp hC dL_law_2819 ?_
  refine x_if_eq (tgt := 2825) hC dL_law_2820 (by decide) (fun _ => fin _ _ _) (fun c9 => absurd (lg_same (show f1 (Int32.toNatClampNeg 0) = bv.toInt64 from by rw [hb2]; exact hv1)) c9)
theorem lc_41 (hG : GOK G) (hC : Cx G C (yL nm) cL_law 9 (some .boolean) room_1) (hT0 : T0 G T) (hT1 : T1 G T) (hT2 : T2 G T) (h : XLS T b L x m o od xs M) (hi : i + 5 < L) (hL : L ≤ 144) (hr : kc + 22010 ≤ room_1.cells ∧ ks + 80100 ≤ room_1.slots) (next : LN G C T b L x m o od i xs (kc + 22010) (ks + 80100)) : Wg G C M kc ks 2828 [some (.ref b), some (.ref x), some (.ref m), some (.ref o), some (.ref od), some (.int (nI i)), v6, v7, v8] [] := by
  have hls := h
  obtain ⟨hb, hM1c, hM2c, ⟨S, P, V, A, hR, hm, hS⟩, ⟨f, ho⟩, ⟨fd, hd⟩⟩ := h
  obtain ⟨va, ha⟩ := hR.rec
  refine x_aload_n hC dL_law_2828 rfl rfl ?_
  refine x_aload_n hC dL_law_2829 rfl rfl ?_
  refine x_iload hC dL_law_2830 rfl ?_
  refine x_iconst (v := nI 1) hC dL_law_2832 (by decide) ?_
  refine x_iaddN hC dL_law_2833 ?_
  refine x_ialdN hC hb (by omega) (by first | decide | omega) dL_law_2834 ?_
  refine x_aload_n hC dL_law_2835 rfl rfl ?_
  refine x_iload hC dL_law_2836 rfl ?_
  refine x_iconst (v := nI 2) hC dL_law_2838 (by decide) ?_
  refine x_iaddN hC dL_law_2839 ?_
  refine x_ialdN hC hb (by omega) (by first | decide | omega) dL_law_2840 ?_
  refine x_aload_n hC dL_law_2841 rfl rfl ?_
  refine x_iload hC dL_law_2842 rfl ?_
  refine x_iconst (v := nI 3) hC dL_law_2844 (by decide) ?_
  refine x_iaddN hC dL_law_2845 ?_
  refine x_ialdN hC hb (by omega) (by first | decide | omega) dL_law_2846 ?_
  refine x_aload_n hC dL_law_2847 rfl rfl ?_
  refine x_qSX (k := kc + 22010) (n := ks + 80100) (na := 5) hC (cw_setSample hG hT0 hR ho (xs (i + 1)) (xs (i + 2)) (xs (i + 3))) (lw_SW q2087 q2088 q80 q2089) (by decide +kernel) rfl ⟨Nat.le_of_ble_eq_true rfl, Nat.le_of_ble_eq_true rfl⟩ rfl (Nat.le_of_ble_eq_true rfl) (Nat.le_refl _) (Nat.le_refl _) hr dL_law_2848 ?_ (fun q9 E9 M9 h9 => h9.elim)
  rintro _ M1 ⟨rfl, hR1, ⟨f1, ho1, hv1⟩, hFO⟩
  have hF1 := hFO.q ho rfl
  have hb1 := hF1.z pl0 hb
  have hm1 := hm.pl hF1
  have hox : (∃ f, M1 o = some (la 11 1 f)) ∧ (∃ f, M1 od = some (da 11 1 f)) := ⟨⟨f1, ho1⟩, xls_od hFO ho hd⟩
  refine x_istore (lv' := [_, _, _, _, _, _, _, _, _]) hC dL_law_2851 (by decide) rfl ?_
  refine x_aload_n hC dL_law_2853 rfl rfl ?_
  refine x_aload_n hC dL_law_2854 rfl rfl ?_
  refine x_iload hC dL_law_2855 rfl ?_
  refine x_iconst (v := nI 1) hC dL_law_2857 (by decide) ?_
  refine x_iaddN hC dL_law_2858 ?_
  refine x_ialdN hC hb1 (by omega) (by first | decide | omega) dL_law_2859 ?_
  refine x_aload_n hC dL_law_2860 rfl rfl ?_
  refine x_iload hC dL_law_2861 rfl ?_
  refine x_iconst (v := nI 2) hC dL_law_2863 (by decide) ?_
  refine x_iaddN hC dL_law_2864 ?_
  refine x_ialdN hC hb1 (by omega) (by first | decide | omega) dL_law_2865 ?_
  refine x_aload_n hC dL_law_2866 rfl rfl ?_
  refine x_iload hC dL_law_2867 rfl ?_
  refine x_iconst (v := nI 3) hC dL_law_2869 (by decide) ?_
  refine x_iaddN hC dL_law_2870 ?_
  refine x_ialdN hC hb1 (by omega) (by first | decide | omega) dL_law_2871 ?_
  refine x_callV0 (na := 3) hC (ct_setSample hG hm1 hS (xs (i + 1)) (xs (i + 2)) (xs (i + 3))) (lw_V q2783 q2784 q2785 q89 q2786) hm1.1 rfl rfl (by decide +kernel) rfl ⟨Nat.le_of_ble_eq_true rfl, Nat.le_of_ble_eq_true rfl⟩ rfl (Nat.le_of_ble_eq_true rfl) ⟨rfl, rfl⟩ hr dL_law_2872 ?_
  rintro _ M2 ⟨bv, P2, V2, rfl, hb2, hm2, hF2, hS2, hV6⟩
  refine x_istore (lv' := [_, _, _, _, _, _, _, _, _]) hC dL_law_2875 (by decide) rfl ?_
  refine x_aload_n hC dL_law_2877 rfl rfl ?_
  refine x_callV0 (na := 0) hC (ct_thrown hG hm2) (lw_V q2394 q2395 q2396 q89 q2397) hm2.1 rfl rfl (by decide +kernel) rfl ⟨Nat.le_of_ble_eq_true rfl, Nat.le_of_ble_eq_true rfl⟩ rfl (Nat.le_of_ble_eq_true rfl) ⟨rfl, rfl⟩ hr dL_law_2878 ?_
  rintro _ M3 ⟨rfl, hM3⟩
  subst hM3
  refine x_iload hC dL_law_2881 rfl ?_
  refine x_icmp_eq (tgt := 2888) hC dL_law_2883 (by decide) (fun _ => ?_) (fun c => absurd hV6 c)
  have fin : ∀ w6 w7 w8, Wg G C M3 (kc + 22010) (ks + 80100) 2905 [some (.ref b), some (.ref x), some (.ref m), some (.ref o), some (.ref od), some (.int (nI i)), w6, w7, w8] [] := by
    intro w6 w7 w8
    refine x_goto (tgt := 4085) hC dL_law_2905 (by decide) ?_
    exact next M3 _ _ _ (hls.nx hF1 hox.1 hox.2 hR1 hF2 hm2 hS2)
  refine x_iload hC dL_law_2888 rfl ?_
  refine x_if_ne (tgt := 2905) hC dL_law_2890 (by decide) (fun _ => fin _ _ _) (fun c => ?_)
  have hv1 := hv1 c
  have hb2 := hb2 c
  have ho3 := hF2.z (by decide) ho1
  refine x_aload_n hC dL_law_2893 rfl rfl ?_
  refine x_iconst (v := 0) hC dL_law_2894 (by decide) ?_
  refine x_lald hC ho3 in01 dL_law_2895 ?_
  refine x_iload hC dL_law_2896 rfl ?_
  refine x_i2l hC dL_law_2898 rfl ?_
  refine x_lcmp hC dL_law_2899 ?_
  refine x_if_eq (tgt := 2905) hC dL_law_2900 (by decide) (fun _ => fin _ _ _) (fun c9 => absurd (lg_same (show f1 (Int32.toNatClampNeg 0) = bv.toInt64 from by rw [hb2]; exact hv1)) c9)
theorem lc_42 (hG : GOK G) (hC : Cx G C (yL nm) cL_law 9 (some .boolean) room_1) (hT0 : T0 G T) (hT1 : T1 G T) (hT2 : T2 G T) (h : XLS T b L x m o od xs M) (hi : i + 5 < L) (hL : L ≤ 144) (hr : kc + 22010 ≤ room_1.cells ∧ ks + 80100 ≤ room_1.slots) (next : LN G C T b L x m o od i xs (kc + 22010) (ks + 80100)) : Wg G C M kc ks 2908 [some (.ref b), some (.ref x), some (.ref m), some (.ref o), some (.ref od), some (.int (nI i)), v6, v7, v8] [] := by
  have hls := h
  obtain ⟨hb, hM1c, hM2c, ⟨S, P, V, A, hR, hm, hS⟩, ⟨f, ho⟩, ⟨fd, hd⟩⟩ := h
  obtain ⟨va, ha⟩ := hR.rec
  refine x_aload_n hC dL_law_2908 rfl rfl ?_
  refine x_aload_n hC dL_law_2909 rfl rfl ?_
  refine x_iload hC dL_law_2910 rfl ?_
  refine x_iconst (v := nI 1) hC dL_law_2912 (by decide) ?_
  refine x_iaddN hC dL_law_2913 ?_
  refine x_ialdN hC hb (by omega) (by first | decide | omega) dL_law_2914 ?_
  refine x_aload_n hC dL_law_2915 rfl rfl ?_
  refine x_iload hC dL_law_2916 rfl ?_
  refine x_iconst (v := nI 2) hC dL_law_2918 (by decide) ?_
  refine x_iaddN hC dL_law_2919 ?_
  refine x_ialdN hC hb (by omega) (by first | decide | omega) dL_law_2920 ?_
  refine x_aload_n hC dL_law_2921 rfl rfl ?_
  refine x_iload hC dL_law_2922 rfl ?_
  refine x_iconst (v := nI 3) hC dL_law_2924 (by decide) ?_
  refine x_iaddN hC dL_law_2925 ?_
  refine x_ialdN hC hb (by omega) (by first | decide | omega) dL_law_2926 ?_
  refine x_aload_n hC dL_law_2927 rfl rfl ?_
  refine x_qSX (k := kc + 22010) (n := ks + 80100) (na := 5) hC (cw_addRecording hG hT0 hR ho (xs (i + 1)) (xs (i + 2)) (xs (i + 3))) (lw_SW q2108 q2109 q80 q2110) (by decide +kernel) rfl ⟨Nat.le_of_ble_eq_true rfl, Nat.le_of_ble_eq_true rfl⟩ rfl (Nat.le_of_ble_eq_true rfl) (Nat.le_refl _) (Nat.le_refl _) hr dL_law_2928 ?_ (fun q9 E9 M9 h9 => h9.elim)
  rintro _ M1 ⟨rfl, hR1, ⟨f1, ho1, hv1⟩, hFO⟩
  have hF1 := hFO.q ho rfl
  have hb1 := hF1.z pl0 hb
  have hm1 := hm.pl hF1
  have hox : (∃ f, M1 o = some (la 11 1 f)) ∧ (∃ f, M1 od = some (da 11 1 f)) := ⟨⟨f1, ho1⟩, xls_od hFO ho hd⟩
  refine x_istore (lv' := [_, _, _, _, _, _, _, _, _]) hC dL_law_2931 (by decide) rfl ?_
  refine x_aload_n hC dL_law_2933 rfl rfl ?_
  refine x_aload_n hC dL_law_2934 rfl rfl ?_
  refine x_iload hC dL_law_2935 rfl ?_
  refine x_iconst (v := nI 1) hC dL_law_2937 (by decide) ?_
  refine x_iaddN hC dL_law_2938 ?_
  refine x_ialdN hC hb1 (by omega) (by first | decide | omega) dL_law_2939 ?_
  refine x_aload_n hC dL_law_2940 rfl rfl ?_
  refine x_iload hC dL_law_2941 rfl ?_
  refine x_iconst (v := nI 2) hC dL_law_2943 (by decide) ?_
  refine x_iaddN hC dL_law_2944 ?_
  refine x_ialdN hC hb1 (by omega) (by first | decide | omega) dL_law_2945 ?_
  refine x_aload_n hC dL_law_2946 rfl rfl ?_
  refine x_iload hC dL_law_2947 rfl ?_
  refine x_iconst (v := nI 3) hC dL_law_2949 (by decide) ?_
  refine x_iaddN hC dL_law_2950 ?_
  refine x_ialdN hC hb1 (by omega) (by first | decide | omega) dL_law_2951 ?_
  refine x_callV0 (na := 3) hC (ct_addRecording hG hm1 hS (xs (i + 1)) (xs (i + 2)) (xs (i + 3))) (lw_V q2787 q2788 q2789 q89 q2790) hm1.1 rfl rfl (by decide +kernel) rfl ⟨Nat.le_of_ble_eq_true rfl, Nat.le_of_ble_eq_true rfl⟩ rfl (Nat.le_of_ble_eq_true rfl) ⟨rfl, rfl⟩ hr dL_law_2952 ?_
  rintro _ M2 ⟨bv, P2, V2, rfl, hb2, hm2, hF2, hS2, hV6⟩
  refine x_istore (lv' := [_, _, _, _, _, _, _, _, _]) hC dL_law_2955 (by decide) rfl ?_
  refine x_aload_n hC dL_law_2957 rfl rfl ?_
  refine x_callV0 (na := 0) hC (ct_thrown hG hm2) (lw_V q2394 q2395 q2396 q89 q2397) hm2.1 rfl rfl (by decide +kernel) rfl ⟨Nat.le_of_ble_eq_true rfl, Nat.le_of_ble_eq_true rfl⟩ rfl (Nat.le_of_ble_eq_true rfl) ⟨rfl, rfl⟩ hr dL_law_2958 ?_
  rintro _ M3 ⟨rfl, hM3⟩
  subst hM3
  refine x_iload hC dL_law_2961 rfl ?_
  refine x_icmp_eq (tgt := 2968) hC dL_law_2963 (by decide) (fun _ => ?_) (fun c => absurd hV6 c)
  have fin : ∀ w6 w7 w8, Wg G C M3 (kc + 22010) (ks + 80100) 2985 [some (.ref b), some (.ref x), some (.ref m), some (.ref o), some (.ref od), some (.int (nI i)), w6, w7, w8] [] := by
    intro w6 w7 w8
    refine x_goto (tgt := 4085) hC dL_law_2985 (by decide) ?_
    exact next M3 _ _ _ (hls.nx hF1 hox.1 hox.2 hR1 hF2 hm2 hS2)
  refine x_iload hC dL_law_2968 rfl ?_
  refine x_if_ne (tgt := 2985) hC dL_law_2970 (by decide) (fun _ => fin _ _ _) (fun c => ?_)
  have hv1 := hv1 c
  have hb2 := hb2 c
  have ho3 := hF2.z (by decide) ho1
  refine x_aload_n hC dL_law_2973 rfl rfl ?_
  refine x_iconst (v := 0) hC dL_law_2974 (by decide) ?_
  refine x_lald hC ho3 in01 dL_law_2975 ?_
  refine x_iload hC dL_law_2976 rfl ?_
  refine x_i2l hC dL_law_2978 rfl ?_
  refine x_lcmp hC dL_law_2979 ?_
  refine x_if_eq (tgt := 2985) hC dL_law_2980 (by decide) (fun _ => fin _ _ _) (fun c9 => absurd (lg_same (show f1 (Int32.toNatClampNeg 0) = bv.toInt64 from by rw [hb2]; exact hv1)) c9)
theorem lc_43 (hG : GOK G) (hC : Cx G C (yL nm) cL_law 9 (some .boolean) room_1) (hT0 : T0 G T) (hT1 : T1 G T) (hT2 : T2 G T) (h : XLS T b L x m o od xs M) (hi : i + 5 < L) (hL : L ≤ 144) (hr : kc + 22010 ≤ room_1.cells ∧ ks + 80100 ≤ room_1.slots) (next : LN G C T b L x m o od i xs (kc + 22010) (ks + 80100)) : Wg G C M kc ks 2988 [some (.ref b), some (.ref x), some (.ref m), some (.ref o), some (.ref od), some (.int (nI i)), v6, v7, v8] [] := by
  have hls := h
  obtain ⟨hb, hM1c, hM2c, ⟨S, P, V, A, hR, hm, hS⟩, ⟨f, ho⟩, ⟨fd, hd⟩⟩ := h
  obtain ⟨va, ha⟩ := hR.rec
  refine x_aload_n hC dL_law_2988 rfl rfl ?_
  refine x_aload_n hC dL_law_2989 rfl rfl ?_
  refine x_iload hC dL_law_2990 rfl ?_
  refine x_iconst (v := nI 1) hC dL_law_2992 (by decide) ?_
  refine x_iaddN hC dL_law_2993 ?_
  refine x_ialdN hC hb (by omega) (by first | decide | omega) dL_law_2994 ?_
  refine x_aload_n hC dL_law_2995 rfl rfl ?_
  refine x_iload hC dL_law_2996 rfl ?_
  refine x_iconst (v := nI 2) hC dL_law_2998 (by decide) ?_
  refine x_iaddN hC dL_law_2999 ?_
  refine x_ialdN hC hb (by omega) (by first | decide | omega) dL_law_3000 ?_
  refine x_aload_n hC dL_law_3001 rfl rfl ?_
  refine x_qSX (k := kc + 22010) (n := ks + 80100) (na := 4) hC (cw_appendRecording hG hT0 hR ho (xs (i + 1)) (xs (i + 2))) (lw_SW q2116 q2117 q80 q2118) (by decide +kernel) rfl ⟨Nat.le_of_ble_eq_true rfl, Nat.le_of_ble_eq_true rfl⟩ rfl (Nat.le_of_ble_eq_true rfl) (Nat.le_refl _) (Nat.le_refl _) hr dL_law_3002 ?_ (fun q9 E9 M9 h9 => h9.elim)
  rintro _ M1 ⟨rfl, hR1, ⟨f1, ho1, hv1⟩, hFO⟩
  have hF1 := hFO.q ho rfl
  have hb1 := hF1.z pl0 hb
  have hm1 := hm.pl hF1
  have hox : (∃ f, M1 o = some (la 11 1 f)) ∧ (∃ f, M1 od = some (da 11 1 f)) := ⟨⟨f1, ho1⟩, xls_od hFO ho hd⟩
  refine x_istore (lv' := [_, _, _, _, _, _, _, _, _]) hC dL_law_3005 (by decide) rfl ?_
  refine x_aload_n hC dL_law_3007 rfl rfl ?_
  refine x_aload_n hC dL_law_3008 rfl rfl ?_
  refine x_iload hC dL_law_3009 rfl ?_
  refine x_iconst (v := nI 1) hC dL_law_3011 (by decide) ?_
  refine x_iaddN hC dL_law_3012 ?_
  refine x_ialdN hC hb1 (by omega) (by first | decide | omega) dL_law_3013 ?_
  refine x_aload_n hC dL_law_3014 rfl rfl ?_
  refine x_iload hC dL_law_3015 rfl ?_
  refine x_iconst (v := nI 2) hC dL_law_3017 (by decide) ?_
  refine x_iaddN hC dL_law_3018 ?_
  refine x_ialdN hC hb1 (by omega) (by first | decide | omega) dL_law_3019 ?_
  refine x_callV0 (na := 2) hC (ct_appendRecording hG hm1 hS (xs (i + 1)) (xs (i + 2))) (lw_V q2775 q2776 q2777 q89 q2778) hm1.1 rfl rfl (by decide +kernel) rfl ⟨Nat.le_of_ble_eq_true rfl, Nat.le_of_ble_eq_true rfl⟩ rfl (Nat.le_of_ble_eq_true rfl) ⟨rfl, rfl⟩ hr dL_law_3020 ?_
  rintro _ M2 ⟨bv, P2, V2, rfl, hb2, hm2, hF2, hS2, hV6⟩
  refine x_istore (lv' := [_, _, _, _, _, _, _, _, _]) hC dL_law_3023 (by decide) rfl ?_
  refine x_aload_n hC dL_law_3025 rfl rfl ?_
  refine x_callV0 (na := 0) hC (ct_thrown hG hm2) (lw_V q2394 q2395 q2396 q89 q2397) hm2.1 rfl rfl (by decide +kernel) rfl ⟨Nat.le_of_ble_eq_true rfl, Nat.le_of_ble_eq_true rfl⟩ rfl (Nat.le_of_ble_eq_true rfl) ⟨rfl, rfl⟩ hr dL_law_3026 ?_
  rintro _ M3 ⟨rfl, hM3⟩
  subst hM3
  refine x_iload hC dL_law_3029 rfl ?_
  refine x_icmp_eq (tgt := 3036) hC dL_law_3031 (by decide) (fun _ => ?_) (fun c => absurd hV6 c)
  have fin : ∀ w6 w7 w8, Wg G C M3 (kc + 22010) (ks + 80100) 3053 [some (.ref b), some (.ref x), some (.ref m), some (.ref o), some (.ref od), some (.int (nI i)), w6, w7, w8] [] := by
    intro w6 w7 w8
    refine x_goto (tgt := 4085) hC dL_law_3053 (by decide) ?_
    exact next M3 _ _ _ (hls.nx hF1 hox.1 hox.2 hR1 hF2 hm2 hS2)
  refine x_iload hC dL_law_3036 rfl ?_
  refine x_if_ne (tgt := 3053) hC dL_law_3038 (by decide) (fun _ => fin _ _ _) (fun c => ?_)
  have hv1 := hv1 c
  have hb2 := hb2 c
  have ho3 := hF2.z (by decide) ho1
  refine x_aload_n hC dL_law_3041 rfl rfl ?_
  refine x_iconst (v := 0) hC dL_law_3042 (by decide) ?_
  refine x_lald hC ho3 in01 dL_law_3043 ?_
  refine x_iload hC dL_law_3044 rfl ?_
  refine x_i2l hC dL_law_3046 rfl ?_
  refine x_lcmp hC dL_law_3047 ?_
  refine x_if_eq (tgt := 3053) hC dL_law_3048 (by decide) (fun _ => fin _ _ _) (fun c9 => absurd (lg_same (show f1 (Int32.toNatClampNeg 0) = bv.toInt64 from by rw [hb2]; exact hv1)) c9)
theorem lc_44 (hG : GOK G) (hC : Cx G C (yL nm) cL_law 9 (some .boolean) room_1) (hT0 : T0 G T) (hT1 : T1 G T) (hT2 : T2 G T) (h : XLS T b L x m o od xs M) (hi : i + 5 < L) (hL : L ≤ 144) (hr : kc + 22010 ≤ room_1.cells ∧ ks + 80100 ≤ room_1.slots) (next : LN G C T b L x m o od i xs (kc + 22010) (ks + 80100)) : Wg G C M kc ks 3056 [some (.ref b), some (.ref x), some (.ref m), some (.ref o), some (.ref od), some (.int (nI i)), v6, v7, v8] [] := by
  have hls := h
  obtain ⟨hb, hM1c, hM2c, ⟨S, P, V, A, hR, hm, hS⟩, ⟨f, ho⟩, ⟨fd, hd⟩⟩ := h
  obtain ⟨va, ha⟩ := hR.rec
  refine x_aload_n hC dL_law_3056 rfl rfl ?_
  refine x_aload_n hC dL_law_3057 rfl rfl ?_
  refine x_iload hC dL_law_3058 rfl ?_
  refine x_iconst (v := nI 1) hC dL_law_3060 (by decide) ?_
  refine x_iaddN hC dL_law_3061 ?_
  refine x_ialdN hC hb (by omega) (by first | decide | omega) dL_law_3062 ?_
  refine x_aload_n hC dL_law_3063 rfl rfl ?_
  refine x_iload hC dL_law_3064 rfl ?_
  refine x_iconst (v := nI 2) hC dL_law_3066 (by decide) ?_
  refine x_iaddN hC dL_law_3067 ?_
  refine x_ialdN hC hb (by omega) (by first | decide | omega) dL_law_3068 ?_
  refine x_aload_n hC dL_law_3069 rfl rfl ?_
  refine x_qSX (k := kc + 22010) (n := ks + 80100) (na := 4) hC (cw_keepAbove hG hT0 hR ho (xs (i + 1)) (xs (i + 2))) (lw_SW q2130 q2131 q80 q2132) (by decide +kernel) rfl ⟨Nat.le_of_ble_eq_true rfl, Nat.le_of_ble_eq_true rfl⟩ rfl (Nat.le_of_ble_eq_true rfl) (Nat.le_refl _) (Nat.le_refl _) hr dL_law_3070 ?_ (fun q9 E9 M9 h9 => h9.elim)
  rintro _ M1 ⟨rfl, hR1, ⟨f1, ho1, hv1⟩, hFO⟩
  have hF1 := hFO.q ho rfl
  have hb1 := hF1.z pl0 hb
  have hm1 := hm.pl hF1
  have hox : (∃ f, M1 o = some (la 11 1 f)) ∧ (∃ f, M1 od = some (da 11 1 f)) := ⟨⟨f1, ho1⟩, xls_od hFO ho hd⟩
  refine x_istore (lv' := [_, _, _, _, _, _, _, _, _]) hC dL_law_3073 (by decide) rfl ?_
  refine x_aload_n hC dL_law_3075 rfl rfl ?_
  refine x_aload_n hC dL_law_3076 rfl rfl ?_
  refine x_iload hC dL_law_3077 rfl ?_
  refine x_iconst (v := nI 1) hC dL_law_3079 (by decide) ?_
  refine x_iaddN hC dL_law_3080 ?_
  refine x_ialdN hC hb1 (by omega) (by first | decide | omega) dL_law_3081 ?_
  refine x_aload_n hC dL_law_3082 rfl rfl ?_
  refine x_iload hC dL_law_3083 rfl ?_
  refine x_iconst (v := nI 2) hC dL_law_3085 (by decide) ?_
  refine x_iaddN hC dL_law_3086 ?_
  refine x_ialdN hC hb1 (by omega) (by first | decide | omega) dL_law_3087 ?_
  refine x_callV0 (na := 2) hC (ct_keepAbove hG hm1 hS (xs (i + 1)) (xs (i + 2))) (lw_V q2799 q2800 q2801 q89 q2802) hm1.1 rfl rfl (by decide +kernel) rfl ⟨Nat.le_of_ble_eq_true rfl, Nat.le_of_ble_eq_true rfl⟩ rfl (Nat.le_of_ble_eq_true rfl) ⟨rfl, rfl⟩ hr dL_law_3088 ?_
  rintro _ M2 ⟨bv, P2, V2, rfl, hb2, hm2, hF2, hS2, hV6⟩
  refine x_istore (lv' := [_, _, _, _, _, _, _, _, _]) hC dL_law_3091 (by decide) rfl ?_
  refine x_aload_n hC dL_law_3093 rfl rfl ?_
  refine x_callV0 (na := 0) hC (ct_thrown hG hm2) (lw_V q2394 q2395 q2396 q89 q2397) hm2.1 rfl rfl (by decide +kernel) rfl ⟨Nat.le_of_ble_eq_true rfl, Nat.le_of_ble_eq_true rfl⟩ rfl (Nat.le_of_ble_eq_true rfl) ⟨rfl, rfl⟩ hr dL_law_3094 ?_
  rintro _ M3 ⟨rfl, hM3⟩
  subst hM3
  refine x_iload hC dL_law_3097 rfl ?_
  refine x_icmp_eq (tgt := 3104) hC dL_law_3099 (by decide) (fun _ => ?_) (fun c => absurd hV6 c)
  have fin : ∀ w6 w7 w8, Wg G C M3 (kc + 22010) (ks + 80100) 3121 [some (.ref b), some (.ref x), some (.ref m), some (.ref o), some (.ref od), some (.int (nI i)), w6, w7, w8] [] := by
    intro w6 w7 w8
    refine x_goto (tgt := 4085) hC dL_law_3121 (by decide) ?_
    exact next M3 _ _ _ (hls.nx hF1 hox.1 hox.2 hR1 hF2 hm2 hS2)
  refine x_iload hC dL_law_3104 rfl ?_
  refine x_if_ne (tgt := 3121) hC dL_law_3106 (by decide) (fun _ => fin _ _ _) (fun c => ?_)
  have hv1 := hv1 c
  have hb2 := hb2 c
  have ho3 := hF2.z (by decide) ho1
  refine x_aload_n hC dL_law_3109 rfl rfl ?_
  refine x_iconst (v := 0) hC dL_law_3110 (by decide) ?_
  refine x_lald hC ho3 in01 dL_law_3111 ?_
  refine x_iload hC dL_law_3112 rfl ?_
  refine x_i2l hC dL_law_3114 rfl ?_
  refine x_lcmp hC dL_law_3115 ?_
  refine x_if_eq (tgt := 3121) hC dL_law_3116 (by decide) (fun _ => fin _ _ _) (fun c9 => absurd (lg_same (show f1 (Int32.toNatClampNeg 0) = bv.toInt64 from by rw [hb2]; exact hv1)) c9)
theorem lc_45 (hG : GOK G) (hC : Cx G C (yL nm) cL_law 9 (some .boolean) room_1) (hT0 : T0 G T) (hT1 : T1 G T) (hT2 : T2 G T) (h : XLS T b L x m o od xs M) (hi : i + 5 < L) (hL : L ≤ 144) (hr : kc + 22010 ≤ room_1.cells ∧ ks + 80100 ≤ room_1.slots) (next : LN G C T b L x m o od i xs (kc + 22010) (ks + 80100)) : Wg G C M kc ks 3124 [some (.ref b), some (.ref x), some (.ref m), some (.ref o), some (.ref od), some (.int (nI i)), v6, v7, v8] [] := by
  have hls := h
  obtain ⟨hb, hM1c, hM2c, ⟨S, P, V, A, hR, hm, hS⟩, ⟨f, ho⟩, ⟨fd, hd⟩⟩ := h
  obtain ⟨va, ha⟩ := hR.rec
  refine x_aload_n hC dL_law_3124 rfl rfl ?_
  refine x_aload_n hC dL_law_3125 rfl rfl ?_
  refine x_iload hC dL_law_3126 rfl ?_
  refine x_iconst (v := nI 1) hC dL_law_3128 (by decide) ?_
  refine x_iaddN hC dL_law_3129 ?_
  refine x_ialdN hC hb (by omega) (by first | decide | omega) dL_law_3130 ?_
  refine x_aload_n hC dL_law_3131 rfl rfl ?_
  refine x_iload hC dL_law_3132 rfl ?_
  refine x_iconst (v := nI 2) hC dL_law_3134 (by decide) ?_
  refine x_iaddN hC dL_law_3135 ?_
  refine x_ialdN hC hb (by omega) (by first | decide | omega) dL_law_3136 ?_
  refine x_aload_n hC dL_law_3137 rfl rfl ?_
  refine x_iload hC dL_law_3138 rfl ?_
  refine x_iconst (v := nI 3) hC dL_law_3140 (by decide) ?_
  refine x_iaddN hC dL_law_3141 ?_
  refine x_ialdN hC hb (by omega) (by first | decide | omega) dL_law_3142 ?_
  refine x_aload_n hC dL_law_3143 rfl rfl ?_
  refine x_iload hC dL_law_3144 rfl ?_
  refine x_iconst (v := nI 4) hC dL_law_3146 (by decide) ?_
  refine x_iaddN hC dL_law_3147 ?_
  refine x_ialdN hC hb (by omega) (by first | decide | omega) dL_law_3148 ?_
  refine x_aload_n hC dL_law_3149 rfl rfl ?_
  refine x_qSX (k := kc + 22010) (n := ks + 80100) (na := 6) hC (cw_scaleBand hG hT0 hR ho (xs (i + 1)) (xs (i + 2)) (xs (i + 3)) (xs (i + 4))) (lw_SW q2144 q2145 q80 q2146) (by decide +kernel) rfl ⟨Nat.le_of_ble_eq_true rfl, Nat.le_of_ble_eq_true rfl⟩ rfl (Nat.le_of_ble_eq_true rfl) (Nat.le_refl _) (Nat.le_refl _) hr dL_law_3150 ?_ (fun q9 E9 M9 h9 => h9.elim)
  rintro _ M1 ⟨rfl, hR1, ⟨f1, ho1, hv1⟩, hFO⟩
  have hF1 := hFO.q ho rfl
  have hb1 := hF1.z pl0 hb
  have hm1 := hm.pl hF1
  have hox : (∃ f, M1 o = some (la 11 1 f)) ∧ (∃ f, M1 od = some (da 11 1 f)) := ⟨⟨f1, ho1⟩, xls_od hFO ho hd⟩
  refine x_istore (lv' := [_, _, _, _, _, _, _, _, _]) hC dL_law_3153 (by decide) rfl ?_
  refine x_aload_n hC dL_law_3155 rfl rfl ?_
  refine x_aload_n hC dL_law_3156 rfl rfl ?_
  refine x_iload hC dL_law_3157 rfl ?_
  refine x_iconst (v := nI 1) hC dL_law_3159 (by decide) ?_
  refine x_iaddN hC dL_law_3160 ?_
  refine x_ialdN hC hb1 (by omega) (by first | decide | omega) dL_law_3161 ?_
  refine x_aload_n hC dL_law_3162 rfl rfl ?_
  refine x_iload hC dL_law_3163 rfl ?_
  refine x_iconst (v := nI 2) hC dL_law_3165 (by decide) ?_
  refine x_iaddN hC dL_law_3166 ?_
  refine x_ialdN hC hb1 (by omega) (by first | decide | omega) dL_law_3167 ?_
  refine x_aload_n hC dL_law_3168 rfl rfl ?_
  refine x_iload hC dL_law_3169 rfl ?_
  refine x_iconst (v := nI 3) hC dL_law_3171 (by decide) ?_
  refine x_iaddN hC dL_law_3172 ?_
  refine x_ialdN hC hb1 (by omega) (by first | decide | omega) dL_law_3173 ?_
  refine x_aload_n hC dL_law_3174 rfl rfl ?_
  refine x_iload hC dL_law_3175 rfl ?_
  refine x_iconst (v := nI 4) hC dL_law_3177 (by decide) ?_
  refine x_iaddN hC dL_law_3178 ?_
  refine x_ialdN hC hb1 (by omega) (by first | decide | omega) dL_law_3179 ?_
  refine x_callV0 (na := 4) hC (ct_scaleBand hG hm1 hS (xs (i + 1)) (xs (i + 2)) (xs (i + 3)) (xs (i + 4))) (lw_V q2803 q2804 q2805 q89 q2806) hm1.1 rfl rfl (by decide +kernel) rfl ⟨Nat.le_of_ble_eq_true rfl, Nat.le_of_ble_eq_true rfl⟩ rfl (Nat.le_of_ble_eq_true rfl) ⟨rfl, rfl⟩ hr dL_law_3180 ?_
  rintro _ M2 ⟨bv, P2, V2, rfl, hb2, hm2, hF2, hS2, hV6⟩
  refine x_istore (lv' := [_, _, _, _, _, _, _, _, _]) hC dL_law_3183 (by decide) rfl ?_
  refine x_aload_n hC dL_law_3185 rfl rfl ?_
  refine x_callV0 (na := 0) hC (ct_thrown hG hm2) (lw_V q2394 q2395 q2396 q89 q2397) hm2.1 rfl rfl (by decide +kernel) rfl ⟨Nat.le_of_ble_eq_true rfl, Nat.le_of_ble_eq_true rfl⟩ rfl (Nat.le_of_ble_eq_true rfl) ⟨rfl, rfl⟩ hr dL_law_3186 ?_
  rintro _ M3 ⟨rfl, hM3⟩
  subst hM3
  refine x_iload hC dL_law_3189 rfl ?_
  refine x_icmp_eq (tgt := 3196) hC dL_law_3191 (by decide) (fun _ => ?_) (fun c => absurd hV6 c)
  have fin : ∀ w6 w7 w8, Wg G C M3 (kc + 22010) (ks + 80100) 3213 [some (.ref b), some (.ref x), some (.ref m), some (.ref o), some (.ref od), some (.int (nI i)), w6, w7, w8] [] := by
    intro w6 w7 w8
    refine x_goto (tgt := 4085) hC dL_law_3213 (by decide) ?_
    exact next M3 _ _ _ (hls.nx hF1 hox.1 hox.2 hR1 hF2 hm2 hS2)
  refine x_iload hC dL_law_3196 rfl ?_
  refine x_if_ne (tgt := 3213) hC dL_law_3198 (by decide) (fun _ => fin _ _ _) (fun c => ?_)
  have hv1 := hv1 c
  have hb2 := hb2 c
  have ho3 := hF2.z (by decide) ho1
  refine x_aload_n hC dL_law_3201 rfl rfl ?_
  refine x_iconst (v := 0) hC dL_law_3202 (by decide) ?_
  refine x_lald hC ho3 in01 dL_law_3203 ?_
  refine x_iload hC dL_law_3204 rfl ?_
  refine x_i2l hC dL_law_3206 rfl ?_
  refine x_lcmp hC dL_law_3207 ?_
  refine x_if_eq (tgt := 3213) hC dL_law_3208 (by decide) (fun _ => fin _ _ _) (fun c9 => absurd (lg_same (show f1 (Int32.toNatClampNeg 0) = bv.toInt64 from by rw [hb2]; exact hv1)) c9)
theorem lc_46 (hG : GOK G) (hC : Cx G C (yL nm) cL_law 9 (some .boolean) room_1) (hT0 : T0 G T) (hT1 : T1 G T) (hT2 : T2 G T) (h : XLS T b L x m o od xs M) (hi : i + 5 < L) (hL : L ≤ 144) (hr : kc + 22010 ≤ room_1.cells ∧ ks + 80100 ≤ room_1.slots) (next : LN G C T b L x m o od i xs (kc + 22010) (ks + 80100)) : Wg G C M kc ks 3216 [some (.ref b), some (.ref x), some (.ref m), some (.ref o), some (.ref od), some (.int (nI i)), v6, v7, v8] [] := by
  have hls := h
  obtain ⟨hb, hM1c, hM2c, ⟨S, P, V, A, hR, hm, hS⟩, ⟨f, ho⟩, ⟨fd, hd⟩⟩ := h
  obtain ⟨va, ha⟩ := hR.rec
  refine x_aload_n hC dL_law_3216 rfl rfl ?_
  refine x_aload_n hC dL_law_3217 rfl rfl ?_
  refine x_iload hC dL_law_3218 rfl ?_
  refine x_iconst (v := nI 1) hC dL_law_3220 (by decide) ?_
  refine x_iaddN hC dL_law_3221 ?_
  refine x_ialdN hC hb (by omega) (by first | decide | omega) dL_law_3222 ?_
  refine x_aload_n hC dL_law_3223 rfl rfl ?_
  refine x_iload hC dL_law_3224 rfl ?_
  refine x_iconst (v := nI 2) hC dL_law_3226 (by decide) ?_
  refine x_iaddN hC dL_law_3227 ?_
  refine x_ialdN hC hb (by omega) (by first | decide | omega) dL_law_3228 ?_
  refine x_aload_n hC dL_law_3229 rfl rfl ?_
  refine x_qSX (k := kc + 22010) (n := ks + 80100) (na := 4) hC (cw_keepPeaks hG hT0 hR ho (xs (i + 1)) (xs (i + 2))) (lw_SW q2158 q2159 q80 q2160) (by decide +kernel) rfl ⟨Nat.le_of_ble_eq_true rfl, Nat.le_of_ble_eq_true rfl⟩ rfl (Nat.le_of_ble_eq_true rfl) (Nat.le_refl _) (Nat.le_refl _) hr dL_law_3230 ?_ (fun q9 E9 M9 h9 => h9.elim)
  rintro _ M1 ⟨rfl, hR1, ⟨f1, ho1, hv1⟩, hFO⟩
  have hF1 := hFO.q ho rfl
  have hb1 := hF1.z pl0 hb
  have hm1 := hm.pl hF1
  have hox : (∃ f, M1 o = some (la 11 1 f)) ∧ (∃ f, M1 od = some (da 11 1 f)) := ⟨⟨f1, ho1⟩, xls_od hFO ho hd⟩
  refine x_istore (lv' := [_, _, _, _, _, _, _, _, _]) hC dL_law_3233 (by decide) rfl ?_
  refine x_aload_n hC dL_law_3235 rfl rfl ?_
  refine x_aload_n hC dL_law_3236 rfl rfl ?_
  refine x_iload hC dL_law_3237 rfl ?_
  refine x_iconst (v := nI 1) hC dL_law_3239 (by decide) ?_
  refine x_iaddN hC dL_law_3240 ?_
  refine x_ialdN hC hb1 (by omega) (by first | decide | omega) dL_law_3241 ?_
  refine x_aload_n hC dL_law_3242 rfl rfl ?_
  refine x_iload hC dL_law_3243 rfl ?_
  refine x_iconst (v := nI 2) hC dL_law_3245 (by decide) ?_
  refine x_iaddN hC dL_law_3246 ?_
  refine x_ialdN hC hb1 (by omega) (by first | decide | omega) dL_law_3247 ?_
  refine x_callV0 (na := 2) hC (ct_keepPeaks hG hm1 hS (xs (i + 1)) (xs (i + 2))) (lw_V q2791 q2792 q2793 q89 q2794) hm1.1 rfl rfl (by decide +kernel) rfl ⟨Nat.le_of_ble_eq_true rfl, Nat.le_of_ble_eq_true rfl⟩ rfl (Nat.le_of_ble_eq_true rfl) ⟨rfl, rfl⟩ hr dL_law_3248 ?_
  rintro _ M2 ⟨bv, P2, V2, rfl, hb2, hm2, hF2, hS2, hV6⟩
  refine x_istore (lv' := [_, _, _, _, _, _, _, _, _]) hC dL_law_3251 (by decide) rfl ?_
  refine x_aload_n hC dL_law_3253 rfl rfl ?_
  refine x_callV0 (na := 0) hC (ct_thrown hG hm2) (lw_V q2394 q2395 q2396 q89 q2397) hm2.1 rfl rfl (by decide +kernel) rfl ⟨Nat.le_of_ble_eq_true rfl, Nat.le_of_ble_eq_true rfl⟩ rfl (Nat.le_of_ble_eq_true rfl) ⟨rfl, rfl⟩ hr dL_law_3254 ?_
  rintro _ M3 ⟨rfl, hM3⟩
  subst hM3
  refine x_iload hC dL_law_3257 rfl ?_
  refine x_icmp_eq (tgt := 3264) hC dL_law_3259 (by decide) (fun _ => ?_) (fun c => absurd hV6 c)
  have fin : ∀ w6 w7 w8, Wg G C M3 (kc + 22010) (ks + 80100) 3281 [some (.ref b), some (.ref x), some (.ref m), some (.ref o), some (.ref od), some (.int (nI i)), w6, w7, w8] [] := by
    intro w6 w7 w8
    refine x_goto (tgt := 4085) hC dL_law_3281 (by decide) ?_
    exact next M3 _ _ _ (hls.nx hF1 hox.1 hox.2 hR1 hF2 hm2 hS2)
  refine x_iload hC dL_law_3264 rfl ?_
  refine x_if_ne (tgt := 3281) hC dL_law_3266 (by decide) (fun _ => fin _ _ _) (fun c => ?_)
  have hv1 := hv1 c
  have hb2 := hb2 c
  have ho3 := hF2.z (by decide) ho1
  refine x_aload_n hC dL_law_3269 rfl rfl ?_
  refine x_iconst (v := 0) hC dL_law_3270 (by decide) ?_
  refine x_lald hC ho3 in01 dL_law_3271 ?_
  refine x_iload hC dL_law_3272 rfl ?_
  refine x_i2l hC dL_law_3274 rfl ?_
  refine x_lcmp hC dL_law_3275 ?_
  refine x_if_eq (tgt := 3281) hC dL_law_3276 (by decide) (fun _ => fin _ _ _) (fun c9 => absurd (lg_same (show f1 (Int32.toNatClampNeg 0) = bv.toInt64 from by rw [hb2]; exact hv1)) c9)
theorem lc_47 (hG : GOK G) (hC : Cx G C (yL nm) cL_law 9 (some .boolean) room_1) (hT0 : T0 G T) (hT1 : T1 G T) (hT2 : T2 G T) (h : XLS T b L x m o od xs M) (hi : i + 5 < L) (hL : L ≤ 144) (hr : kc + 22010 ≤ room_1.cells ∧ ks + 80100 ≤ room_1.slots) (next : LN G C T b L x m o od i xs (kc + 22010) (ks + 80100)) : Wg G C M kc ks 3284 [some (.ref b), some (.ref x), some (.ref m), some (.ref o), some (.ref od), some (.int (nI i)), v6, v7, v8] [] := by
  have hls := h
  obtain ⟨hb, hM1c, hM2c, ⟨S, P, V, A, hR, hm, hS⟩, ⟨f, ho⟩, ⟨fd, hd⟩⟩ := h
  obtain ⟨va, ha⟩ := hR.rec
  refine x_aload_n hC dL_law_3284 rfl rfl ?_
  refine x_aload_n hC dL_law_3285 rfl rfl ?_
  refine x_iload hC dL_law_3286 rfl ?_
  refine x_iconst (v := nI 1) hC dL_law_3288 (by decide) ?_
  refine x_iaddN hC dL_law_3289 ?_
  refine x_ialdN hC hb (by omega) (by first | decide | omega) dL_law_3290 ?_
  refine x_aload_n hC dL_law_3291 rfl rfl ?_
  refine x_iload hC dL_law_3292 rfl ?_
  refine x_iconst (v := nI 2) hC dL_law_3294 (by decide) ?_
  refine x_iaddN hC dL_law_3295 ?_
  refine x_ialdN hC hb (by omega) (by first | decide | omega) dL_law_3296 ?_
  refine x_aload_n hC dL_law_3297 rfl rfl ?_
  refine x_iload hC dL_law_3298 rfl ?_
  refine x_iconst (v := nI 3) hC dL_law_3300 (by decide) ?_
  refine x_iaddN hC dL_law_3301 ?_
  refine x_ialdN hC hb (by omega) (by first | decide | omega) dL_law_3302 ?_
  refine x_aload_n hC dL_law_3303 rfl rfl ?_
  refine x_qSX (k := kc + 22010) (n := ks + 80100) (na := 5) hC (cw_removeBand hG hT0 hR ho (xs (i + 1)) (xs (i + 2)) (xs (i + 3))) (lw_SW q2165 q2166 q80 q2167) (by decide +kernel) rfl ⟨Nat.le_of_ble_eq_true rfl, Nat.le_of_ble_eq_true rfl⟩ rfl (Nat.le_of_ble_eq_true rfl) (Nat.le_refl _) (Nat.le_refl _) hr dL_law_3304 ?_ (fun q9 E9 M9 h9 => h9.elim)
  rintro _ M1 ⟨rfl, hR1, ⟨f1, ho1, hv1⟩, hFO⟩
  have hF1 := hFO.q ho rfl
  have hb1 := hF1.z pl0 hb
  have hm1 := hm.pl hF1
  have hox : (∃ f, M1 o = some (la 11 1 f)) ∧ (∃ f, M1 od = some (da 11 1 f)) := ⟨⟨f1, ho1⟩, xls_od hFO ho hd⟩
  refine x_istore (lv' := [_, _, _, _, _, _, _, _, _]) hC dL_law_3307 (by decide) rfl ?_
  refine x_aload_n hC dL_law_3309 rfl rfl ?_
  refine x_aload_n hC dL_law_3310 rfl rfl ?_
  refine x_iload hC dL_law_3311 rfl ?_
  refine x_iconst (v := nI 1) hC dL_law_3313 (by decide) ?_
  refine x_iaddN hC dL_law_3314 ?_
  refine x_ialdN hC hb1 (by omega) (by first | decide | omega) dL_law_3315 ?_
  refine x_aload_n hC dL_law_3316 rfl rfl ?_
  refine x_iload hC dL_law_3317 rfl ?_
  refine x_iconst (v := nI 2) hC dL_law_3319 (by decide) ?_
  refine x_iaddN hC dL_law_3320 ?_
  refine x_ialdN hC hb1 (by omega) (by first | decide | omega) dL_law_3321 ?_
  refine x_aload_n hC dL_law_3322 rfl rfl ?_
  refine x_iload hC dL_law_3323 rfl ?_
  refine x_iconst (v := nI 3) hC dL_law_3325 (by decide) ?_
  refine x_iaddN hC dL_law_3326 ?_
  refine x_ialdN hC hb1 (by omega) (by first | decide | omega) dL_law_3327 ?_
  refine x_callV0 (na := 3) hC (ct_removeBand hG hm1 hS (xs (i + 1)) (xs (i + 2)) (xs (i + 3))) (lw_V q2831 q2832 q2833 q89 q2834) hm1.1 rfl rfl (by decide +kernel) rfl ⟨Nat.le_of_ble_eq_true rfl, Nat.le_of_ble_eq_true rfl⟩ rfl (Nat.le_of_ble_eq_true rfl) ⟨rfl, rfl⟩ hr dL_law_3328 ?_
  rintro _ M2 ⟨bv, P2, V2, rfl, hb2, hm2, hF2, hS2, hV6⟩
  refine x_istore (lv' := [_, _, _, _, _, _, _, _, _]) hC dL_law_3331 (by decide) rfl ?_
  refine x_aload_n hC dL_law_3333 rfl rfl ?_
  refine x_callV0 (na := 0) hC (ct_thrown hG hm2) (lw_V q2394 q2395 q2396 q89 q2397) hm2.1 rfl rfl (by decide +kernel) rfl ⟨Nat.le_of_ble_eq_true rfl, Nat.le_of_ble_eq_true rfl⟩ rfl (Nat.le_of_ble_eq_true rfl) ⟨rfl, rfl⟩ hr dL_law_3334 ?_
  rintro _ M3 ⟨rfl, hM3⟩
  subst hM3
  refine x_iload hC dL_law_3337 rfl ?_
  refine x_icmp_eq (tgt := 3344) hC dL_law_3339 (by decide) (fun _ => ?_) (fun c => absurd hV6 c)
  have fin : ∀ w6 w7 w8, Wg G C M3 (kc + 22010) (ks + 80100) 3361 [some (.ref b), some (.ref x), some (.ref m), some (.ref o), some (.ref od), some (.int (nI i)), w6, w7, w8] [] := by
    intro w6 w7 w8
    refine x_goto (tgt := 4085) hC dL_law_3361 (by decide) ?_
    exact next M3 _ _ _ (hls.nx hF1 hox.1 hox.2 hR1 hF2 hm2 hS2)
  refine x_iload hC dL_law_3344 rfl ?_
  refine x_if_ne (tgt := 3361) hC dL_law_3346 (by decide) (fun _ => fin _ _ _) (fun c => ?_)
  have hv1 := hv1 c
  have hb2 := hb2 c
  have ho3 := hF2.z (by decide) ho1
  refine x_aload_n hC dL_law_3349 rfl rfl ?_
  refine x_iconst (v := 0) hC dL_law_3350 (by decide) ?_
  refine x_lald hC ho3 in01 dL_law_3351 ?_
  refine x_iload hC dL_law_3352 rfl ?_
  refine x_i2l hC dL_law_3354 rfl ?_
  refine x_lcmp hC dL_law_3355 ?_
  refine x_if_eq (tgt := 3361) hC dL_law_3356 (by decide) (fun _ => fin _ _ _) (fun c9 => absurd (lg_same (show f1 (Int32.toNatClampNeg 0) = bv.toInt64 from by rw [hb2]; exact hv1)) c9)
end LC32

