/-! ===== the law's cases ===== -/
section LC16
variable {G : X_G} {C : X_C} {nm : String} {M : X_M} {T : X_T} {b L x m o od i kc ks : Nat} {xs : Nat → Int32} {v6 v7 v8 : Option Value}
theorem lc_16 (hG : GOK G) (hC : Cx G C (yL nm) cL_law 9 (some .boolean) room_1) (hT0 : T0 G T) (hT1 : T1 G T) (hT2 : T2 G T) (h : XLS T b L x m o od xs M) (hi : i + 5 < L) (hL : L ≤ 144) (hr : kc + 22010 ≤ room_1.cells ∧ ks + 80100 ≤ room_1.slots) (next : LN G C T b L x m o od i xs (kc + 22010) (ks + 80100)) : Wg G C M kc ks 1139 [some (.ref b), some (.ref x), some (.ref m), some (.ref o), some (.ref od), some (.int (nI i)), v6, v7, v8] [] := by
  have hls := h
  obtain ⟨hb, hM1c, hM2c, ⟨S, P, V, A, hR, hm, hS⟩, ⟨f, ho⟩, ⟨fd, hd⟩⟩ := h
  obtain ⟨va, ha⟩ := hR.rec
  refine x_aload_n hC dL_law_1139 rfl rfl ?_
  refine x_aload_n hC dL_law_1140 rfl rfl ?_
  refine x_qSX (k := kc + 22010) (n := ks + 80100) (na := 2) hC (cw_loudestRecording hG  hR ho ) (lw_SW q1650 q1651 q80 q1652) (by decide +kernel) rfl ⟨Nat.le_of_ble_eq_true rfl, Nat.le_of_ble_eq_true rfl⟩ rfl (Nat.le_of_ble_eq_true rfl) (Nat.le_refl _) (Nat.le_refl _) hr dL_law_1141 ?_ (fun q9 E9 M9 h9 => h9.elim)
  rintro _ M1 ⟨rfl, hR1, ⟨f1, ho1, hv1⟩, hFO⟩
  have hF1 := hFO.q ho rfl
  have hb1 := hF1.z pl0 hb
  have hm1 := hm.pl hF1
  have hox : (∃ f, M1 o = some (la 11 1 f)) ∧ (∃ f, M1 od = some (da 11 1 f)) := ⟨⟨f1, ho1⟩, xls_od hFO ho hd⟩
  refine x_istore (lv' := [_, _, _, _, _, _, _, _, _]) hC dL_law_1144 (by decide) rfl ?_
  refine x_aload_n hC dL_law_1146 rfl rfl ?_
  refine x_callV0 (na := 0) hC (ct_loudestRecording hG hm1 hS) (lw_V q2564 q2565 q2566 q89 q2567) hm1.1 rfl rfl (by decide +kernel) rfl ⟨Nat.le_of_ble_eq_true rfl, Nat.le_of_ble_eq_true rfl⟩ rfl (Nat.le_of_ble_eq_true rfl) ⟨rfl, rfl⟩ hr dL_law_1147 ?_
  rintro _ M2 ⟨bv, P2, V2, rfl, hb2, hm2, hF2, hS2, hV6⟩
  refine x_istore (lv' := [_, _, _, _, _, _, _, _, _]) hC dL_law_1150 (by decide) rfl ?_
  refine x_aload_n hC dL_law_1152 rfl rfl ?_
  refine x_callV0 (na := 0) hC (ct_thrown hG hm2) (lw_V q2394 q2395 q2396 q89 q2397) hm2.1 rfl rfl (by decide +kernel) rfl ⟨Nat.le_of_ble_eq_true rfl, Nat.le_of_ble_eq_true rfl⟩ rfl (Nat.le_of_ble_eq_true rfl) ⟨rfl, rfl⟩ hr dL_law_1153 ?_
  rintro _ M3 ⟨rfl, hM3⟩
  subst hM3
  refine x_iload hC dL_law_1156 rfl ?_
  refine x_icmp_eq (tgt := 1163) hC dL_law_1158 (by decide) (fun _ => ?_) (fun c => absurd hV6 c)
  have fin : ∀ w6 w7 w8, Wg G C M3 (kc + 22010) (ks + 80100) 1180 [some (.ref b), some (.ref x), some (.ref m), some (.ref o), some (.ref od), some (.int (nI i)), w6, w7, w8] [] := by
    intro w6 w7 w8
    refine x_goto (tgt := 4085) hC dL_law_1180 (by decide) ?_
    exact next M3 _ _ _ (hls.nx hF1 hox.1 hox.2 hR1 hF2 hm2 hS2)
  refine x_iload hC dL_law_1163 rfl ?_
  refine x_if_ne (tgt := 1180) hC dL_law_1165 (by decide) (fun _ => fin _ _ _) (fun c => ?_)
  have hv1 := hv1 c
  have hb2 := hb2 c
  have ho3 := hF2.z (by decide) ho1
  refine x_aload_n hC dL_law_1168 rfl rfl ?_
  refine x_iconst (v := 0) hC dL_law_1169 (by decide) ?_
  refine x_lald hC ho3 in01 dL_law_1170 ?_
  refine x_iload hC dL_law_1171 rfl ?_
  refine x_i2l hC dL_law_1173 rfl ?_
  refine x_lcmp hC dL_law_1174 ?_
  refine x_if_eq (tgt := 1180) hC dL_law_1175 (by decide) (fun _ => fin _ _ _) (fun c9 => absurd (lg_same (show f1 (Int32.toNatClampNeg 0) = bv.toInt64 from by rw [hb2]; exact hv1)) c9)
theorem lc_17 (hG : GOK G) (hC : Cx G C (yL nm) cL_law 9 (some .boolean) room_1) (hT0 : T0 G T) (hT1 : T1 G T) (hT2 : T2 G T) (h : XLS T b L x m o od xs M) (hi : i + 5 < L) (hL : L ≤ 144) (hr : kc + 22010 ≤ room_1.cells ∧ ks + 80100 ≤ room_1.slots) (next : LN G C T b L x m o od i xs (kc + 22010) (ks + 80100)) : Wg G C M kc ks 1183 [some (.ref b), some (.ref x), some (.ref m), some (.ref o), some (.ref od), some (.int (nI i)), v6, v7, v8] [] := by
  have hls := h
  obtain ⟨hb, hM1c, hM2c, ⟨S, P, V, A, hR, hm, hS⟩, ⟨f, ho⟩, ⟨fd, hd⟩⟩ := h
  obtain ⟨va, ha⟩ := hR.rec
  refine x_aload_n hC dL_law_1183 rfl rfl ?_
  refine x_aload_n hC dL_law_1184 rfl rfl ?_
  refine x_iload hC dL_law_1185 rfl ?_
  refine x_iconst (v := nI 1) hC dL_law_1187 (by decide) ?_
  refine x_iaddN hC dL_law_1188 ?_
  refine x_ialdN hC hb (by omega) (by first | decide | omega) dL_law_1189 ?_
  refine x_aload_n hC dL_law_1190 rfl rfl ?_
  refine x_iload hC dL_law_1191 rfl ?_
  refine x_iconst (v := nI 2) hC dL_law_1193 (by decide) ?_
  refine x_iaddN hC dL_law_1194 ?_
  refine x_ialdN hC hb (by omega) (by first | decide | omega) dL_law_1195 ?_
  refine x_aload_n hC dL_law_1196 rfl rfl ?_
  refine x_iload hC dL_law_1197 rfl ?_
  refine x_iconst (v := nI 3) hC dL_law_1199 (by decide) ?_
  refine x_iaddN hC dL_law_1200 ?_
  refine x_ialdN hC hb (by omega) (by first | decide | omega) dL_law_1201 ?_
  refine x_aload_n hC dL_law_1202 rfl rfl ?_
  refine x_qSX (k := kc + 22010) (n := ks + 80100) (na := 5) hC (cw_walsh hG  hR ho (xs (i + 1)) (xs (i + 2)) (xs (i + 3))) (lw_SW q1663 q1664 q80 q1665) (by decide +kernel) rfl ⟨Nat.le_of_ble_eq_true rfl, Nat.le_of_ble_eq_true rfl⟩ rfl (Nat.le_of_ble_eq_true rfl) (Nat.le_refl _) (Nat.le_refl _) hr dL_law_1203 ?_ (fun q9 E9 M9 h9 => h9.elim)
  rintro _ M1 ⟨rfl, hR1, ⟨f1, ho1, hv1⟩, hFO⟩
  have hF1 := hFO.q ho rfl
  have hb1 := hF1.z pl0 hb
  have hm1 := hm.pl hF1
  have hox : (∃ f, M1 o = some (la 11 1 f)) ∧ (∃ f, M1 od = some (da 11 1 f)) := ⟨⟨f1, ho1⟩, xls_od hFO ho hd⟩
  refine x_istore (lv' := [_, _, _, _, _, _, _, _, _]) hC dL_law_1206 (by decide) rfl ?_
  refine x_aload_n hC dL_law_1208 rfl rfl ?_
  refine x_aload_n hC dL_law_1209 rfl rfl ?_
  refine x_iload hC dL_law_1210 rfl ?_
  refine x_iconst (v := nI 1) hC dL_law_1212 (by decide) ?_
  refine x_iaddN hC dL_law_1213 ?_
  refine x_ialdN hC hb1 (by omega) (by first | decide | omega) dL_law_1214 ?_
  refine x_aload_n hC dL_law_1215 rfl rfl ?_
  refine x_iload hC dL_law_1216 rfl ?_
  refine x_iconst (v := nI 2) hC dL_law_1218 (by decide) ?_
  refine x_iaddN hC dL_law_1219 ?_
  refine x_ialdN hC hb1 (by omega) (by first | decide | omega) dL_law_1220 ?_
  refine x_aload_n hC dL_law_1221 rfl rfl ?_
  refine x_iload hC dL_law_1222 rfl ?_
  refine x_iconst (v := nI 3) hC dL_law_1224 (by decide) ?_
  refine x_iaddN hC dL_law_1225 ?_
  refine x_ialdN hC hb1 (by omega) (by first | decide | omega) dL_law_1226 ?_
  refine x_callV0 (na := 3) hC (ct_walsh hG hm1 hS (xs (i + 1)) (xs (i + 2)) (xs (i + 3))) (lw_V q2568 q2569 q2570 q89 q2571) hm1.1 rfl rfl (by decide +kernel) rfl ⟨Nat.le_of_ble_eq_true rfl, Nat.le_of_ble_eq_true rfl⟩ rfl (Nat.le_of_ble_eq_true rfl) ⟨rfl, rfl⟩ hr dL_law_1227 ?_
  rintro _ M2 ⟨bv, P2, V2, rfl, hb2, hm2, hF2, hS2, hV6⟩
  refine x_istore (lv' := [_, _, _, _, _, _, _, _, _]) hC dL_law_1230 (by decide) rfl ?_
  refine x_aload_n hC dL_law_1232 rfl rfl ?_
  refine x_callV0 (na := 0) hC (ct_thrown hG hm2) (lw_V q2394 q2395 q2396 q89 q2397) hm2.1 rfl rfl (by decide +kernel) rfl ⟨Nat.le_of_ble_eq_true rfl, Nat.le_of_ble_eq_true rfl⟩ rfl (Nat.le_of_ble_eq_true rfl) ⟨rfl, rfl⟩ hr dL_law_1233 ?_
  rintro _ M3 ⟨rfl, hM3⟩
  subst hM3
  refine x_iload hC dL_law_1236 rfl ?_
  refine x_icmp_eq (tgt := 1243) hC dL_law_1238 (by decide) (fun _ => ?_) (fun c => absurd hV6 c)
  have fin : ∀ w6 w7 w8, Wg G C M3 (kc + 22010) (ks + 80100) 1260 [some (.ref b), some (.ref x), some (.ref m), some (.ref o), some (.ref od), some (.int (nI i)), w6, w7, w8] [] := by
    intro w6 w7 w8
    refine x_goto (tgt := 4085) hC dL_law_1260 (by decide) ?_
    exact next M3 _ _ _ (hls.nx hF1 hox.1 hox.2 hR1 hF2 hm2 hS2)
  refine x_iload hC dL_law_1243 rfl ?_
  refine x_if_ne (tgt := 1260) hC dL_law_1245 (by decide) (fun _ => fin _ _ _) (fun c => ?_)
  have hv1 := hv1 c
  have hb2 := hb2 c
  have ho3 := hF2.z (by decide) ho1
  refine x_aload_n hC dL_law_1248 rfl rfl ?_
  refine x_iconst (v := 0) hC dL_law_1249 (by decide) ?_
  refine x_lald hC ho3 in01 dL_law_1250 ?_
  refine x_iload hC dL_law_1251 rfl ?_
  refine x_i2l hC dL_law_1253 rfl ?_
  refine x_lcmp hC dL_law_1254 ?_
  refine x_if_eq (tgt := 1260) hC dL_law_1255 (by decide) (fun _ => fin _ _ _) (fun c9 => absurd (lg_same (show f1 (Int32.toNatClampNeg 0) = bv.toInt64 from by rw [hb2]; exact hv1)) c9)
theorem lc_18 (hG : GOK G) (hC : Cx G C (yL nm) cL_law 9 (some .boolean) room_1) (hT0 : T0 G T) (hT1 : T1 G T) (hT2 : T2 G T) (h : XLS T b L x m o od xs M) (hi : i + 5 < L) (hL : L ≤ 144) (hr : kc + 22010 ≤ room_1.cells ∧ ks + 80100 ≤ room_1.slots) (next : LN G C T b L x m o od i xs (kc + 22010) (ks + 80100)) : Wg G C M kc ks 1263 [some (.ref b), some (.ref x), some (.ref m), some (.ref o), some (.ref od), some (.int (nI i)), v6, v7, v8] [] := by
  have hls := h
  obtain ⟨hb, hM1c, hM2c, ⟨S, P, V, A, hR, hm, hS⟩, ⟨f, ho⟩, ⟨fd, hd⟩⟩ := h
  obtain ⟨va, ha⟩ := hR.rec
  refine x_aload_n hC dL_law_1263 rfl rfl ?_
  refine x_aload_n hC dL_law_1264 rfl rfl ?_
  refine x_iload hC dL_law_1265 rfl ?_
  refine x_iconst (v := nI 1) hC dL_law_1267 (by decide) ?_
  refine x_iaddN hC dL_law_1268 ?_
  refine x_ialdN hC hb (by omega) (by first | decide | omega) dL_law_1269 ?_
  refine x_aload_n hC dL_law_1270 rfl rfl ?_
  refine x_iload hC dL_law_1271 rfl ?_
  refine x_iconst (v := nI 2) hC dL_law_1273 (by decide) ?_
  refine x_iaddN hC dL_law_1274 ?_
  refine x_ialdN hC hb (by omega) (by first | decide | omega) dL_law_1275 ?_
  refine x_aload_n hC dL_law_1276 rfl rfl ?_
  refine x_qSX (k := kc + 22010) (n := ks + 80100) (na := 4) hC (cw_sequency hG  hR ho (xs (i + 1)) (xs (i + 2))) (lw_SW q1683 q1684 q80 q1685) (by decide +kernel) rfl ⟨Nat.le_of_ble_eq_true rfl, Nat.le_of_ble_eq_true rfl⟩ rfl (Nat.le_of_ble_eq_true rfl) (Nat.le_refl _) (Nat.le_refl _) hr dL_law_1277 ?_ (fun q9 E9 M9 h9 => h9.elim)
  rintro _ M1 ⟨rfl, hR1, ⟨f1, ho1, hv1⟩, hFO⟩
  have hF1 := hFO.q ho rfl
  have hb1 := hF1.z pl0 hb
  have hm1 := hm.pl hF1
  have hox : (∃ f, M1 o = some (la 11 1 f)) ∧ (∃ f, M1 od = some (da 11 1 f)) := ⟨⟨f1, ho1⟩, xls_od hFO ho hd⟩
  refine x_istore (lv' := [_, _, _, _, _, _, _, _, _]) hC dL_law_1280 (by decide) rfl ?_
  refine x_aload_n hC dL_law_1282 rfl rfl ?_
  refine x_aload_n hC dL_law_1283 rfl rfl ?_
  refine x_iload hC dL_law_1284 rfl ?_
  refine x_iconst (v := nI 1) hC dL_law_1286 (by decide) ?_
  refine x_iaddN hC dL_law_1287 ?_
  refine x_ialdN hC hb1 (by omega) (by first | decide | omega) dL_law_1288 ?_
  refine x_aload_n hC dL_law_1289 rfl rfl ?_
  refine x_iload hC dL_law_1290 rfl ?_
  refine x_iconst (v := nI 2) hC dL_law_1292 (by decide) ?_
  refine x_iaddN hC dL_law_1293 ?_
  refine x_ialdN hC hb1 (by omega) (by first | decide | omega) dL_law_1294 ?_
  refine x_callV0 (na := 2) hC (ct_sequency hG hm1 hS (xs (i + 1)) (xs (i + 2))) (lw_V q2576 q2577 q2578 q89 q2579) hm1.1 rfl rfl (by decide +kernel) rfl ⟨Nat.le_of_ble_eq_true rfl, Nat.le_of_ble_eq_true rfl⟩ rfl (Nat.le_of_ble_eq_true rfl) ⟨rfl, rfl⟩ hr dL_law_1295 ?_
  rintro _ M2 ⟨bv, P2, V2, rfl, hb2, hm2, hF2, hS2, hV6⟩
  refine x_istore (lv' := [_, _, _, _, _, _, _, _, _]) hC dL_law_1298 (by decide) rfl ?_
  refine x_aload_n hC dL_law_1300 rfl rfl ?_
  refine x_callV0 (na := 0) hC (ct_thrown hG hm2) (lw_V q2394 q2395 q2396 q89 q2397) hm2.1 rfl rfl (by decide +kernel) rfl ⟨Nat.le_of_ble_eq_true rfl, Nat.le_of_ble_eq_true rfl⟩ rfl (Nat.le_of_ble_eq_true rfl) ⟨rfl, rfl⟩ hr dL_law_1301 ?_
  rintro _ M3 ⟨rfl, hM3⟩
  subst hM3
  refine x_iload hC dL_law_1304 rfl ?_
  refine x_icmp_eq (tgt := 1311) hC dL_law_1306 (by decide) (fun _ => ?_) (fun c => absurd hV6 c)
  have fin : ∀ w6 w7 w8, Wg G C M3 (kc + 22010) (ks + 80100) 1328 [some (.ref b), some (.ref x), some (.ref m), some (.ref o), some (.ref od), some (.int (nI i)), w6, w7, w8] [] := by
    intro w6 w7 w8
    refine x_goto (tgt := 4085) hC dL_law_1328 (by decide) ?_
    exact next M3 _ _ _ (hls.nx hF1 hox.1 hox.2 hR1 hF2 hm2 hS2)
  refine x_iload hC dL_law_1311 rfl ?_
  refine x_if_ne (tgt := 1328) hC dL_law_1313 (by decide) (fun _ => fin _ _ _) (fun c => ?_)
  have hv1 := hv1 c
  have hb2 := hb2 c
  have ho3 := hF2.z (by decide) ho1
  refine x_aload_n hC dL_law_1316 rfl rfl ?_
  refine x_iconst (v := 0) hC dL_law_1317 (by decide) ?_
  refine x_lald hC ho3 in01 dL_law_1318 ?_
  refine x_iload hC dL_law_1319 rfl ?_
  refine x_i2l hC dL_law_1321 rfl ?_
  refine x_lcmp hC dL_law_1322 ?_
  refine x_if_eq (tgt := 1328) hC dL_law_1323 (by decide) (fun _ => fin _ _ _) (fun c9 => absurd (lg_same (show f1 (Int32.toNatClampNeg 0) = bv.toInt64 from by rw [hb2]; exact hv1)) c9)
theorem lc_19 (hG : GOK G) (hC : Cx G C (yL nm) cL_law 9 (some .boolean) room_1) (hT0 : T0 G T) (hT1 : T1 G T) (hT2 : T2 G T) (h : XLS T b L x m o od xs M) (hi : i + 5 < L) (hL : L ≤ 144) (hr : kc + 22010 ≤ room_1.cells ∧ ks + 80100 ≤ room_1.slots) (next : LN G C T b L x m o od i xs (kc + 22010) (ks + 80100)) : Wg G C M kc ks 1331 [some (.ref b), some (.ref x), some (.ref m), some (.ref o), some (.ref od), some (.int (nI i)), v6, v7, v8] [] := by
  have hls := h
  obtain ⟨hb, hM1c, hM2c, ⟨S, P, V, A, hR, hm, hS⟩, ⟨f, ho⟩, ⟨fd, hd⟩⟩ := h
  obtain ⟨va, ha⟩ := hR.rec
  refine x_aload_n hC dL_law_1331 rfl rfl ?_
  refine x_aload_n hC dL_law_1332 rfl rfl ?_
  refine x_iload hC dL_law_1333 rfl ?_
  refine x_iconst (v := nI 1) hC dL_law_1335 (by decide) ?_
  refine x_iaddN hC dL_law_1336 ?_
  refine x_ialdN hC hb (by omega) (by first | decide | omega) dL_law_1337 ?_
  refine x_aload_n hC dL_law_1338 rfl rfl ?_
  refine x_iload hC dL_law_1339 rfl ?_
  refine x_iconst (v := nI 2) hC dL_law_1341 (by decide) ?_
  refine x_iaddN hC dL_law_1342 ?_
  refine x_ialdN hC hb (by omega) (by first | decide | omega) dL_law_1343 ?_
  refine x_aload_n hC dL_law_1344 rfl rfl ?_
  refine x_qSX (k := kc + 22010) (n := ks + 80100) (na := 4) hC (cw_indexOfSequency hG  hR ho (xs (i + 1)) (xs (i + 2))) (lw_SW q1696 q1697 q80 q1698) (by decide +kernel) rfl ⟨Nat.le_of_ble_eq_true rfl, Nat.le_of_ble_eq_true rfl⟩ rfl (Nat.le_of_ble_eq_true rfl) (Nat.le_refl _) (Nat.le_refl _) hr dL_law_1345 ?_ (fun q9 E9 M9 h9 => h9.elim)
  rintro _ M1 ⟨rfl, hR1, ⟨f1, ho1, hv1⟩, hFO⟩
  have hF1 := hFO.q ho rfl
  have hb1 := hF1.z pl0 hb
  have hm1 := hm.pl hF1
  have hox : (∃ f, M1 o = some (la 11 1 f)) ∧ (∃ f, M1 od = some (da 11 1 f)) := ⟨⟨f1, ho1⟩, xls_od hFO ho hd⟩
  refine x_istore (lv' := [_, _, _, _, _, _, _, _, _]) hC dL_law_1348 (by decide) rfl ?_
  refine x_aload_n hC dL_law_1350 rfl rfl ?_
  refine x_aload_n hC dL_law_1351 rfl rfl ?_
  refine x_iload hC dL_law_1352 rfl ?_
  refine x_iconst (v := nI 1) hC dL_law_1354 (by decide) ?_
  refine x_iaddN hC dL_law_1355 ?_
  refine x_ialdN hC hb1 (by omega) (by first | decide | omega) dL_law_1356 ?_
  refine x_aload_n hC dL_law_1357 rfl rfl ?_
  refine x_iload hC dL_law_1358 rfl ?_
  refine x_iconst (v := nI 2) hC dL_law_1360 (by decide) ?_
  refine x_iaddN hC dL_law_1361 ?_
  refine x_ialdN hC hb1 (by omega) (by first | decide | omega) dL_law_1362 ?_
  refine x_callV0 (na := 2) hC (ct_indexOfSequency hG hm1 hS (xs (i + 1)) (xs (i + 2))) (lw_V q2583 q2584 q2585 q89 q2586) hm1.1 rfl rfl (by decide +kernel) rfl ⟨Nat.le_of_ble_eq_true rfl, Nat.le_of_ble_eq_true rfl⟩ rfl (Nat.le_of_ble_eq_true rfl) ⟨rfl, rfl⟩ hr dL_law_1363 ?_
  rintro _ M2 ⟨bv, P2, V2, rfl, hb2, hm2, hF2, hS2, hV6⟩
  refine x_istore (lv' := [_, _, _, _, _, _, _, _, _]) hC dL_law_1366 (by decide) rfl ?_
  refine x_aload_n hC dL_law_1368 rfl rfl ?_
  refine x_callV0 (na := 0) hC (ct_thrown hG hm2) (lw_V q2394 q2395 q2396 q89 q2397) hm2.1 rfl rfl (by decide +kernel) rfl ⟨Nat.le_of_ble_eq_true rfl, Nat.le_of_ble_eq_true rfl⟩ rfl (Nat.le_of_ble_eq_true rfl) ⟨rfl, rfl⟩ hr dL_law_1369 ?_
  rintro _ M3 ⟨rfl, hM3⟩
  subst hM3
  refine x_iload hC dL_law_1372 rfl ?_
  refine x_icmp_eq (tgt := 1379) hC dL_law_1374 (by decide) (fun _ => ?_) (fun c => absurd hV6 c)
  have fin : ∀ w6 w7 w8, Wg G C M3 (kc + 22010) (ks + 80100) 1396 [some (.ref b), some (.ref x), some (.ref m), some (.ref o), some (.ref od), some (.int (nI i)), w6, w7, w8] [] := by
    intro w6 w7 w8
    refine x_goto (tgt := 4085) hC dL_law_1396 (by decide) ?_
    exact next M3 _ _ _ (hls.nx hF1 hox.1 hox.2 hR1 hF2 hm2 hS2)
  refine x_iload hC dL_law_1379 rfl ?_
  refine x_if_ne (tgt := 1396) hC dL_law_1381 (by decide) (fun _ => fin _ _ _) (fun c => ?_)
  have hv1 := hv1 c
  have hb2 := hb2 c
  have ho3 := hF2.z (by decide) ho1
  refine x_aload_n hC dL_law_1384 rfl rfl ?_
  refine x_iconst (v := 0) hC dL_law_1385 (by decide) ?_
  refine x_lald hC ho3 in01 dL_law_1386 ?_
  refine x_iload hC dL_law_1387 rfl ?_
  refine x_i2l hC dL_law_1389 rfl ?_
  refine x_lcmp hC dL_law_1390 ?_
  refine x_if_eq (tgt := 1396) hC dL_law_1391 (by decide) (fun _ => fin _ _ _) (fun c9 => absurd (lg_same (show f1 (Int32.toNatClampNeg 0) = bv.toInt64 from by rw [hb2]; exact hv1)) c9)
theorem lc_20 (hG : GOK G) (hC : Cx G C (yL nm) cL_law 9 (some .boolean) room_1) (hT0 : T0 G T) (hT1 : T1 G T) (hT2 : T2 G T) (h : XLS T b L x m o od xs M) (hi : i + 5 < L) (hL : L ≤ 144) (hr : kc + 22010 ≤ room_1.cells ∧ ks + 80100 ≤ room_1.slots) (next : LN G C T b L x m o od i xs (kc + 22010) (ks + 80100)) : Wg G C M kc ks 1399 [some (.ref b), some (.ref x), some (.ref m), some (.ref o), some (.ref od), some (.int (nI i)), v6, v7, v8] [] := by
  have hls := h
  obtain ⟨hb, hM1c, hM2c, ⟨S, P, V, A, hR, hm, hS⟩, ⟨f, ho⟩, ⟨fd, hd⟩⟩ := h
  obtain ⟨va, ha⟩ := hR.rec
  refine x_aload_n hC dL_law_1399 rfl rfl ?_
  refine x_aload_n hC dL_law_1400 rfl rfl ?_
  refine x_iload hC dL_law_1401 rfl ?_
  refine x_iconst (v := nI 1) hC dL_law_1403 (by decide) ?_
  refine x_iaddN hC dL_law_1404 ?_
  refine x_ialdN hC hb (by omega) (by first | decide | omega) dL_law_1405 ?_
  refine x_aload_n hC dL_law_1406 rfl rfl ?_
  refine x_iload hC dL_law_1407 rfl ?_
  refine x_iconst (v := nI 2) hC dL_law_1409 (by decide) ?_
  refine x_iaddN hC dL_law_1410 ?_
  refine x_ialdN hC hb (by omega) (by first | decide | omega) dL_law_1411 ?_
  refine x_aload_n hC dL_law_1412 rfl rfl ?_
  refine x_qSX (k := kc + 22010) (n := ks + 80100) (na := 4) hC (cw_coefficient hG  hR ho (xs (i + 1)) (xs (i + 2))) (lw_SW q1706 q1707 q80 q1708) (by decide +kernel) rfl ⟨Nat.le_of_ble_eq_true rfl, Nat.le_of_ble_eq_true rfl⟩ rfl (Nat.le_of_ble_eq_true rfl) (Nat.le_refl _) (Nat.le_refl _) hr dL_law_1413 ?_ (fun q9 E9 M9 h9 => h9.elim)
  rintro _ M1 ⟨rfl, hR1, ⟨f1, ho1, hv1⟩, hFO⟩
  have hF1 := hFO.q ho rfl
  have hb1 := hF1.z pl0 hb
  have hm1 := hm.pl hF1
  have hox : (∃ f, M1 o = some (la 11 1 f)) ∧ (∃ f, M1 od = some (da 11 1 f)) := ⟨⟨f1, ho1⟩, xls_od hFO ho hd⟩
  refine x_istore (lv' := [_, _, _, _, _, _, _, _, _]) hC dL_law_1416 (by decide) rfl ?_
  refine x_aload_n hC dL_law_1418 rfl rfl ?_
  refine x_aload_n hC dL_law_1419 rfl rfl ?_
  refine x_iload hC dL_law_1420 rfl ?_
  refine x_iconst (v := nI 1) hC dL_law_1422 (by decide) ?_
  refine x_iaddN hC dL_law_1423 ?_
  refine x_ialdN hC hb1 (by omega) (by first | decide | omega) dL_law_1424 ?_
  refine x_aload_n hC dL_law_1425 rfl rfl ?_
  refine x_iload hC dL_law_1426 rfl ?_
  refine x_iconst (v := nI 2) hC dL_law_1428 (by decide) ?_
  refine x_iaddN hC dL_law_1429 ?_
  refine x_ialdN hC hb1 (by omega) (by first | decide | omega) dL_law_1430 ?_
  refine x_callV0 (na := 2) hC (ct_coefficient hG hm1 hS (xs (i + 1)) (xs (i + 2))) (lw_V q2587 q2588 q2589 q89 q2590) hm1.1 rfl rfl (by decide +kernel) rfl ⟨Nat.le_of_ble_eq_true rfl, Nat.le_of_ble_eq_true rfl⟩ rfl (Nat.le_of_ble_eq_true rfl) ⟨rfl, rfl⟩ hr dL_law_1431 ?_
  rintro _ M2 ⟨bv, P2, V2, rfl, hb2, hm2, hF2, hS2, hV6⟩
  refine x_istore (lv' := [_, _, _, _, _, _, _, _, _]) hC dL_law_1434 (by decide) rfl ?_
  refine x_aload_n hC dL_law_1436 rfl rfl ?_
  refine x_callV0 (na := 0) hC (ct_thrown hG hm2) (lw_V q2394 q2395 q2396 q89 q2397) hm2.1 rfl rfl (by decide +kernel) rfl ⟨Nat.le_of_ble_eq_true rfl, Nat.le_of_ble_eq_true rfl⟩ rfl (Nat.le_of_ble_eq_true rfl) ⟨rfl, rfl⟩ hr dL_law_1437 ?_
  rintro _ M3 ⟨rfl, hM3⟩
  subst hM3
  refine x_iload hC dL_law_1440 rfl ?_
  refine x_icmp_eq (tgt := 1447) hC dL_law_1442 (by decide) (fun _ => ?_) (fun c => absurd hV6 c)
  have fin : ∀ w6 w7 w8, Wg G C M3 (kc + 22010) (ks + 80100) 1464 [some (.ref b), some (.ref x), some (.ref m), some (.ref o), some (.ref od), some (.int (nI i)), w6, w7, w8] [] := by
    intro w6 w7 w8
    refine x_goto (tgt := 4085) hC dL_law_1464 (by decide) ?_
    exact next M3 _ _ _ (hls.nx hF1 hox.1 hox.2 hR1 hF2 hm2 hS2)
  refine x_iload hC dL_law_1447 rfl ?_
  refine x_if_ne (tgt := 1464) hC dL_law_1449 (by decide) (fun _ => fin _ _ _) (fun c => ?_)
  have hv1 := hv1 c
  have hb2 := hb2 c
  have ho3 := hF2.z (by decide) ho1
  refine x_aload_n hC dL_law_1452 rfl rfl ?_
  refine x_iconst (v := 0) hC dL_law_1453 (by decide) ?_
  refine x_lald hC ho3 in01 dL_law_1454 ?_
  refine x_iload hC dL_law_1455 rfl ?_
  refine x_i2l hC dL_law_1457 rfl ?_
  refine x_lcmp hC dL_law_1458 ?_
  refine x_if_eq (tgt := 1464) hC dL_law_1459 (by decide) (fun _ => fin _ _ _) (fun c9 => absurd (lg_same (show f1 (Int32.toNatClampNeg 0) = bv.toInt64 from by rw [hb2]; exact hv1)) c9)
theorem lc_21 (hG : GOK G) (hC : Cx G C (yL nm) cL_law 9 (some .boolean) room_1) (hT0 : T0 G T) (hT1 : T1 G T) (hT2 : T2 G T) (h : XLS T b L x m o od xs M) (hi : i + 5 < L) (hL : L ≤ 144) (hr : kc + 22010 ≤ room_1.cells ∧ ks + 80100 ≤ room_1.slots) (next : LN G C T b L x m o od i xs (kc + 22010) (ks + 80100)) : Wg G C M kc ks 1467 [some (.ref b), some (.ref x), some (.ref m), some (.ref o), some (.ref od), some (.int (nI i)), v6, v7, v8] [] := by
  have hls := h
  obtain ⟨hb, hM1c, hM2c, ⟨S, P, V, A, hR, hm, hS⟩, ⟨f, ho⟩, ⟨fd, hd⟩⟩ := h
  obtain ⟨va, ha⟩ := hR.rec
  refine x_aload_n hC dL_law_1467 rfl rfl ?_
  refine x_aload_n hC dL_law_1468 rfl rfl ?_
  refine x_iload hC dL_law_1469 rfl ?_
  refine x_iconst (v := nI 1) hC dL_law_1471 (by decide) ?_
  refine x_iaddN hC dL_law_1472 ?_
  refine x_ialdN hC hb (by omega) (by first | decide | omega) dL_law_1473 ?_
  refine x_aload_n hC dL_law_1474 rfl rfl ?_
  refine x_qSX (k := kc + 22010) (n := ks + 80100) (na := 3) hC (cw_tones hG  hR ho (xs (i + 1))) (lw_SW q1725 q1726 q80 q1727) (by decide +kernel) rfl ⟨Nat.le_of_ble_eq_true rfl, Nat.le_of_ble_eq_true rfl⟩ rfl (Nat.le_of_ble_eq_true rfl) (Nat.le_refl _) (Nat.le_refl _) hr dL_law_1475 ?_ (fun q9 E9 M9 h9 => h9.elim)
  rintro _ M1 ⟨rfl, hR1, ⟨f1, ho1, hv1⟩, hFO⟩
  have hF1 := hFO.q ho rfl
  have hb1 := hF1.z pl0 hb
  have hm1 := hm.pl hF1
  have hox : (∃ f, M1 o = some (la 11 1 f)) ∧ (∃ f, M1 od = some (da 11 1 f)) := ⟨⟨f1, ho1⟩, xls_od hFO ho hd⟩
  refine x_istore (lv' := [_, _, _, _, _, _, _, _, _]) hC dL_law_1478 (by decide) rfl ?_
  refine x_aload_n hC dL_law_1480 rfl rfl ?_
  refine x_aload_n hC dL_law_1481 rfl rfl ?_
  refine x_iload hC dL_law_1482 rfl ?_
  refine x_iconst (v := nI 1) hC dL_law_1484 (by decide) ?_
  refine x_iaddN hC dL_law_1485 ?_
  refine x_ialdN hC hb1 (by omega) (by first | decide | omega) dL_law_1486 ?_
  refine x_callV0 (na := 1) hC (ct_tones hG hm1 hS (xs (i + 1))) (lw_V q2595 q2596 q2597 q89 q2598) hm1.1 rfl rfl (by decide +kernel) rfl ⟨Nat.le_of_ble_eq_true rfl, Nat.le_of_ble_eq_true rfl⟩ rfl (Nat.le_of_ble_eq_true rfl) ⟨rfl, rfl⟩ hr dL_law_1487 ?_
  rintro _ M2 ⟨bv, P2, V2, rfl, hb2, hm2, hF2, hS2, hV6⟩
  refine x_istore (lv' := [_, _, _, _, _, _, _, _, _]) hC dL_law_1490 (by decide) rfl ?_
  refine x_aload_n hC dL_law_1492 rfl rfl ?_
  refine x_callV0 (na := 0) hC (ct_thrown hG hm2) (lw_V q2394 q2395 q2396 q89 q2397) hm2.1 rfl rfl (by decide +kernel) rfl ⟨Nat.le_of_ble_eq_true rfl, Nat.le_of_ble_eq_true rfl⟩ rfl (Nat.le_of_ble_eq_true rfl) ⟨rfl, rfl⟩ hr dL_law_1493 ?_
  rintro _ M3 ⟨rfl, hM3⟩
  subst hM3
  refine x_iload hC dL_law_1496 rfl ?_
  refine x_icmp_eq (tgt := 1503) hC dL_law_1498 (by decide) (fun _ => ?_) (fun c => absurd hV6 c)
  have fin : ∀ w6 w7 w8, Wg G C M3 (kc + 22010) (ks + 80100) 1520 [some (.ref b), some (.ref x), some (.ref m), some (.ref o), some (.ref od), some (.int (nI i)), w6, w7, w8] [] := by
    intro w6 w7 w8
    refine x_goto (tgt := 4085) hC dL_law_1520 (by decide) ?_
    exact next M3 _ _ _ (hls.nx hF1 hox.1 hox.2 hR1 hF2 hm2 hS2)
  refine x_iload hC dL_law_1503 rfl ?_
  refine x_if_ne (tgt := 1520) hC dL_law_1505 (by decide) (fun _ => fin _ _ _) (fun c => ?_)
  have hv1 := hv1 c
  have hb2 := hb2 c
  have ho3 := hF2.z (by decide) ho1
  refine x_aload_n hC dL_law_1508 rfl rfl ?_
  refine x_iconst (v := 0) hC dL_law_1509 (by decide) ?_
  refine x_lald hC ho3 in01 dL_law_1510 ?_
  refine x_iload hC dL_law_1511 rfl ?_
  refine x_i2l hC dL_law_1513 rfl ?_
  refine x_lcmp hC dL_law_1514 ?_
  refine x_if_eq (tgt := 1520) hC dL_law_1515 (by decide) (fun _ => fin _ _ _) (fun c9 => absurd (lg_same (show f1 (Int32.toNatClampNeg 0) = bv.toInt64 from by rw [hb2]; exact hv1)) c9)
theorem lc_22 (hG : GOK G) (hC : Cx G C (yL nm) cL_law 9 (some .boolean) room_1) (hT0 : T0 G T) (hT1 : T1 G T) (hT2 : T2 G T) (h : XLS T b L x m o od xs M) (hi : i + 5 < L) (hL : L ≤ 144) (hr : kc + 22010 ≤ room_1.cells ∧ ks + 80100 ≤ room_1.slots) (next : LN G C T b L x m o od i xs (kc + 22010) (ks + 80100)) : Wg G C M kc ks 1523 [some (.ref b), some (.ref x), some (.ref m), some (.ref o), some (.ref od), some (.int (nI i)), v6, v7, v8] [] := by
  have hls := h
  obtain ⟨hb, hM1c, hM2c, ⟨S, P, V, A, hR, hm, hS⟩, ⟨f, ho⟩, ⟨fd, hd⟩⟩ := h
  obtain ⟨va, ha⟩ := hR.rec
  refine x_aload_n hC dL_law_1523 rfl rfl ?_
  refine x_aload_n hC dL_law_1524 rfl rfl ?_
  refine x_iload hC dL_law_1525 rfl ?_
  refine x_iconst (v := nI 1) hC dL_law_1527 (by decide) ?_
  refine x_iaddN hC dL_law_1528 ?_
  refine x_ialdN hC hb (by omega) (by first | decide | omega) dL_law_1529 ?_
  refine x_aload_n hC dL_law_1530 rfl rfl ?_
  refine x_iload hC dL_law_1531 rfl ?_
  refine x_iconst (v := nI 2) hC dL_law_1533 (by decide) ?_
  refine x_iaddN hC dL_law_1534 ?_
  refine x_ialdN hC hb (by omega) (by first | decide | omega) dL_law_1535 ?_
  refine x_aload_n hC dL_law_1536 rfl rfl ?_
  refine x_iload hC dL_law_1537 rfl ?_
  refine x_iconst (v := nI 3) hC dL_law_1539 (by decide) ?_
  refine x_iaddN hC dL_law_1540 ?_
  refine x_ialdN hC hb (by omega) (by first | decide | omega) dL_law_1541 ?_
  refine x_aload_n hC dL_law_1542 rfl rfl ?_
  refine x_qSX (k := kc + 22010) (n := ks + 80100) (na := 5) hC (cw_bandEnergy hG  hR ho (xs (i + 1)) (xs (i + 2)) (xs (i + 3))) (lw_SW q1732 q1733 q80 q1734) (by decide +kernel) rfl ⟨Nat.le_of_ble_eq_true rfl, Nat.le_of_ble_eq_true rfl⟩ rfl (Nat.le_of_ble_eq_true rfl) (Nat.le_refl _) (Nat.le_refl _) hr dL_law_1543 ?_ (fun q9 E9 M9 h9 => h9.elim)
  rintro _ M1 ⟨rfl, hR1, ⟨f1, ho1, hv1⟩, hFO⟩
  have hF1 := hFO.q ho rfl
  have hb1 := hF1.z pl0 hb
  have hm1 := hm.pl hF1
  have hox : (∃ f, M1 o = some (la 11 1 f)) ∧ (∃ f, M1 od = some (da 11 1 f)) := ⟨⟨f1, ho1⟩, xls_od hFO ho hd⟩
  refine x_istore (lv' := [_, _, _, _, _, _, _, _, _]) hC dL_law_1546 (by decide) rfl ?_
  refine x_aload_n hC dL_law_1548 rfl rfl ?_
  refine x_aload_n hC dL_law_1549 rfl rfl ?_
  refine x_iload hC dL_law_1550 rfl ?_
  refine x_iconst (v := nI 1) hC dL_law_1552 (by decide) ?_
  refine x_iaddN hC dL_law_1553 ?_
  refine x_ialdN hC hb1 (by omega) (by first | decide | omega) dL_law_1554 ?_
  refine x_aload_n hC dL_law_1555 rfl rfl ?_
  refine x_iload hC dL_law_1556 rfl ?_
  refine x_iconst (v := nI 2) hC dL_law_1558 (by decide) ?_
  refine x_iaddN hC dL_law_1559 ?_
  refine x_ialdN hC hb1 (by omega) (by first | decide | omega) dL_law_1560 ?_
  refine x_aload_n hC dL_law_1561 rfl rfl ?_
  refine x_iload hC dL_law_1562 rfl ?_
  refine x_iconst (v := nI 3) hC dL_law_1564 (by decide) ?_
  refine x_iaddN hC dL_law_1565 ?_
  refine x_ialdN hC hb1 (by omega) (by first | decide | omega) dL_law_1566 ?_
  refine x_callV0 (na := 3) hC (ct_bandEnergy hG hm1 hS (xs (i + 1)) (xs (i + 2)) (xs (i + 3))) (lw_V q2599 q2600 q2601 q89 q2602) hm1.1 rfl rfl (by decide +kernel) rfl ⟨Nat.le_of_ble_eq_true rfl, Nat.le_of_ble_eq_true rfl⟩ rfl (Nat.le_of_ble_eq_true rfl) ⟨rfl, rfl⟩ hr dL_law_1567 ?_
  rintro _ M2 ⟨bv, P2, V2, rfl, hb2, hm2, hF2, hS2, hV6⟩
  refine x_lstore (lv' := [_, _, _, _, _, _, _, _, _]) hC dL_law_1570 (by decide) rfl ?_
  refine x_aload_n hC dL_law_1572 rfl rfl ?_
  refine x_callV0 (na := 0) hC (ct_thrown hG hm2) (lw_V q2394 q2395 q2396 q89 q2397) hm2.1 rfl rfl (by decide +kernel) rfl ⟨Nat.le_of_ble_eq_true rfl, Nat.le_of_ble_eq_true rfl⟩ rfl (Nat.le_of_ble_eq_true rfl) ⟨rfl, rfl⟩ hr dL_law_1573 ?_
  rintro _ M3 ⟨rfl, hM3⟩
  subst hM3
  refine x_iload hC dL_law_1576 rfl ?_
  refine x_icmp_eq (tgt := 1583) hC dL_law_1578 (by decide) (fun _ => ?_) (fun c => absurd hV6 c)
  have fin : ∀ w6 w7 w8, Wg G C M3 (kc + 22010) (ks + 80100) 1599 [some (.ref b), some (.ref x), some (.ref m), some (.ref o), some (.ref od), some (.int (nI i)), w6, w7, w8] [] := by
    intro w6 w7 w8
    refine x_goto (tgt := 4085) hC dL_law_1599 (by decide) ?_
    exact next M3 _ _ _ (hls.nx hF1 hox.1 hox.2 hR1 hF2 hm2 hS2)
  refine x_iload hC dL_law_1583 rfl ?_
  refine x_if_ne (tgt := 1599) hC dL_law_1585 (by decide) (fun _ => fin _ _ _) (fun c => ?_)
  have hv1 := hv1 c
  have hb2 := hb2 c
  have ho3 := hF2.z (by decide) ho1
  refine x_aload_n hC dL_law_1588 rfl rfl ?_
  refine x_iconst (v := 0) hC dL_law_1589 (by decide) ?_
  refine x_lald hC ho3 in01 dL_law_1590 ?_
  refine x_lload hC dL_law_1591 rfl ?_
  refine x_lcmp hC dL_law_1593 ?_
  refine x_if_eq (tgt := 1599) hC dL_law_1594 (by decide) (fun _ => fin _ _ _) (fun c9 => absurd (lg_same (show f1 (Int32.toNatClampNeg 0) = bv from by rw [hb2]; exact hv1)) c9)
theorem lc_23 (hG : GOK G) (hC : Cx G C (yL nm) cL_law 9 (some .boolean) room_1) (hT0 : T0 G T) (hT1 : T1 G T) (hT2 : T2 G T) (h : XLS T b L x m o od xs M) (hi : i + 5 < L) (hL : L ≤ 144) (hr : kc + 22010 ≤ room_1.cells ∧ ks + 80100 ≤ room_1.slots) (next : LN G C T b L x m o od i xs (kc + 22010) (ks + 80100)) : Wg G C M kc ks 1602 [some (.ref b), some (.ref x), some (.ref m), some (.ref o), some (.ref od), some (.int (nI i)), v6, v7, v8] [] := by
  have hls := h
  obtain ⟨hb, hM1c, hM2c, ⟨S, P, V, A, hR, hm, hS⟩, ⟨f, ho⟩, ⟨fd, hd⟩⟩ := h
  obtain ⟨va, ha⟩ := hR.rec
  refine x_aload_n hC dL_law_1602 rfl rfl ?_
  refine x_aload_n hC dL_law_1603 rfl rfl ?_
  refine x_iload hC dL_law_1604 rfl ?_
  refine x_iconst (v := nI 1) hC dL_law_1606 (by decide) ?_
  refine x_iaddN hC dL_law_1607 ?_
  refine x_ialdN hC hb (by omega) (by first | decide | omega) dL_law_1608 ?_
  refine x_aload_n hC dL_law_1609 rfl rfl ?_
  refine x_iload hC dL_law_1610 rfl ?_
  refine x_iconst (v := nI 2) hC dL_law_1612 (by decide) ?_
  refine x_iaddN hC dL_law_1613 ?_
  refine x_ialdN hC hb (by omega) (by first | decide | omega) dL_law_1614 ?_
  refine x_aload_n hC dL_law_1615 rfl rfl ?_
  refine x_qSX (k := kc + 22010) (n := ks + 80100) (na := 4) hC (cw_strongestBand hG  hR ho (xs (i + 1)) (xs (i + 2))) (lw_SW q1757 q1758 q80 q1759) (by decide +kernel) rfl ⟨Nat.le_of_ble_eq_true rfl, Nat.le_of_ble_eq_true rfl⟩ rfl (Nat.le_of_ble_eq_true rfl) (Nat.le_refl _) (Nat.le_refl _) hr dL_law_1616 ?_ (fun q9 E9 M9 h9 => h9.elim)
  rintro _ M1 ⟨rfl, hR1, ⟨f1, ho1, hv1⟩, hFO⟩
  have hF1 := hFO.q ho rfl
  have hb1 := hF1.z pl0 hb
  have hm1 := hm.pl hF1
  have hox : (∃ f, M1 o = some (la 11 1 f)) ∧ (∃ f, M1 od = some (da 11 1 f)) := ⟨⟨f1, ho1⟩, xls_od hFO ho hd⟩
  refine x_istore (lv' := [_, _, _, _, _, _, _, _, _]) hC dL_law_1619 (by decide) rfl ?_
  refine x_aload_n hC dL_law_1621 rfl rfl ?_
  refine x_aload_n hC dL_law_1622 rfl rfl ?_
  refine x_iload hC dL_law_1623 rfl ?_
  refine x_iconst (v := nI 1) hC dL_law_1625 (by decide) ?_
  refine x_iaddN hC dL_law_1626 ?_
  refine x_ialdN hC hb1 (by omega) (by first | decide | omega) dL_law_1627 ?_
  refine x_aload_n hC dL_law_1628 rfl rfl ?_
  refine x_iload hC dL_law_1629 rfl ?_
  refine x_iconst (v := nI 2) hC dL_law_1631 (by decide) ?_
  refine x_iaddN hC dL_law_1632 ?_
  refine x_ialdN hC hb1 (by omega) (by first | decide | omega) dL_law_1633 ?_
  refine x_callV0 (na := 2) hC (ct_strongestBand hG hm1 hS (xs (i + 1)) (xs (i + 2))) (lw_V q2615 q2616 q2617 q89 q2618) hm1.1 rfl rfl (by decide +kernel) rfl ⟨Nat.le_of_ble_eq_true rfl, Nat.le_of_ble_eq_true rfl⟩ rfl (Nat.le_of_ble_eq_true rfl) ⟨rfl, rfl⟩ hr dL_law_1634 ?_
  rintro _ M2 ⟨bv, P2, V2, rfl, hb2, hm2, hF2, hS2, hV6⟩
  refine x_istore (lv' := [_, _, _, _, _, _, _, _, _]) hC dL_law_1637 (by decide) rfl ?_
  refine x_aload_n hC dL_law_1639 rfl rfl ?_
  refine x_callV0 (na := 0) hC (ct_thrown hG hm2) (lw_V q2394 q2395 q2396 q89 q2397) hm2.1 rfl rfl (by decide +kernel) rfl ⟨Nat.le_of_ble_eq_true rfl, Nat.le_of_ble_eq_true rfl⟩ rfl (Nat.le_of_ble_eq_true rfl) ⟨rfl, rfl⟩ hr dL_law_1640 ?_
  rintro _ M3 ⟨rfl, hM3⟩
  subst hM3
  refine x_iload hC dL_law_1643 rfl ?_
  refine x_icmp_eq (tgt := 1650) hC dL_law_1645 (by decide) (fun _ => ?_) (fun c => absurd hV6 c)
  have fin : ∀ w6 w7 w8, Wg G C M3 (kc + 22010) (ks + 80100) 1667 [some (.ref b), some (.ref x), some (.ref m), some (.ref o), some (.ref od), some (.int (nI i)), w6, w7, w8] [] := by
    intro w6 w7 w8
    refine x_goto (tgt := 4085) hC dL_law_1667 (by decide) ?_
    exact next M3 _ _ _ (hls.nx hF1 hox.1 hox.2 hR1 hF2 hm2 hS2)
  refine x_iload hC dL_law_1650 rfl ?_
  refine x_if_ne (tgt := 1667) hC dL_law_1652 (by decide) (fun _ => fin _ _ _) (fun c => ?_)
  have hv1 := hv1 c
  have hb2 := hb2 c
  have ho3 := hF2.z (by decide) ho1
  refine x_aload_n hC dL_law_1655 rfl rfl ?_
  refine x_iconst (v := 0) hC dL_law_1656 (by decide) ?_
  refine x_lald hC ho3 in01 dL_law_1657 ?_
  refine x_iload hC dL_law_1658 rfl ?_
  refine x_i2l hC dL_law_1660 rfl ?_
  refine x_lcmp hC dL_law_1661 ?_
  refine x_if_eq (tgt := 1667) hC dL_law_1662 (by decide) (fun _ => fin _ _ _) (fun c9 => absurd (lg_same (show f1 (Int32.toNatClampNeg 0) = bv.toInt64 from by rw [hb2]; exact hv1)) c9)
theorem lc_24 (hG : GOK G) (hC : Cx G C (yL nm) cL_law 9 (some .boolean) room_1) (hT0 : T0 G T) (hT1 : T1 G T) (hT2 : T2 G T) (h : XLS T b L x m o od xs M) (hi : i + 5 < L) (hL : L ≤ 144) (hr : kc + 22010 ≤ room_1.cells ∧ ks + 80100 ≤ room_1.slots) (next : LN G C T b L x m o od i xs (kc + 22010) (ks + 80100)) : Wg G C M kc ks 1670 [some (.ref b), some (.ref x), some (.ref m), some (.ref o), some (.ref od), some (.int (nI i)), v6, v7, v8] [] := by
  have hls := h
  obtain ⟨hb, hM1c, hM2c, ⟨S, P, V, A, hR, hm, hS⟩, ⟨f, ho⟩, ⟨fd, hd⟩⟩ := h
  obtain ⟨va, ha⟩ := hR.rec
  refine x_aload_n hC dL_law_1670 rfl rfl ?_
  refine x_aload_n hC dL_law_1671 rfl rfl ?_
  refine x_iload hC dL_law_1672 rfl ?_
  refine x_iconst (v := nI 1) hC dL_law_1674 (by decide) ?_
  refine x_iaddN hC dL_law_1675 ?_
  refine x_ialdN hC hb (by omega) (by first | decide | omega) dL_law_1676 ?_
  refine x_aload_n hC dL_law_1677 rfl rfl ?_
  refine x_iload hC dL_law_1678 rfl ?_
  refine x_iconst (v := nI 2) hC dL_law_1680 (by decide) ?_
  refine x_iaddN hC dL_law_1681 ?_
  refine x_ialdN hC hb (by omega) (by first | decide | omega) dL_law_1682 ?_
  refine x_aload_n hC dL_law_1683 rfl rfl ?_
  refine x_qSX (k := kc + 22010) (n := ks + 80100) (na := 4) hC (cw_tonesAbove hG  hR ho (xs (i + 1)) (xs (i + 2))) (lw_SW q1769 q1770 q80 q1771) (by decide +kernel) rfl ⟨Nat.le_of_ble_eq_true rfl, Nat.le_of_ble_eq_true rfl⟩ rfl (Nat.le_of_ble_eq_true rfl) (Nat.le_refl _) (Nat.le_refl _) hr dL_law_1684 ?_ (fun q9 E9 M9 h9 => h9.elim)
  rintro _ M1 ⟨rfl, hR1, ⟨f1, ho1, hv1⟩, hFO⟩
  have hF1 := hFO.q ho rfl
  have hb1 := hF1.z pl0 hb
  have hm1 := hm.pl hF1
  have hox : (∃ f, M1 o = some (la 11 1 f)) ∧ (∃ f, M1 od = some (da 11 1 f)) := ⟨⟨f1, ho1⟩, xls_od hFO ho hd⟩
  refine x_istore (lv' := [_, _, _, _, _, _, _, _, _]) hC dL_law_1687 (by decide) rfl ?_
  refine x_aload_n hC dL_law_1689 rfl rfl ?_
  refine x_aload_n hC dL_law_1690 rfl rfl ?_
  refine x_iload hC dL_law_1691 rfl ?_
  refine x_iconst (v := nI 1) hC dL_law_1693 (by decide) ?_
  refine x_iaddN hC dL_law_1694 ?_
  refine x_ialdN hC hb1 (by omega) (by first | decide | omega) dL_law_1695 ?_
  refine x_aload_n hC dL_law_1696 rfl rfl ?_
  refine x_iload hC dL_law_1697 rfl ?_
  refine x_iconst (v := nI 2) hC dL_law_1699 (by decide) ?_
  refine x_iaddN hC dL_law_1700 ?_
  refine x_ialdN hC hb1 (by omega) (by first | decide | omega) dL_law_1701 ?_
  refine x_callV0 (na := 2) hC (ct_tonesAbove hG hm1 hS (xs (i + 1)) (xs (i + 2))) (lw_V q2623 q2624 q2625 q89 q2626) hm1.1 rfl rfl (by decide +kernel) rfl ⟨Nat.le_of_ble_eq_true rfl, Nat.le_of_ble_eq_true rfl⟩ rfl (Nat.le_of_ble_eq_true rfl) ⟨rfl, rfl⟩ hr dL_law_1702 ?_
  rintro _ M2 ⟨bv, P2, V2, rfl, hb2, hm2, hF2, hS2, hV6⟩
  refine x_istore (lv' := [_, _, _, _, _, _, _, _, _]) hC dL_law_1705 (by decide) rfl ?_
  refine x_aload_n hC dL_law_1707 rfl rfl ?_
  refine x_callV0 (na := 0) hC (ct_thrown hG hm2) (lw_V q2394 q2395 q2396 q89 q2397) hm2.1 rfl rfl (by decide +kernel) rfl ⟨Nat.le_of_ble_eq_true rfl, Nat.le_of_ble_eq_true rfl⟩ rfl (Nat.le_of_ble_eq_true rfl) ⟨rfl, rfl⟩ hr dL_law_1708 ?_
  rintro _ M3 ⟨rfl, hM3⟩
  subst hM3
  refine x_iload hC dL_law_1711 rfl ?_
  refine x_icmp_eq (tgt := 1718) hC dL_law_1713 (by decide) (fun _ => ?_) (fun c => absurd hV6 c)
  have fin : ∀ w6 w7 w8, Wg G C M3 (kc + 22010) (ks + 80100) 1735 [some (.ref b), some (.ref x), some (.ref m), some (.ref o), some (.ref od), some (.int (nI i)), w6, w7, w8] [] := by
    intro w6 w7 w8
    refine x_goto (tgt := 4085) hC dL_law_1735 (by decide) ?_
    exact next M3 _ _ _ (hls.nx hF1 hox.1 hox.2 hR1 hF2 hm2 hS2)
  refine x_iload hC dL_law_1718 rfl ?_
  refine x_if_ne (tgt := 1735) hC dL_law_1720 (by decide) (fun _ => fin _ _ _) (fun c => ?_)
  have hv1 := hv1 c
  have hb2 := hb2 c
  have ho3 := hF2.z (by decide) ho1
  refine x_aload_n hC dL_law_1723 rfl rfl ?_
  refine x_iconst (v := 0) hC dL_law_1724 (by decide) ?_
  refine x_lald hC ho3 in01 dL_law_1725 ?_
  refine x_iload hC dL_law_1726 rfl ?_
  refine x_i2l hC dL_law_1728 rfl ?_
  refine x_lcmp hC dL_law_1729 ?_
  refine x_if_eq (tgt := 1735) hC dL_law_1730 (by decide) (fun _ => fin _ _ _) (fun c9 => absurd (lg_same (show f1 (Int32.toNatClampNeg 0) = bv.toInt64 from by rw [hb2]; exact hv1)) c9)
theorem lc_25 (hG : GOK G) (hC : Cx G C (yL nm) cL_law 9 (some .boolean) room_1) (hT0 : T0 G T) (hT1 : T1 G T) (hT2 : T2 G T) (h : XLS T b L x m o od xs M) (hi : i + 5 < L) (hL : L ≤ 144) (hr : kc + 22010 ≤ room_1.cells ∧ ks + 80100 ≤ room_1.slots) (next : LN G C T b L x m o od i xs (kc + 22010) (ks + 80100)) : Wg G C M kc ks 1738 [some (.ref b), some (.ref x), some (.ref m), some (.ref o), some (.ref od), some (.int (nI i)), v6, v7, v8] [] := by
  have hls := h
  obtain ⟨hb, hM1c, hM2c, ⟨S, P, V, A, hR, hm, hS⟩, ⟨f, ho⟩, ⟨fd, hd⟩⟩ := h
  obtain ⟨va, ha⟩ := hR.rec
  refine x_aload_n hC dL_law_1738 rfl rfl ?_
  refine x_aload_n hC dL_law_1739 rfl rfl ?_
  refine x_iload hC dL_law_1740 rfl ?_
  refine x_iconst (v := nI 1) hC dL_law_1742 (by decide) ?_
  refine x_iaddN hC dL_law_1743 ?_
  refine x_ialdN hC hb (by omega) (by first | decide | omega) dL_law_1744 ?_
  refine x_aload hC dL_law_1745 rfl ?_
  refine x_qSX (k := kc + 22010) (n := ks + 80100) (na := 3) hC (cw_meanSequency hG  hR hd (xs (i + 1))) (lw_SW q1789 q1790 q80 q1791) (by decide +kernel) rfl ⟨Nat.le_of_ble_eq_true rfl, Nat.le_of_ble_eq_true rfl⟩ rfl (Nat.le_of_ble_eq_true rfl) (Nat.le_refl _) (Nat.le_refl _) hr dL_law_1747 ?_ (fun q9 E9 M9 h9 => h9.elim)
  rintro _ M1 ⟨rfl, hR1, ⟨f1, ho1, hv1⟩, hFO⟩
  have hF1 := hFO.q hd rfl
  have hb1 := hF1.z pl0 hb
  have hm1 := hm.pl hF1
  have hox : (∃ f, M1 o = some (la 11 1 f)) ∧ (∃ f, M1 od = some (da 11 1 f)) := ⟨xls_o hFO ho hd, ⟨f1, ho1⟩⟩
  refine x_istore (lv' := [_, _, _, _, _, _, _, _, _]) hC dL_law_1750 (by decide) rfl ?_
  refine x_aload_n hC dL_law_1752 rfl rfl ?_
  refine x_aload_n hC dL_law_1753 rfl rfl ?_
  refine x_iload hC dL_law_1754 rfl ?_
  refine x_iconst (v := nI 1) hC dL_law_1756 (by decide) ?_
  refine x_iaddN hC dL_law_1757 ?_
  refine x_ialdN hC hb1 (by omega) (by first | decide | omega) dL_law_1758 ?_
  refine x_callV0 (na := 1) hC (ct_meanSequency hG hm1 hS (xs (i + 1))) (lw_V q2635 q2636 q2637 q89 q2638) hm1.1 rfl rfl (by decide +kernel) rfl ⟨Nat.le_of_ble_eq_true rfl, Nat.le_of_ble_eq_true rfl⟩ rfl (Nat.le_of_ble_eq_true rfl) ⟨rfl, rfl⟩ hr dL_law_1759 ?_
  rintro _ M2 ⟨bv, P2, V2, rfl, hb2, hm2, hF2, hS2, hV6⟩
  refine x_dstore (lv' := [_, _, _, _, _, _, _, _, _]) hC dL_law_1762 (by decide) rfl ?_
  refine x_aload_n hC dL_law_1764 rfl rfl ?_
  refine x_callV0 (na := 0) hC (ct_thrown hG hm2) (lw_V q2394 q2395 q2396 q89 q2397) hm2.1 rfl rfl (by decide +kernel) rfl ⟨Nat.le_of_ble_eq_true rfl, Nat.le_of_ble_eq_true rfl⟩ rfl (Nat.le_of_ble_eq_true rfl) ⟨rfl, rfl⟩ hr dL_law_1765 ?_
  rintro _ M3 ⟨rfl, hM3⟩
  subst hM3
  refine x_iload hC dL_law_1768 rfl ?_
  refine x_icmp_eq (tgt := 1775) hC dL_law_1770 (by decide) (fun _ => ?_) (fun c => absurd hV6 c)
  have fin : ∀ w6 w7 w8, Wg G C M3 (kc + 22010) (ks + 80100) 1812 [some (.ref b), some (.ref x), some (.ref m), some (.ref o), some (.ref od), some (.int (nI i)), w6, w7, w8] [] := by
    intro w6 w7 w8
    refine x_goto (tgt := 4085) hC dL_law_1812 (by decide) ?_
    exact next M3 _ _ _ (hls.nx hF1 hox.1 hox.2 hR1 hF2 hm2 hS2)
  refine x_iload hC dL_law_1775 rfl ?_
  refine x_if_ne (tgt := 1812) hC dL_law_1777 (by decide) (fun _ => fin _ _ _) (fun c => ?_)
  have hv1 := hv1 c
  have hb2 := hb2 c
  have ho3 := hF2.z (by decide) ho1
  have e1 : f1 (Int32.toNatClampNeg 0) = bv := by rw [hb2]; exact hv1
  refine x_aload hC dL_law_1780 rfl ?_
  refine x_iconst (v := 0) hC dL_law_1782 (by decide) ?_
  refine x_dald hC ho3 in01 dL_law_1783 ?_
  refine x_dload hC dL_law_1784 rfl ?_
  refine x_dcmp hC dL_law_1786 ?_
  rw [e1]
  refine x_if_eq (tgt := 1812) hC dL_law_1787 (by decide) (fun _ => fin _ _ _) (fun c9 => ?_)
  refine x_aload hC dL_law_1790 rfl ?_
  refine x_iconst (v := 0) hC dL_law_1792 (by decide) ?_
  refine x_dald hC ho3 in01 dL_law_1793 ?_
  refine x_aload hC dL_law_1794 rfl ?_
  refine x_iconst (v := 0) hC dL_law_1796 (by decide) ?_
  refine x_dald hC ho3 in01 dL_law_1797 ?_
  refine x_dcmp hC dL_law_1798 ?_
  rw [e1]
  refine x_if_eq (tgt := 1810) hC dL_law_1799 (by decide) (fun c8 => absurd c8 c9) (fun _ => ?_)
  refine x_dload hC dL_law_1802 rfl ?_
  refine x_dload hC dL_law_1804 rfl ?_
  refine x_dcmp hC dL_law_1806 ?_
  refine x_if_ne (tgt := 1812) hC dL_law_1807 (by decide) (fun _ => fin _ _ _) (fun c8 => absurd c8 c9)
theorem lc_26 (hG : GOK G) (hC : Cx G C (yL nm) cL_law 9 (some .boolean) room_1) (hT0 : T0 G T) (hT1 : T1 G T) (hT2 : T2 G T) (h : XLS T b L x m o od xs M) (hi : i + 5 < L) (hL : L ≤ 144) (hr : kc + 22010 ≤ room_1.cells ∧ ks + 80100 ≤ room_1.slots) (next : LN G C T b L x m o od i xs (kc + 22010) (ks + 80100)) : Wg G C M kc ks 1815 [some (.ref b), some (.ref x), some (.ref m), some (.ref o), some (.ref od), some (.int (nI i)), v6, v7, v8] [] := by
  have hls := h
  obtain ⟨hb, hM1c, hM2c, ⟨S, P, V, A, hR, hm, hS⟩, ⟨f, ho⟩, ⟨fd, hd⟩⟩ := h
  obtain ⟨va, ha⟩ := hR.rec
  refine x_aload_n hC dL_law_1815 rfl rfl ?_
  refine x_aload_n hC dL_law_1816 rfl rfl ?_
  refine x_iload hC dL_law_1817 rfl ?_
  refine x_iconst (v := nI 1) hC dL_law_1819 (by decide) ?_
  refine x_iaddN hC dL_law_1820 ?_
  refine x_ialdN hC hb (by omega) (by first | decide | omega) dL_law_1821 ?_
  refine x_aload_n hC dL_law_1822 rfl rfl ?_
  refine x_iload hC dL_law_1823 rfl ?_
  refine x_iconst (v := nI 2) hC dL_law_1825 (by decide) ?_
  refine x_iaddN hC dL_law_1826 ?_
  refine x_ialdN hC hb (by omega) (by first | decide | omega) dL_law_1827 ?_
  refine x_aload_n hC dL_law_1828 rfl rfl ?_
  refine x_qSX (k := kc + 22010) (n := ks + 80100) (na := 4) hC (cw_peak hG  hR ho (xs (i + 1)) (xs (i + 2))) (lw_SW q1803 q1804 q80 q1805) (by decide +kernel) rfl ⟨Nat.le_of_ble_eq_true rfl, Nat.le_of_ble_eq_true rfl⟩ rfl (Nat.le_of_ble_eq_true rfl) (Nat.le_refl _) (Nat.le_refl _) hr dL_law_1829 ?_ (fun q9 E9 M9 h9 => h9.elim)
  rintro _ M1 ⟨rfl, hR1, ⟨f1, ho1, hv1⟩, hFO⟩
  have hF1 := hFO.q ho rfl
  have hb1 := hF1.z pl0 hb
  have hm1 := hm.pl hF1
  have hox : (∃ f, M1 o = some (la 11 1 f)) ∧ (∃ f, M1 od = some (da 11 1 f)) := ⟨⟨f1, ho1⟩, xls_od hFO ho hd⟩
  refine x_istore (lv' := [_, _, _, _, _, _, _, _, _]) hC dL_law_1832 (by decide) rfl ?_
  refine x_aload_n hC dL_law_1834 rfl rfl ?_
  refine x_aload_n hC dL_law_1835 rfl rfl ?_
  refine x_iload hC dL_law_1836 rfl ?_
  refine x_iconst (v := nI 1) hC dL_law_1838 (by decide) ?_
  refine x_iaddN hC dL_law_1839 ?_
  refine x_ialdN hC hb1 (by omega) (by first | decide | omega) dL_law_1840 ?_
  refine x_aload_n hC dL_law_1841 rfl rfl ?_
  refine x_iload hC dL_law_1842 rfl ?_
  refine x_iconst (v := nI 2) hC dL_law_1844 (by decide) ?_
  refine x_iaddN hC dL_law_1845 ?_
  refine x_ialdN hC hb1 (by omega) (by first | decide | omega) dL_law_1846 ?_
  refine x_callV0 (na := 2) hC (ct_peak hG hm1 hS (xs (i + 1)) (xs (i + 2))) (lw_V q2643 q2644 q2645 q89 q2646) hm1.1 rfl rfl (by decide +kernel) rfl ⟨Nat.le_of_ble_eq_true rfl, Nat.le_of_ble_eq_true rfl⟩ rfl (Nat.le_of_ble_eq_true rfl) ⟨rfl, rfl⟩ hr dL_law_1847 ?_
  rintro _ M2 ⟨bv, P2, V2, rfl, hb2, hm2, hF2, hS2, hV6⟩
  refine x_istore (lv' := [_, _, _, _, _, _, _, _, _]) hC dL_law_1850 (by decide) rfl ?_
  refine x_aload_n hC dL_law_1852 rfl rfl ?_
  refine x_callV0 (na := 0) hC (ct_thrown hG hm2) (lw_V q2394 q2395 q2396 q89 q2397) hm2.1 rfl rfl (by decide +kernel) rfl ⟨Nat.le_of_ble_eq_true rfl, Nat.le_of_ble_eq_true rfl⟩ rfl (Nat.le_of_ble_eq_true rfl) ⟨rfl, rfl⟩ hr dL_law_1853 ?_
  rintro _ M3 ⟨rfl, hM3⟩
  subst hM3
  refine x_iload hC dL_law_1856 rfl ?_
  refine x_icmp_eq (tgt := 1863) hC dL_law_1858 (by decide) (fun _ => ?_) (fun c => absurd hV6 c)
  have fin : ∀ w6 w7 w8, Wg G C M3 (kc + 22010) (ks + 80100) 1880 [some (.ref b), some (.ref x), some (.ref m), some (.ref o), some (.ref od), some (.int (nI i)), w6, w7, w8] [] := by
    intro w6 w7 w8
    refine x_goto (tgt := 4085) hC dL_law_1880 (by decide) ?_
    exact next M3 _ _ _ (hls.nx hF1 hox.1 hox.2 hR1 hF2 hm2 hS2)
  refine x_iload hC dL_law_1863 rfl ?_
  refine x_if_ne (tgt := 1880) hC dL_law_1865 (by decide) (fun _ => fin _ _ _) (fun c => ?_)
  have hv1 := hv1 c
  have hb2 := hb2 c
  have ho3 := hF2.z (by decide) ho1
  refine x_aload_n hC dL_law_1868 rfl rfl ?_
  refine x_iconst (v := 0) hC dL_law_1869 (by decide) ?_
  refine x_lald hC ho3 in01 dL_law_1870 ?_
  refine x_iload hC dL_law_1871 rfl ?_
  refine x_i2l hC dL_law_1873 rfl ?_
  refine x_lcmp hC dL_law_1874 ?_
  refine x_if_eq (tgt := 1880) hC dL_law_1875 (by decide) (fun _ => fin _ _ _) (fun c9 => absurd (lg_same (show f1 (Int32.toNatClampNeg 0) = bv.toInt64 from by rw [hb2]; exact hv1)) c9)
theorem lc_27 (hG : GOK G) (hC : Cx G C (yL nm) cL_law 9 (some .boolean) room_1) (hT0 : T0 G T) (hT1 : T1 G T) (hT2 : T2 G T) (h : XLS T b L x m o od xs M) (hi : i + 5 < L) (hL : L ≤ 144) (hr : kc + 22010 ≤ room_1.cells ∧ ks + 80100 ≤ room_1.slots) (next : LN G C T b L x m o od i xs (kc + 22010) (ks + 80100)) : Wg G C M kc ks 1883 [some (.ref b), some (.ref x), some (.ref m), some (.ref o), some (.ref od), some (.int (nI i)), v6, v7, v8] [] := by
  have hls := h
  obtain ⟨hb, hM1c, hM2c, ⟨S, P, V, A, hR, hm, hS⟩, ⟨f, ho⟩, ⟨fd, hd⟩⟩ := h
  obtain ⟨va, ha⟩ := hR.rec
  refine x_aload_n hC dL_law_1883 rfl rfl ?_
  refine x_aload_n hC dL_law_1884 rfl rfl ?_
  refine x_iload hC dL_law_1885 rfl ?_
  refine x_iconst (v := nI 1) hC dL_law_1887 (by decide) ?_
  refine x_iaddN hC dL_law_1888 ?_
  refine x_ialdN hC hb (by omega) (by first | decide | omega) dL_law_1889 ?_
  refine x_aload_n hC dL_law_1890 rfl rfl ?_
  refine x_iload hC dL_law_1891 rfl ?_
  refine x_iconst (v := nI 2) hC dL_law_1893 (by decide) ?_
  refine x_iaddN hC dL_law_1894 ?_
  refine x_ialdN hC hb (by omega) (by first | decide | omega) dL_law_1895 ?_
  refine x_aload_n hC dL_law_1896 rfl rfl ?_
  refine x_qSX (k := kc + 22010) (n := ks + 80100) (na := 4) hC (cw_rank hG  hR ho (xs (i + 1)) (xs (i + 2))) (lw_SW q1818 q1819 q80 q1820) (by decide +kernel) rfl ⟨Nat.le_of_ble_eq_true rfl, Nat.le_of_ble_eq_true rfl⟩ rfl (Nat.le_of_ble_eq_true rfl) (Nat.le_refl _) (Nat.le_refl _) hr dL_law_1897 ?_ (fun q9 E9 M9 h9 => h9.elim)
  rintro _ M1 ⟨rfl, hR1, ⟨f1, ho1, hv1⟩, hFO⟩
  have hF1 := hFO.q ho rfl
  have hb1 := hF1.z pl0 hb
  have hm1 := hm.pl hF1
  have hox : (∃ f, M1 o = some (la 11 1 f)) ∧ (∃ f, M1 od = some (da 11 1 f)) := ⟨⟨f1, ho1⟩, xls_od hFO ho hd⟩
  refine x_istore (lv' := [_, _, _, _, _, _, _, _, _]) hC dL_law_1900 (by decide) rfl ?_
  refine x_aload_n hC dL_law_1902 rfl rfl ?_
  refine x_aload_n hC dL_law_1903 rfl rfl ?_
  refine x_iload hC dL_law_1904 rfl ?_
  refine x_iconst (v := nI 1) hC dL_law_1906 (by decide) ?_
  refine x_iaddN hC dL_law_1907 ?_
  refine x_ialdN hC hb1 (by omega) (by first | decide | omega) dL_law_1908 ?_
  refine x_aload_n hC dL_law_1909 rfl rfl ?_
  refine x_iload hC dL_law_1910 rfl ?_
  refine x_iconst (v := nI 2) hC dL_law_1912 (by decide) ?_
  refine x_iaddN hC dL_law_1913 ?_
  refine x_ialdN hC hb1 (by omega) (by first | decide | omega) dL_law_1914 ?_
  refine x_callV0 (na := 2) hC (ct_rank hG hm1 hS (xs (i + 1)) (xs (i + 2))) (lw_V q2655 q2656 q2657 q89 q2658) hm1.1 rfl rfl (by decide +kernel) rfl ⟨Nat.le_of_ble_eq_true rfl, Nat.le_of_ble_eq_true rfl⟩ rfl (Nat.le_of_ble_eq_true rfl) ⟨rfl, rfl⟩ hr dL_law_1915 ?_
  rintro _ M2 ⟨bv, P2, V2, rfl, hb2, hm2, hF2, hS2, hV6⟩
  refine x_istore (lv' := [_, _, _, _, _, _, _, _, _]) hC dL_law_1918 (by decide) rfl ?_
  refine x_aload_n hC dL_law_1920 rfl rfl ?_
  refine x_callV0 (na := 0) hC (ct_thrown hG hm2) (lw_V q2394 q2395 q2396 q89 q2397) hm2.1 rfl rfl (by decide +kernel) rfl ⟨Nat.le_of_ble_eq_true rfl, Nat.le_of_ble_eq_true rfl⟩ rfl (Nat.le_of_ble_eq_true rfl) ⟨rfl, rfl⟩ hr dL_law_1921 ?_
  rintro _ M3 ⟨rfl, hM3⟩
  subst hM3
  refine x_iload hC dL_law_1924 rfl ?_
  refine x_icmp_eq (tgt := 1931) hC dL_law_1926 (by decide) (fun _ => ?_) (fun c => absurd hV6 c)
  have fin : ∀ w6 w7 w8, Wg G C M3 (kc + 22010) (ks + 80100) 1948 [some (.ref b), some (.ref x), some (.ref m), some (.ref o), some (.ref od), some (.int (nI i)), w6, w7, w8] [] := by
    intro w6 w7 w8
    refine x_goto (tgt := 4085) hC dL_law_1948 (by decide) ?_
    exact next M3 _ _ _ (hls.nx hF1 hox.1 hox.2 hR1 hF2 hm2 hS2)
  refine x_iload hC dL_law_1931 rfl ?_
  refine x_if_ne (tgt := 1948) hC dL_law_1933 (by decide) (fun _ => fin _ _ _) (fun c => ?_)
  have hv1 := hv1 c
  have hb2 := hb2 c
  have ho3 := hF2.z (by decide) ho1
  refine x_aload_n hC dL_law_1936 rfl rfl ?_
  refine x_iconst (v := 0) hC dL_law_1937 (by decide) ?_
  refine x_lald hC ho3 in01 dL_law_1938 ?_
  refine x_iload hC dL_law_1939 rfl ?_
  refine x_i2l hC dL_law_1941 rfl ?_
  refine x_lcmp hC dL_law_1942 ?_
  refine x_if_eq (tgt := 1948) hC dL_law_1943 (by decide) (fun _ => fin _ _ _) (fun c9 => absurd (lg_same (show f1 (Int32.toNatClampNeg 0) = bv.toInt64 from by rw [hb2]; exact hv1)) c9)
theorem lc_28 (hG : GOK G) (hC : Cx G C (yL nm) cL_law 9 (some .boolean) room_1) (hT0 : T0 G T) (hT1 : T1 G T) (hT2 : T2 G T) (h : XLS T b L x m o od xs M) (hi : i + 5 < L) (hL : L ≤ 144) (hr : kc + 22010 ≤ room_1.cells ∧ ks + 80100 ≤ room_1.slots) (next : LN G C T b L x m o od i xs (kc + 22010) (ks + 80100)) : Wg G C M kc ks 1951 [some (.ref b), some (.ref x), some (.ref m), some (.ref o), some (.ref od), some (.int (nI i)), v6, v7, v8] [] := by
  have hls := h
  obtain ⟨hb, hM1c, hM2c, ⟨S, P, V, A, hR, hm, hS⟩, ⟨f, ho⟩, ⟨fd, hd⟩⟩ := h
  obtain ⟨va, ha⟩ := hR.rec
  refine x_aload_n hC dL_law_1951 rfl rfl ?_
  refine x_aload_n hC dL_law_1952 rfl rfl ?_
  refine x_iload hC dL_law_1953 rfl ?_
  refine x_iconst (v := nI 1) hC dL_law_1955 (by decide) ?_
  refine x_iaddN hC dL_law_1956 ?_
  refine x_ialdN hC hb (by omega) (by first | decide | omega) dL_law_1957 ?_
  refine x_aload_n hC dL_law_1958 rfl rfl ?_
  refine x_iload hC dL_law_1959 rfl ?_
  refine x_iconst (v := nI 2) hC dL_law_1961 (by decide) ?_
  refine x_iaddN hC dL_law_1962 ?_
  refine x_ialdN hC hb (by omega) (by first | decide | omega) dL_law_1963 ?_
  refine x_aload_n hC dL_law_1964 rfl rfl ?_
  refine x_qSX (k := kc + 22010) (n := ks + 80100) (na := 4) hC (cw_peaksFor hG  hR ho (xs (i + 1)) (xs (i + 2))) (lw_SW q1830 q1831 q80 q1832) (by decide +kernel) rfl ⟨Nat.le_of_ble_eq_true rfl, Nat.le_of_ble_eq_true rfl⟩ rfl (Nat.le_of_ble_eq_true rfl) (Nat.le_refl _) (Nat.le_refl _) hr dL_law_1965 ?_ (fun q9 E9 M9 h9 => h9.elim)
  rintro _ M1 ⟨rfl, hR1, ⟨f1, ho1, hv1⟩, hFO⟩
  have hF1 := hFO.q ho rfl
  have hb1 := hF1.z pl0 hb
  have hm1 := hm.pl hF1
  have hox : (∃ f, M1 o = some (la 11 1 f)) ∧ (∃ f, M1 od = some (da 11 1 f)) := ⟨⟨f1, ho1⟩, xls_od hFO ho hd⟩
  refine x_istore (lv' := [_, _, _, _, _, _, _, _, _]) hC dL_law_1968 (by decide) rfl ?_
  refine x_aload_n hC dL_law_1970 rfl rfl ?_
  refine x_aload_n hC dL_law_1971 rfl rfl ?_
  refine x_iload hC dL_law_1972 rfl ?_
  refine x_iconst (v := nI 1) hC dL_law_1974 (by decide) ?_
  refine x_iaddN hC dL_law_1975 ?_
  refine x_ialdN hC hb1 (by omega) (by first | decide | omega) dL_law_1976 ?_
  refine x_aload_n hC dL_law_1977 rfl rfl ?_
  refine x_iload hC dL_law_1978 rfl ?_
  refine x_iconst (v := nI 2) hC dL_law_1980 (by decide) ?_
  refine x_iaddN hC dL_law_1981 ?_
  refine x_ialdN hC hb1 (by omega) (by first | decide | omega) dL_law_1982 ?_
  refine x_callV0 (na := 2) hC (ct_peaksFor hG hm1 hS (xs (i + 1)) (xs (i + 2))) (lw_V q2659 q2660 q2661 q89 q2662) hm1.1 rfl rfl (by decide +kernel) rfl ⟨Nat.le_of_ble_eq_true rfl, Nat.le_of_ble_eq_true rfl⟩ rfl (Nat.le_of_ble_eq_true rfl) ⟨rfl, rfl⟩ hr dL_law_1983 ?_
  rintro _ M2 ⟨bv, P2, V2, rfl, hb2, hm2, hF2, hS2, hV6⟩
  refine x_istore (lv' := [_, _, _, _, _, _, _, _, _]) hC dL_law_1986 (by decide) rfl ?_
  refine x_aload_n hC dL_law_1988 rfl rfl ?_
  refine x_callV0 (na := 0) hC (ct_thrown hG hm2) (lw_V q2394 q2395 q2396 q89 q2397) hm2.1 rfl rfl (by decide +kernel) rfl ⟨Nat.le_of_ble_eq_true rfl, Nat.le_of_ble_eq_true rfl⟩ rfl (Nat.le_of_ble_eq_true rfl) ⟨rfl, rfl⟩ hr dL_law_1989 ?_
  rintro _ M3 ⟨rfl, hM3⟩
  subst hM3
  refine x_iload hC dL_law_1992 rfl ?_
  refine x_icmp_eq (tgt := 1999) hC dL_law_1994 (by decide) (fun _ => ?_) (fun c => absurd hV6 c)
  have fin : ∀ w6 w7 w8, Wg G C M3 (kc + 22010) (ks + 80100) 2016 [some (.ref b), some (.ref x), some (.ref m), some (.ref o), some (.ref od), some (.int (nI i)), w6, w7, w8] [] := by
    intro w6 w7 w8
    refine x_goto (tgt := 4085) hC dL_law_2016 (by decide) ?_
    exact next M3 _ _ _ (hls.nx hF1 hox.1 hox.2 hR1 hF2 hm2 hS2)
  refine x_iload hC dL_law_1999 rfl ?_
  refine x_if_ne (tgt := 2016) hC dL_law_2001 (by decide) (fun _ => fin _ _ _) (fun c => ?_)
  have hv1 := hv1 c
  have hb2 := hb2 c
  have ho3 := hF2.z (by decide) ho1
  refine x_aload_n hC dL_law_2004 rfl rfl ?_
  refine x_iconst (v := 0) hC dL_law_2005 (by decide) ?_
  refine x_lald hC ho3 in01 dL_law_2006 ?_
  refine x_iload hC dL_law_2007 rfl ?_
  refine x_i2l hC dL_law_2009 rfl ?_
  refine x_lcmp hC dL_law_2010 ?_
  refine x_if_eq (tgt := 2016) hC dL_law_2011 (by decide) (fun _ => fin _ _ _) (fun c9 => absurd (lg_same (show f1 (Int32.toNatClampNeg 0) = bv.toInt64 from by rw [hb2]; exact hv1)) c9)
theorem lc_29 (hG : GOK G) (hC : Cx G C (yL nm) cL_law 9 (some .boolean) room_1) (hT0 : T0 G T) (hT1 : T1 G T) (hT2 : T2 G T) (h : XLS T b L x m o od xs M) (hi : i + 5 < L) (hL : L ≤ 144) (hr : kc + 22010 ≤ room_1.cells ∧ ks + 80100 ≤ room_1.slots) (next : LN G C T b L x m o od i xs (kc + 22010) (ks + 80100)) : Wg G C M kc ks 2019 [some (.ref b), some (.ref x), some (.ref m), some (.ref o), some (.ref od), some (.int (nI i)), v6, v7, v8] [] := by
  have hls := h
  obtain ⟨hb, hM1c, hM2c, ⟨S, P, V, A, hR, hm, hS⟩, ⟨f, ho⟩, ⟨fd, hd⟩⟩ := h
  obtain ⟨va, ha⟩ := hR.rec
  refine x_aload_n hC dL_law_2019 rfl rfl ?_
  refine x_aload_n hC dL_law_2020 rfl rfl ?_
  refine x_iload hC dL_law_2021 rfl ?_
  refine x_iconst (v := nI 1) hC dL_law_2023 (by decide) ?_
  refine x_iaddN hC dL_law_2024 ?_
  refine x_ialdN hC hb (by omega) (by first | decide | omega) dL_law_2025 ?_
  refine x_aload hC dL_law_2026 rfl ?_
  refine x_qSX (k := kc + 22010) (n := ks + 80100) (na := 3) hC (cw_purity hG  hR hd (xs (i + 1))) (lw_SW q1843 q1844 q80 q1845) (by decide +kernel) rfl ⟨Nat.le_of_ble_eq_true rfl, Nat.le_of_ble_eq_true rfl⟩ rfl (Nat.le_of_ble_eq_true rfl) (Nat.le_refl _) (Nat.le_refl _) hr dL_law_2028 ?_ (fun q9 E9 M9 h9 => h9.elim)
  rintro _ M1 ⟨rfl, hR1, ⟨f1, ho1, hv1⟩, hFO⟩
  have hF1 := hFO.q hd rfl
  have hb1 := hF1.z pl0 hb
  have hm1 := hm.pl hF1
  have hox : (∃ f, M1 o = some (la 11 1 f)) ∧ (∃ f, M1 od = some (da 11 1 f)) := ⟨xls_o hFO ho hd, ⟨f1, ho1⟩⟩
  refine x_istore (lv' := [_, _, _, _, _, _, _, _, _]) hC dL_law_2031 (by decide) rfl ?_
  refine x_aload_n hC dL_law_2033 rfl rfl ?_
  refine x_aload_n hC dL_law_2034 rfl rfl ?_
  refine x_iload hC dL_law_2035 rfl ?_
  refine x_iconst (v := nI 1) hC dL_law_2037 (by decide) ?_
  refine x_iaddN hC dL_law_2038 ?_
  refine x_ialdN hC hb1 (by omega) (by first | decide | omega) dL_law_2039 ?_
  refine x_callV0 (na := 1) hC (ct_purity hG hm1 hS (xs (i + 1))) (lw_V q2668 q2669 q2670 q89 q2671) hm1.1 rfl rfl (by decide +kernel) rfl ⟨Nat.le_of_ble_eq_true rfl, Nat.le_of_ble_eq_true rfl⟩ rfl (Nat.le_of_ble_eq_true rfl) ⟨rfl, rfl⟩ hr dL_law_2040 ?_
  rintro _ M2 ⟨bv, P2, V2, rfl, hb2, hm2, hF2, hS2, hV6⟩
  refine x_fstore (lv' := [_, _, _, _, _, _, _, _, _]) hC dL_law_2043 (by decide) rfl ?_
  refine x_aload_n hC dL_law_2045 rfl rfl ?_
  refine x_callV0 (na := 0) hC (ct_thrown hG hm2) (lw_V q2394 q2395 q2396 q89 q2397) hm2.1 rfl rfl (by decide +kernel) rfl ⟨Nat.le_of_ble_eq_true rfl, Nat.le_of_ble_eq_true rfl⟩ rfl (Nat.le_of_ble_eq_true rfl) ⟨rfl, rfl⟩ hr dL_law_2046 ?_
  rintro _ M3 ⟨rfl, hM3⟩
  subst hM3
  refine x_iload hC dL_law_2049 rfl ?_
  refine x_icmp_eq (tgt := 2056) hC dL_law_2051 (by decide) (fun _ => ?_) (fun c => absurd hV6 c)
  have fin : ∀ w6 w7 w8, Wg G C M3 (kc + 22010) (ks + 80100) 2094 [some (.ref b), some (.ref x), some (.ref m), some (.ref o), some (.ref od), some (.int (nI i)), w6, w7, w8] [] := by
    intro w6 w7 w8
    refine x_goto (tgt := 4085) hC dL_law_2094 (by decide) ?_
    exact next M3 _ _ _ (hls.nx hF1 hox.1 hox.2 hR1 hF2 hm2 hS2)
  refine x_iload hC dL_law_2056 rfl ?_
  refine x_if_ne (tgt := 2094) hC dL_law_2058 (by decide) (fun _ => fin _ _ _) (fun c => ?_)
  have hv1 := hv1 c
  have hb2 := hb2 c
  have ho3 := hF2.z (by decide) ho1
  have hn : vf_n64 (FP.f2d bv) := by rw [hb2]; exact f2d_n64 (opPurity_n c)
  refine x_aload hC dL_law_2061 rfl ?_
  refine x_iconst (v := 0) hC dL_law_2063 (by decide) ?_
  refine x_dald hC ho3 in01 dL_law_2064 ?_
  refine x_fload hC dL_law_2065 rfl ?_
  refine x_f2d hC dL_law_2067 hn ?_
  refine x_dcmp hC dL_law_2068 ?_
  refine x_if_eq (tgt := 2094) hC dL_law_2069 (by decide) (fun _ => fin _ _ _) (fun c9 => absurd (show Op.cmpValue (FP.dcmp (f1 (Int32.toNatClampNeg 0)) (FP.f2d bv)) _ = 0 from by rw [show f1 (Int32.toNatClampNeg 0) = FP.f2d bv from by rw [hb2]; exact hv1]; exact dcmp_n64 hn) c9)
theorem lc_30 (hG : GOK G) (hC : Cx G C (yL nm) cL_law 9 (some .boolean) room_1) (hT0 : T0 G T) (hT1 : T1 G T) (hT2 : T2 G T) (h : XLS T b L x m o od xs M) (hi : i + 5 < L) (hL : L ≤ 144) (hr : kc + 22010 ≤ room_1.cells ∧ ks + 80100 ≤ room_1.slots) (next : LN G C T b L x m o od i xs (kc + 22010) (ks + 80100)) : Wg G C M kc ks 2097 [some (.ref b), some (.ref x), some (.ref m), some (.ref o), some (.ref od), some (.int (nI i)), v6, v7, v8] [] := by
  have hls := h
  obtain ⟨hb, hM1c, hM2c, ⟨S, P, V, A, hR, hm, hS⟩, ⟨f, ho⟩, ⟨fd, hd⟩⟩ := h
  obtain ⟨va, ha⟩ := hR.rec
  refine x_aload_n hC dL_law_2097 rfl rfl ?_
  refine x_aload_n hC dL_law_2098 rfl rfl ?_
  refine x_iload hC dL_law_2099 rfl ?_
  refine x_iconst (v := nI 1) hC dL_law_2101 (by decide) ?_
  refine x_iaddN hC dL_law_2102 ?_
  refine x_ialdN hC hb (by omega) (by first | decide | omega) dL_law_2103 ?_
  refine x_aload_n hC dL_law_2104 rfl rfl ?_
  refine x_iload hC dL_law_2105 rfl ?_
  refine x_iconst (v := nI 2) hC dL_law_2107 (by decide) ?_
  refine x_iaddN hC dL_law_2108 ?_
  refine x_ialdN hC hb (by omega) (by first | decide | omega) dL_law_2109 ?_
  refine x_aload_n hC dL_law_2110 rfl rfl ?_
  refine x_qSX (k := kc + 22010) (n := ks + 80100) (na := 4) hC (cw_distance hG  hR ho (xs (i + 1)) (xs (i + 2))) (lw_SW q1850 q1851 q80 q1852) (by decide +kernel) rfl ⟨Nat.le_of_ble_eq_true rfl, Nat.le_of_ble_eq_true rfl⟩ rfl (Nat.le_of_ble_eq_true rfl) (Nat.le_refl _) (Nat.le_refl _) hr dL_law_2111 ?_ (fun q9 E9 M9 h9 => h9.elim)
  rintro _ M1 ⟨rfl, hR1, ⟨f1, ho1, hv1⟩, hFO⟩
  have hF1 := hFO.q ho rfl
  have hb1 := hF1.z pl0 hb
  have hm1 := hm.pl hF1
  have hox : (∃ f, M1 o = some (la 11 1 f)) ∧ (∃ f, M1 od = some (da 11 1 f)) := ⟨⟨f1, ho1⟩, xls_od hFO ho hd⟩
  refine x_istore (lv' := [_, _, _, _, _, _, _, _, _]) hC dL_law_2114 (by decide) rfl ?_
  refine x_aload_n hC dL_law_2116 rfl rfl ?_
  refine x_aload_n hC dL_law_2117 rfl rfl ?_
  refine x_iload hC dL_law_2118 rfl ?_
  refine x_iconst (v := nI 1) hC dL_law_2120 (by decide) ?_
  refine x_iaddN hC dL_law_2121 ?_
  refine x_ialdN hC hb1 (by omega) (by first | decide | omega) dL_law_2122 ?_
  refine x_aload_n hC dL_law_2123 rfl rfl ?_
  refine x_iload hC dL_law_2124 rfl ?_
  refine x_iconst (v := nI 2) hC dL_law_2126 (by decide) ?_
  refine x_iaddN hC dL_law_2127 ?_
  refine x_ialdN hC hb1 (by omega) (by first | decide | omega) dL_law_2128 ?_
  refine x_callV0 (na := 2) hC (ct_distance hG hm1 hS (xs (i + 1)) (xs (i + 2))) (lw_V q2672 q2673 q2674 q89 q2675) hm1.1 rfl rfl (by decide +kernel) rfl ⟨Nat.le_of_ble_eq_true rfl, Nat.le_of_ble_eq_true rfl⟩ rfl (Nat.le_of_ble_eq_true rfl) ⟨rfl, rfl⟩ hr dL_law_2129 ?_
  rintro _ M2 ⟨bv, P2, V2, rfl, hb2, hm2, hF2, hS2, hV6⟩
  refine x_istore (lv' := [_, _, _, _, _, _, _, _, _]) hC dL_law_2132 (by decide) rfl ?_
  refine x_aload_n hC dL_law_2134 rfl rfl ?_
  refine x_callV0 (na := 0) hC (ct_thrown hG hm2) (lw_V q2394 q2395 q2396 q89 q2397) hm2.1 rfl rfl (by decide +kernel) rfl ⟨Nat.le_of_ble_eq_true rfl, Nat.le_of_ble_eq_true rfl⟩ rfl (Nat.le_of_ble_eq_true rfl) ⟨rfl, rfl⟩ hr dL_law_2135 ?_
  rintro _ M3 ⟨rfl, hM3⟩
  subst hM3
  refine x_iload hC dL_law_2138 rfl ?_
  refine x_icmp_eq (tgt := 2145) hC dL_law_2140 (by decide) (fun _ => ?_) (fun c => absurd hV6 c)
  have fin : ∀ w6 w7 w8, Wg G C M3 (kc + 22010) (ks + 80100) 2162 [some (.ref b), some (.ref x), some (.ref m), some (.ref o), some (.ref od), some (.int (nI i)), w6, w7, w8] [] := by
    intro w6 w7 w8
    refine x_goto (tgt := 4085) hC dL_law_2162 (by decide) ?_
    exact next M3 _ _ _ (hls.nx hF1 hox.1 hox.2 hR1 hF2 hm2 hS2)
  refine x_iload hC dL_law_2145 rfl ?_
  refine x_if_ne (tgt := 2162) hC dL_law_2147 (by decide) (fun _ => fin _ _ _) (fun c => ?_)
  have hv1 := hv1 c
  have hb2 := hb2 c
  have ho3 := hF2.z (by decide) ho1
  refine x_aload_n hC dL_law_2150 rfl rfl ?_
  refine x_iconst (v := 0) hC dL_law_2151 (by decide) ?_
  refine x_lald hC ho3 in01 dL_law_2152 ?_
  refine x_iload hC dL_law_2153 rfl ?_
  refine x_i2l hC dL_law_2155 rfl ?_
  refine x_lcmp hC dL_law_2156 ?_
  refine x_if_eq (tgt := 2162) hC dL_law_2157 (by decide) (fun _ => fin _ _ _) (fun c9 => absurd (lg_same (show f1 (Int32.toNatClampNeg 0) = bv.toInt64 from by rw [hb2]; exact hv1)) c9)
theorem lc_31 (hG : GOK G) (hC : Cx G C (yL nm) cL_law 9 (some .boolean) room_1) (hT0 : T0 G T) (hT1 : T1 G T) (hT2 : T2 G T) (h : XLS T b L x m o od xs M) (hi : i + 5 < L) (hL : L ≤ 144) (hr : kc + 22010 ≤ room_1.cells ∧ ks + 80100 ≤ room_1.slots) (next : LN G C T b L x m o od i xs (kc + 22010) (ks + 80100)) : Wg G C M kc ks 2165 [some (.ref b), some (.ref x), some (.ref m), some (.ref o), some (.ref od), some (.int (nI i)), v6, v7, v8] [] := by
  have hls := h
  obtain ⟨hb, hM1c, hM2c, ⟨S, P, V, A, hR, hm, hS⟩, ⟨f, ho⟩, ⟨fd, hd⟩⟩ := h
  obtain ⟨va, ha⟩ := hR.rec
  refine x_aload_n hC dL_law_2165 rfl rfl ?_
  refine x_aload_n hC dL_law_2166 rfl rfl ?_
  refine x_iload hC dL_law_2167 rfl ?_
  refine x_iconst (v := nI 1) hC dL_law_2169 (by decide) ?_
  refine x_iaddN hC dL_law_2170 ?_
  refine x_ialdN hC hb (by omega) (by first | decide | omega) dL_law_2171 ?_
  refine x_aload_n hC dL_law_2172 rfl rfl ?_
  refine x_iload hC dL_law_2173 rfl ?_
  refine x_iconst (v := nI 2) hC dL_law_2175 (by decide) ?_
  refine x_iaddN hC dL_law_2176 ?_
  refine x_ialdN hC hb (by omega) (by first | decide | omega) dL_law_2177 ?_
  refine x_aload hC dL_law_2178 rfl ?_
  refine x_qSX (k := kc + 22010) (n := ks + 80100) (na := 4) hC (cw_similarity hG  hR hd (xs (i + 1)) (xs (i + 2))) (lw_SW q1865 q1866 q80 q1867) (by decide +kernel) rfl ⟨Nat.le_of_ble_eq_true rfl, Nat.le_of_ble_eq_true rfl⟩ rfl (Nat.le_of_ble_eq_true rfl) (Nat.le_refl _) (Nat.le_refl _) hr dL_law_2180 ?_ (fun q9 E9 M9 h9 => h9.elim)
  rintro _ M1 ⟨rfl, hR1, ⟨f1, ho1, hv1⟩, hFO⟩
  have hF1 := hFO.q hd rfl
  have hb1 := hF1.z pl0 hb
  have hm1 := hm.pl hF1
  have hox : (∃ f, M1 o = some (la 11 1 f)) ∧ (∃ f, M1 od = some (da 11 1 f)) := ⟨xls_o hFO ho hd, ⟨f1, ho1⟩⟩
  refine x_istore (lv' := [_, _, _, _, _, _, _, _, _]) hC dL_law_2183 (by decide) rfl ?_
  refine x_aload_n hC dL_law_2185 rfl rfl ?_
  refine x_aload_n hC dL_law_2186 rfl rfl ?_
  refine x_iload hC dL_law_2187 rfl ?_
  refine x_iconst (v := nI 1) hC dL_law_2189 (by decide) ?_
  refine x_iaddN hC dL_law_2190 ?_
  refine x_ialdN hC hb1 (by omega) (by first | decide | omega) dL_law_2191 ?_
  refine x_aload_n hC dL_law_2192 rfl rfl ?_
  refine x_iload hC dL_law_2193 rfl ?_
  refine x_iconst (v := nI 2) hC dL_law_2195 (by decide) ?_
  refine x_iaddN hC dL_law_2196 ?_
  refine x_ialdN hC hb1 (by omega) (by first | decide | omega) dL_law_2197 ?_
  refine x_callV0 (na := 2) hC (ct_similarity hG hm1 hS (xs (i + 1)) (xs (i + 2))) (lw_V q2704 q2705 q2706 q89 q2707) hm1.1 rfl rfl (by decide +kernel) rfl ⟨Nat.le_of_ble_eq_true rfl, Nat.le_of_ble_eq_true rfl⟩ rfl (Nat.le_of_ble_eq_true rfl) ⟨rfl, rfl⟩ hr dL_law_2198 ?_
  rintro _ M2 ⟨bv, P2, V2, rfl, hb2, hm2, hF2, hS2, hV6⟩
  refine x_dstore (lv' := [_, _, _, _, _, _, _, _, _]) hC dL_law_2201 (by decide) rfl ?_
  refine x_aload_n hC dL_law_2203 rfl rfl ?_
  refine x_callV0 (na := 0) hC (ct_thrown hG hm2) (lw_V q2394 q2395 q2396 q89 q2397) hm2.1 rfl rfl (by decide +kernel) rfl ⟨Nat.le_of_ble_eq_true rfl, Nat.le_of_ble_eq_true rfl⟩ rfl (Nat.le_of_ble_eq_true rfl) ⟨rfl, rfl⟩ hr dL_law_2204 ?_
  rintro _ M3 ⟨rfl, hM3⟩
  subst hM3
  refine x_iload hC dL_law_2207 rfl ?_
  refine x_icmp_eq (tgt := 2214) hC dL_law_2209 (by decide) (fun _ => ?_) (fun c => absurd hV6 c)
  have fin : ∀ w6 w7 w8, Wg G C M3 (kc + 22010) (ks + 80100) 2251 [some (.ref b), some (.ref x), some (.ref m), some (.ref o), some (.ref od), some (.int (nI i)), w6, w7, w8] [] := by
    intro w6 w7 w8
    refine x_goto (tgt := 4085) hC dL_law_2251 (by decide) ?_
    exact next M3 _ _ _ (hls.nx hF1 hox.1 hox.2 hR1 hF2 hm2 hS2)
  refine x_iload hC dL_law_2214 rfl ?_
  refine x_if_ne (tgt := 2251) hC dL_law_2216 (by decide) (fun _ => fin _ _ _) (fun c => ?_)
  have hv1 := hv1 c
  have hb2 := hb2 c
  have ho3 := hF2.z (by decide) ho1
  have e1 : f1 (Int32.toNatClampNeg 0) = bv := by rw [hb2]; exact hv1
  refine x_aload hC dL_law_2219 rfl ?_
  refine x_iconst (v := 0) hC dL_law_2221 (by decide) ?_
  refine x_dald hC ho3 in01 dL_law_2222 ?_
  refine x_dload hC dL_law_2223 rfl ?_
  refine x_dcmp hC dL_law_2225 ?_
  rw [e1]
  refine x_if_eq (tgt := 2251) hC dL_law_2226 (by decide) (fun _ => fin _ _ _) (fun c9 => ?_)
  refine x_aload hC dL_law_2229 rfl ?_
  refine x_iconst (v := 0) hC dL_law_2231 (by decide) ?_
  refine x_dald hC ho3 in01 dL_law_2232 ?_
  refine x_aload hC dL_law_2233 rfl ?_
  refine x_iconst (v := 0) hC dL_law_2235 (by decide) ?_
  refine x_dald hC ho3 in01 dL_law_2236 ?_
  refine x_dcmp hC dL_law_2237 ?_
  rw [e1]
  refine x_if_eq (tgt := 2249) hC dL_law_2238 (by decide) (fun c8 => absurd c8 c9) (fun _ => ?_)
  refine x_dload hC dL_law_2241 rfl ?_
  refine x_dload hC dL_law_2243 rfl ?_
  refine x_dcmp hC dL_law_2245 ?_
  refine x_if_ne (tgt := 2251) hC dL_law_2246 (by decide) (fun _ => fin _ _ _) (fun c8 => absurd c8 c9)
end LC16

