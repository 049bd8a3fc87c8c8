/-! ===== StringBuilder.append(int), append(String), the builder of a string ===== -/
section APP
variable {G : X_G} {M : X_M} {T : X_T} {g q cap s : Nat} {w t : List Nat}
theorem ct_abAppI (hG : GOK G) (hT : T1 G T) (hM : M1c T M) (hg : g ≠ 0) {x : Int32} (hx : x.toInt.natAbs < 10 ^ 7) (h : SBM M g q cap w) (hQ : gQ cap (w.length + (dgI x).length) ≤ 65536) : Ct G yJ12_append_2 cJ12_append_2 4 (some (.object "java/lang/AbstractStringBuilder")) (xrm 5 (gC cap (w.length + (dgI x).length)) (gS cap (w.length + (dgI x).length))) [.ref q, .int x] M (PSb M g q (gQ cap (w.length + (dgI x).length)) (w ++ dgI x)) := by
  obtain ⟨v, f, h1, -⟩ := id h
  have gi := g_inv (cap := cap) (n := w.length + (dgI x).length)
  refine ct_open (lv := [_, _, _, _]) hG (by decide +kernel) (Nat.le_of_ble_eq_true rfl) rfl (fun C hC hk => ?_)
  obtain ⟨M0, hM0⟩ : ∃ M0, M0 = M := ⟨M, rfl⟩
  rw [← hM0] at hk
  have hF : Fm M0 M := by rw [hM0]; exact Fr.rf
  subst hM0
  refine x_aload_n hC dJ12_append_2_0 rfl rfl ?_
  refine x_get hC 3 h1 rfl (by decide) q299 rfl rfl dJ12_append_2_1 ?_
  refine x_istore_n (lv' := [_, _, _, _]) hC dJ12_append_2_4 rfl (by decide) rfl ?_
  refine x_iload_n hC dJ12_append_2_5 rfl rfl ?_
  refine x_iload_n hC dJ12_append_2_6 rfl rfl ?_
  refine x_callS0 (na := 1) hC (ct_strSize hG hx _) (lw_S q493 q494 q110 q495) (by decide +kernel) rfl ⟨Nat.le_of_ble_eq_true rfl, Nat.le_of_ble_eq_true rfl⟩ rfl (Nat.le_of_ble_eq_true rfl) ⟨rfl, rfl⟩ ⟨Nat.zero_le _, Nat.zero_le _⟩ dJ12_append_2_7 ?_
  rintro _ M0 ⟨rfl, rfl⟩
  refine x_iaddN hC dJ12_append_2_10 ?_
  refine x_istore_n (lv' := [_, _, _, _]) hC dJ12_append_2_11 rfl (by decide) rfl ?_
  refine x_aload_n hC dJ12_append_2_12 rfl rfl ?_
  refine x_iload_n hC dJ12_append_2_13 rfl rfl ?_
  refine x_callP (k := gC cap (w.length + (dgI x).length)) (n := gS cap (w.length + (dgI x).length)) (na := 1) hC (ct_abEns hG hg h hQ) q316 q2878 q317 q318 q98 q319 h1 rfl (by decide +kernel) rfl ⟨Nat.le_of_ble_eq_true rfl, Nat.le_of_ble_eq_true rfl⟩ rfl (Nat.le_of_ble_eq_true rfl) (show 0 + gC cap (w.length + (dgI x).length) ≤ gC cap (w.length + (dgI x).length) by omega) (show 0 + gS cap (w.length + (dgI x).length) ≤ gS cap (w.length + (dgI x).length) by omega) ⟨Nat.le_refl _, Nat.le_refl _⟩ dJ12_append_2_14 ?_
  rintro _ M1 ⟨rfl, hS, hF⟩
  obtain ⟨v1, f1, k1, k2, k3, k4, k5, k6⟩ := hS
  refine x_aload_n hC dJ12_append_2_17 rfl rfl ?_
  refine x_callU0 (owner := "java/lang/AbstractStringBuilder") (na := 0) hC (ct_abLat hG k1) q351 q353 q354 q352 q98 q355 rfl k1 rfl (by decide +kernel) rfl ⟨Nat.le_of_ble_eq_true rfl, Nat.le_of_ble_eq_true rfl⟩ rfl (Nat.le_of_ble_eq_true rfl) ⟨rfl, rfl⟩ ⟨Nat.le_refl _, Nat.le_refl _⟩ dJ12_append_2_18 ?_
  rintro _ M1 ⟨rfl, rfl⟩
  refine x_if_eq (tgt := 37) hC dJ12_append_2_21 (by decide) (fun d => ?_) (fun d => ?_)
  · exact absurd d (by decide)
  · refine x_iload_n hC dJ12_append_2_24 rfl rfl ?_
    refine x_iload_n hC dJ12_append_2_25 rfl rfl ?_
    refine x_aload_n hC dJ12_append_2_26 rfl rfl ?_
    refine x_get hC 0 k1 rfl (by decide) q296 rfl rfl dJ12_append_2_27 ?_
    refine x_callS0 (na := 3) hC (ct_getChars hG hT (hM.fr hF (Ne.symm hg)) hg hx k2 gi.2.2.1 hQ k4) (lw_S q496 q497 q110 q498) (by decide +kernel) rfl ⟨Nat.le_of_ble_eq_true rfl, Nat.le_of_ble_eq_true rfl⟩ rfl (Nat.le_of_ble_eq_true rfl) ⟨rfl, rfl⟩ ⟨Nat.le_refl _, Nat.le_refl _⟩ dJ12_append_2_30 ?_
    rintro _ _ ⟨rfl, u, rfl, u1, u2, u3⟩
    have hqv : v1 ≠ q := fun e => by rw [e, k1] at k2; cases k2
    have k1' := mu_o (e := ba g (gQ cap (w.length + (dgI x).length)) u) (Ne.symm hqv) k1
    refine x_pop hC dJ12_append_2_33 rfl ?_
    refine x_goto (tgt := 48) hC dJ12_append_2_34 (by decide) ?_
    refine x_aload_n hC dJ12_append_2_48 rfl rfl ?_
    refine x_iload_n hC dJ12_append_2_49 rfl rfl ?_
    refine x_put hC 3 k1' hg rfl (by decide) q299 rfl rfl rfl rfl rfl (show 3 < 4 by decide) (fs' := [.ref v1, .int 0, .int 0, .int (nI (w.length + (dgI x).length))]) rfl dJ12_append_2_50 ?_
    refine x_aload_n hC dJ12_append_2_53 rfl rfl ?_
    refine x_aret hC hk dJ12_append_2_54 (Or.inl ⟨_, rfl⟩) (Or.inr ⟨_, rfl⟩) (Nat.le_refl _) (Nat.le_refl _) ⟨rfl, ?_, (hF.tr (Fr.set k2 rfl)).tr (Fr.set k1' rfl)⟩
    refine ⟨v1, u, by rw [mu_s, List.length_append], mu_o hqv mu_s, by rw [List.length_append]; exact gi.2.2.1, u1, fun k c hc => ?_, fun c hc => ?_⟩
    · rcases app_at hc with ⟨e1, e2⟩ | ⟨e1, e2⟩
      · rw [u2 k e1]; exact k5 k c e2
      · have := u3 _ c e2
        rwa [show w.length + (k - w.length) = k by omega] at this
    · rcases List.mem_append.mp hc with hc | hc
      · exact k6 c hc
      · exact dgI_ch c hc
theorem ct_sbAppI (hG : GOK G) (hT : T1 G T) (hM : M1c T M) (hg : g ≠ 0) {x : Int32} (hx : x.toInt.natAbs < 10 ^ 7) (h : SBM M g q cap w) (hQ : gQ cap (w.length + (dgI x).length) ≤ 65536) : Ct G yJ13_append_2 cJ13_append_2 2 (some (.object "java/lang/StringBuilder")) (xrm 6 (gC cap (w.length + (dgI x).length)) (gS cap (w.length + (dgI x).length))) [.ref q, .int x] M (PSb M g q (gQ cap (w.length + (dgI x).length)) (w ++ dgI x)) := by
  obtain ⟨vs, hq⟩ := h.rec
  refine ct_open (lv := [_, _]) hG (by decide +kernel) (Nat.le_of_ble_eq_true rfl) rfl (fun C hC hk => ?_)
  refine x_aload_n hC dJ13_append_2_0 rfl rfl ?_
  refine x_iload_n hC dJ13_append_2_1 rfl rfl ?_
  refine x_callSU (k := gC cap (w.length + (dgI x).length)) (n := gS cap (w.length + (dgI x).length)) (na := 1) hC (ct_abAppI hG hT hM hg hx h hQ) q490 q2882 q308 q491 q98 q492 hq rfl ⟨by decide, by decide +kernel⟩ rfl ⟨Nat.le_of_ble_eq_true rfl, Nat.le_of_ble_eq_true rfl⟩ rfl (Nat.le_of_ble_eq_true rfl) (show 0 + gC cap (w.length + (dgI x).length) ≤ gC cap (w.length + (dgI x).length) by omega) (show 0 + gS cap (w.length + (dgI x).length) ≤ gS cap (w.length + (dgI x).length) by omega) ⟨Nat.le_refl _, Nat.le_refl _⟩ dJ13_append_2_2 ?_
  rintro _ M1 ⟨rfl, hS, hF⟩
  refine x_pop hC dJ13_append_2_5 rfl ?_
  refine x_aload_n hC dJ13_append_2_6 rfl rfl ?_
  exact x_aret hC hk dJ13_append_2_7 (Or.inl ⟨_, rfl⟩) (Or.inr ⟨_, rfl⟩) (Nat.le_refl _) (Nat.le_refl _) ⟨rfl, hS, hF⟩
theorem ct_sGet (hG : GOK G) (hg : g ≠ 0) {v i m : Nat} {u : Nat → Int32} (h : SM M s t) (hv : M v = some (ba g m u)) (hm : i + t.length ≤ m) (hm2 : m ≤ 65536) : Ct G yJ14_getBytes cJ14_getBytes 4 none (xrm 2 0 0) [.ref s, .ref v, .int (nI i), .int 0] M (fun r M' => r = none ∧ ∃ u', M' = mu M v (ba g m u') ∧ (sb_Fit u → sb_Fit u') ∧ (∀ k, k < i → u' k = u k) ∧ ∀ (k c : Nat), t[k]? = some c → u' (i + k) = sb_b c) := by
  obtain ⟨b, x, z, f, h1, h2, h3, h4, h5⟩ := h
  have hfit : ∀ k, k < t.length → fits .byte (.int (f k)) = true := fun k hk => by rw [h3 k _ (List.getElem?_eq_getElem hk)]; exact sb_fitB _
  refine ct_open (lv := [_, _, _, _]) hG (by decide +kernel) (Nat.le_of_ble_eq_true rfl) rfl (fun C hC hk => ?_)
  refine x_aload_n hC dJ14_getBytes_0 rfl rfl ?_
  refine x_callV0 (na := 0) hC (ct_sCoder hG h1) (lw_V q539 q540 q541 q100 q542) h1 rfl rfl (by decide +kernel) rfl ⟨Nat.le_of_ble_eq_true rfl, Nat.le_of_ble_eq_true rfl⟩ rfl (Nat.le_of_ble_eq_true rfl) ⟨rfl, rfl⟩ ⟨Nat.le_of_ble_eq_true rfl, Nat.le_of_ble_eq_true rfl⟩ dJ14_getBytes_1 ?_
  rintro _ M ⟨rfl, rfl⟩
  refine x_iload_n hC dJ14_getBytes_4 rfl rfl ?_
  refine x_icmp_ne (tgt := 28) hC dJ14_getBytes_5 (by decide) (fun c => ?_) (fun c => ?_)
  · exact absurd rfl c
  · refine x_aload_n hC dJ14_getBytes_8 rfl rfl ?_
    refine x_get hC 0 h1 rfl (by decide) q598 rfl rfl dJ14_getBytes_9 ?_
    refine x_iconst (v := nI 0) hC dJ14_getBytes_12 (by decide) ?_
    refine x_aload_n hC dJ14_getBytes_13 rfl rfl ?_
    refine x_iload_n hC dJ14_getBytes_14 rfl rfl ?_
    refine x_iload_n hC dJ14_getBytes_15 rfl rfl ?_
    refine x_ishl hC dJ14_getBytes_16 ?_
    rw [sb_shl0]
    refine x_aload_n hC dJ14_getBytes_17 rfl rfl ?_
    refine x_get hC 0 h1 rfl (by decide) q598 rfl rfl dJ14_getBytes_18 ?_
    refine x_alen hC h2 dJ14_getBytes_21 ?_
    dsimp only
    refine x_copyi (sp := 0) hC h2 hv hg rfl q557 q350 q349 q105 (by omega) (by omega) (by omega) (by omega) (fun k hk => by rw [Nat.zero_add]; exact hfit k hk) (Nat.le_of_ble_eq_true rfl) (Nat.le_of_ble_eq_true rfl) dJ14_getBytes_22 ?_
    refine x_goto (tgt := 43) hC dJ14_getBytes_25 (by decide) ?_
    refine x_vret hC hk dJ14_getBytes_43 (Nat.le_of_ble_eq_true rfl) (Nat.le_of_ble_eq_true rfl) ⟨rfl, _, rfl, fun hu j => ?_, fun k hk => ?_, fun k c hc => ?_⟩
    · show fits .byte (.int (if i ≤ j ∧ j < i + t.length then f (0 + (j - i)) else u j)) = true
      split
      next h => rw [Nat.zero_add]; exact hfit _ (by omega)
      next => exact hu j
    · show (if i ≤ k ∧ k < i + t.length then f (0 + (k - i)) else u k) = u k
      rw [if_neg (by omega)]
    · have hk := (List.getElem?_eq_some_iff.mp hc).1
      show (if i ≤ i + k ∧ i + k < i + t.length then f (0 + (i + k - i)) else u (i + k)) = sb_b c
      rw [if_pos (by omega), show 0 + (i + k - i) = k by omega]
      exact h3 k c hc
theorem ct_abInf (hG : GOK G) {v : Nat} {y z : Value} (h : M q = some (ob g 12 [.ref v, .int 0, y, z])) (hs : SM M s t) : Ct G yJ12_inflateIfNeededFor cJ12_inflateIfNeededFor 2 none (xrm 2 0 0) [.ref q, .ref s] M (fun r M' => r = none ∧ M' = M) := by
  obtain ⟨b, x, z, f, h1, -⟩ := hs
  refine ct_open (lv := [_, _]) hG (by decide +kernel) (Nat.le_of_ble_eq_true rfl) rfl (fun C hC hk => ?_)
  refine x_gets hC (zs_cs hG) q287 rfl dJ12_inflateIfNeededFor_0 ?_
  refine x_if_eq (tgt := 21) hC dJ12_inflateIfNeededFor_3 (by decide) (fun c => ?_) (fun c => ?_)
  · exact absurd c (by decide)
  · refine x_aload_n hC dJ12_inflateIfNeededFor_6 rfl rfl ?_
    refine x_get hC 1 h rfl (by decide) q297 rfl rfl dJ12_inflateIfNeededFor_7 ?_
    refine x_aload_n hC dJ12_inflateIfNeededFor_10 rfl rfl ?_
    refine x_callV0 (na := 0) hC (ct_sCoder hG h1) (lw_V q552 q540 q541 q100 q542) h1 rfl rfl (by decide +kernel) rfl ⟨Nat.le_of_ble_eq_true rfl, Nat.le_of_ble_eq_true rfl⟩ rfl (Nat.le_of_ble_eq_true rfl) ⟨rfl, rfl⟩ ⟨Nat.le_of_ble_eq_true rfl, Nat.le_of_ble_eq_true rfl⟩ dJ12_inflateIfNeededFor_11 ?_
    rintro _ M ⟨rfl, rfl⟩
    refine x_icmp_eq (tgt := 21) hC dJ12_inflateIfNeededFor_14 (by decide) (fun d => ?_) (fun d => ?_)
    · exact x_vret hC hk dJ12_inflateIfNeededFor_21 (Nat.le_of_ble_eq_true rfl) (Nat.le_of_ble_eq_true rfl) ⟨rfl, rfl⟩
    · exact absurd rfl d
theorem ct_abPut (hG : GOK G) (hg : g ≠ 0) {v i m : Nat} {u : Nat → Int32} {y z : Value} (h : M q = some (ob g 12 [.ref v, .int 0, y, z])) (hs : SM M s t) (hv : M v = some (ba g m u)) (hm : i + t.length ≤ m) (hm2 : m ≤ 65536) : Ct G yJ12_putStringAt cJ12_putStringAt 3 none (xrm 3 0 0) [.ref q, .int (nI i), .ref s] M (fun r M' => r = none ∧ ∃ u', M' = mu M v (ba g m u') ∧ (sb_Fit u → sb_Fit u') ∧ (∀ k, k < i → u' k = u k) ∧ ∀ (k c : Nat), t[k]? = some c → u' (i + k) = sb_b c) := by
  obtain ⟨vss, hso⟩ := hs.rec
  refine ct_open (lv := [_, _, _]) hG (by decide +kernel) (Nat.le_of_ble_eq_true rfl) rfl (fun C hC hk => ?_)
  refine x_aload_n hC dJ12_putStringAt_0 rfl rfl ?_
  refine x_aload_n hC dJ12_putStringAt_1 rfl rfl ?_
  refine x_callP0 (na := 1) hC (ct_abInf hG h hs) q548 q2886 q549 q550 q98 q551 h rfl (by decide +kernel) rfl ⟨Nat.le_of_ble_eq_true rfl, Nat.le_of_ble_eq_true rfl⟩ rfl (Nat.le_of_ble_eq_true rfl) ⟨rfl, rfl⟩ ⟨Nat.le_of_ble_eq_true rfl, Nat.le_of_ble_eq_true rfl⟩ dJ12_putStringAt_2 ?_
  rintro _ M ⟨rfl, rfl⟩
  refine x_aload_n hC dJ12_putStringAt_5 rfl rfl ?_
  refine x_aload_n hC dJ12_putStringAt_6 rfl rfl ?_
  refine x_get hC 0 h rfl (by decide) q296 rfl rfl dJ12_putStringAt_7 ?_
  refine x_iload_n hC dJ12_putStringAt_10 rfl rfl ?_
  refine x_aload_n hC dJ12_putStringAt_11 rfl rfl ?_
  refine x_get hC 1 h rfl (by decide) q297 rfl rfl dJ12_putStringAt_12 ?_
  refine x_callV0 (na := 3) hC (ct_sGet hG hg hs hv hm hm2) (lw_V q553 q554 q555 q100 q556) hso rfl rfl (by decide +kernel) rfl ⟨Nat.le_of_ble_eq_true rfl, Nat.le_of_ble_eq_true rfl⟩ rfl (Nat.le_of_ble_eq_true rfl) ⟨rfl, rfl⟩ ⟨Nat.le_of_ble_eq_true rfl, Nat.le_of_ble_eq_true rfl⟩ dJ12_putStringAt_15 ?_
  rintro _ M1 ⟨rfl, h9⟩
  exact x_vret hC hk dJ12_putStringAt_18 (Nat.le_of_ble_eq_true rfl) (Nat.le_of_ble_eq_true rfl) ⟨rfl, h9⟩
theorem ct_abAppS (hG : GOK G) (hg : g ≠ 0) (h : SBM M g q cap w) (hs : SM M s t) (hQ : gQ cap (w.length + t.length) ≤ 65536) : Ct G yJ12_append_3 cJ12_append_3 3 (some (.object "java/lang/AbstractStringBuilder")) (xrm 5 (gC cap (w.length + t.length)) (gS cap (w.length + t.length))) [.ref q, .ref s] M (PSb M g q (gQ cap (w.length + t.length)) (w ++ t)) := by
  obtain ⟨v, f, h1, -⟩ := id h
  obtain ⟨vss, hso⟩ := hs.rec
  have gi := g_inv (cap := cap) (n := w.length + t.length)
  have ht256 : ∀ c ∈ t, c < 256 := by obtain ⟨b, x, z, f, h1, h2, h3, h4, h5⟩ := id hs; exact h5
  refine ct_open (lv := [_, _, _]) hG (by decide +kernel) (Nat.le_of_ble_eq_true rfl) rfl (fun C hC hk => ?_)
  obtain ⟨M0, hM0⟩ : ∃ M0, M0 = M := ⟨M, rfl⟩
  rw [← hM0] at hk
  have hF : Fm M0 M := by rw [hM0]; exact Fr.rf
  subst hM0
  refine x_aload_n hC dJ12_append_3_0 rfl rfl ?_
  refine x_ifnonnullV (o := some s) (tgt := 9) hC dJ12_append_3_1 (by decide) (fun _ _ => ?_) (fun h => by cases h)
  refine x_aload_n hC dJ12_append_3_9 rfl rfl ?_
  refine x_callV0 (na := 0) hC (ct_sLen hG hs) (lw_V q535 q536 q537 q100 q538) hso rfl rfl (by decide +kernel) rfl ⟨Nat.le_of_ble_eq_true rfl, Nat.le_of_ble_eq_true rfl⟩ rfl (Nat.le_of_ble_eq_true rfl) ⟨rfl, rfl⟩ ⟨Nat.zero_le _, Nat.zero_le _⟩ dJ12_append_3_10 ?_
  rintro _ M0 ⟨rfl, rfl⟩
  refine x_istore_n (lv' := [_, _, _]) hC dJ12_append_3_13 rfl (by decide) rfl ?_
  refine x_aload_n hC dJ12_append_3_14 rfl rfl ?_
  refine x_aload_n hC dJ12_append_3_15 rfl rfl ?_
  refine x_get hC 3 h1 rfl (by decide) q299 rfl rfl dJ12_append_3_16 ?_
  refine x_iload_n hC dJ12_append_3_19 rfl rfl ?_
  refine x_iaddN hC dJ12_append_3_20 ?_
  refine x_callP (k := gC cap (w.length + t.length)) (n := gS cap (w.length + t.length)) (na := 1) hC (ct_abEns hG hg h hQ) q316 q2878 q317 q318 q98 q319 h1 rfl (by decide +kernel) rfl ⟨Nat.le_of_ble_eq_true rfl, Nat.le_of_ble_eq_true rfl⟩ rfl (Nat.le_of_ble_eq_true rfl) (show 0 + gC cap (w.length + t.length) ≤ gC cap (w.length + t.length) by omega) (show 0 + gS cap (w.length + t.length) ≤ gS cap (w.length + t.length) by omega) ⟨Nat.le_refl _, Nat.le_refl _⟩ dJ12_append_3_21 ?_
  rintro _ M1 ⟨rfl, hS, hF⟩
  obtain ⟨v1, f1, k1, k2, k3, k4, k5, k6⟩ := hS
  refine x_aload_n hC dJ12_append_3_24 rfl rfl ?_
  refine x_aload_n hC dJ12_append_3_25 rfl rfl ?_
  refine x_get hC 3 k1 rfl (by decide) q299 rfl rfl dJ12_append_3_26 ?_
  refine x_aload_n hC dJ12_append_3_29 rfl rfl ?_
  refine x_callP0 (na := 2) hC (ct_abPut hG hg k1 (hs.fr hF (Ne.symm hg)) k2 gi.2.2.1 hQ) q544 q2885 q545 q546 q98 q547 k1 rfl (by decide +kernel) rfl ⟨Nat.le_of_ble_eq_true rfl, Nat.le_of_ble_eq_true rfl⟩ rfl (Nat.le_of_ble_eq_true rfl) ⟨rfl, rfl⟩ ⟨Nat.le_refl _, Nat.le_refl _⟩ dJ12_append_3_30 ?_
  rintro _ _ ⟨rfl, u, rfl, u1, u2, u3⟩
  have hqv : v1 ≠ q := fun e => by rw [e, k1] at k2; cases k2
  have k1' := mu_o (e := ba g (gQ cap (w.length + t.length)) u) (Ne.symm hqv) k1
  refine x_aload_n hC dJ12_append_3_33 rfl rfl ?_
  refine x_dup hC dJ12_append_3_34 rfl ?_
  refine x_get hC 3 k1' rfl (by decide) q299 rfl rfl dJ12_append_3_35 ?_
  refine x_iload_n hC dJ12_append_3_38 rfl rfl ?_
  refine x_iaddN hC dJ12_append_3_39 ?_
  refine x_put hC 3 k1' hg rfl (by decide) q299 rfl rfl rfl rfl rfl (show 3 < 4 by decide) (fs' := [.ref v1, .int 0, .int 0, .int (nI (w.length + t.length))]) rfl dJ12_append_3_40 ?_
  refine x_aload_n hC dJ12_append_3_43 rfl rfl ?_
  refine x_aret hC hk dJ12_append_3_44 (Or.inl ⟨_, rfl⟩) (Or.inr ⟨_, rfl⟩) (Nat.le_refl _) (Nat.le_refl _) ⟨rfl, ?_, (hF.tr (Fr.set k2 rfl)).tr (Fr.set k1' rfl)⟩
  refine ⟨v1, u, by rw [mu_s, List.length_append], mu_o hqv mu_s, by rw [List.length_append]; exact gi.2.2.1, u1 k4, fun k c hc => ?_, fun c hc => ?_⟩
  · rcases app_at hc with ⟨e1, e2⟩ | ⟨e1, e2⟩
    · rw [u2 k e1]; exact k5 k c e2
    · have := u3 _ c e2
      rwa [show w.length + (k - w.length) = k by omega] at this
  · rcases List.mem_append.mp hc with hc | hc
    · exact k6 c hc
    · exact ht256 c hc
theorem ct_sbAppS (hG : GOK G) (hg : g ≠ 0) (h : SBM M g q cap w) (hs : SM M s t) (hQ : gQ cap (w.length + t.length) ≤ 65536) : Ct G yJ13_append_3 cJ13_append_3 2 (some (.object "java/lang/StringBuilder")) (xrm 6 (gC cap (w.length + t.length)) (gS cap (w.length + t.length))) [.ref q, .ref s] M (PSb M g q (gQ cap (w.length + t.length)) (w ++ t)) := by
  obtain ⟨vs, hq⟩ := h.rec
  refine ct_open (lv := [_, _]) hG (by decide +kernel) (Nat.le_of_ble_eq_true rfl) rfl (fun C hC hk => ?_)
  refine x_aload_n hC dJ13_append_3_0 rfl rfl ?_
  refine x_aload_n hC dJ13_append_3_1 rfl rfl ?_
  refine x_callSU (k := gC cap (w.length + t.length)) (n := gS cap (w.length + t.length)) (na := 1) hC (ct_abAppS hG hg h hs hQ) q525 q2883 q308 q526 q98 q527 hq rfl ⟨by decide, by decide +kernel⟩ rfl ⟨Nat.le_of_ble_eq_true rfl, Nat.le_of_ble_eq_true rfl⟩ rfl (Nat.le_of_ble_eq_true rfl) (show 0 + gC cap (w.length + t.length) ≤ gC cap (w.length + t.length) by omega) (show 0 + gS cap (w.length + t.length) ≤ gS cap (w.length + t.length) by omega) ⟨Nat.le_refl _, Nat.le_refl _⟩ dJ13_append_3_2 ?_
  rintro _ M1 ⟨rfl, hS, hF⟩
  refine x_pop hC dJ13_append_3_5 rfl ?_
  refine x_aload_n hC dJ13_append_3_6 rfl rfl ?_
  exact x_aret hC hk dJ13_append_3_7 (Or.inl ⟨_, rfl⟩) (Or.inr ⟨_, rfl⟩) (Nat.le_refl _) (Nat.le_refl _) ⟨rfl, hS, hF⟩
theorem ct_sbAppB (hG : GOK G) (hg : g ≠ 0) (h : SBM M g q cap w) (hs : SM M s t) (hQ : gQ cap (w.length + t.length) ≤ 65536) : Ct G yJ13_append_4 cJ13_append_4 2 (some (.object "java/lang/AbstractStringBuilder")) (xrm 7 (gC cap (w.length + t.length)) (gS cap (w.length + t.length))) [.ref q, .ref s] M (PSb M g q (gQ cap (w.length + t.length)) (w ++ t)) := by
  obtain ⟨vs, hq⟩ := h.rec
  refine ct_open (lv := [_, _]) hG (by decide +kernel) (Nat.le_of_ble_eq_true rfl) rfl (fun C hC hk => ?_)
  refine x_aload_n hC dJ13_append_4_0 rfl rfl ?_
  refine x_aload_n hC dJ13_append_4_1 rfl rfl ?_
  refine x_callV (k := gC cap (w.length + t.length)) (n := gS cap (w.length + t.length)) (na := 1) hC (ct_sbAppS hG hg h hs hQ) (lw_V q2303 q522 q523 q99 q524) hq rfl rfl (by decide +kernel) rfl ⟨Nat.le_of_ble_eq_true rfl, Nat.le_of_ble_eq_true rfl⟩ rfl (Nat.le_of_ble_eq_true rfl) (show 0 + gC cap (w.length + t.length) ≤ gC cap (w.length + t.length) by omega) (show 0 + gS cap (w.length + t.length) ≤ gS cap (w.length + t.length) by omega) ⟨Nat.le_refl _, Nat.le_refl _⟩ dJ13_append_4_2 ?_
  rintro _ M1 ⟨rfl, hS, hF⟩
  exact x_aret hC hk dJ13_append_4_5 (Or.inl ⟨_, rfl⟩) (Or.inr ⟨_, rfl⟩) (Nat.le_refl _) (Nat.le_refl _) ⟨rfl, hS, hF⟩
theorem ct_abInitS (hG : GOK G) (hg : g ≠ 0) (h : M q = some (ob g 12 [.null, .int 0, .int 0, .int 0])) (hs : SM M s t) : Ct G yJ12_init_2 cJ12_init_2 5 none (xrm 8 1 (t.length + 16)) [.ref q, .ref s] M (fun r M' => r = none ∧ SBM M' g q (t.length + 16) t ∧ Fr (fun g' => g' = g) M M') := by
  obtain ⟨vss, hso⟩ := hs.rec
  have hl := hs.len
  obtain ⟨b, x, z, f, h1, -⟩ := id hs
  refine ct_open (lv := [_, _, _, _, _]) hG (by decide +kernel) (Nat.le_of_ble_eq_true rfl) rfl (fun C hC hk => ?_)
  obtain ⟨M0, hM0⟩ : ∃ M0, M0 = M := ⟨M, rfl⟩
  rw [← hM0] at hk
  have hF : Fm M0 M := by rw [hM0]; exact Fr.rf
  subst hM0
  refine x_aload_n hC dJ12_init_2_0 rfl rfl ?_
  refine x_objInit hC q286 q132 q133 dJ12_init_2_1 (Nat.le_of_ble_eq_true rfl) ⟨Nat.le_of_ble_eq_true rfl, Nat.le_of_ble_eq_true rfl⟩ ?_
  refine x_aload_n hC dJ12_init_2_4 rfl rfl ?_
  refine x_callV0 (na := 0) hC (ct_sLen hG hs) (lw_V q535 q536 q537 q100 q538) hso rfl rfl (by decide +kernel) rfl ⟨Nat.le_of_ble_eq_true rfl, Nat.le_of_ble_eq_true rfl⟩ rfl (Nat.le_of_ble_eq_true rfl) ⟨rfl, rfl⟩ ⟨Nat.le_of_ble_eq_true rfl, Nat.le_of_ble_eq_true rfl⟩ dJ12_init_2_5 ?_
  rintro _ M0 ⟨rfl, rfl⟩
  refine x_istore_n (lv' := [_, _, _, _, _]) hC dJ12_init_2_8 rfl (by decide) rfl ?_
  refine x_iload_n hC dJ12_init_2_9 rfl rfl ?_
  refine x_ldc hC q2299 dJ12_init_2_10 ?_
  refine x_icmp_ge (tgt := 22) hC dJ12_init_2_12 (by decide) (fun c => ?_) (fun c => ?_)
  · exact absurd c (by rw [show (2147483631 : Int32) = nI 2147483631 from rfl]; exact fun z => by have := (nI_leI (by decide) (by omega)).mp z; omega)
  · refine x_iload_n hC dJ12_init_2_15 rfl rfl ?_
    refine x_bipush (v := nI 16) hC dJ12_init_2_16 (by decide) ?_
    refine x_iaddN hC dJ12_init_2_18 ?_
    refine x_goto (tgt := 24) hC dJ12_init_2_19 (by decide) ?_
    refine x_istore_n (lv' := [_, _, _, _, _]) hC dJ12_init_2_24 rfl (by decide) rfl ?_
    refine x_aload_n hC dJ12_init_2_25 rfl rfl ?_
    refine x_callV0 (na := 0) hC (ct_sCoder hG h1) (lw_V q552 q540 q541 q100 q542) h1 rfl rfl (by decide +kernel) rfl ⟨Nat.le_of_ble_eq_true rfl, Nat.le_of_ble_eq_true rfl⟩ rfl (Nat.le_of_ble_eq_true rfl) ⟨rfl, rfl⟩ ⟨Nat.le_of_ble_eq_true rfl, Nat.le_of_ble_eq_true rfl⟩ dJ12_init_2_26 ?_
    rintro _ M0 ⟨rfl, rfl⟩
    refine x_istore (lv' := [_, _, _, _, _]) hC dJ12_init_2_29 (by decide) rfl ?_
    refine x_aload_n hC dJ12_init_2_31 rfl rfl ?_
    refine x_iload hC dJ12_init_2_32 rfl ?_
    refine x_put hC 1 h hg rfl (by decide) q297 rfl rfl rfl rfl rfl (show 1 < 4 by decide) (fs' := [.null, .int 0, .int 0, .int 0]) rfl dJ12_init_2_34 ?_
    rw [mu_id h]
    refine x_aload_n hC dJ12_init_2_37 rfl rfl ?_
    refine x_iload hC dJ12_init_2_38 rfl ?_
    refine x_if_ne (tgt := 49) hC dJ12_init_2_40 (by decide) (fun d => ?_) (fun d => ?_)
    · exact absurd rfl d
    · refine x_iload_n hC dJ12_init_2_43 rfl rfl ?_
      refine x_newb hC (t.length + 16) g q169 hg rfl (by omega) (Nat.le_of_ble_eq_true rfl) (show 0 + (t.length + 16) ≤ t.length + 16 by omega) dJ12_init_2_44 (fun a ha => ?_)
      refine x_goto (tgt := 53) hC dJ12_init_2_46 (by decide) ?_
      have h' := mu_f (e := ba g (t.length + 16) fun _ => 0) ha h
      have hqa : a ≠ q := fun e => by rw [e, h] at ha; cases ha
      refine x_put hC 0 h' hg rfl (by decide) q296 rfl rfl rfl rfl rfl (show 0 < 4 by decide) (fs' := [.ref a, .int 0, .int 0, .int 0]) rfl dJ12_init_2_53 ?_
      have hF : Fr (fun g' => g' = g) M0 (mu (mu M0 a (ba g (t.length + 16) fun _ => 0)) q (ob g 12 [.ref a, .int 0, .int 0, .int 0])) := (Fr.new ha).tr (Fr.set h' rfl)
      have hS : SBM (mu (mu M0 a (ba g (t.length + 16) fun _ => 0)) q (ob g 12 [.ref a, .int 0, .int 0, .int 0])) g q (t.length + 16) [] := ⟨a, _, mu_s, mu_o hqa mu_s, Nat.zero_le _, sb_fit0, (fun k c hk => by cases hk), (fun c hc => by cases hc)⟩
      have hs2 := hs.fr hF (Ne.symm hg)
      generalize mu (mu M0 a (ba g (t.length + 16) fun _ => 0)) q (ob g 12 [.ref a, .int 0, .int 0, .int 0]) = M2 at hF hS hs2 ⊢
      obtain ⟨vq, hq2⟩ := hS.rec
      have e1 : ([] : List Nat).length + t.length ≤ t.length + 16 := by rw [List.length_nil]; omega
      have e2 : gQ (t.length + 16) (([] : List Nat).length + t.length) = t.length + 16 := if_pos e1
      have e3 : gC (t.length + 16) (([] : List Nat).length + t.length) = 0 := if_pos e1
      have e4 : gS (t.length + 16) (([] : List Nat).length + t.length) = 0 := if_pos e1
      have hct := ct_sbAppB hG hg hS hs2 (by rw [e2]; omega)
      rw [e2, e3, e4] at hct
      refine x_aload_n hC dJ12_init_2_56 rfl rfl ?_
      refine x_aload_n hC dJ12_init_2_57 rfl rfl ?_
      refine x_callO0 (na := 1) hC (hct) q2300 q2883 q2889 q2301 q99 q2302 q526 q527 hq2 rfl (by decide +kernel) rfl ⟨Nat.le_of_ble_eq_true rfl, Nat.le_of_ble_eq_true rfl⟩ rfl (Nat.le_of_ble_eq_true rfl) ⟨rfl, rfl⟩ ⟨Nat.le_of_ble_eq_true rfl, (show 0 + (t.length + 16) ≤ t.length + 16 by omega)⟩ dJ12_init_2_58 ?_
      rintro _ M3 ⟨rfl, hS3, hF3⟩
      refine x_pop hC dJ12_init_2_61 rfl ?_
      exact x_vret hC hk dJ12_init_2_62 (Nat.le_of_ble_eq_true rfl) (show 0 + (t.length + 16) ≤ t.length + 16 by omega) ⟨rfl, hS3, hF.tr hF3⟩
theorem ct_sbInitS (hG : GOK G) (hg : g ≠ 0) (h : M q = some (ob g 12 [.null, .int 0, .int 0, .int 0])) (hs : SM M s t) : Ct G yJ13_init_2 cJ13_init_2 2 none (xrm 9 1 (t.length + 16)) [.ref q, .ref s] M (fun r M' => r = none ∧ SBM M' g q (t.length + 16) t ∧ Fr (fun g' => g' = g) M M') := by
  refine ct_open (lv := [_, _]) hG (by decide +kernel) (Nat.le_of_ble_eq_true rfl) rfl (fun C hC hk => ?_)
  refine x_aload_n hC dJ13_init_2_0 rfl rfl ?_
  refine x_aload_n hC dJ13_init_2_1 rfl rfl ?_
  refine x_callI (k := 1) (n := t.length + 16) (na := 1) hC (ct_abInitS hG hg h hs) q2298 q98 q2296 q2297 rfl (by decide +kernel) rfl ⟨Nat.le_of_ble_eq_true rfl, Nat.le_of_ble_eq_true rfl⟩ rfl (Nat.le_of_ble_eq_true rfl) (Nat.le_refl 1) (show 0 + (t.length + 16) ≤ t.length + 16 by omega) ⟨Nat.le_refl _, Nat.le_refl _⟩ dJ13_init_2_2 ?_
  rintro _ M1 ⟨rfl, hS, hF⟩
  exact x_vret hC hk dJ13_init_2_5 (Nat.le_refl _) (Nat.le_refl _) ⟨rfl, hS, hF⟩
end APP

