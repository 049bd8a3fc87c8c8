/-! ===== the buffer's text; names; new recordings ===== -/
/-- the cells of passing objects -/
abbrev PT : Nat → Prop := fun g => g = 3 ∨ g = 5
theorem pt3 {M M' : X_M} (h : Fr (fun g => g = 3) M M') : Fr PT M M' := h.wk fun _ e => Or.inl e
theorem pt5 {M M' : X_M} (h : Fr (fun g => g = 5) M M') : Fr PT M M' := h.wk fun _ e => Or.inr e
theorem pt_pe {M M' : X_M} (h : Fr PT M M') : Fr PE M M' := h.wk fun g z => by
  rcases z with e | e <;> subst e <;> exact ⟨by decide, by decide, by decide, by decide⟩
theorem CRp.pt {S : X_S} {M M' : X_M} {T : X_T} {a bu ar dq : Nat} {sv : Option Nat} {fm : Nat} {bf : Nat → Int32} {H : List Nat} (h : CRp S M T a bu ar dq sv fm bf H) (hF : Fr PT M M') : CRp S M' T a bu ar dq sv fm bf H := h.fr hF (by decide) (by decide) (by decide) (by decide) (fun g z e => by rcases e with e | e <;> omega)
theorem CRep.pt {S : X_S} {M M' : X_M} {T : X_T} {a : Nat} (h : CRep S M T a) (hF : Fr PT M M') : CRep S M' T a := by
  obtain ⟨bu, ar, dq, sv, fm, bf, H, h⟩ := h
  exact ⟨bu, ar, dq, sv, fm, bf, H, h.pt hF⟩
theorem CX.mk {T : X_T} {a : Nat} {S : X_S} {code : Int32} {es : List String} {M M' : X_M} {q k : Nat} {E : String} (hR : CRep S M' T a) (hF : Fr PW M M') (hc : code = nI (k + 1)) (he : es[k]? = some E) : CX T a S code es M q E M' := ⟨⟨k, hc, he⟩, hR, hF⟩
section NMS
variable {G : X_G} {M : X_M} {T : X_T} {a s : Nat} {S : X_S} {w : List Nat}
theorem ct_bufferText (hG : GOK G) (hR : CRep S M T a) : Ct G yX1_bufferText cX1_bufferText 3 (some (.object "java/lang/String")) (xrm 7 1802 4524) [.ref a] M (fun z M' => ∃ s, z = some (.ref s) ∧ SM M' s (sB S) ∧ Fr PT M M') := by
  obtain ⟨bu, ar, dq, sv, fm, bf, H, hR2⟩ := hR
  have h900 := hR2.2.1.2.1
  refine ct_open (lv := [_, _, _]) hG (by decide +kernel) (Nat.le_of_ble_eq_true rfl) rfl (fun C hC hk => ?_)
  obtain ⟨M0, hM0⟩ : ∃ M0, M0 = M := ⟨M, rfl⟩
  rw [← hM0] at hk
  have hF : Fm M0 M := by rw [hM0]; exact Fr.rf
  subst hM0
  refine x_new (ci := 12) (T := TJ13) (N := 4) hC 5 [.null, .int 0, .int 0, .int 0] rfl q278 q279 q99 tyJ13 tyJ13_ok (by decide) (by decide +kernel) (Nat.le_of_ble_eq_true rfl) (Nat.le_of_ble_eq_true rfl) dX1_bufferText_0 (fun q hq => ?_)
  have hF0 : Fr PT M0 (mu M0 q (ob 5 12 [.null, .int 0, .int 0, .int 0])) := Fr.new hq
  refine x_dup hC dX1_bufferText_3 rfl ?_
  refine x_callI (k := 2) (n := 20) (na := 0) hC (ct_sbInit hG (by decide) mu_s) q282 q99 q280 q281 rfl (by decide +kernel) rfl ⟨Nat.le_of_ble_eq_true rfl, Nat.le_of_ble_eq_true rfl⟩ rfl (Nat.le_of_ble_eq_true rfl) (Nat.le_of_ble_eq_true rfl) (Nat.le_of_ble_eq_true rfl) ⟨Nat.le_of_ble_eq_true rfl, Nat.le_of_ble_eq_true rfl⟩ dX1_bufferText_4 ?_
  rintro _ M1 ⟨rfl, hS, hF1⟩
  refine x_astore_n (lv' := [_, _, _]) hC dX1_bufferText_7 rfl (by decide) rfl ?_
  refine x_iconst (v := nI 0) hC dX1_bufferText_8 (by decide) ?_
  refine x_istore_n (lv' := [_, _, _]) hC dX1_bufferText_9 rfl (by decide) rfl ?_
  refine x_up (n := (sB S).length) (I := fun k => ∀ M2 kc ks cap, kc ≤ cap → ks ≤ 20 + 2 * cap → cap ≤ max 16 (2 * k) → SBM M2 5 q cap ((sB S).take k) → Fr PT M0 M2 → Wg G C M2 kc ks 10 [some (.ref a), some (.ref q), some (.int (nI k))] []) (fun k hk2 ih M2 kc ks cap hkc hks hcap hS hF => ?_) 0 (Nat.zero_le _) M1 2 20 16 (by decide) (by decide) (by decide) hS (hF0.tr (pt5 hF1))
  have hR3 := hR2.pt hF
  have h1 := hR3.1
  obtain ⟨vq, hq2⟩ := hS.rec
  refine x_iload_n hC dX1_bufferText_10 rfl rfl ?_
  refine x_aload_n hC dX1_bufferText_11 rfl rfl ?_
  refine x_get hC 1 h1 rfl (by decide) q230 rfl rfl dX1_bufferText_12 ?_
  refine x_icmp_geN (tgt := 40) hC (by omega) (by omega) dX1_bufferText_15 (by decide) (fun c => ?_) (fun c => ?_)
  · have e : k = (sB S).length := by omega
    subst e
    rw [List.take_length] at hS
    refine x_aload_n hC dX1_bufferText_40 rfl rfl ?_
    refine x_callV (k := kc + 2) (n := ks + (4 + (sB S).length)) (na := 0) hC (ct_sbStr hG (by decide) hS (by omega) (by omega)) (lw_V q404 q405 q406 q99 q407) hq2 rfl rfl (by decide +kernel) rfl ⟨Nat.le_of_ble_eq_true rfl, Nat.le_of_ble_eq_true rfl⟩ rfl (Nat.le_of_ble_eq_true rfl) (Nat.le_refl _) (Nat.le_refl _) ⟨(show kc + 2 ≤ 1802 by omega), (show ks + (4 + (sB S).length) ≤ 4524 by omega)⟩ dX1_bufferText_41 ?_
    rintro _ M3 ⟨s, rfl, hs, hSM, hF3⟩
    exact x_aret hC hk dX1_bufferText_44 (Or.inl ⟨_, rfl⟩) (Or.inr ⟨_, rfl⟩) (show kc + 2 ≤ 1802 by omega) (show ks + (4 + (sB S).length) ≤ 4524 by omega) ⟨s, rfl, hSM, hF.tr (pt3 hF3)⟩
  · have hck : (sB S)[k]? = some (sB S)[k] := List.getElem?_eq_getElem c
    obtain ⟨hc256, hbf⟩ := hR3.2.1.2.2 k _ hck
    have hlt : ((sB S).take k).length = k := by rw [List.length_take]; omega
    have gi := g_inv (cap := cap) (n := k + 1)
    refine x_aload_n hC dX1_bufferText_18 rfl rfl ?_
    refine x_aload_n hC dX1_bufferText_19 rfl rfl ?_
    refine x_get hC 0 h1 rfl (by decide) q229 rfl rfl dX1_bufferText_20 ?_
    refine x_iload_n hC dX1_bufferText_23 rfl rfl ?_
    refine x_baldN hC hR3.2.1.1 (show k < 900 by omega) (by first | decide | omega) dX1_bufferText_24 ?_
    refine x_sipush (v := 255) hC dX1_bufferText_25 (by decide) ?_
    refine x_iand hC dX1_bufferText_28 ?_
    rw [hbf, (sb_byte _ hc256).1]
    refine x_i2c hC dX1_bufferText_29 (sb_byte _ hc256).2.1 ?_
    have hap := ct_sbApp hG (show 5 ≠ 0 by decide) hc256 hS (show gQ cap (((sB S).take k).length + 1) ≤ 65536 by rw [hlt]; omega)
    rw [hlt] at hap
    refine x_callV (k := kc + gC cap (k + 1)) (n := ks + gS cap (k + 1)) (na := 1) hC (hap) (lw_V q309 q310 q311 q99 q312) hq2 rfl rfl (by decide +kernel) rfl ⟨Nat.le_of_ble_eq_true rfl, Nat.le_of_ble_eq_true rfl⟩ rfl (Nat.le_of_ble_eq_true rfl) (Nat.le_refl _) (Nat.le_refl _) ⟨(show kc + gC cap (k + 1) ≤ 1802 by omega), (show ks + gS cap (k + 1) ≤ 4524 by omega)⟩ dX1_bufferText_30 ?_
    rintro _ M3 ⟨rfl, hS3, hF3⟩
    refine x_pop hC dX1_bufferText_33 rfl ?_
    refine x_iincN (lv' := [_, _, _]) (b := 1) hC dX1_bufferText_34 rfl (by decide) (by decide) rfl ?_
    refine x_goto (tgt := 10) hC dX1_bufferText_37 (by decide) ?_
    have et : (sB S).take k ++ [(sB S)[k]] = (sB S).take (k + 1) := by rw [List.take_add_one, hck]; rfl
    rw [et] at hS3
    exact ih c M3 _ _ _ (by omega) (by omega) (by omega) hS3 (hF.tr (pt5 hF3))
theorem ct_isName (hG : GOK G) (h : SM M s w) : Ct G yX1_isName cX1_isName 2 (some .boolean) (xrm 5 0 0) [.ref s] M (Pr (.int (xB ((1 ≤ w.length ∧ w.length ≤ 6) ∧ ∀ c ∈ w, isLt c))) M) := by
  obtain ⟨vs, hs⟩ := h.rec
  have hl := h.len
  have h256 : ∀ c ∈ w, c < 256 := by obtain ⟨b, x, z, f, h1, h2, h3, h4, h5⟩ := id h; exact h5
  refine ct_open (lv := [_, _]) hG (by decide +kernel) (Nat.le_of_ble_eq_true rfl) rfl (fun C hC hk => ?_)
  refine x_iconst (v := nI 0) hC dX1_isName_0 (by decide) ?_
  refine x_istore_n (lv' := [_, _]) hC dX1_isName_1 rfl (by decide) rfl ?_
  refine x_up (n := w.length) (I := fun k => (∀ c ∈ w.take k, isLt c) → Wg G C M 0 0 2 [some (.ref s), some (.int (nI k))] []) (fun k hk2 ih hlt => ?_) 0 (Nat.zero_le _) (fun c hc => by cases hc)
  refine x_iload_n hC dX1_isName_2 rfl rfl ?_
  refine x_aload_n hC dX1_isName_3 rfl rfl ?_
  refine x_callV0 (na := 0) hC (ct_sLen hG h) (lw_V q625 q536 q537 q100 q538) hs rfl rfl (by decide +kernel) rfl ⟨Nat.le_of_ble_eq_true rfl, Nat.le_of_ble_eq_true rfl⟩ rfl (Nat.le_of_ble_eq_true rfl) ⟨rfl, rfl⟩ ⟨Nat.le_of_ble_eq_true rfl, Nat.le_of_ble_eq_true rfl⟩ dX1_isName_4 ?_
  rintro _ M ⟨rfl, rfl⟩
  refine x_icmp_geN (tgt := 33) hC (by omega) (by omega) dX1_isName_7 (by decide) (fun c => ?_) (fun c => ?_)
  · rw [show k = w.length by omega, List.take_length] at hlt
    refine x_aload_n hC dX1_isName_33 rfl rfl ?_
    refine x_callV0 (na := 0) hC (ct_sLen hG h) (lw_V q625 q536 q537 q100 q538) hs rfl rfl (by decide +kernel) rfl ⟨Nat.le_of_ble_eq_true rfl, Nat.le_of_ble_eq_true rfl⟩ rfl (Nat.le_of_ble_eq_true rfl) ⟨rfl, rfl⟩ ⟨Nat.le_of_ble_eq_true rfl, Nat.le_of_ble_eq_true rfl⟩ dX1_isName_34 ?_
    rintro _ M ⟨rfl, rfl⟩
    refine x_iconst (v := 1) hC dX1_isName_37 (by decide) ?_
    refine x_bipush (v := 6) hC dX1_isName_38 (by decide) ?_
    refine x_callS0 (na := 3) hC (ct_isBetween hG _ _ _ _) (lw_S q641 q642 q81 q643) (by decide +kernel) rfl ⟨Nat.le_of_ble_eq_true rfl, Nat.le_of_ble_eq_true rfl⟩ rfl (Nat.le_of_ble_eq_true rfl) ⟨rfl, rfl⟩ ⟨Nat.le_of_ble_eq_true rfl, Nat.le_of_ble_eq_true rfl⟩ dX1_isName_40 ?_
    rintro _ M ⟨rfl, rfl⟩
    have e : ((1 : Int32) ≤ nI w.length ∧ nI w.length ≤ 6) ↔ ((1 ≤ w.length ∧ w.length ≤ 6) ∧ ∀ c ∈ w, isLt c) := by
      rw [show (1 : Int32) = nI 1 from rfl, show (6 : Int32) = nI 6 from rfl, nI_leI (by decide) (by omega), nI_leI (by omega) (by decide)]
      exact ⟨fun z => ⟨z, hlt⟩, fun z => z.1⟩
    rw [xB_iff e]
    exact x_zret hC hk dX1_isName_43 (by first | rfl | exact xB_nar) (Nat.le_of_ble_eq_true rfl) (Nat.le_of_ble_eq_true rfl) ⟨rfl, rfl⟩
  · have hck : w[k]? = some w[k] := List.getElem?_eq_getElem c
    have hc256 := h256 _ (List.getElem_mem c)
    refine x_aload_n hC dX1_isName_10 rfl rfl ?_
    refine x_iload_n hC dX1_isName_11 rfl rfl ?_
    refine x_callV0 (na := 1) hC (ct_sAt hG h hck) (lw_V q626 q627 q628 q100 q629) hs rfl rfl (by decide +kernel) rfl ⟨Nat.le_of_ble_eq_true rfl, Nat.le_of_ble_eq_true rfl⟩ rfl (Nat.le_of_ble_eq_true rfl) ⟨rfl, rfl⟩ ⟨Nat.le_of_ble_eq_true rfl, Nat.le_of_ble_eq_true rfl⟩ dX1_isName_12 ?_
    rintro _ M ⟨rfl, rfl⟩
    refine x_bipush (v := 97) hC dX1_isName_15 (by decide) ?_
    refine x_bipush (v := 122) hC dX1_isName_17 (by decide) ?_
    refine x_callS0 (na := 3) hC (ct_isBetween hG _ _ _ _) (lw_S q641 q642 q81 q643) (by decide +kernel) rfl ⟨Nat.le_of_ble_eq_true rfl, Nat.le_of_ble_eq_true rfl⟩ rfl (Nat.le_of_ble_eq_true rfl) ⟨rfl, rfl⟩ ⟨Nat.le_of_ble_eq_true rfl, Nat.le_of_ble_eq_true rfl⟩ dX1_isName_19 ?_
    rintro _ M ⟨rfl, rfl⟩
    have e : ((97 : Int32) ≤ nI w[k] ∧ nI w[k] ≤ 122) ↔ isLt w[k] := by
      rw [show (97 : Int32) = nI 97 from rfl, show (122 : Int32) = nI 122 from rfl, nI_leI (by decide) (by omega), nI_leI (by omega) (by decide)]
    rw [xB_iff e]
    refine x_if_neB (tgt := 27) hC dX1_isName_22 (by decide) (fun d => ?_) (fun d => ?_)
    · refine x_iincN (lv' := [_, _]) (b := 1) hC dX1_isName_27 rfl (by decide) (by decide) rfl ?_
      refine x_goto (tgt := 2) hC dX1_isName_30 (by decide) ?_
      refine ih c (fun x hx => ?_)
      rw [List.take_add_one, hck] at hx
      rcases List.mem_append.mp hx with hx | hx
      · exact hlt x hx
      · rw [List.mem_singleton.mp hx]; exact d
    · refine x_iconst (v := 0) hC dX1_isName_25 (by decide) ?_
      exact x_zret hC hk dX1_isName_26 (by first | rfl | exact xB_nar) (Nat.le_of_ble_eq_true rfl) (Nat.le_of_ble_eq_true rfl) ⟨by rw [xB_f (fun z => d (z.2 _ (List.getElem_mem c)))], rfl⟩
theorem nwN_of {S : X_S} (h1 : (1 ≤ (sB S).length ∧ (sB S).length ≤ 6) ∧ ∀ c ∈ sB S, isLt c) (h2 : sB S ∉ (sR S).map Prod.fst) : nwN S := ⟨h1, fnd_none.mpr h2⟩
/-- a name's object, made -/
theorem x_nm {C : X_C} {kc ks pc : Nat} {lv : List (Option Value)} {rest : List Value} {q : Nat} (hq : M q = none) (hs : SM M s w) (kk : ∀ M', NM M' q w → Fr (fun g => g = 3) M M' → Wg G C M' kc ks pc lv rest) : Wg G C (mu (mu M q (ob 3 4 [.null])) q (ob 3 4 [.ref s])) kc ks pc lv rest := by
  rw [mu_mu]
  refine x_tag 0 mu_s (by decide) ?_
  rw [mu_mu]
  exact kk _ ⟨s, mu_s, hs.fr (Fr.new (P := fun _ => False) hq) id⟩ (Fr.new hq)
theorem cq_newName (hG : GOK G) (hR : CRep S M T a) : Cq G yX1_newName cX1_newName 2 (some (.object "WalshAnalyzer$Name")) (xrm 11 1810 4540) [.ref a] M (fun z M' => ∃ nm, z = some (.ref nm) ∧ nwN S ∧ NM M' nm (sB S) ∧ CRep S M' T a ∧ Fr PT M M') (fun _ E M' => E = xIAE ∧ ¬ nwN S ∧ CRep S M' T a ∧ Fr PT M M') := by
  obtain ⟨vs, ha⟩ := hR.rec
  refine cq_open (lv := [_, _]) hG (by decide +kernel) (Nat.le_of_ble_eq_true rfl) rfl (fun C hC hk hx => ?_)
  refine x_aload_n hC dX1_newName_0 rfl rfl ?_
  refine x_callV (k := 1802) (n := 4524) (na := 0) hC (ct_bufferText hG hR) (lw_V q274 q276 qs0 q81 q277) ha rfl rfl (by decide +kernel) rfl ⟨Nat.le_of_ble_eq_true rfl, Nat.le_of_ble_eq_true rfl⟩ rfl (Nat.le_of_ble_eq_true rfl) (Nat.le_of_ble_eq_true rfl) (Nat.le_of_ble_eq_true rfl) ⟨Nat.le_of_ble_eq_true rfl, Nat.le_of_ble_eq_true rfl⟩ dX1_newName_1 ?_
  rintro _ M1 ⟨s, rfl, hS, hF1⟩
  have hR1 := hR.pt hF1
  obtain ⟨vs1, hs1⟩ := hS.rec
  refine x_astore_n (lv' := [_, _]) hC dX1_newName_4 rfl (by decide) rfl ?_
  refine x_aload_n hC dX1_newName_5 rfl rfl ?_
  refine x_callS0 (na := 1) hC (ct_isName hG hS) (lw_S q622 q623 q81 q624) (by decide +kernel) rfl ⟨Nat.le_of_ble_eq_true rfl, Nat.le_of_ble_eq_true rfl⟩ rfl (Nat.le_of_ble_eq_true rfl) ⟨rfl, rfl⟩ ⟨Nat.le_of_ble_eq_true rfl, Nat.le_of_ble_eq_true rfl⟩ dX1_newName_6 ?_
  rintro _ M1 ⟨rfl, rfl⟩
  have fin : ∀ M2, CRep S M2 T a → Fr PT M M2 → SM M2 s (sB S) → ∀ kc ks v, kc ≤ 1803 → ks ≤ 4525 → v = xB (nwN S) → Wg G C M2 kc ks 35 [some (.ref a), some (.ref s)] [.int v] := by
    intro M2 hR2 hF2 hS2 kc ks v hkc hks hp
    subst hp
    refine x_qS (k := kc + 1) (n := ks + 6) (na := 1) hC (cq_reqIAE hG _ _) (lw_S q1337 q1338 q81 q1339) (by decide +kernel) rfl ⟨Nat.le_of_ble_eq_true rfl, Nat.le_of_ble_eq_true rfl⟩ rfl (Nat.le_of_ble_eq_true rfl) (Nat.le_refl _) (Nat.le_refl _) ⟨(show kc + 1 ≤ 1810 by omega), (show ks + 6 ≤ 4540 by omega)⟩ dX1_newName_35 ?_ (fun q9 E9 M9 h9 => x_out hC hx ((show kc + 1 ≤ 1810 by omega)) ((show ks + 6 ≤ 4540 by omega)) (by obtain ⟨rfl, rfl, h9⟩ := h9; exact ⟨rfl, h9, hR2, hF2⟩))
    rintro _ M3 ⟨rfl, hM3, h9⟩
    subst hM3
    refine x_new (ci := 4) (T := TX6) (N := 1) hC 3 [.null] rfl q611 q612 q111 tyX6 tyX6_ok (by decide) (by decide +kernel) (show kc + 1 + 1 ≤ 1810 by omega) (show ks + 6 + 1 ≤ 4540 by omega) dX1_newName_38 (fun q hq => ?_)
    refine x_dup hC dX1_newName_41 rfl ?_
    refine x_aload_n hC dX1_newName_42 rfl rfl ?_
    refine x_callI0 (na := 1) hC (ct_nmInit hG (by decide) mu_s) q615 q111 q613 q614 rfl (by decide +kernel) rfl ⟨Nat.le_of_ble_eq_true rfl, Nat.le_of_ble_eq_true rfl⟩ rfl (Nat.le_of_ble_eq_true rfl) ⟨rfl, rfl⟩ ⟨(show kc + 1 + 1 ≤ 1810 by omega), (show ks + 6 + 1 ≤ 4540 by omega)⟩ dX1_newName_43 ?_
    rintro _ M ⟨rfl, rfl⟩
    refine x_nm hq hS2 (fun M4 hN hF4 => ?_)
    exact x_aret hC hk dX1_newName_46 (Or.inl ⟨_, rfl⟩) (Or.inr ⟨_, rfl⟩) (show kc + 1 + 1 ≤ 1810 by omega) (show ks + 6 + 1 ≤ 4540 by omega) ⟨q, rfl, h9, hN, hR2.f3 hF4, hF2.tr (pt3 hF4)⟩
  refine x_if_eqB (tgt := 34) hC dX1_newName_9 (by decide) (fun d => ?_) (fun d => ?_)
  · refine x_iconst (v := 0) hC dX1_newName_34 (by decide) ?_
    exact fin _ hR1 hF1 hS 1802 4524 0 (by decide) (by decide) (by rw [xB_f (fun z => d z.1)])
  · obtain ⟨bu, ar, dq, sv, fm, bf, H, hRp⟩ := id hR1
    refine x_aload_n hC dX1_newName_12 rfl rfl ?_
    refine x_get hC 4 hRp.1 rfl (by decide) q233 rfl rfl dX1_newName_13 ?_
    refine x_new (ci := 4) (T := TX6) (N := 1) hC 3 [.null] rfl q611 q612 q111 tyX6 tyX6_ok (by decide) (by decide +kernel) (Nat.le_of_ble_eq_true rfl) (Nat.le_of_ble_eq_true rfl) dX1_newName_16 (fun q hq => ?_)
    refine x_dup hC dX1_newName_19 rfl ?_
    refine x_aload_n hC dX1_newName_20 rfl rfl ?_
    refine x_callI0 (na := 1) hC (ct_nmInit hG (by decide) mu_s) q615 q111 q613 q614 rfl (by decide +kernel) rfl ⟨Nat.le_of_ble_eq_true rfl, Nat.le_of_ble_eq_true rfl⟩ rfl (Nat.le_of_ble_eq_true rfl) ⟨rfl, rfl⟩ ⟨Nat.le_of_ble_eq_true rfl, Nat.le_of_ble_eq_true rfl⟩ dX1_newName_21 ?_
    rintro _ M ⟨rfl, rfl⟩
    refine x_nm hq hS (fun M4 hN hF4 => ?_)
    obtain ⟨h1, -, ⟨⟨L, h3⟩, h3w⟩, -⟩ := hRp.pt (pt3 hF4)
    obtain ⟨l, m, a1, -, -⟩ := h3.rec
    refine x_callV0 (na := 1) hC (ct_arHas hG h3 hN) (lw_V q644 q645 q646 q82 q647) a1 rfl rfl (by decide +kernel) rfl ⟨Nat.le_of_ble_eq_true rfl, Nat.le_of_ble_eq_true rfl⟩ rfl (Nat.le_of_ble_eq_true rfl) ⟨rfl, rfl⟩ ⟨Nat.le_of_ble_eq_true rfl, Nat.le_of_ble_eq_true rfl⟩ dX1_newName_24 ?_
    rintro _ M4 ⟨rfl, rfl⟩
    refine x_if_neB (tgt := 34) hC dX1_newName_27 (by decide) (fun e => ?_) (fun e => ?_)
    · refine x_iconst (v := 0) hC dX1_newName_34 (by decide) ?_
      exact fin _ (hR1.f3 hF4) (hF1.tr (pt3 hF4)) (hS.fr hF4 (by decide)) 1803 4525 0 (by decide) (by decide) (by rw [xB_f (fun z => (fnd_none.mp z.2) e)])
    · refine x_iconst (v := 1) hC dX1_newName_30 (by decide) ?_
      refine x_goto (tgt := 35) hC dX1_newName_31 (by decide) ?_
      exact fin _ (hR1.f3 hF4) (hF1.tr (pt3 hF4)) (hS.fr hF4 (by decide)) 1803 4525 1 (by decide) (by decide) (by rw [xB_t (nwN_of d e)])
end NMS

