/-! ===== the component's parser: words, numbers ===== -/
theorem sub_snoc {b : Nat → Nat} {s j : Nat} (h : s ≤ j) : sub b s j ++ [b j] = sub b s (j + 1) := by
  unfold sub
  rw [show j + 1 - s = (j - s) + 1 by omega, List.range_succ, List.map_append, List.map_singleton, show s + (j - s) = j by omega]
section PS2
variable {G : X_G} {M : X_M} {T : X_T} {pa bu L ar rd rc st so wo : Nat} {nu : Int32} {b : Nat → Nat}
theorem cq_readWord (hG : GOK G) (hT : T2 G T) (h : M pa = some (pO bu L ar rd rc st st so wo nu)) (hb : PBt M bu L b) (hst : st < L) (hlt : isLt (b st)) : Cq G yX4_readWord cX4_readWord 2 none (xrm 8 (22 * (rn isLt b (L - st) st - st)) (70 * (rn isLt b (L - st) st - st))) [.ref pa] M (fun r M' => r = none ∧ rn isLt b (L - st) st - st ≤ 6 ∧ ∃ w, M' pa = some (pO bu L ar rd rc (rn isLt b (L - st) st) st (T 7) w nu) ∧ SM M' w (sub b st (rn isLt b (L - st) st)) ∧ Fr P7 M M') (fun q E M' => ¬ rn isLt b (L - st) st - st ≤ 6 ∧ PEr P7 M 1 st q E M') := by
  have hL9 := hb.le
  have he1 : st + 1 ≤ rn isLt b (L - st) st := by
    rw [rn_t hst hlt]
    exact (rn_ge (p := isLt) (b := b) (L - (st + 1)) (st + 1)).1
  have he2 : rn isLt b (L - st) st ≤ L := by
    have := (rn_ge (p := isLt) (b := b) (L - st) st).2
    omega
  refine cq_open (lv := [_, _]) hG (by decide +kernel) (Nat.le_of_ble_eq_true rfl) rfl (fun C hC hk hx => ?_)
  obtain ⟨M0, hM0⟩ : ∃ M0, M0 = M := ⟨M, rfl⟩
  subst hM0
  generalize hee : rn isLt b (L - st) st = e at he1 he2 hC hk hx ⊢
  refine x_new (ci := 12) (T := TJ13) (N := 4) hC 5 [.null, .int 0, .int 0, .int 0] rfl q1412 q279 q99 tyJ13 tyJ13_ok (by decide) (by decide +kernel) (show 0 + 1 ≤ 22 * (e - st) by omega) (show 0 + 4 ≤ 70 * (e - st) by omega) dX4_readWord_0 (fun q hq => ?_)
  have hF0 : Fr P7 M0 (mu M0 q (ob 5 12 [.null, .int 0, .int 0, .int 0])) := Fr.new hq
  refine x_dup hC dX4_readWord_3 rfl ?_
  refine x_callI (k := 2) (n := 20) (na := 0) hC (ct_sbInit hG (by decide) mu_s) q282 q99 q1413 q281 rfl (by decide +kernel) rfl ⟨Nat.le_of_ble_eq_true rfl, Nat.le_of_ble_eq_true rfl⟩ rfl (Nat.le_of_ble_eq_true rfl) (Nat.le_of_ble_eq_true rfl) (Nat.le_of_ble_eq_true rfl) ⟨(show 2 ≤ 22 * (e - st) by omega), (show 20 ≤ 70 * (e - st) by omega)⟩ dX4_readWord_4 ?_
  rintro _ M1 ⟨rfl, hS, hF1⟩
  refine x_astore_n (lv' := [_, _]) hC dX4_readWord_7 rfl (by decide) rfl ?_
  refine x_up (n := L) (I := fun j => st ≤ j → e = rn isLt b (L - j) j → ∀ M2 kc ks cap, kc ≤ cap → ks ≤ 20 + 2 * cap → cap ≤ max 16 (2 * (j - st)) → SBM M2 5 q cap (sub b st j) → M2 pa = some (pO bu L ar rd rc j st so wo nu) → Fr P7 M0 M2 → Wg G C M2 kc ks 8 [some (.ref pa), some (.ref q)] []) (fun j hj ih h1 h2 M2 kc ks cap hkc hks hcap hS hp hF => ?_) st (by omega) (Nat.le_refl _) hee.symm M1 2 20 16 (by decide) (by decide) (by omega) (by rw [show sub b st st = [] by unfold sub; rw [Nat.sub_self]; rfl]; exact hS) (hF1.z (by decide) (mu_f hq h)) (hF0.tr (p75 hF1))
  have hb2 := hb.fr hF P7_1
  have hje : j ≤ e := by
    have := (rn_ge (p := isLt) (b := b) (L - j) j).1
    omega
  obtain ⟨vq, hq2⟩ := hS.rec
  refine x_aload_n hC dX4_readWord_8 rfl rfl ?_
  refine x_bipush (v := nI 97) hC dX4_readWord_9 (by decide) ?_
  refine x_bipush (v := nI 122) hC dX4_readWord_11 (by decide) ?_
  refine x_callV0 (na := 2) hC (ct_isNext hG hp hb2 (by omega) (by decide) (by decide) (by decide)) (lw_V q1403 q1405 qs7 q95 q1406) hp rfl rfl (by decide +kernel) rfl ⟨Nat.le_of_ble_eq_true rfl, Nat.le_of_ble_eq_true rfl⟩ rfl (Nat.le_of_ble_eq_true rfl) ⟨rfl, rfl⟩ ⟨(show kc ≤ 22 * (e - st) by omega), (show ks ≤ 70 * (e - st) by omega)⟩ dX4_readWord_13 ?_
  rintro _ M ⟨rfl, rfl⟩
  refine x_if_eqB (tgt := 47) hC dX4_readWord_16 (by decide) (fun c1 => ?_) (fun c1 => ?_)
  · have ej : e = j := by rw [h2]; exact rn_f (fun z y => c1 ⟨z, y.1, y.2⟩)
    subst ej
    have hls : (sub b st e).length = e - st := sub_len
    refine x_aload_n hC dX4_readWord_47 rfl rfl ?_
    refine x_aload_n hC dX4_readWord_48 rfl rfl ?_
    refine x_callV0 (na := 0) hC (ct_sbLen hG hS) (lw_V q1415 q426 q2888 q99 q427) hq2 rfl rfl (by decide +kernel) rfl ⟨Nat.le_of_ble_eq_true rfl, Nat.le_of_ble_eq_true rfl⟩ rfl (Nat.le_of_ble_eq_true rfl) ⟨rfl, rfl⟩ ⟨(show kc ≤ 22 * (e - st) by omega), (show ks ≤ 70 * (e - st) by omega)⟩ dX4_readWord_49 ?_
    rintro _ M ⟨rfl, rfl⟩
    rw [hls]
    have key : ∀ v, v = xB (e - st ≤ 6) → Wg G C M kc ks 62 [some (.ref pa), some (.ref q)] [.int v, .ref pa] := by
      rintro _ rfl
      refine x_iconst (v := nI 1) hC dX4_readWord_62 (by decide) ?_
      refine x_qV (k := kc + 1) (n := ks + 8) (na := 2) hC (cq_check hG hp (e - st ≤ 6) 1) (lw_V q1416 q1418 qs9 q95 q1419) hp rfl rfl (by decide +kernel) rfl ⟨Nat.le_of_ble_eq_true rfl, Nat.le_of_ble_eq_true rfl⟩ rfl (Nat.le_of_ble_eq_true rfl) (Nat.le_refl _) (Nat.le_refl _) ⟨(show kc + 1 ≤ 22 * (e - st) by omega), (show ks + 8 ≤ 70 * (e - st) by omega)⟩ dX4_readWord_63 ?_ (fun q9 E9 M9 h9 => x_out hC hx ((show kc + 1 ≤ 22 * (e - st) by omega)) ((show ks + 8 ≤ 70 * (e - st) by omega)) (by obtain ⟨n9, e9⟩ := h9; exact ⟨n9, PEr.tr hF (e9.wk fun _ z => z.elim)⟩))
      rintro _ M3 ⟨rfl, hM3, h9⟩
      subst hM3
      refine x_aload_n hC dX4_readWord_66 rfl rfl ?_
      refine x_aload_n hC dX4_readWord_67 rfl rfl ?_
      refine x_callV (k := kc + 1 + 2) (n := ks + 8 + (4 + (sub b st e).length)) (na := 0) hC (ct_sbStr hG (by decide) hS (by omega) (by omega)) (lw_V q1443 q405 q406 q99 q407) hq2 rfl rfl (by decide +kernel) rfl ⟨Nat.le_of_ble_eq_true rfl, Nat.le_of_ble_eq_true rfl⟩ rfl (Nat.le_of_ble_eq_true rfl) (Nat.le_refl _) (Nat.le_refl _) ⟨(show kc + 1 + 2 ≤ 22 * (e - st) by omega), (show ks + 8 + (4 + (sub b st e).length) ≤ 70 * (e - st) by omega)⟩ dX4_readWord_68 ?_
      rintro _ M4 ⟨s, rfl, hs, hSM, hF4⟩
      have hp4 := hF4.z (by decide) hp
      refine x_put hC 8 hp4 (by decide) rfl (by decide) q1372 rfl rfl rfl rfl rfl (show 8 < 10 by decide) (fs' := pF bu L ar rd rc e st so s nu) rfl dX4_readWord_71 ?_
      refine x_aload_n hC dX4_readWord_74 rfl rfl ?_
      refine x_gets hC hT.1.1 q1444 rfl dX4_readWord_75 ?_
      refine x_put hC 7 mu_s (by decide) rfl (by decide) q1371 rfl rfl rfl rfl rfl (show 7 < 10 by decide) (fs' := pF bu L ar rd rc e st (T 7) s nu) rfl dX4_readWord_78 ?_
      rw [mu_mu]
      have hF5 : Fr P7 M4 (mu M4 pa (pO bu L ar rd rc e st (T 7) s nu)) := p77 hp4
      exact x_vret hC hk dX4_readWord_81 (show kc + 1 + 2 ≤ 22 * (e - st) by omega) (show ks + 8 + (4 + (sub b st e).length) ≤ 70 * (e - st) by omega) ⟨rfl, h9, s, mu_s, hSM.fr hF5 P7_0, (hF.tr (p73 hF4)).tr hF5⟩
    refine x_bipush (v := nI 6) hC dX4_readWord_52 (by decide) ?_
    refine x_icmp_gtN (tgt := 61) hC (by omega) (by omega) dX4_readWord_54 (by decide) (fun c2 => ?_) (fun c2 => ?_)
    · refine x_iconst (v := 0) hC dX4_readWord_61 (by decide) ?_
      exact key _ (xB_f (by omega)).symm
    · refine x_iconst (v := 1) hC dX4_readWord_57 (by decide) ?_
      refine x_goto (tgt := 62) hC dX4_readWord_58 (by decide) ?_
      exact key _ (xB_t (by omega)).symm
  · obtain ⟨hjL, c2⟩ := c1
    have hjl : isLt (b j) := c2
    have hje1 : j + 1 ≤ e := by
      rw [h2, rn_t hjL hjl]
      exact (rn_ge (p := isLt) (b := b) (L - (j + 1)) (j + 1)).1
    have hb3 := hb2
    obtain ⟨bf, b1, b2, b3⟩ := hb3
    obtain ⟨b4, b5⟩ := b3 j hjL
    have hlj : (sub b st j).length = j - st := sub_len
    have gi := g_inv (cap := cap) (n := j - st + 1)
    refine x_aload_n hC dX4_readWord_19 rfl rfl ?_
    refine x_aload_n hC dX4_readWord_20 rfl rfl ?_
    refine x_get hC 0 hp rfl (by decide) q1364 rfl rfl dX4_readWord_21 ?_
    refine x_aload_n hC dX4_readWord_24 rfl rfl ?_
    refine x_get hC 5 hp rfl (by decide) q1369 rfl rfl dX4_readWord_25 ?_
    refine x_baldN hC b1 (show j < 900 by omega) (by first | decide | omega) dX4_readWord_28 ?_
    rw [b5]
    refine x_i2c hC dX4_readWord_29 (sb_chr _ (by omega)) ?_
    have hap := ct_sbApp hG (show 5 ≠ 0 by decide) b4 hS (show gQ cap ((sub b st j).length + 1) ≤ 65536 by rw [hlj]; omega)
    rw [hlj] at hap
    refine x_callV (k := kc + gC cap (j - st + 1)) (n := ks + gS cap (j - st + 1)) (na := 1) hC (hap) (lw_V q1414 q310 q311 q99 q312) hq2 rfl rfl (by decide +kernel) rfl ⟨Nat.le_of_ble_eq_true rfl, Nat.le_of_ble_eq_true rfl⟩ rfl (Nat.le_of_ble_eq_true rfl) (Nat.le_refl _) (Nat.le_refl _) ⟨(show kc + gC cap (j - st + 1) ≤ 22 * (e - st) by omega), (show ks + gS cap (j - st + 1) ≤ 70 * (e - st) by omega)⟩ dX4_readWord_30 ?_
    rintro _ M3 ⟨rfl, hS3, hF3⟩
    have hp3 := hF3.z (by decide) hp
    refine x_pop hC dX4_readWord_33 rfl ?_
    refine x_aload_n hC dX4_readWord_34 rfl rfl ?_
    refine x_dup hC dX4_readWord_35 rfl ?_
    refine x_get hC 5 hp3 rfl (by decide) q1369 rfl rfl dX4_readWord_36 ?_
    refine x_iconst (v := nI 1) hC dX4_readWord_39 (by decide) ?_
    refine x_iaddN hC dX4_readWord_40 ?_
    refine x_put hC 5 hp3 (by decide) rfl (by decide) q1369 rfl rfl rfl rfl rfl (show 5 < 10 by decide) (fs' := pF bu L ar rd rc (j + 1) st so wo nu) rfl dX4_readWord_41 ?_
    refine x_goto (tgt := 8) hC dX4_readWord_44 (by decide) ?_
    have hF4 : Fr (fun g => g = 7) M3 (mu M3 pa (pO bu L ar rd rc (j + 1) st so wo nu)) := Fr.set hp3 rfl
    rw [sub_snoc h1] at hS3
    exact ih hjL (by omega) (h2.trans (rn_t hjL hjl)) _ _ _ _ (by omega) (by omega) (by omega) (hS3.fr hF4 (by decide)) mu_s ((hF.tr (p75 hF3)).tr (p77 hp3))
theorem cq_readNumber (hG : GOK G) (hT : T2 G T) (h : M pa = some (pO bu L ar rd rc st st so wo nu)) (hb : PBt M bu L b) (hst : st < L) (hlt : isDg (b st)) : Cq G yX4_readNumber cX4_readNumber 1 none (xrm 4 1 8) [.ref pa] M (fun r M' => r = none ∧ rn isDg b (L - st) st - st ≤ 4 ∧ M' pa = some (pO bu L ar rd rc (rn isDg b (L - st) st) st (T 8) wo (nI (vl b st (rn isDg b (L - st) st - st)))) ∧ Fr P7 M M') (fun q E M' => ¬ rn isDg b (L - st) st - st ≤ 4 ∧ PEr P7 M 1 st q E M') := by
  have hL9 := hb.le
  have he2 : rn isDg b (L - st) st ≤ L := by
    have := (rn_ge (p := isDg) (b := b) (L - st) st).2
    omega
  refine cq_open (lv := [_]) hG (by decide +kernel) (Nat.le_of_ble_eq_true rfl) rfl (fun C hC hk hx => ?_)
  obtain ⟨M0, hM0⟩ : ∃ M0, M0 = M := ⟨M, rfl⟩
  subst hM0
  generalize hee : rn isDg b (L - st) st = e at he2 hC hk hx ⊢
  refine x_aload_n hC dX4_readNumber_0 rfl rfl ?_
  refine x_iconst (v := nI 0) hC dX4_readNumber_1 (by decide) ?_
  refine x_put hC 9 h (by decide) rfl (by decide) q1373 rfl rfl rfl rfl rfl (show 9 < 10 by decide) (fs' := pF bu L ar rd rc st st so wo (nI (vl b st 0))) rfl dX4_readNumber_2 ?_
  refine x_up (n := L) (I := fun j => st ≤ j → e = rn isDg b (L - j) j → (∀ i, i < j - st → isDg (b (st + i))) → ∀ M2, M2 pa = some (pO bu L ar rd rc j st so wo (nI (vl b st (j - st)))) → Fr P7 M0 M2 → Wg G C M2 0 0 5 [some (.ref pa)] []) (fun j hj ih h1 h2 hdg M2 hp hF => ?_) st (by omega) (Nat.le_refl _) hee.symm (fun i hi => by omega) _ (by rw [Nat.sub_self]; exact mu_s) (p77 h)
  have hb2 := hb.fr hF P7_1
  have hje : j ≤ e := by
    have := (rn_ge (p := isDg) (b := b) (L - j) j).1
    omega
  refine x_aload_n hC dX4_readNumber_5 rfl rfl ?_
  refine x_bipush (v := nI 48) hC dX4_readNumber_6 (by decide) ?_
  refine x_bipush (v := nI 57) hC dX4_readNumber_8 (by decide) ?_
  refine x_callV0 (na := 2) hC (ct_isNext hG hp hb2 (by omega) (by decide) (by decide) (by decide)) (lw_V q1403 q1405 qs7 q95 q1406) hp rfl rfl (by decide +kernel) rfl ⟨Nat.le_of_ble_eq_true rfl, Nat.le_of_ble_eq_true rfl⟩ rfl (Nat.le_of_ble_eq_true rfl) ⟨rfl, rfl⟩ ⟨Nat.le_of_ble_eq_true rfl, Nat.le_of_ble_eq_true rfl⟩ dX4_readNumber_10 ?_
  rintro _ M ⟨rfl, rfl⟩
  refine x_if_eqB (tgt := 66) hC dX4_readNumber_13 (by decide) (fun c1 => ?_) (fun c1 => ?_)
  · have ej : e = j := by rw [h2]; exact rn_f (fun z y => c1 ⟨z, y.1, y.2⟩)
    subst ej
    have key : ∀ v, v = xB (e - st ≤ 4) → Wg G C M 0 0 85 [some (.ref pa)] [.int v, .ref pa] := by
      rintro _ rfl
      refine x_iconst (v := nI 1) hC dX4_readNumber_85 (by decide) ?_
      refine x_qV (k := 1) (n := 8) (na := 2) hC (cq_check hG hp (e - st ≤ 4) 1) (lw_V q1416 q1418 qs9 q95 q1419) hp rfl rfl (by decide +kernel) rfl ⟨Nat.le_of_ble_eq_true rfl, Nat.le_of_ble_eq_true rfl⟩ rfl (Nat.le_of_ble_eq_true rfl) (Nat.le_of_ble_eq_true rfl) (Nat.le_of_ble_eq_true rfl) ⟨Nat.le_of_ble_eq_true rfl, Nat.le_of_ble_eq_true rfl⟩ dX4_readNumber_86 ?_ (fun q9 E9 M9 h9 => x_out hC hx (Nat.le_of_ble_eq_true rfl) (Nat.le_of_ble_eq_true rfl) (by obtain ⟨n9, e9⟩ := h9; exact ⟨n9, PEr.tr hF (e9.wk fun _ z => z.elim)⟩))
      rintro _ M3 ⟨rfl, hM3, h9⟩
      subst hM3
      refine x_aload_n hC dX4_readNumber_89 rfl rfl ?_
      refine x_gets hC hT.1.2.1 q1450 rfl dX4_readNumber_90 ?_
      refine x_put hC 7 hp (by decide) rfl (by decide) q1371 rfl rfl rfl rfl rfl (show 7 < 10 by decide) (fs' := pF bu L ar rd rc e st (T 8) wo (nI (vl b st (e - st)))) rfl dX4_readNumber_93 ?_
      exact x_vret hC hk dX4_readNumber_96 (Nat.le_of_ble_eq_true rfl) (Nat.le_of_ble_eq_true rfl) ⟨rfl, h9, mu_s, hF.tr (p77 hp)⟩
    refine x_aload_n hC dX4_readNumber_66 rfl rfl ?_
    refine x_aload_n hC dX4_readNumber_67 rfl rfl ?_
    refine x_get hC 5 hp rfl (by decide) q1369 rfl rfl dX4_readNumber_68 ?_
    refine x_aload_n hC dX4_readNumber_71 rfl rfl ?_
    refine x_get hC 6 hp rfl (by decide) q1370 rfl rfl dX4_readNumber_72 ?_
    refine x_isubN hC dX4_readNumber_75 h1 ?_
    refine x_iconst (v := nI 4) hC dX4_readNumber_76 (by decide) ?_
    refine x_icmp_gtN (tgt := 84) hC (by omega) (by omega) dX4_readNumber_77 (by decide) (fun c2 => ?_) (fun c2 => ?_)
    · refine x_iconst (v := 0) hC dX4_readNumber_84 (by decide) ?_
      exact key _ (xB_f (by omega)).symm
    · refine x_iconst (v := 1) hC dX4_readNumber_80 (by decide) ?_
      refine x_goto (tgt := 85) hC dX4_readNumber_81 (by decide) ?_
      exact key _ (xB_t (by omega)).symm
  · obtain ⟨hjL, c2⟩ := c1
    have hjl : isDg (b j) := c2
    obtain ⟨bf, b1, b2, b3⟩ := hb2
    obtain ⟨b4, b5⟩ := b3 j hjL
    have hdg2 : ∀ i, i < j + 1 - st → isDg (b (st + i)) := fun i hi => by
      rcases Nat.lt_or_ge i (j - st) with h9 | h9
      · exact hdg i h9
      · rw [show st + i = j by omega]; exact hjl
    have next : ∀ M3, M3 pa = some (pO bu L ar rd rc j st so wo (nI (vl b st (j + 1 - st)))) → Fr P7 M0 M3 → Wg G C M3 0 0 53 [some (.ref pa)] [] := by
      intro M3 hp3 hF3
      refine x_aload_n hC dX4_readNumber_53 rfl rfl ?_
      refine x_dup hC dX4_readNumber_54 rfl ?_
      refine x_get hC 5 hp3 rfl (by decide) q1369 rfl rfl dX4_readNumber_55 ?_
      refine x_iconst (v := 1) hC dX4_readNumber_58 (by decide) ?_
      refine x_iaddN hC dX4_readNumber_59 ?_
      refine x_put hC 5 hp3 (by decide) rfl (by decide) q1369 rfl rfl rfl rfl rfl (show 5 < 10 by decide) (fs' := pF bu L ar rd rc (j + 1) st so wo (nI (vl b st (j + 1 - st)))) rfl dX4_readNumber_60 ?_
      refine x_goto (tgt := 5) hC dX4_readNumber_63 (by decide) ?_
      exact ih hjL (by omega) (h2.trans (rn_t hjL hjl)) hdg2 _ mu_s (hF3.tr (p77 hp3))
    refine x_aload_n hC dX4_readNumber_16 rfl rfl ?_
    refine x_get hC 5 hp rfl (by decide) q1369 rfl rfl dX4_readNumber_17 ?_
    refine x_aload_n hC dX4_readNumber_20 rfl rfl ?_
    refine x_get hC 6 hp rfl (by decide) q1370 rfl rfl dX4_readNumber_21 ?_
    refine x_isubN hC dX4_readNumber_24 h1 ?_
    refine x_iconst (v := nI 4) hC dX4_readNumber_25 (by decide) ?_
    refine x_icmp_geN (tgt := 53) hC (by omega) (by omega) dX4_readNumber_26 (by decide) (fun c3 => ?_) (fun c3 => ?_)
    · refine next _ ?_ hF
      rw [show j + 1 - st = (j - st) + 1 by omega, vl, if_neg (by omega)]
      exact hp
    · refine x_aload_n hC dX4_readNumber_29 rfl rfl ?_
      refine x_bipush (v := nI 10) hC dX4_readNumber_30 (by decide) ?_
      refine x_aload_n hC dX4_readNumber_32 rfl rfl ?_
      refine x_get hC 9 hp rfl (by decide) q1373 rfl rfl dX4_readNumber_33 ?_
      refine x_imul hC dX4_readNumber_36 ?_
      refine x_aload_n hC dX4_readNumber_37 rfl rfl ?_
      refine x_get hC 0 hp rfl (by decide) q1364 rfl rfl dX4_readNumber_38 ?_
      refine x_aload_n hC dX4_readNumber_41 rfl rfl ?_
      refine x_get hC 5 hp rfl (by decide) q1369 rfl rfl dX4_readNumber_42 ?_
      refine x_baldN hC b1 (show j < 900 by omega) (by first | decide | omega) dX4_readNumber_45 ?_
      rw [b5, sb_low _ (by omega)]
      refine x_iadd hC dX4_readNumber_46 ?_
      refine x_bipush (v := nI 48) hC dX4_readNumber_47 (by decide) ?_
      refine x_isub hC dX4_readNumber_49 ?_
      have hv := vl_m (b := b) (st := st) (j := j - st) (by rw [show st + (j - st) = j by omega]; exact hjl.1) (by omega)
      rw [show st + (j - st) = j by omega, show (j - st) + 1 = j + 1 - st by omega] at hv
      rw [show (nI 10 * nI (vl b st (j - st)) + nI (b j) - nI 48) = nI (vl b st (j + 1 - st)) from hv]
      refine x_put hC 9 hp (by decide) rfl (by decide) q1373 rfl rfl rfl rfl rfl (show 9 < 10 by decide) (fs' := pF bu L ar rd rc j st so wo (nI (vl b st (j + 1 - st)))) rfl dX4_readNumber_50 ?_
      exact next _ mu_s (hF.tr (p77 hp))
end PS2

