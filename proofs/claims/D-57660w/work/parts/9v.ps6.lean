/-! ===== the component's parser: a recording ===== -/
theorem P8_2 : ¬ P8 2 := by decide
section PS6
variable {G : X_G} {M : X_M} {T : X_T} {pa bu L ar rd rc po st so wo : Nat} {nu : Int32} {b : Nat → Nat}
theorem cq_prec (hG : GOK G) (hT0 : T0 G T) (hT : T2 G T) (h0 : M0c T M) (hM : M2c T M) {s : Nat} (h : PAt M T pa bu L ar rd rc b s) (hb : PBt M bu L b) (hs : s ≤ L) {f : Nat → Int32} (hrd : M rd = some (ia 8 64 f)) {R : List Rcd} {Lr : List Nat} (hA : AMl M T ar R Lr) (hW : WfR R) :
    Cq G yX4_parseRecording cX4_parseRecording 3 none (xrm 12 (280 + 22 * (stE b L R s - tkN b L s)) (2300 + 70 * (stE b L R s - tkN b L s))) [.ref pa] M
      (fun r M' => r = none ∧ ∃ nm xs s3 rc' f' Lr', pSt b L R s = .ok (R ++ [(nm, xs)], adv b L s3) ∧ stE b L R s = tkN b L s3 ∧ s3 ≤ L ∧ PAt M' T pa bu L ar rd rc' b s3 ∧ M' rd = some (ia 8 64 f') ∧ AMl M' T ar (R ++ [(nm, xs)]) Lr' ∧ Fr (P9 ar) M M')
      (fun q E M' => ∃ k o, pSt b L R s = .error (k, o) ∧ PEr (P9 ar) M k o q E M') := by
  have hL9 := hb.le
  have hc6 := tkC_lt b L s
  obtain ⟨so, wo, nu, hp, ht⟩ := h
  have k1 := adv_le (b := b) hs
  have k2 := adv_le (b := b) k1.2
  have k3 := tkN_adv (b := b) hs
  have k4 := tkN_adv (b := b) k1.2
  have kn0 := tkN_le b hs
  have kn1 := tkN_le b k1.2
  have kE := stE_le (R := R) (b := b) hs
  have hc61 := tkC_lt b L (adv b L s)
  obtain ⟨l0, m0, a1, a2, a4⟩ := hA.rec
  refine cq_open (lv := [_, _, _]) hG (by decide +kernel) (Nat.le_of_ble_eq_true rfl) rfl (fun C hC hk hx => ?_)
  obtain ⟨M0, hM0⟩ : ∃ M0, M0 = M := ⟨M, rfl⟩
  subst hM0
  -- bell
  obtain ⟨w, hw, hwb⟩ : ∃ w, SM M0 wo w ∧ ((w = [98, 101, 108, 108]) ↔ isBl b L s) := by
    by_cases h2 : tkC b L s = 2
    · exact ⟨_, ht.2.2.1 h2, ⟨fun z => bell_iff.mp ⟨h2, z⟩, fun z => (bell_iff.mpr z).2⟩⟩
    · exact ⟨_, ht.2.2.2.1 h2, ⟨(fun z => by cases z), fun z => absurd z.1 h2⟩⟩
  obtain ⟨vw, hvw⟩ := hw.rec
  refine x_aload_n hC dX4_parseRecording_0 rfl rfl ?_
  refine x_aload_n hC dX4_parseRecording_1 rfl rfl ?_
  refine x_get hC 8 hp rfl (by decide) q1372 rfl rfl dX4_parseRecording_2 ?_
  refine x_ldcS hC hT.2.2.2.1 dX4_parseRecording_5 ?_
  refine x_callV0 (na := 1) hC (ct_sEq hG hw hM.2) (lw_V q1461 q755 q756 q100 q757) hvw rfl rfl (by decide +kernel) rfl ⟨Nat.le_of_ble_eq_true rfl, Nat.le_of_ble_eq_true rfl⟩ rfl (Nat.le_of_ble_eq_true rfl) ⟨rfl, rfl⟩ ⟨Nat.zero_le _, Nat.zero_le _⟩ dX4_parseRecording_7 ?_
  rintro _ M ⟨rfl, rfl⟩
  rw [xB_iff hwb]
  refine x_iconst (v := nI 1) hC dX4_parseRecording_10 (by decide) ?_
  refine x_qV (k := 1) (n := 8) (na := 2) hC (cq_check hG hp (isBl b L s) 1) (lw_V q1416 q1418 qs9 q95 q1419) hp rfl rfl (by decide +kernel) rfl ⟨Nat.le_of_ble_eq_true rfl, Nat.le_of_ble_eq_true rfl⟩ rfl (Nat.le_of_ble_eq_true rfl) (Nat.le_refl _) (Nat.le_refl _) ⟨(show 1 ≤ 280 + 22 * (stE b L R s - tkN b L s) by omega), (show 8 ≤ 2300 + 70 * (stE b L R s - tkN b L s) by omega)⟩ dX4_parseRecording_11 ?_ (fun q9 E9 M9 h9 => x_out hC hx ((show 1 ≤ 280 + 22 * (stE b L R s - tkN b L s) by omega)) ((show 8 ≤ 2300 + 70 * (stE b L R s - tkN b L s) by omega)) (by obtain ⟨n9, e9⟩ := h9; exact ⟨1, s, by rw [pSt, if_neg n9], e9.wk fun _ z => z.elim⟩))
  rintro _ M1 ⟨rfl, hM1, hbl⟩
  subst hM1
  have full : ∀ v, v = xB (¬ R.length = 6) → Wg G C M1 1 8 30 [some (.ref pa), none, none] [.int v, .ref pa] := by
    rintro _ rfl
    refine x_iconst (v := nI 4) hC dX4_parseRecording_30 (by decide) ?_
    refine x_qV (k := 2) (n := 16) (na := 2) hC (cq_check hG hp (¬ R.length = 6) 4) (lw_V q1416 q1418 qs9 q95 q1419) hp rfl rfl (by decide +kernel) rfl ⟨Nat.le_of_ble_eq_true rfl, Nat.le_of_ble_eq_true rfl⟩ rfl (Nat.le_of_ble_eq_true rfl) (Nat.le_refl _) (Nat.le_refl _) ⟨(show 2 ≤ 280 + 22 * (stE b L R s - tkN b L s) by omega), (show 16 ≤ 2300 + 70 * (stE b L R s - tkN b L s) by omega)⟩ dX4_parseRecording_31 ?_ (fun q9 E9 M9 h9 => x_out hC hx ((show 2 ≤ 280 + 22 * (stE b L R s - tkN b L s) by omega)) ((show 16 ≤ 2300 + 70 * (stE b L R s - tkN b L s) by omega)) (by obtain ⟨n9, e9⟩ := h9; exact ⟨4, s, by rw [pSt, if_pos hbl, if_pos (Decidable.not_not.mp n9)], e9.wk fun _ z => z.elim⟩))
    rintro _ M2 ⟨rfl, hM2, hR6⟩
    subst hM2
    -- the name's token
    generalize hs1 : adv b L s = s1 at k1 k2 k3 k4 kn1 hc61
    have kE1 : tkN b L s1 ≤ stE b L R s := by
      unfold stE
      rw [if_pos ⟨hbl, hR6⟩, hs1]
      split
      · exact Nat.le_trans k4 (pSs_end k2.2 rfl (Nat.zero_le _))
      · exact Nat.le_refl _
    refine x_aload_n hC dX4_parseRecording_34 rfl rfl ?_
    have hpa := cq_padv hG hT hM hp hb kn0.2
    rw [show tkS b L (tkN b L s) = s1 from hs1] at hpa
    refine x_qV (k := 3 + 22 * (tkN b L s1 - tkN b L s)) (n := 24 + 70 * (tkN b L s1 - tkN b L s)) (na := 0) hC (hpa) (lw_V q1399 q1401 qs6 q95 q1402) hp rfl rfl (by decide +kernel) rfl ⟨Nat.le_of_ble_eq_true rfl, Nat.le_of_ble_eq_true rfl⟩ rfl (Nat.le_of_ble_eq_true rfl) (show 2 + (1 + 22 * (tkN b L s1 - tkN b L s)) ≤ 3 + 22 * (tkN b L s1 - tkN b L s) by omega) (show 16 + (8 + 70 * (tkN b L s1 - tkN b L s)) ≤ 24 + 70 * (tkN b L s1 - tkN b L s) by omega) ⟨(show 3 + 22 * (tkN b L s1 - tkN b L s) ≤ 280 + 22 * (stE b L R s - tkN b L s) by omega), (show 24 + 70 * (tkN b L s1 - tkN b L s) ≤ 2300 + 70 * (stE b L R s - tkN b L s) by omega)⟩ dX4_parseRecording_35 ?_ (fun q9 E9 M9 h9 => x_out hC hx ((show 3 + 22 * (tkN b L s1 - tkN b L s) ≤ 280 + 22 * (stE b L R s - tkN b L s) by omega)) ((show 24 + 70 * (tkN b L s1 - tkN b L s) ≤ 2300 + 70 * (stE b L R s - tkN b L s) by omega)) (by obtain ⟨n9, e9⟩ := h9; exact ⟨1, s1, by rw [pSt, if_pos hbl, if_neg hR6, hs1, if_neg (by rw [n9]; decide)], pe98 (pe87 e9)⟩))
    rintro _ M3 ⟨rfl, so1, wo1, nu1, hp1, ht1, hF1⟩
    have key1 : ∀ v, v = xB (tkC b L s1 = 2) → Wg G C M3 (3 + 22 * (tkN b L s1 - tkN b L s)) (24 + 70 * (tkN b L s1 - tkN b L s)) 54 [some (.ref pa), none, none] [.int v, .ref pa] := by
      rintro _ rfl
      refine x_iconst (v := nI 1) hC dX4_parseRecording_54 (by decide) ?_
      refine x_qV (k := 4 + 22 * (tkN b L s1 - tkN b L s)) (n := 32 + 70 * (tkN b L s1 - tkN b L s)) (na := 2) hC (cq_check hG hp1 (tkC b L s1 = 2) 1) (lw_V q1416 q1418 qs9 q95 q1419) hp1 rfl rfl (by decide +kernel) rfl ⟨Nat.le_of_ble_eq_true rfl, Nat.le_of_ble_eq_true rfl⟩ rfl (Nat.le_of_ble_eq_true rfl) (show 3 + 22 * (tkN b L s1 - tkN b L s) + 1 ≤ 4 + 22 * (tkN b L s1 - tkN b L s) by omega) (show 24 + 70 * (tkN b L s1 - tkN b L s) + 8 ≤ 32 + 70 * (tkN b L s1 - tkN b L s) by omega) ⟨(show 4 + 22 * (tkN b L s1 - tkN b L s) ≤ 280 + 22 * (stE b L R s - tkN b L s) by omega), (show 32 + 70 * (tkN b L s1 - tkN b L s) ≤ 2300 + 70 * (stE b L R s - tkN b L s) by omega)⟩ dX4_parseRecording_55 ?_ (fun q9 E9 M9 h9 => x_out hC hx ((show 4 + 22 * (tkN b L s1 - tkN b L s) ≤ 280 + 22 * (stE b L R s - tkN b L s) by omega)) ((show 32 + 70 * (tkN b L s1 - tkN b L s) ≤ 2300 + 70 * (stE b L R s - tkN b L s) by omega)) (by obtain ⟨n9, e9⟩ := h9; exact ⟨1, s1, by rw [pSt, if_pos hbl, if_neg hR6, hs1, if_neg n9], pe98 (pe87 (PEr.tr hF1 (e9.wk fun _ z => z.elim)))⟩))
      rintro _ M4 ⟨rfl, hM4, hw2⟩
      subst hM4
      have hSw := ht1.2.2.1 hw2
      refine x_new (ci := 4) (T := TX6) (N := 1) hC 3 [.null] rfl q1466 q612 q111 tyX6 tyX6_ok (by decide) (by decide +kernel) (show 4 + 22 * (tkN b L s1 - tkN b L s) + 1 ≤ 280 + 22 * (stE b L R s - tkN b L s) by omega) (show 32 + 70 * (tkN b L s1 - tkN b L s) + 1 ≤ 2300 + 70 * (stE b L R s - tkN b L s) by omega) dX4_parseRecording_58 (fun q1 hq1 => ?_)
      refine x_dup hC dX4_parseRecording_61 rfl ?_
      refine x_aload_n hC dX4_parseRecording_62 rfl rfl ?_
      refine x_get hC 8 (mu_f hq1 hp1) rfl (by decide) q1372 rfl rfl dX4_parseRecording_63 ?_
      refine x_callI0 (na := 1) hC (ct_nmInit hG (by decide) mu_s) q615 q111 q1467 q614 rfl (by decide +kernel) rfl ⟨Nat.le_of_ble_eq_true rfl, Nat.le_of_ble_eq_true rfl⟩ rfl (Nat.le_of_ble_eq_true rfl) ⟨rfl, rfl⟩ ⟨(show 4 + 22 * (tkN b L s1 - tkN b L s) + 1 ≤ 280 + 22 * (stE b L R s - tkN b L s) by omega), (show 32 + 70 * (tkN b L s1 - tkN b L s) + 1 ≤ 2300 + 70 * (stE b L R s - tkN b L s) by omega)⟩ dX4_parseRecording_66 ?_
      rintro _ M ⟨rfl, rfl⟩
      rw [mu_mu]
      refine x_tag 0 mu_s (by decide) ?_
      rw [mu_mu]
      have hF2 : Fr P7 M4 (mu M4 q1 (ob 0 4 [.ref wo1])) := Fr.new hq1
      have hNM : NM (mu M4 q1 (ob 0 4 [.ref wo1])) q1 (sub b s1 (tkN b L s1)) := ⟨wo1, mu_s, hSw.fr hF2 P7_0⟩
      have hF7 : Fr P7 M2 (mu M4 q1 (ob 0 4 [.ref wo1])) := hF1.tr hF2
      have hF8 := p87 hF7
      have hp2 := mu_f (e := ob 0 4 [.ref wo1]) hq1 hp1
      generalize mu M4 q1 (ob 0 4 [.ref wo1]) = M5 at hF2 hNM hF7 hF8 hp2 ⊢
      have hA2 := hA.fr hF8 P8_0 P8_2 PA_8
      have a12 := hF8.z (fun z => PA_8 _ PA_0 z) a1
      refine x_astore_n (lv' := [_, _, _]) hC dX4_parseRecording_69 rfl (by decide) rfl ?_
      refine x_aload_n hC dX4_parseRecording_70 rfl rfl ?_
      refine x_aload_n hC dX4_parseRecording_71 rfl rfl ?_
      refine x_get hC 2 hp2 rfl (by decide) q1366 rfl rfl dX4_parseRecording_72 ?_
      refine x_aload_n hC dX4_parseRecording_75 rfl rfl ?_
      refine x_callV0 (na := 1) hC (ct_arHas hG hA2 hNM) (lw_V q1468 q645 q646 q82 q647) a12 rfl rfl (by decide +kernel) rfl ⟨Nat.le_of_ble_eq_true rfl, Nat.le_of_ble_eq_true rfl⟩ rfl (Nat.le_of_ble_eq_true rfl) ⟨rfl, rfl⟩ ⟨(show 4 + 22 * (tkN b L s1 - tkN b L s) + 1 ≤ 280 + 22 * (stE b L R s - tkN b L s) by omega), (show 32 + 70 * (tkN b L s1 - tkN b L s) + 1 ≤ 2300 + 70 * (stE b L R s - tkN b L s) by omega)⟩ dX4_parseRecording_76 ?_
      rintro _ M ⟨rfl, rfl⟩
      have key2 : ∀ v, v = xB (¬ sub b s1 (tkN b L s1) ∈ R.map Prod.fst) → Wg G C M (4 + 22 * (tkN b L s1 - tkN b L s) + 1) (32 + 70 * (tkN b L s1 - tkN b L s) + 1) 87 [some (.ref pa), some (.ref q1), none] [.int v, .ref pa] := by
        rintro _ rfl
        refine x_iconst (v := nI 3) hC dX4_parseRecording_87 (by decide) ?_
        refine x_qV (k := 6 + 22 * (tkN b L s1 - tkN b L s)) (n := 41 + 70 * (tkN b L s1 - tkN b L s)) (na := 2) hC (cq_check hG hp2 (¬ sub b s1 (tkN b L s1) ∈ R.map Prod.fst) 3) (lw_V q1416 q1418 qs9 q95 q1419) hp2 rfl rfl (by decide +kernel) rfl ⟨Nat.le_of_ble_eq_true rfl, Nat.le_of_ble_eq_true rfl⟩ rfl (Nat.le_of_ble_eq_true rfl) (show 4 + 22 * (tkN b L s1 - tkN b L s) + 1 + 1 ≤ 6 + 22 * (tkN b L s1 - tkN b L s) by omega) (show 32 + 70 * (tkN b L s1 - tkN b L s) + 1 + 8 ≤ 41 + 70 * (tkN b L s1 - tkN b L s) by omega) ⟨(show 6 + 22 * (tkN b L s1 - tkN b L s) ≤ 280 + 22 * (stE b L R s - tkN b L s) by omega), (show 41 + 70 * (tkN b L s1 - tkN b L s) ≤ 2300 + 70 * (stE b L R s - tkN b L s) by omega)⟩ dX4_parseRecording_88 ?_ (fun q9 E9 M9 h9 => x_out hC hx ((show 6 + 22 * (tkN b L s1 - tkN b L s) ≤ 280 + 22 * (stE b L R s - tkN b L s) by omega)) ((show 41 + 70 * (tkN b L s1 - tkN b L s) ≤ 2300 + 70 * (stE b L R s - tkN b L s) by omega)) (by obtain ⟨n9, e9⟩ := h9; exact ⟨3, s1, by rw [pSt, if_pos hbl, if_neg hR6, hs1, if_pos hw2, if_neg (fun z => n9 (fnd_none.mp z))], pe98 (PEr.tr hF8 (e9.wk fun _ z => z.elim))⟩))
        rintro _ M6 ⟨rfl, hM6, hnn⟩
        subst hM6
        have hfn := fnd_none.mpr hnn
        have eSt : pSt b L R s = match pSs b L 65 (adv b L s1) [] with
            | .error e => .error e
            | .ok (xs, s3) => if isL (nI xs.length) then .ok (R ++ [(sub b s1 (tkN b L s1), xs)], adv b L s3) else .error (2, s3) := by
          rw [pSt, if_pos hbl, if_neg hR6, hs1, if_pos hw2, if_pos hfn]
          cases pSs b L 65 (adv b L s1) [] <;> rfl
        have eE : stE b L R s = enR b L (pSs b L 65 (adv b L s1) []) := by
          unfold stE
          rw [if_pos ⟨hbl, hR6⟩, hs1, if_pos ⟨hw2, hfn⟩]
        generalize hs2 : adv b L s1 = s2 at k2 k4 eSt eE
        have kE2 : tkN b L s2 ≤ stE b L R s := by rw [eE]; exact pSs_end k2.2 rfl (Nat.zero_le _)
        refine x_aload_n hC dX4_parseRecording_91 rfl rfl ?_
        refine x_iconst (v := nI 0) hC dX4_parseRecording_92 (by decide) ?_
        refine x_put hC 4 hp2 (by decide) rfl (by decide) q1368 rfl rfl rfl rfl rfl (show 4 < 10 by decide) (fs' := pF bu L ar rd 0 (tkN b L s1) s1 so1 wo1 nu1) rfl dX4_parseRecording_93 ?_
        have hF3 : Fr P7 M6 (mu M6 pa (pO bu L ar rd 0 (tkN b L s1) s1 so1 wo1 nu1)) := p77 hp2
        have hF83 := hF8.tr (p87 hF3)
        have hF73 := hF7.tr hF3
        have hNM3 := hNM.fr hF3 P7_0
        have hp3 : (mu M6 pa (pO bu L ar rd 0 (tkN b L s1) s1 so1 wo1 nu1)) pa = some (pO bu L ar rd 0 (tkN b L s1) s1 so1 wo1 nu1) := mu_s
        generalize mu M6 pa (pO bu L ar rd 0 (tkN b L s1) s1 so1 wo1 nu1) = M7 at hF3 hF83 hF73 hNM3 hp3 ⊢
        refine x_aload_n hC dX4_parseRecording_96 rfl rfl ?_
        have hpa2 := cq_padv hG hT (hM.fr hF83 P8_0) hp3 (hb.fr hF83 P8_1) kn1.2
        rw [show tkS b L (tkN b L s1) = s2 from hs2] at hpa2
        refine x_qV (k := 7 + 22 * (tkN b L s2 - tkN b L s)) (n := 49 + 70 * (tkN b L s2 - tkN b L s)) (na := 0) hC (hpa2) (lw_V q1399 q1401 qs6 q95 q1402) hp3 rfl rfl (by decide +kernel) rfl ⟨Nat.le_of_ble_eq_true rfl, Nat.le_of_ble_eq_true rfl⟩ rfl (Nat.le_of_ble_eq_true rfl) (show 6 + 22 * (tkN b L s1 - tkN b L s) + (1 + 22 * (tkN b L s2 - tkN b L s1)) ≤ 7 + 22 * (tkN b L s2 - tkN b L s) by omega) (show 41 + 70 * (tkN b L s1 - tkN b L s) + (8 + 70 * (tkN b L s2 - tkN b L s1)) ≤ 49 + 70 * (tkN b L s2 - tkN b L s) by omega) ⟨(show 7 + 22 * (tkN b L s2 - tkN b L s) ≤ 280 + 22 * (stE b L R s - tkN b L s) by omega), (show 49 + 70 * (tkN b L s2 - tkN b L s) ≤ 2300 + 70 * (stE b L R s - tkN b L s) by omega)⟩ dX4_parseRecording_97 ?_ (fun q9 E9 M9 h9 => x_out hC hx ((show 7 + 22 * (tkN b L s2 - tkN b L s) ≤ 280 + 22 * (stE b L R s - tkN b L s) by omega)) ((show 49 + 70 * (tkN b L s2 - tkN b L s) ≤ 2300 + 70 * (stE b L R s - tkN b L s) by omega)) (by obtain ⟨n9, e9⟩ := h9; exact ⟨1, s2, by rw [eSt, pSs_bad (by decide) n9], pe98 (PEr.tr hF83 (pe87 e9))⟩))
        rintro _ M8 ⟨rfl, so2, wo2, nu2, hp4, ht4, hF4⟩
        have hF84 := hF83.tr (p87 hF4)
        -- the samples
        suffices loop : ∀ (d : Nat) (acc : List Int32) (s' : Nat) (Mx : X_M) (kc ks : Nat) (fx : Nat → Int32), acc.length + d = 65 → acc.length ≤ 64 → s' ≤ L → pSs b L 65 s2 [] = pSs b L d s' acc → tkN b L s ≤ tkN b L s' → PAt Mx T pa bu L ar rd acc.length b s' → Mx rd = some (ia 8 64 fx) → (∀ k, k < acc.length → fx k = acc.getD k 0) → NM Mx q1 (sub b s1 (tkN b L s1)) → Fr P8 M2 Mx → kc ≤ 7 + 4 * acc.length + 22 * (tkN b L s' - tkN b L s) → ks ≤ 49 + 32 * acc.length + 70 * (tkN b L s' - tkN b L s) → Wg G C Mx kc ks 100 [some (.ref pa), some (.ref q1), none] [] from
          loop 65 [] s2 M8 _ _ f rfl (Nat.zero_le _) k2.2 rfl (by omega) ⟨so2, wo2, nu2, hp4, ht4⟩ ((hF73.tr hF4).z (by decide) hrd) (fun k hk => absurd hk (Nat.not_lt_zero k)) (hNM3.fr hF4 P7_0) hF84 (Nat.le_refl _) (Nat.le_refl _)
        intro d
        induction d with
        | zero =>
          intro acc s' Mx kc ks fx hl h64
          omega
        | succ d ih =>
          intro acc s' Mx kc ks fx hl h64 hs' hps hks' hPA hrx hfx hNx hFx hkc hks
          obtain ⟨so', wo', nu', hpx, htx⟩ := hPA
          have hMx := hM.fr hFx P8_0
          have hbx := hb.fr hFx P8_1
          have hcx := tkC_lt b L s'
          have kEx : tkN b L s' ≤ stE b L R s := by rw [eE, hps]; exact pSs_end hs' hl h64
          have smp : ¬ (2 ≤ acc.length ∧ tkC b L s' = 4) → Wg G C Mx kc ks 118 [some (.ref pa), some (.ref q1), none] [] := by
            intro hno
            have hstep : pSs b L (d + 1) s' acc = match pS1 b L s' acc.length with
                | .error e => .error e
                | .ok (x, s2) => pSs b L d s2 (acc ++ [x]) := by
              rw [pSs, if_neg hno]
              cases pS1 b L s' acc.length <;> rfl
            have hsm := smS_le (b := b) hs'
            have kEm : tkN b L (smS b L s') ≤ stE b L R s := by
              rw [eE, hps, hstep]
              cases hp1 : pS1 b L s' acc.length with
              | error e =>
                obtain ⟨k, o⟩ := e
                rw [pS1_end hp1]
                exact Nat.le_refl _
              | ok e =>
                obtain ⟨x, s9⟩ := e
                obtain ⟨z1, z2, z3⟩ := pS1_ok hs' hp1
                have h9 := pS1_adv hp1
                have h10 := pSs_end (b := b) (d := d) (s := s9) (acc := acc ++ [x]) z1 (by simp; omega) (by simp; omega)
                have h11 := tkN_adv (b := b) hsm.2.1
                rw [← h9] at h11
                exact Nat.le_trans h11 h10
            refine x_aload_n hC dX4_parseRecording_118 rfl rfl ?_
            refine x_qV (k := kc + (3 + 22 * (tkN b L (smS b L s') - tkN b L s'))) (n := ks + (24 + 70 * (tkN b L (smS b L s') - tkN b L s'))) (na := 0) hC (cq_psample hG hT hMx ⟨so', wo', nu', hpx, htx⟩ hbx hs' hrx h64) (lw_V q1469 q1471 qs12 q95 q1472) hpx rfl rfl (by decide +kernel) rfl ⟨Nat.le_of_ble_eq_true rfl, Nat.le_of_ble_eq_true rfl⟩ rfl (Nat.le_of_ble_eq_true rfl) (Nat.le_refl _) (Nat.le_refl _) ⟨(show kc + (3 + 22 * (tkN b L (smS b L s') - tkN b L s')) ≤ 280 + 22 * (stE b L R s - tkN b L s) by omega), (show ks + (24 + 70 * (tkN b L (smS b L s') - tkN b L s')) ≤ 2300 + 70 * (stE b L R s - tkN b L s) by omega)⟩ dX4_parseRecording_119 ?_ (fun q9 E9 M9 h9 => x_out hC hx ((show kc + (3 + 22 * (tkN b L (smS b L s') - tkN b L s')) ≤ 280 + 22 * (stE b L R s - tkN b L s) by omega)) ((show ks + (24 + 70 * (tkN b L (smS b L s') - tkN b L s')) ≤ 2300 + 70 * (stE b L R s - tkN b L s) by omega)) (by obtain ⟨k9, o9, e9, f9⟩ := h9; exact ⟨k9, o9, by rw [eSt, hps, hstep, e9], pe98 (PEr.tr hFx f9)⟩))
            rintro _ My ⟨rfl, x, hx1, hPy, hry, hFy⟩
            obtain ⟨soy, woy, nuy, hpy, hty⟩ := hPy
            have hFxy := hFx.tr hFy
            obtain ⟨z1, z2, z3⟩ := pS1_ok hs' hx1
            have hstep2 : pSs b L (d + 1) s' acc = pSs b L d (adv b L (smS b L s')) (acc ++ [x]) := by rw [hstep, hx1]
            have kEy : tkN b L (adv b L (smS b L s')) ≤ stE b L R s := by rw [eE, hps, hstep2]; exact pSs_end z1 (by simp; omega) (by simp; omega)
            have kmy := tkN_adv (b := b) hsm.2.1
            have hlen : (acc ++ [x]).length = acc.length + 1 := by simp
            refine x_aload_n hC dX4_parseRecording_122 rfl rfl ?_
            have hpa3 := cq_padv hG hT (hM.fr hFxy P8_0) hpy (hb.fr hFxy P8_1) (tkN_le b hsm.2.1).2
            rw [show tkS b L (tkN b L (smS b L s')) = adv b L (smS b L s') from rfl] at hpa3
            generalize adv b L (smS b L s') = sy at hx1 hstep2 kEy kmy hpa3 z1
            refine x_qV (k := kc + (3 + 22 * (tkN b L (smS b L s') - tkN b L s')) + (1 + 22 * (tkN b L sy - tkN b L (smS b L s')))) (n := ks + (24 + 70 * (tkN b L (smS b L s') - tkN b L s')) + (8 + 70 * (tkN b L sy - tkN b L (smS b L s')))) (na := 0) hC (hpa3) (lw_V q1399 q1401 qs6 q95 q1402) hpy rfl rfl (by decide +kernel) rfl ⟨Nat.le_of_ble_eq_true rfl, Nat.le_of_ble_eq_true rfl⟩ rfl (Nat.le_of_ble_eq_true rfl) (Nat.le_refl _) (Nat.le_refl _) ⟨(show kc + (3 + 22 * (tkN b L (smS b L s') - tkN b L s')) + (1 + 22 * (tkN b L sy - tkN b L (smS b L s'))) ≤ 280 + 22 * (stE b L R s - tkN b L s) by omega), (show ks + (24 + 70 * (tkN b L (smS b L s') - tkN b L s')) + (8 + 70 * (tkN b L sy - tkN b L (smS b L s'))) ≤ 2300 + 70 * (stE b L R s - tkN b L s) by omega)⟩ dX4_parseRecording_123 ?_ (fun q9 E9 M9 h9 => x_out hC hx ((show kc + (3 + 22 * (tkN b L (smS b L s') - tkN b L s')) + (1 + 22 * (tkN b L sy - tkN b L (smS b L s'))) ≤ 280 + 22 * (stE b L R s - tkN b L s) by omega)) ((show ks + (24 + 70 * (tkN b L (smS b L s') - tkN b L s')) + (8 + 70 * (tkN b L sy - tkN b L (smS b L s'))) ≤ 2300 + 70 * (stE b L R s - tkN b L s) by omega)) (by obtain ⟨n9, e9⟩ := h9; exact ⟨1, sy, by rw [eSt, hps, hstep2, pSs_bad (by omega) n9], pe98 (PEr.tr hFxy (pe87 e9))⟩))
            rintro _ Mz ⟨rfl, soz, woz, nuz, hpz, htz, hFz⟩
            refine x_goto (tgt := 100) hC dX4_parseRecording_126 (by decide) ?_
            refine ih (acc ++ [x]) sy Mz _ _ _ (by omega) (by omega) z1 (hps.trans hstep2) (by omega) (by rw [hlen]; exact ⟨soz, woz, nuz, hpz, htz⟩) (hFz.z (by decide) hry) (fun k hk => ?_) ((hNx.fr hFy P8_0).fr hFz P7_0) (hFxy.tr (p87 hFz)) (by omega) (by omega)
            by_cases e : k = acc.length
            · subst e
              rw [upd_s]
              simp [List.getD_eq_getElem?_getD]
            · have hk2 : k < acc.length := by omega
              rw [upd_n e, hfx k hk2, List.getD_eq_getElem?_getD, List.getD_eq_getElem?_getD, List.getElem?_append_left hk2]
          have done : 2 ≤ acc.length → tkC b L s' = 4 → Wg G C Mx kc ks 129 [some (.ref pa), some (.ref q1), none] [] := by
            intro h2 h4
            have hdone : pSs b L 65 s2 [] = .ok (acc, s') := by rw [hps, pSs, if_pos ⟨h2, h4⟩]
            have eSt2 : pSt b L R s = if isL (nI acc.length) then .ok (R ++ [(sub b s1 (tkN b L s1), acc)], adv b L s') else .error (2, s') := by rw [eSt, hdone]
            have eE2 : stE b L R s = tkN b L s' := by rw [eE, hdone]; rfl
            refine x_aload_n hC dX4_parseRecording_129 rfl rfl ?_
            refine x_aload_n hC dX4_parseRecording_130 rfl rfl ?_
            refine x_get hC 4 hpx rfl (by decide) q1368 rfl rfl dX4_parseRecording_131 ?_
            refine x_callSN0 (na := 1) hC (ct_cisLength hG _ _) q1475 q1474 q81 q1473 (by decide +kernel) rfl ⟨Nat.le_of_ble_eq_true rfl, Nat.le_of_ble_eq_true rfl⟩ rfl (Nat.le_of_ble_eq_true rfl) ⟨rfl, rfl⟩ ⟨(show kc ≤ 280 + 22 * (stE b L R s - tkN b L s) by omega), (show ks ≤ 2300 + 70 * (stE b L R s - tkN b L s) by omega)⟩ dX4_parseRecording_134 ?_
            rintro _ M ⟨rfl, rfl⟩
            refine x_iconst (v := nI 2) hC dX4_parseRecording_137 (by decide) ?_
            refine x_qV (k := kc + 1) (n := ks + 8) (na := 2) hC (cq_check hG hpx (isL (nI acc.length)) 2) (lw_V q1416 q1418 qs9 q95 q1419) hpx rfl rfl (by decide +kernel) rfl ⟨Nat.le_of_ble_eq_true rfl, Nat.le_of_ble_eq_true rfl⟩ rfl (Nat.le_of_ble_eq_true rfl) (Nat.le_refl _) (Nat.le_refl _) ⟨(show kc + 1 ≤ 280 + 22 * (stE b L R s - tkN b L s) by omega), (show ks + 8 ≤ 2300 + 70 * (stE b L R s - tkN b L s) by omega)⟩ dX4_parseRecording_138 ?_ (fun q9 E9 M9 h9 => x_out hC hx ((show kc + 1 ≤ 280 + 22 * (stE b L R s - tkN b L s) by omega)) ((show ks + 8 ≤ 2300 + 70 * (stE b L R s - tkN b L s) by omega)) (by obtain ⟨n9, e9⟩ := h9; exact ⟨2, s', by rw [eSt2, if_neg n9], pe98 (PEr.tr hFx (e9.wk fun _ z => z.elim))⟩))
            rintro _ Mc ⟨rfl, hMc, hisL⟩
            subst hMc
            refine x_aload_n hC dX4_parseRecording_141 rfl rfl ?_
            refine x_get hC 4 hpx rfl (by decide) q1368 rfl rfl dX4_parseRecording_142 ?_
            refine x_newi hC acc.length 3 q1328 (by decide) rfl (by omega) (show kc + 1 + 1 ≤ 280 + 22 * (stE b L R s - tkN b L s) by omega) (show ks + 8 + acc.length ≤ 2300 + 70 * (stE b L R s - tkN b L s) by omega) dX4_parseRecording_145 (fun p hpn => ?_)
            refine x_astore_n (lv' := [_, _, _]) hC dX4_parseRecording_147 rfl (by decide) rfl ?_
            refine x_aload_n hC dX4_parseRecording_148 rfl rfl ?_
            refine x_get hC 3 (mu_f hpn hpx) rfl (by decide) q1367 rfl rfl dX4_parseRecording_149 ?_
            refine x_iconst (v := nI 0) hC dX4_parseRecording_152 (by decide) ?_
            refine x_aload_n hC dX4_parseRecording_153 rfl rfl ?_
            refine x_iconst (v := nI 0) hC dX4_parseRecording_154 (by decide) ?_
            refine x_aload_n hC dX4_parseRecording_155 rfl rfl ?_
            refine x_get hC 4 (mu_f hpn hpx) rfl (by decide) q1368 rfl rfl dX4_parseRecording_156 ?_
            refine x_copyi hC (mu_f hpn hrx) mu_s (by decide) rfl q1476 q350 q349 q105 (by omega) (by omega) (by omega) (by omega) (fun i hi => rfl) (Nat.le_of_ble_eq_true rfl) (Nat.le_of_ble_eq_true rfl) dX4_parseRecording_159 ?_
            rw [mu_mu]
            refine x_freeze 0 (fun k => acc.getD k 0) mu_s (by decide) (fun k hk => ((cpy_at hk).trans (hfx k hk)).symm) ?_
            rw [mu_mu]
            have hF5 : Fr P8 Mc (mu Mc p (ia 0 acc.length fun k => acc.getD k 0)) := Fr.new hpn
            have hp5 := mu_f (e := ia 0 acc.length fun k => acc.getD k 0) hpn hpx
            have hr5 := mu_f (e := ia 0 acc.length fun k => acc.getD k 0) hpn hrx
            have hsa : (mu Mc p (ia 0 acc.length fun k => acc.getD k 0)) p = some (ia 0 acc.length fun k => acc.getD k 0) := mu_s
            have ht5 := htx.fr hF5 P8_0
            have hN5 := hNx.fr hF5 P8_0
            generalize mu Mc p (ia 0 acc.length fun k => acc.getD k 0) = M9 at hF5 hp5 hr5 hsa ht5 hN5 ⊢
            refine x_aload_n hC dX4_parseRecording_162 rfl rfl ?_
            refine x_get hC 2 hp5 rfl (by decide) q1366 rfl rfl dX4_parseRecording_163 ?_
            refine x_new (ci := 3) (T := TX7) (N := 4) hC 2 [.null, .null, .null, .null] rfl q1477 q1478 q115 tyX7 tyX7_ok (by decide) (by decide +kernel) (show kc + 1 + 1 + 1 ≤ 280 + 22 * (stE b L R s - tkN b L s) by omega) (show ks + 8 + acc.length + 4 ≤ 2300 + 70 * (stE b L R s - tkN b L s) by omega) dX4_parseRecording_166 (fun q2 hq2 => ?_)
            refine x_dup hC dX4_parseRecording_169 rfl ?_
            refine x_aload_n hC dX4_parseRecording_170 rfl rfl ?_
            refine x_aload_n hC dX4_parseRecording_171 rfl rfl ?_
            refine x_callI0 (na := 2) hC (ct_rinit hG mu_s) q1481 q115 q1479 q1480 rfl (by decide +kernel) rfl ⟨Nat.le_of_ble_eq_true rfl, Nat.le_of_ble_eq_true rfl⟩ rfl (Nat.le_of_ble_eq_true rfl) ⟨rfl, rfl⟩ ⟨(show kc + 1 + 1 + 1 ≤ 280 + 22 * (stE b L R s - tkN b L s) by omega), (show ks + 8 + acc.length + 4 ≤ 2300 + 70 * (stE b L R s - tkN b L s) by omega)⟩ dX4_parseRecording_172 ?_
            rintro _ M ⟨rfl, rfl⟩
            rw [mu_mu]
            have hF6 : Fr P8 M9 (mu M9 q2 (ob 2 3 (reF q1 p .null .null))) := Fr.new hq2
            have hFall : Fr P8 M2 (mu M9 q2 (ob 2 3 (reF q1 p .null .null))) := (hFx.tr hF5).tr hF6
            have hRA : RA (mu M9 q2 (ob 2 3 (reF q1 p .null .null))) q2 (sub b s1 (tkN b L s1), acc) := RA.new mu_s (mu_f hq2 hsa) (hN5.fr hF6 P8_0)
            have hp6 := mu_f (e := ob 2 3 (reF q1 p .null .null)) hq2 hp5
            have hr6 := mu_f (e := ob 2 3 (reF q1 p .null .null)) hq2 hr5
            have ht6 := ht5.fr hF6 P8_0
            generalize mu M9 q2 (ob 2 3 (reF q1 p .null .null)) = M10 at hF6 hFall hRA hp6 hr6 ht6 ⊢
            have hA6 := hA.fr hFall P8_0 P8_2 PA_8
            have a16 := hFall.z (fun z => PA_8 _ PA_0 z) a1
            have hR5 : R.length < 6 := by have := hW.1; omega
            refine x_callV (k := kc + 1 + 1 + 1 + 3) (n := ks + 8 + acc.length + 4 + 30) (na := 1) hC (ct_arAdd hG hT0 (hFall.z P8_0 h0) hA6 hRA hR5 hnn) (lw_V q1500 q1127 q1128 q82 q1129) a16 rfl rfl (by decide +kernel) rfl ⟨Nat.le_of_ble_eq_true rfl, Nat.le_of_ble_eq_true rfl⟩ rfl (Nat.le_of_ble_eq_true rfl) (Nat.le_refl _) (Nat.le_refl _) ⟨(show kc + 1 + 1 + 1 + 3 ≤ 280 + 22 * (stE b L R s - tkN b L s) by omega), (show ks + 8 + acc.length + 4 + 30 ≤ 2300 + 70 * (stE b L R s - tkN b L s) by omega)⟩ dX4_parseRecording_175 ?_
            rintro _ M11 ⟨rfl, hA7, hF9⟩
            refine x_pop hC dX4_parseRecording_178 rfl ?_
            exact x_vret hC hk dX4_parseRecording_179 (show kc + 1 + 1 + 1 + 3 ≤ 280 + 22 * (stE b L R s - tkN b L s) by omega) (show ks + 8 + acc.length + 4 + 30 ≤ 2300 + 70 * (stE b L R s - tkN b L s) by omega) ⟨rfl, sub b s1 (tkN b L s1), acc, s', acc.length, fx, _, by rw [eSt2, if_pos hisL], eE2, hs', ⟨so', wo', nu', hF9.z (fun z => by have := z.1; omega) hp6, ht6.fr hF9 PA_n0⟩, hF9.z (fun z => by have := z.1; omega) hr6, hA7, (p98 hFall).tr (p9A hF9)⟩
          refine x_aload_n hC dX4_parseRecording_100 rfl rfl ?_
          refine x_get hC 4 hpx rfl (by decide) q1368 rfl rfl dX4_parseRecording_101 ?_
          refine x_iconst (v := nI 2) hC dX4_parseRecording_104 (by decide) ?_
          refine x_icmp_ltN (tgt := 118) hC (by omega) (by omega) dX4_parseRecording_105 (by decide) (fun c3 => ?_) (fun c3 => ?_)
          · exact smp (fun z => by omega)
          · refine x_aload_n hC dX4_parseRecording_108 rfl rfl ?_
            refine x_get hC 7 hpx rfl (by decide) q1371 rfl rfl dX4_parseRecording_109 ?_
            refine x_gets hC hT.1.2.2.2.1 q1454 rfl dX4_parseRecording_112 ?_
            refine x_acmp_eqR (tgt := 129) hC dX4_parseRecording_115 (by decide) (fun c4 => ?_) (fun c4 => ?_)
            · rw [htx.2.1] at c4
              exact done (by omega) ((srt_eq hT hcx (by decide) htx.1 (by decide)).mp c4)
            · exact smp (fun z => c4 (by rw [htx.2.1, z.2]; rfl))
      refine x_if_neB (tgt := 86) hC dX4_parseRecording_79 (by decide) (fun c2 => ?_) (fun c2 => ?_)
      · refine x_iconst (v := 0) hC dX4_parseRecording_86 (by decide) ?_
        exact key2 _ (xB_f (fun z => z c2)).symm
      · refine x_iconst (v := 1) hC dX4_parseRecording_82 (by decide) ?_
        refine x_goto (tgt := 87) hC dX4_parseRecording_83 (by decide) ?_
        exact key2 _ (xB_t c2).symm
    refine x_aload_n hC dX4_parseRecording_38 rfl rfl ?_
    refine x_aload_n hC dX4_parseRecording_39 rfl rfl ?_
    refine x_get hC 7 hp1 rfl (by decide) q1371 rfl rfl dX4_parseRecording_40 ?_
    refine x_gets hC hT.1.1 q1444 rfl dX4_parseRecording_43 ?_
    refine x_acmp_neR (tgt := 53) hC dX4_parseRecording_46 (by decide) (fun c1 => ?_) (fun c1 => ?_)
    · refine x_iconst (v := 0) hC dX4_parseRecording_53 (by decide) ?_
      refine key1 _ (xB_f (fun z => c1 ?_)).symm
      rw [ht1.2.1, z]
      rfl
    · refine x_iconst (v := 1) hC dX4_parseRecording_49 (by decide) ?_
      refine x_goto (tgt := 54) hC dX4_parseRecording_50 (by decide) ?_
      refine key1 _ (xB_t ?_).symm
      rw [ht1.2.1] at c1
      exact (srt_eq hT hc61 (by decide) ht1.1 (by decide)).mp c1
  refine x_aload_n hC dX4_parseRecording_14 rfl rfl ?_
  refine x_aload_n hC dX4_parseRecording_15 rfl rfl ?_
  refine x_get hC 2 hp rfl (by decide) q1366 rfl rfl dX4_parseRecording_16 ?_
  refine x_callV0 (na := 0) hC (ct_arFull hG hA) (lw_V q1462 q1463 q1464 q82 q1465) a1 rfl rfl (by decide +kernel) rfl ⟨Nat.le_of_ble_eq_true rfl, Nat.le_of_ble_eq_true rfl⟩ rfl (Nat.le_of_ble_eq_true rfl) ⟨rfl, rfl⟩ ⟨(show 1 ≤ 280 + 22 * (stE b L R s - tkN b L s) by omega), (show 8 ≤ 2300 + 70 * (stE b L R s - tkN b L s) by omega)⟩ dX4_parseRecording_19 ?_
  rintro _ M ⟨rfl, rfl⟩
  refine x_if_neB (tgt := 29) hC dX4_parseRecording_22 (by decide) (fun c0 => ?_) (fun c0 => ?_)
  · refine x_iconst (v := 0) hC dX4_parseRecording_29 (by decide) ?_
    exact full _ (xB_f (fun z => z c0)).symm
  · refine x_iconst (v := 1) hC dX4_parseRecording_25 (by decide) ?_
    refine x_goto (tgt := 30) hC dX4_parseRecording_26 (by decide) ?_
    exact full _ (xB_t c0).symm
end PS6

