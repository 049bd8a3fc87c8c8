/-! ===== the reference's operations that only read, fifth part ===== -/
theorem nrs_cong {al al' : Nat → Prop} [DecidablePred al] [DecidablePred al'] {ap ap' : Nat → Int32} : ∀ {N : Nat}, (∀ d, d < N → (al d ↔ al' d)) → (∀ d, d < N → al d → ap d = ap' d) → nrs al ap N = nrs al' ap' N
  | 0, _, _ => rfl
  | N + 1, h1, h2 => by
    have ih := nrs_cong (N := N) (fun d hd => h1 d (by omega)) (fun d hd => h2 d (by omega))
    unfold nrs
    rw [← ih]
    by_cases ha : al N
    · rw [if_pos ha, if_pos ((h1 N (by omega)).mp ha)]
      cases hn : nrs al ap N with
      | none => rfl
      | some b =>
        have hb := nrs_lt hn
        dsimp only
        rw [h2 N (by omega) ha, h2 b (by omega) hb.2]
    · rw [if_neg ha, if_neg (fun h => ha ((h1 N (by omega)).mpr h))]
section M16
variable {G : X_G} {M : X_M} {m : Nat} {P : Nat → Nat} {V : Nat → Int32} {A : Nat → Nat → Int32} {S : X_S} {R : List Rcd} {i k j : Nat} {r s : Rcd}
theorem ct_alikeR (hG : GOK G) (hm : Mdl M m P V A) (hw : Rw R (A 0) i r) (hv : Rw R (A 0) j s) : Ct G yX3_areAlike cX3_areAlike 3 (some .boolean) (xrm 3 0 0) [.ref m, .int (nI i), .int (nI j)] M (Pr (.int (xB (rz r = rz s))) M) := by
  have h := ct_areAlike hG hm hw.c6 hv.c6
  rw [hw.hn, hv.hn, xB_iff (nI_eq (by have := hw.n6; omega) (by have := hv.n6; omega))] at h
  exact h
theorem ct_peaksR (hG : GOK G) (hm : Mdl M m P V A) (hw : Rw R (A 0) i r) : Ct G yX3_findPeaks cX3_findPeaks 6 none (xrm 5 0 0) [.ref m, .int (nI i)] M (Po none M m P V (va_up (va_up A 6 (fil (A 6) (cfN (rg r) (rz r)) 0 (rz r))) 8 (fil (A 8) (fun j => nI (pkN r j)) 0 (rz r)))) := by
  have h := ct_findPeaks hG hm hw.c6 hw.hn hw.n6
  rw [hw.cfS] at h
  exact h
theorem rk_at (h : k < rz r) : va_up (va_up A 6 (fil (A 6) (cfN (rg r) (rz r)) 0 (rz r))) 8 (fil (A 8) (fun j => nI (pkN r j)) 0 (rz r)) 8 k = nI (pkN r k) := by
  rw [va_up_s, fil_in (Nat.zero_le _) h]
theorem rk_co (h : k < rz r) : va_up (va_up A 6 (fil (A 6) (cfN (rg r) (rz r)) 0 (rz r))) 8 (fil (A 8) (fun j => nI (pkN r j)) 0 (rz r)) 6 k = cfN (rg r) (rz r) k := by
  rw [va_up_n (by decide), va_up_s, fil_in (Nat.zero_le _) h]
theorem MRep.k686 (h : MRep S V A) {x : Int32} {g g' : Nat → Int32} : MRep S (upd V 6 x) (va_up (va_up A 6 g) 8 g') := (h.kA (Nat.le_refl 6)).k68 (by decide)
theorem coE_R {g : Nat → Int32} (h : ∀ k, k < rz r → g k = cfN (rg r) (rz r) k) : jS (fun k => sq (g k)) (rz r) = coE r := jS_cong fun k hk => by rw [h k hk]
theorem ct_meanSequency (hG : GOK G) (hm : Mdl M m P V A) (hS : MRep S V A) (x : Int32) : Ct G yX3_meanSequency cX3_meanSequency 6 (some .double) (xrm 5 0 0) [.ref m, .int x] M (MOd M m P S (opMeanSeq S x).1 (opMeanSeq S x).2) := by
  refine ct_open (lv := [_, _, _, _, _, _]) hG (by decide +kernel) (Nat.le_of_ble_eq_true rfl) rfl (fun C hC hk => ?_)
  have hF : Fm M M := Fr.rf
  unfold opMeanSeq at hk
  refine x_aload_n hC dX3_meanSequency_0 rfl rfl ?_
  refine x_aload_n hC dX3_meanSequency_1 rfl rfl ?_
  refine x_iload_n hC dX3_meanSequency_2 rfl rfl ?_
  refine x_callV0 (na := 1) hC (ct_isRecording hG hm _) (lw_V q2491 q2493 qs44 q89 q2494) hm.1 rfl rfl (by decide +kernel) rfl ⟨Nat.le_of_ble_eq_true rfl, Nat.le_of_ble_eq_true rfl⟩ rfl (Nat.le_of_ble_eq_true rfl) ⟨rfl, rfl⟩ ⟨Nat.le_of_ble_eq_true rfl, Nat.le_of_ble_eq_true rfl⟩ dX3_meanSequency_3 ?_
  rintro _ M ⟨rfl, rfl⟩
  refine x_callV0 (na := 1) hC (ct_good hG hm _) (lw_V q2402 q2404 qs30 q89 q2405) hm.1 rfl rfl (by decide +kernel) rfl ⟨Nat.le_of_ble_eq_true rfl, Nat.le_of_ble_eq_true rfl⟩ rfl (Nat.le_of_ble_eq_true rfl) ⟨rfl, rfl⟩ ⟨Nat.le_of_ble_eq_true rfl, Nat.le_of_ble_eq_true rfl⟩ dX3_meanSequency_6 ?_
  rintro _ M ⟨rfl, hm, hF1⟩
  have hF := hF.tr hF1
  refine x_if_neB (tgt := 14) hC dX3_meanSequency_9 (by decide) (fun c => ?_) (fun c => ?_)
  · obtain ⟨i, r, hx, rfl, hw⟩ := rc_ok hS.1.1 hS.1.2 c
    rw [hx] at hk
    have h6 := hw.n6
    have h2 := hw.n2
    refine x_aload_n hC dX3_meanSequency_14 rfl rfl ?_
    refine x_iload_n hC dX3_meanSequency_15 rfl rfl ?_
    refine x_callV0 (na := 1) hC (ct_transform hG hm hw.c6 hw.hn hw.n6) (lw_V q2611 q2613 qs55 q89 q2614) hm.1 rfl rfl (by decide +kernel) rfl ⟨Nat.le_of_ble_eq_true rfl, Nat.le_of_ble_eq_true rfl⟩ rfl (Nat.le_of_ble_eq_true rfl) ⟨rfl, rfl⟩ ⟨Nat.le_of_ble_eq_true rfl, Nat.le_of_ble_eq_true rfl⟩ dX3_meanSequency_16 ?_
    rintro _ M ⟨rfl, hm, hF1⟩
    have hF := hF.tr hF1
    have hw1 : Rw (sR S) (va_up A 6 (fil (A 6) (cfS (A 0) i (rz r)) 0 (rz r)) 0) i r := hw
    refine x_lconst (v := 0) hC dX3_meanSequency_19 (by decide) ?_
    refine x_lstore_n (lv' := [_, _, _, _, _, _]) hC dX3_meanSequency_20 rfl (by decide) rfl ?_
    refine x_iconst (v := nI 0) hC dX3_meanSequency_21 (by decide) ?_
    refine x_istore (lv' := [_, _, _, _, _, _]) hC dX3_meanSequency_22 (by decide) rfl ?_
    refine x_up (n := rz r) (I := fun k => Wg G C M 0 0 24 [some (.ref m), some (.int (nI i)), some (.long (jS (fun i => (chg (nI i) (rz r)).toInt64 * sq (cfN (rg r) (rz r) i)) k)), none, some (.int (nI k)), none] []) (fun k hk2 ih => ?_) 0 (Nat.zero_le _)
    refine x_iload hC dX3_meanSequency_24 rfl ?_
    refine x_aload_n hC dX3_meanSequency_26 rfl rfl ?_
    refine x_iload_n hC dX3_meanSequency_27 rfl rfl ?_
    refine x_callV0 (na := 1) hC (ct_sizeR hG hm hw1) (lw_V q2495 q2497 qs45 q89 q2498) hm.1 rfl rfl (by decide +kernel) rfl ⟨Nat.le_of_ble_eq_true rfl, Nat.le_of_ble_eq_true rfl⟩ rfl (Nat.le_of_ble_eq_true rfl) ⟨rfl, rfl⟩ ⟨Nat.le_of_ble_eq_true rfl, Nat.le_of_ble_eq_true rfl⟩ dX3_meanSequency_28 ?_
    rintro _ M ⟨rfl, rfl⟩
    refine x_icmp_geN (tgt := 65) hC (by omega) (by omega) dX3_meanSequency_31 (by decide) (fun c1 => ?_) (fun c1 => ?_)
    · have hk3 : k = rz r := by omega
      subst hk3
      refine x_aload_n hC dX3_meanSequency_65 rfl rfl ?_
      refine x_aload_n hC dX3_meanSequency_66 rfl rfl ?_
      refine x_iload_n hC dX3_meanSequency_67 rfl rfl ?_
      refine x_callV0 (na := 1) hC (ct_sizeR hG hm hw1) (lw_V q2495 q2497 qs45 q89 q2498) hm.1 rfl rfl (by decide +kernel) rfl ⟨Nat.le_of_ble_eq_true rfl, Nat.le_of_ble_eq_true rfl⟩ rfl (Nat.le_of_ble_eq_true rfl) ⟨rfl, rfl⟩ ⟨Nat.le_of_ble_eq_true rfl, Nat.le_of_ble_eq_true rfl⟩ dX3_meanSequency_68 ?_
      rintro _ M ⟨rfl, rfl⟩
      refine x_callV0 (na := 1) hC (ct_coefficientEnergy hG hm h6) (lw_V q2639 q2641 qs58 q89 q2642) hm.1 rfl rfl (by decide +kernel) rfl ⟨Nat.le_of_ble_eq_true rfl, Nat.le_of_ble_eq_true rfl⟩ rfl (Nat.le_of_ble_eq_true rfl) ⟨rfl, rfl⟩ ⟨Nat.le_of_ble_eq_true rfl, Nat.le_of_ble_eq_true rfl⟩ dX3_meanSequency_71 ?_
      rintro _ M ⟨rfl, rfl⟩
      rw [coE_R (fun k hk => cf_at hw hk)]
      refine x_lstore (lv' := [_, _, _, _, _, _]) hC dX3_meanSequency_74 (by decide) rfl ?_
      refine x_lload hC dX3_meanSequency_76 rfl ?_
      refine x_lconst (v := 0) hC dX3_meanSequency_78 (by decide) ?_
      refine x_lcmp hC dX3_meanSequency_79 ?_
      refine x_if_ne (tgt := 87) hC dX3_meanSequency_80 (by decide) (fun c2 => ?_) (fun c2 => ?_)
      · have c3 : ¬ coE r = 0 := fun h => c2 ((lg_cmp_eq _ _).mpr h)
        refine x_lload_n hC dX3_meanSequency_87 rfl rfl ?_
        refine x_l2d hC dX3_meanSequency_88 ?_
        refine x_lload hC dX3_meanSequency_89 rfl ?_
        refine x_l2d hC dX3_meanSequency_91 ?_
        refine x_ddiv hC dX3_meanSequency_92 (l2d_n64 _ _ c3) ?_
        exact x_dret hC hk dX3_meanSequency_93 (Nat.le_of_ble_eq_true rfl) (Nat.le_of_ble_eq_true rfl) ⟨_, _, _, rfl, (fun _ => (if_neg c3).symm), hm, hF, hS.k68 (Nat.le_refl 6), upd_s.trans (if_pos c)⟩
      · have c3 : coE r = 0 := (lg_cmp_eq _ _).mp c2
        refine x_dconst0 hC dX3_meanSequency_83 ?_
        refine x_goto (tgt := 93) hC dX3_meanSequency_84 (by decide) ?_
        exact x_dret hC hk dX3_meanSequency_93 (Nat.le_of_ble_eq_true rfl) (Nat.le_of_ble_eq_true rfl) ⟨_, _, _, rfl, (fun _ => (if_pos c3).symm), hm, hF, hS.k68 (Nat.le_refl 6), upd_s.trans (if_pos c)⟩
    · refine x_lload_n hC dX3_meanSequency_34 rfl rfl ?_
      refine x_aload_n hC dX3_meanSequency_35 rfl rfl ?_
      refine x_iload_n hC dX3_meanSequency_36 rfl rfl ?_
      refine x_callV0 (na := 1) hC (ct_sizeR hG hm hw1) (lw_V q2495 q2497 qs45 q89 q2498) hm.1 rfl rfl (by decide +kernel) rfl ⟨Nat.le_of_ble_eq_true rfl, Nat.le_of_ble_eq_true rfl⟩ rfl (Nat.le_of_ble_eq_true rfl) ⟨rfl, rfl⟩ ⟨Nat.le_of_ble_eq_true rfl, Nat.le_of_ble_eq_true rfl⟩ dX3_meanSequency_37 ?_
      rintro _ M ⟨rfl, rfl⟩
      refine x_iload hC dX3_meanSequency_40 rfl ?_
      refine x_callS0 (na := 2) hC (ct_changes hG (by omega) (by omega) _ _) (lw_S q2580 q2581 q89 q2582) (by decide +kernel) rfl ⟨Nat.le_of_ble_eq_true rfl, Nat.le_of_ble_eq_true rfl⟩ rfl (Nat.le_of_ble_eq_true rfl) ⟨rfl, rfl⟩ ⟨Nat.le_of_ble_eq_true rfl, Nat.le_of_ble_eq_true rfl⟩ dX3_meanSequency_42 ?_
      rintro _ M ⟨rfl, rfl⟩
      refine x_i2l hC dX3_meanSequency_45 rfl ?_
      refine x_aload_n hC dX3_meanSequency_46 rfl rfl ?_
      refine x_get hC 7 hm.1 rfl (by decide) q2337 rfl rfl dX3_meanSequency_47 ?_
      refine x_iload hC dX3_meanSequency_50 rfl ?_
      refine x_ialdN hC (hm.arr 6 (by decide)) (show _ < 64 from (by omega)) (by decide) dX3_meanSequency_52 ?_
      rw [cf_at hw c1]
      refine x_callS0 (na := 1) hC (ct_square hG _ _) (lw_S q2528 q2529 q89 q2530) (by decide +kernel) rfl ⟨Nat.le_of_ble_eq_true rfl, Nat.le_of_ble_eq_true rfl⟩ rfl (Nat.le_of_ble_eq_true rfl) ⟨rfl, rfl⟩ ⟨Nat.le_of_ble_eq_true rfl, Nat.le_of_ble_eq_true rfl⟩ dX3_meanSequency_53 ?_
      rintro _ M ⟨rfl, rfl⟩
      refine x_lmul hC dX3_meanSequency_56 ?_
      refine x_ladd hC dX3_meanSequency_57 ?_
      refine x_lstore_n (lv' := [_, _, _, _, _, _]) hC dX3_meanSequency_58 rfl (by decide) rfl ?_
      refine x_iincN (lv' := [_, _, _, _, _, _]) (b := 1) hC dX3_meanSequency_59 rfl (by decide) (by decide) rfl ?_
      refine x_goto (tgt := 24) hC dX3_meanSequency_62 (by decide) ?_
      exact ih c1
  · rw [rc_no hS.1.1 hS.1.2 c] at hk
    refine x_dconst0 hC dX3_meanSequency_12 ?_
    exact x_dret hC hk dX3_meanSequency_13 (Nat.le_of_ble_eq_true rfl) (Nat.le_of_ble_eq_true rfl) ⟨_, _, _, rfl, (fun h => absurd h (show ¬ (1 : Int32) = 0 by decide)), hm, hF, hS.k6, upd_s.trans (if_neg c)⟩
theorem ct_peak (hG : GOK G) (hm : Mdl M m P V A) (hS : MRep S V A) (x z : Int32) : Ct G yX3_peak cX3_peak 3 (some .int) (xrm 6 0 0) [.ref m, .int x, .int z] M (MOi M m P S (opPeak S x z).1 (opPeak S x z).2) := by
  refine ct_open (lv := [_, _, _]) hG (by decide +kernel) (Nat.le_of_ble_eq_true rfl) rfl (fun C hC hk => ?_)
  have hF : Fm M M := Fr.rf
  unfold opPeak at hk
  refine x_aload_n hC dX3_peak_0 rfl rfl ?_
  refine x_aload_n hC dX3_peak_1 rfl rfl ?_
  refine x_iload_n hC dX3_peak_2 rfl rfl ?_
  refine x_iload_n hC dX3_peak_3 rfl rfl ?_
  refine x_callV0 (na := 2) hC (ct_isPlace hG hm _ _ (plc_iff hS)) (lw_V q2511 q2513 qs46 q89 q2514) hm.1 rfl rfl (by decide +kernel) rfl ⟨Nat.le_of_ble_eq_true rfl, Nat.le_of_ble_eq_true rfl⟩ rfl (Nat.le_of_ble_eq_true rfl) ⟨rfl, rfl⟩ ⟨Nat.le_of_ble_eq_true rfl, Nat.le_of_ble_eq_true rfl⟩ dX3_peak_4 ?_
  rintro _ M ⟨rfl, rfl⟩
  refine x_callV0 (na := 1) hC (ct_good hG hm _) (lw_V q2402 q2404 qs30 q89 q2405) hm.1 rfl rfl (by decide +kernel) rfl ⟨Nat.le_of_ble_eq_true rfl, Nat.le_of_ble_eq_true rfl⟩ rfl (Nat.le_of_ble_eq_true rfl) ⟨rfl, rfl⟩ ⟨Nat.le_of_ble_eq_true rfl, Nat.le_of_ble_eq_true rfl⟩ dX3_peak_7 ?_
  rintro _ M ⟨rfl, hm, hF1⟩
  have hF := hF.tr hF1
  refine x_if_neB (tgt := 15) hC dX3_peak_10 (by decide) (fun c => ?_) (fun c => ?_)
  · obtain ⟨i, r, k, ⟨he, hi⟩, rfl, rfl, hc2, hk2, hw⟩ := plc_ok hS c
    rw [he] at hk
    dsimp only [Option.elim] at hk
    rw [if_pos hi, hc2] at hk
    have h6 := hw.n6
    refine x_aload_n hC dX3_peak_15 rfl rfl ?_
    refine x_iload_n hC dX3_peak_16 rfl rfl ?_
    refine x_callV0 (na := 1) hC (ct_peaksR hG hm hw) (lw_V q2647 q2649 qs59 q89 q2650) hm.1 rfl rfl (by decide +kernel) rfl ⟨Nat.le_of_ble_eq_true rfl, Nat.le_of_ble_eq_true rfl⟩ rfl (Nat.le_of_ble_eq_true rfl) ⟨rfl, rfl⟩ ⟨Nat.le_of_ble_eq_true rfl, Nat.le_of_ble_eq_true rfl⟩ dX3_peak_17 ?_
    rintro _ M ⟨rfl, hm, hF1⟩
    have hF := hF.tr hF1
    refine x_aload_n hC dX3_peak_20 rfl rfl ?_
    refine x_get hC 9 hm.1 rfl (by decide) q2339 rfl rfl dX3_peak_21 ?_
    refine x_iload_n hC dX3_peak_24 rfl rfl ?_
    refine x_ialdN hC (hm.arr 8 (by decide)) (show _ < 64 from (by omega)) (by decide) dX3_peak_25 ?_
    exact x_iret hC hk dX3_peak_26 (Nat.le_of_ble_eq_true rfl) (Nat.le_of_ble_eq_true rfl) ⟨_, _, _, rfl, (fun _ => rk_at hk2), hm, hF, hS.k686, upd_s.trans (if_pos c)⟩
  · rw [plc_no hS c] at hk
    refine x_iconst (v := -1) hC dX3_peak_13 (by decide) ?_
    exact x_iret hC hk dX3_peak_14 (Nat.le_of_ble_eq_true rfl) (Nat.le_of_ble_eq_true rfl) ⟨_, _, _, rfl, (fun h => absurd h (show ¬ (1 : Int32) = 0 by decide)), hm, hF, hS.k6, upd_s.trans (if_neg c)⟩
theorem ct_rank (hG : GOK G) (hm : Mdl M m P V A) (hS : MRep S V A) (x z : Int32) : Ct G yX3_rank cX3_rank 4 (some .int) (xrm 6 0 0) [.ref m, .int x, .int z] M (MOi M m P S (opRank S x z).1 (opRank S x z).2) := by
  refine ct_open (lv := [_, _, _, _]) hG (by decide +kernel) (Nat.le_of_ble_eq_true rfl) rfl (fun C hC hk => ?_)
  have hF : Fm M M := Fr.rf
  unfold opRank at hk
  refine x_aload_n hC dX3_rank_0 rfl rfl ?_
  refine x_aload_n hC dX3_rank_1 rfl rfl ?_
  refine x_iload_n hC dX3_rank_2 rfl rfl ?_
  refine x_iload_n hC dX3_rank_3 rfl rfl ?_
  refine x_callV0 (na := 2) hC (ct_isPlace hG hm _ _ (plc_iff hS)) (lw_V q2511 q2513 qs46 q89 q2514) hm.1 rfl rfl (by decide +kernel) rfl ⟨Nat.le_of_ble_eq_true rfl, Nat.le_of_ble_eq_true rfl⟩ rfl (Nat.le_of_ble_eq_true rfl) ⟨rfl, rfl⟩ ⟨Nat.le_of_ble_eq_true rfl, Nat.le_of_ble_eq_true rfl⟩ dX3_rank_4 ?_
  rintro _ M ⟨rfl, rfl⟩
  refine x_callV0 (na := 1) hC (ct_good hG hm _) (lw_V q2402 q2404 qs30 q89 q2405) hm.1 rfl rfl (by decide +kernel) rfl ⟨Nat.le_of_ble_eq_true rfl, Nat.le_of_ble_eq_true rfl⟩ rfl (Nat.le_of_ble_eq_true rfl) ⟨rfl, rfl⟩ ⟨Nat.le_of_ble_eq_true rfl, Nat.le_of_ble_eq_true rfl⟩ dX3_rank_7 ?_
  rintro _ M ⟨rfl, hm, hF1⟩
  have hF := hF.tr hF1
  refine x_if_neB (tgt := 15) hC dX3_rank_10 (by decide) (fun c => ?_) (fun c => ?_)
  · obtain ⟨i, r, k0, ⟨he, hi⟩, rfl, rfl, hc2, hk2, hw⟩ := plc_ok hS c
    rw [he] at hk
    dsimp only [Option.elim] at hk
    rw [if_pos hi, hc2] at hk
    have h6 := hw.n6
    refine x_aload_n hC dX3_rank_15 rfl rfl ?_
    refine x_iload_n hC dX3_rank_16 rfl rfl ?_
    refine x_callV0 (na := 1) hC (ct_peaksR hG hm hw) (lw_V q2647 q2649 qs59 q89 q2650) hm.1 rfl rfl (by decide +kernel) rfl ⟨Nat.le_of_ble_eq_true rfl, Nat.le_of_ble_eq_true rfl⟩ rfl (Nat.le_of_ble_eq_true rfl) ⟨rfl, rfl⟩ ⟨Nat.le_of_ble_eq_true rfl, Nat.le_of_ble_eq_true rfl⟩ dX3_rank_17 ?_
    rintro _ M ⟨rfl, hm, hF1⟩
    have hF := hF.tr hF1
    refine x_iconst (v := nI 0) hC dX3_rank_20 (by decide) ?_
    refine x_istore_n (lv' := [_, _, _, _]) hC dX3_rank_21 rfl (by decide) rfl ?_
    obtain ⟨q, hq1, hq2⟩ := pk_sur (cfN (rg r) (rz r)) (rz r) hk2
    suffices lp : ∀ d k, k + d = q → (∀ l, l < k → ¬ pkN r l = k0) → Wg G C M 0 0 22 [some (.ref m), some (.int (nI i)), some (.int (nI k0)), some (.int (nI k))] [] from lp q 0 (by omega) (fun l hl => by omega)
    have fin : ∀ k, k ≤ q → pkN r k = k0 → (∀ l, l < k → ¬ pkN r l = k0) → Wg G C M 0 0 38 [some (.ref m), some (.int (nI i)), some (.int (nI k0)), some (.int (nI k))] [] := by
      intro k hkq c5 hno
      refine x_iload_n hC dX3_rank_38 rfl rfl ?_
      exact x_iret hC hk dX3_rank_39 (Nat.le_of_ble_eq_true rfl) (Nat.le_of_ble_eq_true rfl) ⟨_, _, _, rfl, (fun _ => by dsimp only; rw [fstI_at (p := fun k => pkN r k = k0) (b := k) (Nat.zero_le _) (by omega) c5 (fun l _ hl => hno l hl)]; rfl), hm, hF, hS.k686, upd_s.trans (if_pos c)⟩
    intro d
    induction d with
    | zero =>
      intro k hd hno
      have hd : k = q := by omega
      subst hd
      refine x_aload_n hC dX3_rank_22 rfl rfl ?_
      refine x_get hC 9 hm.1 rfl (by decide) q2339 rfl rfl dX3_rank_23 ?_
      refine x_iload_n hC dX3_rank_26 rfl rfl ?_
      refine x_ialdN hC (hm.arr 8 (by decide)) (show _ < 64 from (by omega)) (by decide) dX3_rank_27 ?_
      rw [rk_at hq1]
      refine x_iload_n hC dX3_rank_28 rfl rfl ?_
      refine x_icmp_eq (tgt := 38) hC dX3_rank_29 (by decide) (fun c5 => ?_) (fun c5 => ?_)
      · exact fin k (by omega) hq2 hno
      · exact absurd (congrArg nI hq2) c5
    | succ d ih =>
      intro k hd hno
      refine x_aload_n hC dX3_rank_22 rfl rfl ?_
      refine x_get hC 9 hm.1 rfl (by decide) q2339 rfl rfl dX3_rank_23 ?_
      refine x_iload_n hC dX3_rank_26 rfl rfl ?_
      refine x_ialdN hC (hm.arr 8 (by decide)) (show _ < 64 from (by omega)) (by decide) dX3_rank_27 ?_
      rw [rk_at (show k < rz r by omega)]
      refine x_iload_n hC dX3_rank_28 rfl rfl ?_
      have hl : pkN r k < rz r := pkr_lt (cfN (rg r) (rz r)) (rz r) (show k < rz r by omega)
      refine x_icmp_eqN (tgt := 38) hC (by omega) (by omega) dX3_rank_29 (by decide) (fun c5 => ?_) (fun c5 => ?_)
      · exact fin k (by omega) c5 hno
      · refine x_iincN (lv' := [_, _, _, _]) (b := 1) hC dX3_rank_32 rfl (by decide) (by decide) rfl ?_
        refine x_goto (tgt := 22) hC dX3_rank_35 (by decide) ?_
        exact ih (k + 1) (by omega) (fun l hl => by
          by_cases e : l = k
          · subst e; exact c5
          · exact hno l (by omega))
  · rw [plc_no hS c] at hk
    refine x_iconst (v := -1) hC dX3_rank_13 (by decide) ?_
    exact x_iret hC hk dX3_rank_14 (Nat.le_of_ble_eq_true rfl) (Nat.le_of_ble_eq_true rfl) ⟨_, _, _, rfl, (fun h => absurd h (show ¬ (1 : Int32) = 0 by decide)), hm, hF, hS.k6, upd_s.trans (if_neg c)⟩
theorem ct_purity (hG : GOK G) (hm : Mdl M m P V A) (hS : MRep S V A) (x : Int32) : Ct G yX3_purity cX3_purity 4 (some .float) (xrm 6 0 0) [.ref m, .int x] M (MOf M m P S (opPurity S x).1 (opPurity S x).2) := by
  refine ct_open (lv := [_, _, _, _]) hG (by decide +kernel) (Nat.le_of_ble_eq_true rfl) rfl (fun C hC hk => ?_)
  have hF : Fm M M := Fr.rf
  unfold opPurity at hk
  refine x_aload_n hC dX3_purity_0 rfl rfl ?_
  refine x_aload_n hC dX3_purity_1 rfl rfl ?_
  refine x_iload_n hC dX3_purity_2 rfl rfl ?_
  refine x_callV0 (na := 1) hC (ct_isRecording hG hm _) (lw_V q2491 q2493 qs44 q89 q2494) hm.1 rfl rfl (by decide +kernel) rfl ⟨Nat.le_of_ble_eq_true rfl, Nat.le_of_ble_eq_true rfl⟩ rfl (Nat.le_of_ble_eq_true rfl) ⟨rfl, rfl⟩ ⟨Nat.le_of_ble_eq_true rfl, Nat.le_of_ble_eq_true rfl⟩ dX3_purity_3 ?_
  rintro _ M ⟨rfl, rfl⟩
  refine x_callV0 (na := 1) hC (ct_good hG hm _) (lw_V q2402 q2404 qs30 q89 q2405) hm.1 rfl rfl (by decide +kernel) rfl ⟨Nat.le_of_ble_eq_true rfl, Nat.le_of_ble_eq_true rfl⟩ rfl (Nat.le_of_ble_eq_true rfl) ⟨rfl, rfl⟩ ⟨Nat.le_of_ble_eq_true rfl, Nat.le_of_ble_eq_true rfl⟩ dX3_purity_6 ?_
  rintro _ M ⟨rfl, hm, hF1⟩
  have hF := hF.tr hF1
  refine x_if_neB (tgt := 14) hC dX3_purity_9 (by decide) (fun c => ?_) (fun c => ?_)
  · obtain ⟨i, r, hx, rfl, hw⟩ := rc_ok hS.1.1 hS.1.2 c
    rw [hx] at hk
    have h6 := hw.n6
    have h2 := hw.n2
    refine x_aload_n hC dX3_purity_14 rfl rfl ?_
    refine x_iload_n hC dX3_purity_15 rfl rfl ?_
    refine x_callV0 (na := 1) hC (ct_peaksR hG hm hw) (lw_V q2647 q2649 qs59 q89 q2650) hm.1 rfl rfl (by decide +kernel) rfl ⟨Nat.le_of_ble_eq_true rfl, Nat.le_of_ble_eq_true rfl⟩ rfl (Nat.le_of_ble_eq_true rfl) ⟨rfl, rfl⟩ ⟨Nat.le_of_ble_eq_true rfl, Nat.le_of_ble_eq_true rfl⟩ dX3_purity_16 ?_
    rintro _ M ⟨rfl, hm, hF1⟩
    have hF := hF.tr hF1
    have hw1 : Rw (sR S) (va_up (va_up A 6 (fil (A 6) (cfN (rg r) (rz r)) 0 (rz r))) 8 (fil (A 8) (fun j => nI (pkN r j)) 0 (rz r)) 0) i r := hw
    refine x_aload_n hC dX3_purity_19 rfl rfl ?_
    refine x_aload_n hC dX3_purity_20 rfl rfl ?_
    refine x_iload_n hC dX3_purity_21 rfl rfl ?_
    refine x_callV0 (na := 1) hC (ct_sizeR hG hm hw1) (lw_V q2495 q2497 qs45 q89 q2498) hm.1 rfl rfl (by decide +kernel) rfl ⟨Nat.le_of_ble_eq_true rfl, Nat.le_of_ble_eq_true rfl⟩ rfl (Nat.le_of_ble_eq_true rfl) ⟨rfl, rfl⟩ ⟨Nat.le_of_ble_eq_true rfl, Nat.le_of_ble_eq_true rfl⟩ dX3_purity_22 ?_
    rintro _ M ⟨rfl, rfl⟩
    refine x_callV0 (na := 1) hC (ct_coefficientEnergy hG hm h6) (lw_V q2639 q2641 qs58 q89 q2642) hm.1 rfl rfl (by decide +kernel) rfl ⟨Nat.le_of_ble_eq_true rfl, Nat.le_of_ble_eq_true rfl⟩ rfl (Nat.le_of_ble_eq_true rfl) ⟨rfl, rfl⟩ ⟨Nat.le_of_ble_eq_true rfl, Nat.le_of_ble_eq_true rfl⟩ dX3_purity_25 ?_
    rintro _ M ⟨rfl, rfl⟩
    rw [coE_R (fun k hk => rk_co hk)]
    refine x_lstore_n (lv' := [_, _, _, _]) hC dX3_purity_28 rfl (by decide) rfl ?_
    refine x_lload_n hC dX3_purity_29 rfl rfl ?_
    refine x_lconst (v := 0) hC dX3_purity_30 (by decide) ?_
    refine x_lcmp hC dX3_purity_31 ?_
    refine x_if_ne (tgt := 39) hC dX3_purity_32 (by decide) (fun c2 => ?_) (fun c2 => ?_)
    · have c3 : ¬ coE r = 0 := fun h => c2 ((lg_cmp_eq _ _).mpr h)
      refine x_aload_n hC dX3_purity_39 rfl rfl ?_
      refine x_get hC 7 hm.1 rfl (by decide) q2337 rfl rfl dX3_purity_40 ?_
      refine x_aload_n hC dX3_purity_43 rfl rfl ?_
      refine x_get hC 9 hm.1 rfl (by decide) q2339 rfl rfl dX3_purity_44 ?_
      refine x_iconst (v := nI 0) hC dX3_purity_47 (by decide) ?_
      refine x_ialdN hC (hm.arr 8 (by decide)) (show _ < 64 from (by omega)) (by decide) dX3_purity_48 ?_
      rw [rk_at (show 0 < rz r by omega)]
      have hl : pkN r 0 < rz r := pkr_lt (cfN (rg r) (rz r)) (rz r) (show 0 < rz r by omega)
      refine x_ialdN hC (hm.arr 6 (by decide)) (show _ < 64 from (by omega)) (by decide) dX3_purity_49 ?_
      rw [rk_co hl]
      refine x_callS0 (na := 1) hC (ct_square hG _ _) (lw_S q2528 q2529 q89 q2530) (by decide +kernel) rfl ⟨Nat.le_of_ble_eq_true rfl, Nat.le_of_ble_eq_true rfl⟩ rfl (Nat.le_of_ble_eq_true rfl) ⟨rfl, rfl⟩ ⟨Nat.le_of_ble_eq_true rfl, Nat.le_of_ble_eq_true rfl⟩ dX3_purity_50 ?_
      rintro _ M ⟨rfl, rfl⟩
      refine x_l2f hC dX3_purity_53 ?_
      refine x_lload_n hC dX3_purity_54 rfl rfl ?_
      refine x_l2f hC dX3_purity_55 ?_
      refine x_fdiv hC dX3_purity_56 (l2f_n32 _ _ c3) ?_
      exact x_fret hC hk dX3_purity_57 (Nat.le_of_ble_eq_true rfl) (Nat.le_of_ble_eq_true rfl) ⟨_, _, _, rfl, (fun _ => (if_neg c3).symm), hm, hF, hS.k686, upd_s.trans (if_pos c)⟩
    · have c3 : coE r = 0 := (lg_cmp_eq _ _).mp c2
      refine x_fconst0 hC dX3_purity_35 ?_
      refine x_goto (tgt := 57) hC dX3_purity_36 (by decide) ?_
      exact x_fret hC hk dX3_purity_57 (Nat.le_of_ble_eq_true rfl) (Nat.le_of_ble_eq_true rfl) ⟨_, _, _, rfl, (fun _ => (if_pos c3).symm), hm, hF, hS.k686, upd_s.trans (if_pos c)⟩
  · rw [rc_no hS.1.1 hS.1.2 c] at hk
    refine x_fconst0 hC dX3_purity_12 ?_
    exact x_fret hC hk dX3_purity_13 (Nat.le_of_ble_eq_true rfl) (Nat.le_of_ble_eq_true rfl) ⟨_, _, _, rfl, (fun h => absurd h (show ¬ (1 : Int32) = 0 by decide)), hm, hF, hS.k6, upd_s.trans (if_neg c)⟩
theorem ct_distance (hG : GOK G) (hm : Mdl M m P V A) (hS : MRep S V A) (x z : Int32) : Ct G yX3_distance cX3_distance 4 (some .int) (xrm 6 0 0) [.ref m, .int x, .int z] M (MOi M m P S (opDist S x z).1 (opDist S x z).2) := by
  refine ct_open (lv := [_, _, _, _]) hG (by decide +kernel) (Nat.le_of_ble_eq_true rfl) rfl (fun C hC hk => ?_)
  have hF : Fm M M := Fr.rf
  unfold opDist at hk
  refine x_aload_n hC dX3_distance_0 rfl rfl ?_
  refine x_iload_n hC dX3_distance_1 rfl rfl ?_
  refine x_iload_n hC dX3_distance_2 rfl rfl ?_
  refine x_callV0 (na := 2) hC (ct_areRecordings hG hm _ _) (lw_V q2676 q2678 qs62 q89 q2679) hm.1 rfl rfl (by decide +kernel) rfl ⟨Nat.le_of_ble_eq_true rfl, Nat.le_of_ble_eq_true rfl⟩ rfl (Nat.le_of_ble_eq_true rfl) ⟨rfl, rfl⟩ ⟨Nat.le_of_ble_eq_true rfl, Nat.le_of_ble_eq_true rfl⟩ dX3_distance_3 ?_
  rintro _ M ⟨rfl, rfl⟩
  refine x_istore_n (lv' := [_, _, _, _]) hC dX3_distance_6 rfl (by decide) rfl ?_
  refine x_aload_n hC dX3_distance_7 rfl rfl ?_
  refine x_iload_n hC dX3_distance_8 rfl rfl ?_
  refine x_iload_n hC dX3_distance_9 rfl rfl ?_
  refine x_if_eqB (tgt := 26) hC dX3_distance_10 (by decide) (fun c1 => ?_) (fun c1 => ?_)
  · rw [rc2_no hS.1.1 hS.1.2 c1] at hk
    refine x_iconst (v := 0) hC dX3_distance_26 (by decide) ?_
    refine x_callV0 (na := 2) hC (ct_good2 hG hm _ False) (lw_V q2540 q2542 qs49 q89 q2543) hm.1 rfl rfl (by decide +kernel) rfl ⟨Nat.le_of_ble_eq_true rfl, Nat.le_of_ble_eq_true rfl⟩ rfl (Nat.le_of_ble_eq_true rfl) ⟨rfl, rfl⟩ ⟨Nat.le_of_ble_eq_true rfl, Nat.le_of_ble_eq_true rfl⟩ dX3_distance_27 ?_
    rintro _ M ⟨rfl, hm, hF1⟩
    have hF := hF.tr hF1
    refine x_if_eqB (tgt := 42) hC dX3_distance_30 (by decide) (fun c => ?_) (fun c => ?_)
    · refine x_iconst (v := -1) hC dX3_distance_42 (by decide) ?_
      exact x_iret hC hk dX3_distance_43 (Nat.le_of_ble_eq_true rfl) (Nat.le_of_ble_eq_true rfl) ⟨_, _, _, rfl, (fun h => absurd h (show ¬ (1 : Int32) = 0 by decide)), hm, hF, hS.k6, upd_s.trans (if_neg c1)⟩
    · exact absurd c.1 c1
  · obtain ⟨i, r, j, s, hx, rfl, rfl, hw, hv⟩ := rc2_ok hS.1.1 hS.1.2 c1
    rw [hx] at hk
    dsimp only [Option.elim] at hk
    refine x_aload_n hC dX3_distance_13 rfl rfl ?_
    refine x_iload_n hC dX3_distance_14 rfl rfl ?_
    refine x_iload_n hC dX3_distance_15 rfl rfl ?_
    refine x_callV0 (na := 2) hC (ct_alikeR hG hm hw hv) (lw_V q2680 q2682 qs63 q89 q2683) hm.1 rfl rfl (by decide +kernel) rfl ⟨Nat.le_of_ble_eq_true rfl, Nat.le_of_ble_eq_true rfl⟩ rfl (Nat.le_of_ble_eq_true rfl) ⟨rfl, rfl⟩ ⟨Nat.le_of_ble_eq_true rfl, Nat.le_of_ble_eq_true rfl⟩ dX3_distance_16 ?_
    rintro _ M ⟨rfl, rfl⟩
    refine x_if_eqB (tgt := 26) hC dX3_distance_19 (by decide) (fun c2 => ?_) (fun c2 => ?_)
    · rw [if_neg c2] at hk
      refine x_iconst (v := 0) hC dX3_distance_26 (by decide) ?_
      refine x_callV0 (na := 2) hC (ct_good2 hG hm _ False) (lw_V q2540 q2542 qs49 q89 q2543) hm.1 rfl rfl (by decide +kernel) rfl ⟨Nat.le_of_ble_eq_true rfl, Nat.le_of_ble_eq_true rfl⟩ rfl (Nat.le_of_ble_eq_true rfl) ⟨rfl, rfl⟩ ⟨Nat.le_of_ble_eq_true rfl, Nat.le_of_ble_eq_true rfl⟩ dX3_distance_27 ?_
      rintro _ M ⟨rfl, hm, hF1⟩
      have hF := hF.tr hF1
      refine x_if_eqB (tgt := 42) hC dX3_distance_30 (by decide) (fun c => ?_) (fun c => ?_)
      · refine x_iconst (v := -1) hC dX3_distance_42 (by decide) ?_
        exact x_iret hC hk dX3_distance_43 (Nat.le_of_ble_eq_true rfl) (Nat.le_of_ble_eq_true rfl) ⟨_, _, _, rfl, (fun h => absurd h (show ¬ (2 : Int32) = 0 by decide)), hm, hF, hS.k6, upd_s.trans ((if_pos c1).trans (if_neg id))⟩
      · exact absurd c.2 id
    · rw [if_pos c2] at hk
      refine x_iconst (v := 1) hC dX3_distance_22 (by decide) ?_
      refine x_goto (tgt := 27) hC dX3_distance_23 (by decide) ?_
      refine x_callV0 (na := 2) hC (ct_good2 hG hm _ True) (lw_V q2540 q2542 qs49 q89 q2543) hm.1 rfl rfl (by decide +kernel) rfl ⟨Nat.le_of_ble_eq_true rfl, Nat.le_of_ble_eq_true rfl⟩ rfl (Nat.le_of_ble_eq_true rfl) ⟨rfl, rfl⟩ ⟨Nat.le_of_ble_eq_true rfl, Nat.le_of_ble_eq_true rfl⟩ dX3_distance_27 ?_
      rintro _ M ⟨rfl, hm, hF1⟩
      have hF := hF.tr hF1
      refine x_if_eqB (tgt := 42) hC dX3_distance_30 (by decide) (fun c => ?_) (fun c => ?_)
      · exact absurd ⟨c1, trivial⟩ c
      · refine x_aload_n hC dX3_distance_33 rfl rfl ?_
        refine x_iload_n hC dX3_distance_34 rfl rfl ?_
        refine x_iload_n hC dX3_distance_35 rfl rfl ?_
        refine x_callV0 (na := 2) hC (ct_apart hG hm hw.c6 hv.c6 hw.hn (c2 ▸ hv.hn) hw.n6) (lw_V q2684 q2686 qs64 q89 q2687) hm.1 rfl rfl (by decide +kernel) rfl ⟨Nat.le_of_ble_eq_true rfl, Nat.le_of_ble_eq_true rfl⟩ rfl (Nat.le_of_ble_eq_true rfl) ⟨rfl, rfl⟩ ⟨Nat.le_of_ble_eq_true rfl, Nat.le_of_ble_eq_true rfl⟩ dX3_distance_36 ?_
        rintro _ M ⟨rfl, rfl⟩
        refine x_goto (tgt := 43) hC dX3_distance_39 (by decide) ?_
        exact x_iret hC hk dX3_distance_43 (Nat.le_of_ble_eq_true rfl) (Nat.le_of_ble_eq_true rfl) ⟨_, _, _, rfl, (fun _ => by unfold apN apS; rw [hw.cfS, show cfS (A 0) j (rz r) = cfN (rg s) (rz s) by rw [c2]; exact hv.cfS]), hm, hF, hS.k6, upd_s.trans ((if_pos c1).trans (if_pos trivial))⟩
theorem ct_correlation (hG : GOK G) (hm : Mdl M m P V A) (hS : MRep S V A) (x z sh : Int32) : Ct G yX3_correlation cX3_correlation 6 (some .long) (xrm 6 0 0) [.ref m, .int x, .int z, .int sh] M (MOl M m P S (opCorr S x z sh).1 (opCorr S x z sh).2) := by
  refine ct_open (lv := [_, _, _, _, _, _]) hG (by decide +kernel) (Nat.le_of_ble_eq_true rfl) rfl (fun C hC hk => ?_)
  have hF : Fm M M := Fr.rf
  unfold opCorr at hk
  refine x_aload_n hC dX3_correlation_0 rfl rfl ?_
  refine x_iload_n hC dX3_correlation_1 rfl rfl ?_
  refine x_iload_n hC dX3_correlation_2 rfl rfl ?_
  refine x_callV0 (na := 2) hC (ct_areRecordings hG hm _ _) (lw_V q2676 q2678 qs62 q89 q2679) hm.1 rfl rfl (by decide +kernel) rfl ⟨Nat.le_of_ble_eq_true rfl, Nat.le_of_ble_eq_true rfl⟩ rfl (Nat.le_of_ble_eq_true rfl) ⟨rfl, rfl⟩ ⟨Nat.le_of_ble_eq_true rfl, Nat.le_of_ble_eq_true rfl⟩ dX3_correlation_3 ?_
  rintro _ M ⟨rfl, rfl⟩
  refine x_istore (lv' := [_, _, _, _, _, _]) hC dX3_correlation_6 (by decide) rfl ?_
  refine x_iload hC dX3_correlation_8 rfl ?_
  refine x_if_eqB (tgt := 41) hC dX3_correlation_10 (by decide) (fun c1 => ?_) (fun c1 => ?_)
  · rw [rc2_no hS.1.1 hS.1.2 c1] at hk
    refine x_iconst (v := 0) hC dX3_correlation_41 (by decide) ?_
    refine x_istore (lv' := [_, _, _, _, _, _]) hC dX3_correlation_42 (by decide) rfl ?_
    refine x_aload_n hC dX3_correlation_44 rfl rfl ?_
    refine x_iload hC dX3_correlation_45 rfl ?_
    refine x_iload hC dX3_correlation_47 rfl ?_
    refine x_callV0 (na := 2) hC (ct_good2 hG hm _ False) (lw_V q2540 q2542 qs49 q89 q2543) hm.1 rfl rfl (by decide +kernel) rfl ⟨Nat.le_of_ble_eq_true rfl, Nat.le_of_ble_eq_true rfl⟩ rfl (Nat.le_of_ble_eq_true rfl) ⟨rfl, rfl⟩ ⟨Nat.le_of_ble_eq_true rfl, Nat.le_of_ble_eq_true rfl⟩ dX3_correlation_49 ?_
    rintro _ M ⟨rfl, hm, hF1⟩
    have hF := hF.tr hF1
    refine x_if_eqB (tgt := 65) hC dX3_correlation_52 (by decide) (fun c => ?_) (fun c => ?_)
    · refine x_ldc2 hC q2523 dX3_correlation_65 ?_
      exact x_lret hC hk dX3_correlation_68 (Nat.le_of_ble_eq_true rfl) (Nat.le_of_ble_eq_true rfl) ⟨_, _, _, rfl, (fun h => absurd h (show ¬ (1 : Int32) = 0 by decide)), hm, hF, hS.k6, upd_s.trans (if_neg c1)⟩
    · exact absurd c.1 c1
  · obtain ⟨i, r, j, s, hx, rfl, rfl, hw, hv⟩ := rc2_ok hS.1.1 hS.1.2 c1
    rw [hx] at hk
    dsimp only [Option.elim] at hk
    have no : ¬ (rz r = rz s ∧ inI (rz r) sh) → Wg G C M 0 0 41 [some (.ref m), some (.int (nI i)), some (.int (nI j)), some (.int sh), some (.int (xB (isR (A 0) (nI i) ∧ isR (A 0) (nI j)))), none] [] := by
      intro c2
      rw [if_neg c2] at hk
      refine x_iconst (v := 0) hC dX3_correlation_41 (by decide) ?_
      refine x_istore (lv' := [_, _, _, _, _, _]) hC dX3_correlation_42 (by decide) rfl ?_
      refine x_aload_n hC dX3_correlation_44 rfl rfl ?_
      refine x_iload hC dX3_correlation_45 rfl ?_
      refine x_iload hC dX3_correlation_47 rfl ?_
      refine x_callV0 (na := 2) hC (ct_good2 hG hm _ False) (lw_V q2540 q2542 qs49 q89 q2543) hm.1 rfl rfl (by decide +kernel) rfl ⟨Nat.le_of_ble_eq_true rfl, Nat.le_of_ble_eq_true rfl⟩ rfl (Nat.le_of_ble_eq_true rfl) ⟨rfl, rfl⟩ ⟨Nat.le_of_ble_eq_true rfl, Nat.le_of_ble_eq_true rfl⟩ dX3_correlation_49 ?_
      rintro _ M ⟨rfl, hm, hF1⟩
      have hF := hF.tr hF1
      refine x_if_eqB (tgt := 65) hC dX3_correlation_52 (by decide) (fun c => ?_) (fun c => ?_)
      · refine x_ldc2 hC q2523 dX3_correlation_65 ?_
        exact x_lret hC hk dX3_correlation_68 (Nat.le_of_ble_eq_true rfl) (Nat.le_of_ble_eq_true rfl) ⟨_, _, _, rfl, (fun h => absurd h (show ¬ (2 : Int32) = 0 by decide)), hm, hF, hS.k6, upd_s.trans ((if_pos c1).trans (if_neg id))⟩
      · exact absurd c.2 id
    refine x_aload_n hC dX3_correlation_13 rfl rfl ?_
    refine x_iload_n hC dX3_correlation_14 rfl rfl ?_
    refine x_iload_n hC dX3_correlation_15 rfl rfl ?_
    refine x_callV0 (na := 2) hC (ct_alikeR hG hm hw hv) (lw_V q2680 q2682 qs63 q89 q2683) hm.1 rfl rfl (by decide +kernel) rfl ⟨Nat.le_of_ble_eq_true rfl, Nat.le_of_ble_eq_true rfl⟩ rfl (Nat.le_of_ble_eq_true rfl) ⟨rfl, rfl⟩ ⟨Nat.le_of_ble_eq_true rfl, Nat.le_of_ble_eq_true rfl⟩ dX3_correlation_16 ?_
    rintro _ M ⟨rfl, rfl⟩
    refine x_if_eqB (tgt := 41) hC dX3_correlation_19 (by decide) (fun c2 => ?_) (fun c2 => ?_)
    · exact no (fun h => c2 h.1)
    · refine x_iload_n hC dX3_correlation_22 rfl rfl ?_
      refine x_iconst (v := 0) hC dX3_correlation_23 (by decide) ?_
      refine x_aload_n hC dX3_correlation_24 rfl rfl ?_
      refine x_iload_n hC dX3_correlation_25 rfl rfl ?_
      refine x_callV0 (na := 1) hC (ct_sizeR hG hm hw) (lw_V q2495 q2497 qs45 q89 q2498) hm.1 rfl rfl (by decide +kernel) rfl ⟨Nat.le_of_ble_eq_true rfl, Nat.le_of_ble_eq_true rfl⟩ rfl (Nat.le_of_ble_eq_true rfl) ⟨rfl, rfl⟩ ⟨Nat.le_of_ble_eq_true rfl, Nat.le_of_ble_eq_true rfl⟩ dX3_correlation_26 ?_
      rintro _ M ⟨rfl, rfl⟩
      refine x_iconst (v := 1) hC dX3_correlation_29 (by decide) ?_
      refine x_isub hC dX3_correlation_30 ?_
      refine x_callS0 (na := 3) hC (ct_isIn hG _ _ _ _) (lw_S q2414 q2415 q89 q2416) (by decide +kernel) rfl ⟨Nat.le_of_ble_eq_true rfl, Nat.le_of_ble_eq_true rfl⟩ rfl (Nat.le_of_ble_eq_true rfl) ⟨rfl, rfl⟩ ⟨Nat.le_of_ble_eq_true rfl, Nat.le_of_ble_eq_true rfl⟩ dX3_correlation_31 ?_
      rintro _ M ⟨rfl, rfl⟩
      refine x_if_eqB (tgt := 41) hC dX3_correlation_34 (by decide) (fun c3 => ?_) (fun c3 => ?_)
      · exact no (fun h => c3 h.2)
      · rw [if_pos ⟨c2,c3⟩] at hk
        refine x_iconst (v := 1) hC dX3_correlation_37 (by decide) ?_
        refine x_goto (tgt := 42) hC dX3_correlation_38 (by decide) ?_
        refine x_istore (lv' := [_, _, _, _, _, _]) hC dX3_correlation_42 (by decide) rfl ?_
        refine x_aload_n hC dX3_correlation_44 rfl rfl ?_
        refine x_iload hC dX3_correlation_45 rfl ?_
        refine x_iload hC dX3_correlation_47 rfl ?_
        refine x_callV0 (na := 2) hC (ct_good2 hG hm _ True) (lw_V q2540 q2542 qs49 q89 q2543) hm.1 rfl rfl (by decide +kernel) rfl ⟨Nat.le_of_ble_eq_true rfl, Nat.le_of_ble_eq_true rfl⟩ rfl (Nat.le_of_ble_eq_true rfl) ⟨rfl, rfl⟩ ⟨Nat.le_of_ble_eq_true rfl, Nat.le_of_ble_eq_true rfl⟩ dX3_correlation_49 ?_
        rintro _ M ⟨rfl, hm, hF1⟩
        have hF := hF.tr hF1
        refine x_if_eqB (tgt := 65) hC dX3_correlation_52 (by decide) (fun c => ?_) (fun c => ?_)
        · exact absurd ⟨c1, trivial⟩ c
        · obtain ⟨q, q1, rfl, q3⟩ := inI_at (by have := hw.n6; omega) c3
          rw [q3] at hk
          refine x_aload_n hC dX3_correlation_55 rfl rfl ?_
          refine x_iload_n hC dX3_correlation_56 rfl rfl ?_
          refine x_iload_n hC dX3_correlation_57 rfl rfl ?_
          refine x_iload_n hC dX3_correlation_58 rfl rfl ?_
          refine x_callV0 (na := 3) hC (ct_correlated hG hm hw.c6 hv.c6 hw.hn hw.n6 (fun k hk => Nat.lt_of_lt_of_le (hw.xor q q1 k hk) hw.n6)) (lw_V q2700 q2702 qs66 q89 q2703) hm.1 rfl rfl (by decide +kernel) rfl ⟨Nat.le_of_ble_eq_true rfl, Nat.le_of_ble_eq_true rfl⟩ rfl (Nat.le_of_ble_eq_true rfl) ⟨rfl, rfl⟩ ⟨Nat.le_of_ble_eq_true rfl, Nat.le_of_ble_eq_true rfl⟩ dX3_correlation_59 ?_
          rintro _ M ⟨rfl, rfl⟩
          refine x_goto (tgt := 68) hC dX3_correlation_62 (by decide) ?_
          exact x_lret hC hk dX3_correlation_68 (Nat.le_of_ble_eq_true rfl) (Nat.le_of_ble_eq_true rfl) ⟨_, _, _, rfl, (fun _ => jS_cong fun k hk => by rw [hw.hg k hk, hv.hg _ (c2 ▸ hw.xor q q1 k hk)]), hm, hF, hS.k6, upd_s.trans ((if_pos c1).trans (if_pos trivial))⟩
end M16

