/-! ===== the peaks' text ===== -/
section M29
variable {G : X_G} {M : X_M} {m : Nat} {P : Nat → Nat} {V : Nat → Int32} {A : Nat → Nat → Int32} {S : X_S} {R : List Rcd} {i k j : Nat} {r s : Rcd} {T : List Nat}
theorem ct_formatPeaks (hG : GOK G) (hm : Mdl M m P V A) (hS : MRep S V A) (x w : Int32) : Ct G yX3_formatPeaks cX3_formatPeaks 5 (some .int) (xrm 7 0 0) [.ref m, .int x, .int w] M (MOi M m P (opFmtP S x w).2.2 (opFmtP S x w).1 (opFmtP S x w).2.1) := by
  refine ct_open (lv := [_, _, _, _, _]) hG (by decide +kernel) (Nat.le_of_ble_eq_true rfl) rfl (fun C hC hk => ?_)
  obtain ⟨M0, hM0⟩ : ∃ M0, M0 = M := ⟨M, rfl⟩
  rw [← hM0] at hk
  have hF : Fm M0 M := by rw [hM0]; exact Fr.rf
  unfold opFmtP at hk
  refine x_aload_n hC dX3_formatPeaks_0 rfl rfl ?_
  refine x_iload_n hC dX3_formatPeaks_1 rfl rfl ?_
  refine x_callV0 (na := 1) hC (ct_isRecording hG hm _) (lw_V q2491 q2493 qs44 q89 q2494) hm.1 rfl rfl (by decide +kernel) rfl ⟨Nat.le_of_ble_eq_true rfl, Nat.le_of_ble_eq_true rfl⟩ rfl (Nat.le_of_ble_eq_true rfl) ⟨rfl, rfl⟩ ⟨Nat.le_of_ble_eq_true rfl, Nat.le_of_ble_eq_true rfl⟩ dX3_formatPeaks_2 ?_
  rintro _ M ⟨rfl, rfl⟩
  refine x_istore_n (lv' := [_, _, _, _, _]) hC dX3_formatPeaks_5 rfl (by decide) rfl ?_
  refine x_aload_n hC dX3_formatPeaks_6 rfl rfl ?_
  refine x_iload_n hC dX3_formatPeaks_7 rfl rfl ?_
  refine x_iload_n hC dX3_formatPeaks_8 rfl rfl ?_
  refine x_if_eqB (tgt := 25) hC dX3_formatPeaks_9 (by decide) (fun c1 => ?_) (fun c1 => ?_)
  · rw [rc_no hS.1.1 hS.1.2 c1] at hk
    refine x_iconst (v := 0) hC dX3_formatPeaks_25 (by decide) ?_
    refine x_callV0 (na := 2) hC (ct_good2 hG hm _ False) (lw_V q2540 q2542 qs49 q89 q2543) hm.1 rfl rfl (by decide +kernel) rfl ⟨Nat.le_of_ble_eq_true rfl, Nat.le_of_ble_eq_true rfl⟩ rfl (Nat.le_of_ble_eq_true rfl) ⟨rfl, rfl⟩ ⟨Nat.le_of_ble_eq_true rfl, Nat.le_of_ble_eq_true rfl⟩ dX3_formatPeaks_26 ?_
    rintro _ M ⟨rfl, hm, hF1⟩
    have hF := hF.tr hF1
    refine x_if_neB (tgt := 34) hC dX3_formatPeaks_29 (by decide) (fun c => ?_) (fun c => ?_)
    · exact absurd c.1 c1
    · refine x_iconst (v := -1) hC dX3_formatPeaks_32 (by decide) ?_
      exact x_iret hC hk dX3_formatPeaks_33 (Nat.le_of_ble_eq_true rfl) (Nat.le_of_ble_eq_true rfl) ⟨_, _, _, rfl, (fun h => absurd h (show ¬ (1 : Int32) = 0 by decide)), hm, hF, hS.k6, upd_s.trans (if_neg c1)⟩
  · obtain ⟨i, r, hx, rfl, hw⟩ := rc_ok hS.1.1 hS.1.2 c1
    have h6 := hw.n6
    have h2 := hw.n2
    rw [hx] at hk
    dsimp only [Option.elim] at hk
    refine x_aload_n hC dX3_formatPeaks_12 rfl rfl ?_
    refine x_iload_n hC dX3_formatPeaks_13 rfl rfl ?_
    refine x_iload_n hC dX3_formatPeaks_14 rfl rfl ?_
    refine x_callV0 (na := 2) hC (ct_isCount hG hm hw.c6 hw.hn _) (lw_V q2729 q2731 qs69 q89 q2732) hm.1 rfl rfl (by decide +kernel) rfl ⟨Nat.le_of_ble_eq_true rfl, Nat.le_of_ble_eq_true rfl⟩ rfl (Nat.le_of_ble_eq_true rfl) ⟨rfl, rfl⟩ ⟨Nat.le_of_ble_eq_true rfl, Nat.le_of_ble_eq_true rfl⟩ dX3_formatPeaks_15 ?_
    rintro _ M ⟨rfl, rfl⟩
    refine x_if_eqB (tgt := 25) hC dX3_formatPeaks_18 (by decide) (fun c2 => ?_) (fun c2 => ?_)
    · rw [if_neg c2] at hk
      refine x_iconst (v := 0) hC dX3_formatPeaks_25 (by decide) ?_
      refine x_callV0 (na := 2) hC (ct_good2 hG hm _ False) (lw_V q2540 q2542 qs49 q89 q2543) hm.1 rfl rfl (by decide +kernel) rfl ⟨Nat.le_of_ble_eq_true rfl, Nat.le_of_ble_eq_true rfl⟩ rfl (Nat.le_of_ble_eq_true rfl) ⟨rfl, rfl⟩ ⟨Nat.le_of_ble_eq_true rfl, Nat.le_of_ble_eq_true rfl⟩ dX3_formatPeaks_26 ?_
      rintro _ M ⟨rfl, hm, hF1⟩
      have hF := hF.tr hF1
      refine x_if_neB (tgt := 34) hC dX3_formatPeaks_29 (by decide) (fun c => ?_) (fun c => ?_)
      · exact absurd c.2 id
      · refine x_iconst (v := -1) hC dX3_formatPeaks_32 (by decide) ?_
        exact x_iret hC hk dX3_formatPeaks_33 (Nat.le_of_ble_eq_true rfl) (Nat.le_of_ble_eq_true rfl) ⟨_, _, _, rfl, (fun h => absurd h (show ¬ (2 : Int32) = 0 by decide)), hm, hF, hS.k6, upd_s.trans ((if_pos c1).trans (if_neg id))⟩
    · rw [if_pos c2] at hk
      refine x_iconst (v := 1) hC dX3_formatPeaks_21 (by decide) ?_
      refine x_goto (tgt := 26) hC dX3_formatPeaks_22 (by decide) ?_
      refine x_callV0 (na := 2) hC (ct_good2 hG hm _ True) (lw_V q2540 q2542 qs49 q89 q2543) hm.1 rfl rfl (by decide +kernel) rfl ⟨Nat.le_of_ble_eq_true rfl, Nat.le_of_ble_eq_true rfl⟩ rfl (Nat.le_of_ble_eq_true rfl) ⟨rfl, rfl⟩ ⟨Nat.le_of_ble_eq_true rfl, Nat.le_of_ble_eq_true rfl⟩ dX3_formatPeaks_26 ?_
      rintro _ M ⟨rfl, hm, hF1⟩
      have hF := hF.tr hF1
      refine x_if_neB (tgt := 34) hC dX3_formatPeaks_29 (by decide) (fun c => ?_) (fun c => ?_)
      · obtain ⟨q, rfl, q2, q3⟩ := nIz (by omega) c2
        rw [q2] at hk
        have hS6 := hS.k6 (x := if isR (A 0) (nI i) then if True then 0 else 2 else 1)
        generalize hV6 : upd V 6 (if isR (A 0) (nI i) then if True then 0 else 2 else 1) = V6 at hm hS6
        have h66 : V6 6 = 0 := by rw [← hV6, upd_s, if_pos c1, if_pos trivial]
        refine x_aload_n hC dX3_formatPeaks_34 rfl rfl ?_
        refine x_iconst (v := 0) hC dX3_formatPeaks_35 (by decide) ?_
        refine x_mput hC hm 13 3 (by decide) q2343 rfl rfl rfl rfl rfl rfl dX3_formatPeaks_36 (fun M hm hF1 => ?_)
        have hF := hF.tr hF1
        refine x_aload_n hC dX3_formatPeaks_39 rfl rfl ?_
        refine x_iload_n hC dX3_formatPeaks_40 rfl rfl ?_
        refine x_callV0 (na := 1) hC (ct_peaksR hG hm hw) (lw_V q2647 q2649 qs59 q89 q2650) hm.1 rfl rfl (by decide +kernel) rfl ⟨Nat.le_of_ble_eq_true rfl, Nat.le_of_ble_eq_true rfl⟩ rfl (Nat.le_of_ble_eq_true rfl) ⟨rfl, rfl⟩ ⟨Nat.le_of_ble_eq_true rfl, Nat.le_of_ble_eq_true rfl⟩ dX3_formatPeaks_41 ?_
        rintro _ M ⟨rfl, hm, hF1⟩
        have hF := hF.tr hF1
        obtain ⟨A7, hA7⟩ : ∃ A7, A7 = va_up (va_up A 6 (fil (A 6) (cfN (rg r) (rz r)) 0 (rz r))) 8 (fil (A 8) (fun j => nI (pkN r j)) 0 (rz r)) := ⟨_, rfl⟩
        rw [← hA7] at hm
        have e8 : ∀ q, q < rz r → A7 8 q = nI (pkN r q) := fun q hq => by rw [hA7]; exact rk_at hq
        have e6 : ∀ q, q < rz r → A7 6 q = cfN (rg r) (rz r) q := fun q hq => by rw [hA7]; exact rk_co hq
        have hS7 : MRep S V6 A7 := hS6.kq (fun q hq => by rw [hA7, va_up_n (by omega), va_up_n (by omega)])
        have h70 : A7 0 = A 0 := by rw [hA7, va_up_n (by decide), va_up_n (by decide)]
        have hw7 : Rw (sR S) (A7 0) i r := by rw [h70]; exact hw
        clear hA7
        have h0 : TX M m P V6 A7 [] := ⟨A7 5, hm.to rfl up_id.symm, fun i c h => by cases h⟩
        have pbound : ∀ k, k < rz r → pkN r k < rz r := fun k hk => pkr_lt (cfN (rg r) (rz r)) (rz r) hk
        have fin : ∀ M1 T1, TX M1 m P V6 A7 T1 → Fm M0 M1 → T1.length ≤ 900 → fmP r q 0 = T1 → ∀ w4, Wg G C M1 0 0 126 [some (.ref m), some (.int (nI i)), some (.int (nI q)), some (.int (xB (isR (A 0) (nI i)))), w4] [] := by
          intro M T1 h hF hl hT w4
          obtain ⟨f, hm⟩ := h.mdl
          unfold fmPk at hk
          rw [hT] at hk
          refine x_aload_n hC dX3_formatPeaks_126 rfl rfl ?_
          refine x_get hC 13 hm.1 rfl (by decide) q2343 rfl rfl dX3_formatPeaks_127 ?_
          refine x_if_ne (tgt := 139) hC dX3_formatPeaks_130 (by decide) (fun c5 => ?_) (fun c5 => ?_)
          · have hne : T1 ≠ [] := fun e => c5 (by rw [e]; rfl)
            rw [if_neg hne] at hk
            clear hm
            obtain ⟨f, hm, hf⟩ := h
            refine x_aload_n hC dX3_formatPeaks_139 rfl rfl ?_
            refine x_get hC 13 hm.1 rfl (by decide) q2343 rfl rfl dX3_formatPeaks_140 ?_
            exact x_iret hC hk dX3_formatPeaks_143 (Nat.le_of_ble_eq_true rfl) (Nat.le_of_ble_eq_true rfl) ⟨_, _, _, rfl, (fun _ => rfl), hm, hF, hS7.txt (by omega) hf, (upd_n (by decide)).trans h66⟩
          · have he : T1 = [] := by
              have h9 : nI T1.length = nI 0 := c5
              rw [nI_eq (by omega) (by decide)] at h9
              exact List.eq_nil_of_length_eq_zero h9
            rw [if_pos he] at hk
            rw [he] at h
            refine x_aload_n hC dX3_formatPeaks_133 rfl rfl ?_
            refine x_bipush (v := nI 45) hC dX3_formatPeaks_134 (by decide) ?_
            refine x_callV0 (na := 1) hC (ct_wr hG h (by decide) (by decide)) (lw_V q2859 q2861 qs78 q89 q2862) hm.1 rfl rfl (by decide +kernel) rfl ⟨Nat.le_of_ble_eq_true rfl, Nat.le_of_ble_eq_true rfl⟩ rfl (Nat.le_of_ble_eq_true rfl) ⟨rfl, rfl⟩ ⟨Nat.le_of_ble_eq_true rfl, Nat.le_of_ble_eq_true rfl⟩ dX3_formatPeaks_136 ?_
            rintro _ M ⟨rfl, h, hF1⟩
            have hF := hF.tr hF1
            clear hm
            obtain ⟨f, hm, hf⟩ := h
            refine x_aload_n hC dX3_formatPeaks_139 rfl rfl ?_
            refine x_get hC 13 hm.1 rfl (by decide) q2343 rfl rfl dX3_formatPeaks_140 ?_
            exact x_iret hC hk dX3_formatPeaks_143 (Nat.le_of_ble_eq_true rfl) (Nat.le_of_ble_eq_true rfl) ⟨_, _, _, rfl, (fun _ => rfl), hm, hF, hS7.txt (by decide) hf, (upd_n (by decide)).trans h66⟩
        clear hm
        obtain ⟨f, hm⟩ := h0.mdl
        refine x_iconst (v := nI 0) hC dX3_formatPeaks_44 (by decide) ?_
        refine x_istore (lv' := [_, _, _, _, _]) hC dX3_formatPeaks_45 (by decide) rfl ?_
        suffices lp : ∀ d k, k + d = q → ∀ M1 T1, TX M1 m P V6 A7 T1 → Fm M0 M1 → T1.length ≤ 12 * k → fmP r q 0 = T1 ++ fmP r d k → Wg G C M1 0 0 47 [some (.ref m), some (.int (nI i)), some (.int (nI q)), some (.int (xB (isR (A 0) (nI i)))), some (.int (nI k))] [] from lp q 0 (by omega) M [] h0 hF (by decide) rfl
        intro d
        induction d with
        | zero =>
          intro k hd M T1 h hF hl hT
          clear hm
          obtain ⟨f, hm⟩ := h.mdl
          refine x_iload hC dX3_formatPeaks_47 rfl ?_
          refine x_iload_n hC dX3_formatPeaks_49 rfl rfl ?_
          refine x_icmp_geN (tgt := 126) hC (by omega) (by omega) dX3_formatPeaks_50 (by decide) (fun c4 => ?_) (fun c4 => ?_)
          · exact fin M T1 h hF (by omega) (by rw [hT]; exact List.append_nil _) _
          · exact absurd c4 (by omega)
        | succ d ih =>
          intro k hd M T1 h hF hl hT
          clear hm
          obtain ⟨f, hm⟩ := h.mdl
          have hkr : k < rz r := by omega
          have hpb := pbound k hkr
          have ek : va_up A7 5 f 8 k = nI (pkN r k) := e8 k hkr
          have ec : va_up A7 5 f 6 (pkN r k) = cfN (rg r) (rz r) (pkN r k) := e6 _ hpb
          have hfm : fmP r (d + 1) k = if cfN (rg r) (rz r) (pkN r k) = 0 then [] else (if k = 0 then [] else [32]) ++ dgI (chg (nI (pkN r k)) (rz r)) ++ [58] ++ dgI (cfN (rg r) (rz r) (pkN r k)) ++ fmP r d (k + 1) := rfl
          refine x_iload hC dX3_formatPeaks_47 rfl ?_
          refine x_iload_n hC dX3_formatPeaks_49 rfl rfl ?_
          refine x_icmp_geN (tgt := 126) hC (by omega) (by omega) dX3_formatPeaks_50 (by decide) (fun c4 => ?_) (fun c4 => ?_)
          · exact absurd c4 (by omega)
          · refine x_aload_n hC dX3_formatPeaks_53 rfl rfl ?_
            refine x_get hC 7 hm.1 rfl (by decide) q2337 rfl rfl dX3_formatPeaks_54 ?_
            refine x_aload_n hC dX3_formatPeaks_57 rfl rfl ?_
            refine x_get hC 9 hm.1 rfl (by decide) q2339 rfl rfl dX3_formatPeaks_58 ?_
            refine x_iload hC dX3_formatPeaks_61 rfl ?_
            refine x_ialdN hC (hm.arr 8 (by decide)) (show _ < 64 from (by omega)) (by decide) dX3_formatPeaks_63 ?_
            rw [ek]
            refine x_ialdN hC (hm.arr 6 (by decide)) (show _ < 64 from (by omega)) (by decide) dX3_formatPeaks_64 ?_
            rw [ec]
            refine x_if_eq (tgt := 126) hC dX3_formatPeaks_65 (by decide) (fun c5 => ?_) (fun c5 => ?_)
            · rw [hfm, if_pos c5, List.append_nil] at hT
              exact fin M T1 h hF (by omega) hT _
            · rw [hfm, if_neg c5] at hT
              have rest : ∀ M1 T2, TX M1 m P V6 A7 T2 → Fm M0 M1 → T2 = T1 ++ (if k = 0 then [] else [32]) → Wg G C M1 0 0 79 [some (.ref m), some (.int (nI i)), some (.int (nI q)), some (.int (xB (isR (A 0) (nI i)))), some (.int (nI k))] [] := by
                intro M T2 h hF hT2
                have hl2 : T2.length ≤ 12 * k + 1 := by
                  rw [hT2, List.length_append]
                  split
                  · rw [List.length_nil]; omega
                  · rw [List.length_singleton]; omega
                clear hm
                obtain ⟨f, hm⟩ := h.mdl
                have hw8 : Rw (sR S) (va_up A7 5 f 0) i r := hw7
                have ek : va_up A7 5 f 8 k = nI (pkN r k) := e8 k hkr
                obtain ⟨u, u1, u2⟩ := chg_b (x := nI (pkN r k)) (n := rz r) (by omega)
                have hu : (chg (nI (pkN r k)) (rz r)).toInt.natAbs < 10 ^ 2 := by rw [u2, nI_toInt (by omega)]; omega
                have hul := dgI_len (k := 2) (by decide) hu
                have hcb : (cfN (rg r) (rz r) (pkN r k)).toInt.natAbs ≤ 639936 := cf_b h6 (fun l hl => hw.lim hl)
                have hcl := dgI_len (x := cfN (rg r) (rz r) (pkN r k)) (k := 6) (by decide) (by omega)
                refine x_aload_n hC dX3_formatPeaks_79 rfl rfl ?_
                refine x_aload_n hC dX3_formatPeaks_80 rfl rfl ?_
                refine x_iload_n hC dX3_formatPeaks_81 rfl rfl ?_
                refine x_callV0 (na := 1) hC (ct_sizeR hG hm hw8) (lw_V q2495 q2497 qs45 q89 q2498) hm.1 rfl rfl (by decide +kernel) rfl ⟨Nat.le_of_ble_eq_true rfl, Nat.le_of_ble_eq_true rfl⟩ rfl (Nat.le_of_ble_eq_true rfl) ⟨rfl, rfl⟩ ⟨Nat.le_of_ble_eq_true rfl, Nat.le_of_ble_eq_true rfl⟩ dX3_formatPeaks_82 ?_
                rintro _ M ⟨rfl, rfl⟩
                refine x_aload_n hC dX3_formatPeaks_85 rfl rfl ?_
                refine x_get hC 9 hm.1 rfl (by decide) q2339 rfl rfl dX3_formatPeaks_86 ?_
                refine x_iload hC dX3_formatPeaks_89 rfl ?_
                refine x_ialdN hC (hm.arr 8 (by decide)) (show _ < 64 from (by omega)) (by decide) dX3_formatPeaks_91 ?_
                rw [ek]
                refine x_callS0 (na := 2) hC (ct_changes hG (by omega) (by omega) _ _) (lw_S q2580 q2581 q89 q2582) (by decide +kernel) rfl ⟨Nat.le_of_ble_eq_true rfl, Nat.le_of_ble_eq_true rfl⟩ rfl (Nat.le_of_ble_eq_true rfl) ⟨rfl, rfl⟩ ⟨Nat.le_of_ble_eq_true rfl, Nat.le_of_ble_eq_true rfl⟩ dX3_formatPeaks_92 ?_
                rintro _ M ⟨rfl, rfl⟩
                refine x_callV0 (na := 1) hC (ct_writeNumber hG h (by omega) (by omega)) (lw_V q2863 q2865 qs79 q89 q2866) hm.1 rfl rfl (by decide +kernel) rfl ⟨Nat.le_of_ble_eq_true rfl, Nat.le_of_ble_eq_true rfl⟩ rfl (Nat.le_of_ble_eq_true rfl) ⟨rfl, rfl⟩ ⟨Nat.le_of_ble_eq_true rfl, Nat.le_of_ble_eq_true rfl⟩ dX3_formatPeaks_95 ?_
                rintro _ M ⟨rfl, h, hF1⟩
                have hF := hF.tr hF1
                clear hm
                obtain ⟨f, hm⟩ := h.mdl
                refine x_aload_n hC dX3_formatPeaks_98 rfl rfl ?_
                refine x_bipush (v := nI 58) hC dX3_formatPeaks_99 (by decide) ?_
                refine x_callV0 (na := 1) hC (ct_wr hG h (by decide) (by rw [List.length_append]; omega)) (lw_V q2859 q2861 qs78 q89 q2862) hm.1 rfl rfl (by decide +kernel) rfl ⟨Nat.le_of_ble_eq_true rfl, Nat.le_of_ble_eq_true rfl⟩ rfl (Nat.le_of_ble_eq_true rfl) ⟨rfl, rfl⟩ ⟨Nat.le_of_ble_eq_true rfl, Nat.le_of_ble_eq_true rfl⟩ dX3_formatPeaks_101 ?_
                rintro _ M ⟨rfl, h, hF1⟩
                have hF := hF.tr hF1
                clear hm
                obtain ⟨f, hm⟩ := h.mdl
                have ek : va_up A7 5 f 8 k = nI (pkN r k) := e8 k hkr
                have ec : va_up A7 5 f 6 (pkN r k) = cfN (rg r) (rz r) (pkN r k) := e6 _ hpb
                refine x_aload_n hC dX3_formatPeaks_104 rfl rfl ?_
                refine x_aload_n hC dX3_formatPeaks_105 rfl rfl ?_
                refine x_get hC 7 hm.1 rfl (by decide) q2337 rfl rfl dX3_formatPeaks_106 ?_
                refine x_aload_n hC dX3_formatPeaks_109 rfl rfl ?_
                refine x_get hC 9 hm.1 rfl (by decide) q2339 rfl rfl dX3_formatPeaks_110 ?_
                refine x_iload hC dX3_formatPeaks_113 rfl ?_
                refine x_ialdN hC (hm.arr 8 (by decide)) (show _ < 64 from (by omega)) (by decide) dX3_formatPeaks_115 ?_
                rw [ek]
                refine x_ialdN hC (hm.arr 6 (by decide)) (show _ < 64 from (by omega)) (by decide) dX3_formatPeaks_116 ?_
                rw [ec]
                refine x_callV0 (na := 1) hC (ct_writeNumber hG h (by omega) (by rw [List.length_append, List.length_append, List.length_singleton]; omega)) (lw_V q2863 q2865 qs79 q89 q2866) hm.1 rfl rfl (by decide +kernel) rfl ⟨Nat.le_of_ble_eq_true rfl, Nat.le_of_ble_eq_true rfl⟩ rfl (Nat.le_of_ble_eq_true rfl) ⟨rfl, rfl⟩ ⟨Nat.le_of_ble_eq_true rfl, Nat.le_of_ble_eq_true rfl⟩ dX3_formatPeaks_117 ?_
                rintro _ M ⟨rfl, h, hF1⟩
                have hF := hF.tr hF1
                refine x_iincN (lv' := [_, _, _, _, _]) (b := 1) hC dX3_formatPeaks_120 rfl (by decide) (by decide) rfl ?_
                refine x_goto (tgt := 47) hC dX3_formatPeaks_123 (by decide) ?_
                refine ih (k + 1) (by omega) M _ h hF (by rw [List.length_append, List.length_append, List.length_append, List.length_singleton]; omega) ?_
                rw [hT, hT2]
                simp only [List.append_assoc]
              refine x_iload hC dX3_formatPeaks_68 rfl ?_
              refine x_if_le (tgt := 79) hC dX3_formatPeaks_70 (by decide) (fun c6 => ?_) (fun c6 => ?_)
              · have hk0 : k = 0 := by
                  have h9 := c6
                  rw [show (0 : Int32) = nI 0 from rfl, nI_leI (by omega) (by decide)] at h9
                  omega
                exact rest M T1 h hF (by rw [if_pos hk0, List.append_nil])
              · have hk0 : ¬ k = 0 := fun e => c6 (by rw [e]; decide)
                refine x_aload_n hC dX3_formatPeaks_73 rfl rfl ?_
                refine x_bipush (v := nI 32) hC dX3_formatPeaks_74 (by decide) ?_
                refine x_callV0 (na := 1) hC (ct_wr hG h (by decide) (by omega)) (lw_V q2859 q2861 qs78 q89 q2862) hm.1 rfl rfl (by decide +kernel) rfl ⟨Nat.le_of_ble_eq_true rfl, Nat.le_of_ble_eq_true rfl⟩ rfl (Nat.le_of_ble_eq_true rfl) ⟨rfl, rfl⟩ ⟨Nat.le_of_ble_eq_true rfl, Nat.le_of_ble_eq_true rfl⟩ dX3_formatPeaks_76 ?_
                rintro _ M ⟨rfl, h, hF1⟩
                have hF := hF.tr hF1
                exact rest M _ h hF (by rw [if_neg hk0])
      · exact absurd ⟨c1, trivial⟩ c
end M29

