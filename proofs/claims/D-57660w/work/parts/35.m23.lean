/-! ===== the reference's edits within a row, second part ===== -/
section M23
variable {G : X_G} {M : X_M} {m : Nat} {P : Nat → Nat} {V : Nat → Int32} {A : Nat → Nat → Int32} {S : X_S} {R : List Rcd} {i k j : Nat} {r s : Rcd}
theorem ct_fold (hG : GOK G) (hm : Mdl M m P V A) (hS : MRep S V A) (x : Int32) : Ct G yX3_fold cX3_fold 6 (some .int) (xrm 8 0 0) [.ref m, .int x] M (MOi M m P (opFold S x).2.2 (opFold S x).1 (opFold S x).2.1) := by
  refine ct_open (lv := [_, _, _, _, _, _]) hG (by decide +kernel) (Nat.le_of_ble_eq_true rfl) rfl (fun C hC hk => ?_)
  obtain ⟨M0, hM0⟩ : ∃ M0, M0 = M := ⟨M, rfl⟩
  rw [← hM0] at hk
  have hF : Fm M0 M := by rw [hM0]; exact Fr.rf
  unfold opFold at hk
  refine x_aload_n hC dX3_fold_0 rfl rfl ?_
  refine x_iload_n hC dX3_fold_1 rfl rfl ?_
  refine x_callV0 (na := 1) hC (ct_isRecording hG hm _) (lw_V q2491 q2493 qs44 q89 q2494) hm.1 rfl rfl (by decide +kernel) rfl ⟨Nat.le_of_ble_eq_true rfl, Nat.le_of_ble_eq_true rfl⟩ rfl (Nat.le_of_ble_eq_true rfl) ⟨rfl, rfl⟩ ⟨Nat.le_of_ble_eq_true rfl, Nat.le_of_ble_eq_true rfl⟩ dX3_fold_2 ?_
  rintro _ M ⟨rfl, rfl⟩
  refine x_istore_n (lv' := [_, _, _, _, _, _]) hC dX3_fold_5 rfl (by decide) rfl ?_
  refine x_aload_n hC dX3_fold_6 rfl rfl ?_
  refine x_iload_n hC dX3_fold_7 rfl rfl ?_
  refine x_iload_n hC dX3_fold_8 rfl rfl ?_
  refine x_if_eqB (tgt := 25) hC dX3_fold_9 (by decide) (fun c1 => ?_) (fun c1 => ?_)
  · rw [rc_no hS.1.1 hS.1.2 c1] at hk
    refine x_iconst (v := 0) hC dX3_fold_25 (by decide) ?_
    refine x_callV0 (na := 2) hC (ct_good2 hG hm _ False) (lw_V q2540 q2542 qs49 q89 q2543) hm.1 rfl rfl (by decide +kernel) rfl ⟨Nat.le_of_ble_eq_true rfl, Nat.le_of_ble_eq_true rfl⟩ rfl (Nat.le_of_ble_eq_true rfl) ⟨rfl, rfl⟩ ⟨Nat.le_of_ble_eq_true rfl, Nat.le_of_ble_eq_true rfl⟩ dX3_fold_26 ?_
    rintro _ M ⟨rfl, hm, hF1⟩
    have hF := hF.tr hF1
    refine x_if_neB (tgt := 34) hC dX3_fold_29 (by decide) (fun c => ?_) (fun c => ?_)
    · exact absurd c.1 c1
    · refine x_iconst (v := -1) hC dX3_fold_32 (by decide) ?_
      exact x_iret hC hk dX3_fold_33 (Nat.le_of_ble_eq_true rfl) (Nat.le_of_ble_eq_true rfl) ⟨_, _, _, rfl, (fun h => absurd h (show ¬ (1 : Int32) = 0 by decide)), hm, hF, hS.k6, upd_s.trans (if_neg c1)⟩
  · obtain ⟨i, r, hx, rfl, hw⟩ := rc_ok hS.1.1 hS.1.2 c1
    have hci : (nI i).toNatClampNeg = i := nI_clamp (by have := hw.c6; omega)
    have h6 := hw.n6
    have hi6 := hw.c6
    rw [hx] at hk
    dsimp only [Option.elim, putR] at hk
    rw [hci] at hk
    refine x_aload_n hC dX3_fold_12 rfl rfl ?_
    refine x_iload_n hC dX3_fold_13 rfl rfl ?_
    refine x_callV0 (na := 1) hC (ct_sizeR hG hm hw) (lw_V q2495 q2497 qs45 q89 q2498) hm.1 rfl rfl (by decide +kernel) rfl ⟨Nat.le_of_ble_eq_true rfl, Nat.le_of_ble_eq_true rfl⟩ rfl (Nat.le_of_ble_eq_true rfl) ⟨rfl, rfl⟩ ⟨Nat.le_of_ble_eq_true rfl, Nat.le_of_ble_eq_true rfl⟩ dX3_fold_14 ?_
    rintro _ M ⟨rfl, rfl⟩
    refine x_iconst (v := nI 2) hC dX3_fold_17 (by decide) ?_
    refine x_icmp_leN (tgt := 25) hC (by omega) (by omega) dX3_fold_18 (by decide) (fun c2 => ?_) (fun c2 => ?_)
    · have c2 := Nat.not_lt.mpr c2
      rw [if_neg c2] at hk
      refine x_iconst (v := 0) hC dX3_fold_25 (by decide) ?_
      refine x_callV0 (na := 2) hC (ct_good2 hG hm _ False) (lw_V q2540 q2542 qs49 q89 q2543) hm.1 rfl rfl (by decide +kernel) rfl ⟨Nat.le_of_ble_eq_true rfl, Nat.le_of_ble_eq_true rfl⟩ rfl (Nat.le_of_ble_eq_true rfl) ⟨rfl, rfl⟩ ⟨Nat.le_of_ble_eq_true rfl, Nat.le_of_ble_eq_true rfl⟩ dX3_fold_26 ?_
      rintro _ M ⟨rfl, hm, hF1⟩
      have hF := hF.tr hF1
      refine x_if_neB (tgt := 34) hC dX3_fold_29 (by decide) (fun c => ?_) (fun c => ?_)
      · exact absurd c.2 id
      · refine x_iconst (v := -1) hC dX3_fold_32 (by decide) ?_
        exact x_iret hC hk dX3_fold_33 (Nat.le_of_ble_eq_true rfl) (Nat.le_of_ble_eq_true rfl) ⟨_, _, _, rfl, (fun h => absurd h (show ¬ (2 : Int32) = 0 by decide)), hm, hF, hS.k6, upd_s.trans ((if_pos c1).trans (if_neg id))⟩
    · have hh := hw.hlf (by omega)
      have h2r : 2 < rz r := by omega
      rw [if_pos h2r] at hk
      refine x_iconst (v := 1) hC dX3_fold_21 (by decide) ?_
      refine x_goto (tgt := 26) hC dX3_fold_22 (by decide) ?_
      refine x_callV0 (na := 2) hC (ct_good2 hG hm _ True) (lw_V q2540 q2542 qs49 q89 q2543) hm.1 rfl rfl (by decide +kernel) rfl ⟨Nat.le_of_ble_eq_true rfl, Nat.le_of_ble_eq_true rfl⟩ rfl (Nat.le_of_ble_eq_true rfl) ⟨rfl, rfl⟩ ⟨Nat.le_of_ble_eq_true rfl, Nat.le_of_ble_eq_true rfl⟩ dX3_fold_26 ?_
      rintro _ M ⟨rfl, hm, hF1⟩
      have hF := hF.tr hF1
      refine x_if_neB (tgt := 34) hC dX3_fold_29 (by decide) (fun c => ?_) (fun c => ?_)
      · refine x_aload_n hC dX3_fold_34 rfl rfl ?_
        refine x_callV0 (na := 0) hC (ct_rem hG hm hS.k6) (lw_V q2759 q2761 qs74 q89 q2762) hm.1 rfl rfl (by decide +kernel) rfl ⟨Nat.le_of_ble_eq_true rfl, Nat.le_of_ble_eq_true rfl⟩ rfl (Nat.le_of_ble_eq_true rfl) ⟨rfl, rfl⟩ ⟨Nat.le_of_ble_eq_true rfl, Nat.le_of_ble_eq_true rfl⟩ dX3_fold_35 ?_
        rintro _ M ⟨rfl, V7, A7, hm, hF1, hS7, h76, h70, -, -⟩
        have hF := hF.tr hF1
        have hw7 : Rw (sR S) (A7 0) i r := by rw [h70]; exact hw
        refine x_aload_n hC dX3_fold_38 rfl rfl ?_
        refine x_iload_n hC dX3_fold_39 rfl rfl ?_
        refine x_callV0 (na := 1) hC (ct_sizeR hG hm hw7) (lw_V q2495 q2497 qs45 q89 q2498) hm.1 rfl rfl (by decide +kernel) rfl ⟨Nat.le_of_ble_eq_true rfl, Nat.le_of_ble_eq_true rfl⟩ rfl (Nat.le_of_ble_eq_true rfl) ⟨rfl, rfl⟩ ⟨Nat.le_of_ble_eq_true rfl, Nat.le_of_ble_eq_true rfl⟩ dX3_fold_40 ?_
        rintro _ M ⟨rfl, rfl⟩
        refine x_iconst (v := nI 2) hC dX3_fold_43 (by decide) ?_
        refine x_idivN hC dX3_fold_44 (by omega) (by decide) (by decide) ?_
        refine x_istore_n (lv' := [_, _, _, _, _, _]) hC dX3_fold_45 rfl (by decide) rfl ?_
        refine x_iload_n hC dX3_fold_46 rfl rfl ?_
        refine x_callS0 (na := 1) hC (ct_row hG _ _) (lw_S q2457 q2458 q89 q2459) (by decide +kernel) rfl ⟨Nat.le_of_ble_eq_true rfl, Nat.le_of_ble_eq_true rfl⟩ rfl (Nat.le_of_ble_eq_true rfl) ⟨rfl, rfl⟩ ⟨Nat.le_of_ble_eq_true rfl, Nat.le_of_ble_eq_true rfl⟩ dX3_fold_47 ?_
        rintro _ M ⟨rfl, rfl⟩
        refine x_bipush (v := nI 8) hC dX3_fold_50 (by decide) ?_
        refine x_iaddN hC dX3_fold_52 ?_
        refine x_istore (lv' := [_, _, _, _, _, _]) hC dX3_fold_53 (by decide) rfl ?_
        refine x_iconst (v := nI 0) hC dX3_fold_55 (by decide) ?_
        refine x_istore (lv' := [_, _, _, _, _, _]) hC dX3_fold_56 (by decide) rfl ?_
        generalize hhn : rz r / 2 = h at *
        refine x_up (n := h) (I := fun k => ∀ M1 f, (∀ q, ¬ (9 + 72 * i ≤ q ∧ q < 73 + 72 * i) → f q = A7 0 q) → (∀ l, l < k → f (9 + 72 * i + l) = fdiv (rg r l + rg r (h + l)) 2) → (∀ l, k ≤ l → l < h → f (9 + 72 * i + l) = rg r l ∧ f (9 + 72 * i + h + l) = rg r (h + l)) → Mdl M1 m P V7 (va_up A7 0 f) → Fm M0 M1 → Wg G C M1 0 0 58 [some (.ref m), some (.int (nI i)), some (.int (xB (isR (A 0) (nI i)))), some (.int (nI h)), some (.int (nI (1 + 72 * i + 8))), some (.int (nI k))] []) (fun k hk2 ih M f hf hlo hhi hm hF => ?_) 0 (Nat.zero_le _) M (A7 0) (fun q hq => rfl) (fun l hl => by omega) (fun l h1 h2 => ⟨hw7.hg l (by omega), by rw [Nat.add_assoc]; exact hw7.hg (h + l) (by omega)⟩) (hm.to rfl (by rw [up_id])) hF
        refine x_iload hC dX3_fold_58 rfl ?_
        refine x_iload_n hC dX3_fold_60 rfl rfl ?_
        refine x_icmp_geN (tgt := 120) hC (by omega) (by omega) dX3_fold_61 (by decide) (fun c3 => ?_) (fun c3 => ?_)
        · refine x_aload_n hC dX3_fold_120 rfl rfl ?_
          refine x_get hC 0 hm.1 rfl (by decide) q2330 rfl rfl dX3_fold_121 ?_
          refine x_iload_n hC dX3_fold_124 rfl rfl ?_
          refine x_callS0 (na := 1) hC (ct_row hG _ _) (lw_S q2457 q2458 q89 q2459) (by decide +kernel) rfl ⟨Nat.le_of_ble_eq_true rfl, Nat.le_of_ble_eq_true rfl⟩ rfl (Nat.le_of_ble_eq_true rfl) ⟨rfl, rfl⟩ ⟨Nat.le_of_ble_eq_true rfl, Nat.le_of_ble_eq_true rfl⟩ dX3_fold_125 ?_
          rintro _ M ⟨rfl, rfl⟩
          refine x_bipush (v := nI 7) hC dX3_fold_128 (by decide) ?_
          refine x_iaddN hC dX3_fold_130 ?_
          refine x_iload_n hC dX3_fold_131 rfl rfl ?_
          refine x_miastN hC hm 0 (by decide) (show _ < 433 from (by omega)) (by decide) dX3_fold_132 (fun M hm hF1 => ?_)
          have hF := hF.tr hF1
          rw [up_up] at hm
          refine x_iload_n hC dX3_fold_133 rfl rfl ?_
          refine x_iret hC hk dX3_fold_134 (Nat.le_of_ble_eq_true rfl) (Nat.le_of_ble_eq_true rfl) ⟨_, _, _, rfl, (fun _ => rfl), hm, hF, hS7.row hw7 hh.1 (fun l hl => ?_) (fun q hq => ?_) ?_ (fun l hl2 => ?_), h76.trans (upd_s.trans ((if_pos c1).trans (if_pos trivial)))⟩
          · exact half_lim (hw.lim (by omega)) (hw.lim (by omega))
          · rw [upd_n (by omega), va_up_s]; exact hf q (by omega)
          · rw [show 8 + 72 * i = 1 + 72 * i + 7 by omega, upd_s]
          · rw [upd_n (by omega), va_up_s]
            exact hlo l (by omega)
        · obtain ⟨e1, e2⟩ := hhi k (Nat.le_refl k) c3
          refine x_aload_n hC dX3_fold_64 rfl rfl ?_
          refine x_get hC 0 hm.1 rfl (by decide) q2330 rfl rfl dX3_fold_65 ?_
          refine x_iload hC dX3_fold_68 rfl ?_
          refine x_iload hC dX3_fold_70 rfl ?_
          refine x_iaddN hC dX3_fold_72 ?_
          refine x_aload_n hC dX3_fold_73 rfl rfl ?_
          refine x_get hC 0 hm.1 rfl (by decide) q2330 rfl rfl dX3_fold_74 ?_
          refine x_iload hC dX3_fold_77 rfl ?_
          refine x_iload hC dX3_fold_79 rfl ?_
          refine x_iaddN hC dX3_fold_81 ?_
          refine x_ialdN hC (hm.arr 0 (by decide)) (show _ < 433 from (by omega)) (by decide) dX3_fold_82 ?_
          rw [show va_up A7 0 f 0 (1 + 72 * i + 8 + k) = rg r k by rw [va_up_s, ← e1]; congr 1; omega]
          refine x_aload_n hC dX3_fold_83 rfl rfl ?_
          refine x_get hC 0 hm.1 rfl (by decide) q2330 rfl rfl dX3_fold_84 ?_
          refine x_iload hC dX3_fold_87 rfl ?_
          refine x_iload_n hC dX3_fold_89 rfl rfl ?_
          refine x_iaddN hC dX3_fold_90 ?_
          refine x_iload hC dX3_fold_91 rfl ?_
          refine x_iaddN hC dX3_fold_93 ?_
          refine x_ialdN hC (hm.arr 0 (by decide)) (show _ < 433 from (by omega)) (by decide) dX3_fold_94 ?_
          rw [show va_up A7 0 f 0 (1 + 72 * i + 8 + h + k) = rg r (h + k) by rw [va_up_s, ← e2]; congr 1; omega]
          refine x_iadd hC dX3_fold_95 ?_
          refine x_iconst (v := 2) hC dX3_fold_96 (by decide) ?_
          refine x_callS0 (na := 2) hC (ct_floorDiv hG _ _ (show ¬ (2 : Int32) = 0 by decide) _) (lw_S q2745 q1946 q103 q1947) (by decide +kernel) rfl ⟨Nat.le_of_ble_eq_true rfl, Nat.le_of_ble_eq_true rfl⟩ rfl (Nat.le_of_ble_eq_true rfl) ⟨rfl, rfl⟩ ⟨Nat.le_of_ble_eq_true rfl, Nat.le_of_ble_eq_true rfl⟩ dX3_fold_97 ?_
          rintro _ M ⟨rfl, rfl⟩
          refine x_miastN hC hm 0 (by decide) (show _ < 433 from (by omega)) (by decide) dX3_fold_100 (fun M hm hF1 => ?_)
          have hF := hF.tr hF1
          refine x_aload_n hC dX3_fold_101 rfl rfl ?_
          refine x_get hC 0 hm.1 rfl (by decide) q2330 rfl rfl dX3_fold_102 ?_
          refine x_iload hC dX3_fold_105 rfl ?_
          refine x_iload_n hC dX3_fold_107 rfl rfl ?_
          refine x_iaddN hC dX3_fold_108 ?_
          refine x_iload hC dX3_fold_109 rfl ?_
          refine x_iaddN hC dX3_fold_111 ?_
          refine x_iconst (v := nI 0) hC dX3_fold_112 (by decide) ?_
          refine x_miastN hC hm 0 (by decide) (show _ < 433 from (by omega)) (by decide) dX3_fold_113 (fun M hm hF1 => ?_)
          have hF := hF.tr hF1
          refine x_iincN (lv' := [_, _, _, _, _, _]) (b := 1) hC dX3_fold_114 rfl (by decide) (by decide) rfl ?_
          refine x_goto (tgt := 58) hC dX3_fold_117 (by decide) ?_
          rw [up_up, up_up] at hm
          refine ih c3 M _ (fun q hq => ?_) (fun l hl => ?_) (fun l h1 h2 => ?_) hm hF
          · rw [upd_n (by omega), va_up_s, upd_n (by omega), va_up_s]
            exact hf q hq
          · rw [upd_n (by omega), va_up_s]
            by_cases e : l = k
            · subst e
              rw [show 9 + 72 * i + l = 1 + 72 * i + 8 + l by omega, upd_s]
            · rw [upd_n (by omega), va_up_s]
              exact hlo l (by omega)
          · obtain ⟨g1, g2⟩ := hhi l (by omega) h2
            refine ⟨?_, ?_⟩
            · rw [upd_n (by omega), va_up_s, upd_n (by omega), va_up_s]; exact g1
            · rw [upd_n (by omega), va_up_s, upd_n (by omega), va_up_s]; exact g2
      · exact absurd ⟨c1, trivial⟩ c
/-- a sample by the row's own words -/
theorem ct_atV (hG : GOK G) (hm : Mdl M m P V A) (hj : j < 6) (hk : k < 64) {z : Int32} (hz : A 0 (9 + 72 * j + k) = z) : Ct G yX3_at cX3_at 3 (some .int) (xrm 2 0 0) [.ref m, .int (nI j), .int (nI k)] M (Pr (.int z) M) := by
  have h := ct_at hG hm hj hk
  rwa [hz] at h
theorem add_lim {a b : Int32} : lim (clip (a + b)) := clip_lim _
theorem ct_addRecording (hG : GOK G) (hm : Mdl M m P V A) (hS : MRep S V A) (x z fc : Int32) : Ct G yX3_addRecording cX3_addRecording 9 (some .int) (xrm 8 0 0) [.ref m, .int x, .int z, .int fc] M (MOi M m P (opAdd S x z fc).2.2 (opAdd S x z fc).1 (opAdd S x z fc).2.1) := by
  refine ct_open (lv := [_, _, _, _, _, _, _, _, _]) hG (by decide +kernel) (Nat.le_of_ble_eq_true rfl) rfl (fun C hC hk => ?_)
  obtain ⟨M0, hM0⟩ : ∃ M0, M0 = M := ⟨M, rfl⟩
  rw [← hM0] at hk
  have hF : Fm M0 M := by rw [hM0]; exact Fr.rf
  unfold opAdd at hk
  refine x_aload_n hC dX3_addRecording_0 rfl rfl ?_
  refine x_iload_n hC dX3_addRecording_1 rfl rfl ?_
  refine x_iload_n hC dX3_addRecording_2 rfl rfl ?_
  refine x_callV0 (na := 2) hC (ct_areRecordings hG hm _ _) (lw_V q2676 q2678 qs62 q89 q2679) hm.1 rfl rfl (by decide +kernel) rfl ⟨Nat.le_of_ble_eq_true rfl, Nat.le_of_ble_eq_true rfl⟩ rfl (Nat.le_of_ble_eq_true rfl) ⟨rfl, rfl⟩ ⟨Nat.le_of_ble_eq_true rfl, Nat.le_of_ble_eq_true rfl⟩ dX3_addRecording_3 ?_
  rintro _ M ⟨rfl, rfl⟩
  refine x_istore (lv' := [_, _, _, _, _, _, _, _, _]) hC dX3_addRecording_6 (by decide) rfl ?_
  refine x_iload hC dX3_addRecording_8 rfl ?_
  refine x_if_eqB (tgt := 37) hC dX3_addRecording_10 (by decide) (fun c1 => ?_) (fun c1 => ?_)
  · rw [rc2_no hS.1.1 hS.1.2 c1] at hk
    refine x_iconst (v := 0) hC dX3_addRecording_37 (by decide) ?_
    refine x_istore (lv' := [_, _, _, _, _, _, _, _, _]) hC dX3_addRecording_38 (by decide) rfl ?_
    refine x_aload_n hC dX3_addRecording_40 rfl rfl ?_
    refine x_iload hC dX3_addRecording_41 rfl ?_
    refine x_iload hC dX3_addRecording_43 rfl ?_
    refine x_callV0 (na := 2) hC (ct_good2 hG hm _ False) (lw_V q2540 q2542 qs49 q89 q2543) hm.1 rfl rfl (by decide +kernel) rfl ⟨Nat.le_of_ble_eq_true rfl, Nat.le_of_ble_eq_true rfl⟩ rfl (Nat.le_of_ble_eq_true rfl) ⟨rfl, rfl⟩ ⟨Nat.le_of_ble_eq_true rfl, Nat.le_of_ble_eq_true rfl⟩ dX3_addRecording_45 ?_
    rintro _ M ⟨rfl, hm, hF1⟩
    have hF := hF.tr hF1
    refine x_if_neB (tgt := 53) hC dX3_addRecording_48 (by decide) (fun c => ?_) (fun c => ?_)
    · exact absurd c.1 c1
    · refine x_iconst (v := -1) hC dX3_addRecording_51 (by decide) ?_
      exact x_iret hC hk dX3_addRecording_52 (Nat.le_of_ble_eq_true rfl) (Nat.le_of_ble_eq_true rfl) ⟨_, _, _, rfl, (fun h => absurd h (show ¬ (1 : Int32) = 0 by decide)), hm, hF, hS.k6, upd_s.trans (if_neg c1)⟩
  · obtain ⟨i, r, j, s, hx, rfl, rfl, hw, hv⟩ := rc2_ok hS.1.1 hS.1.2 c1
    have hci : (nI i).toNatClampNeg = i := nI_clamp (by have := hw.c6; omega)
    have h6 := hw.n6
    have hi6 := hw.c6
    have hj6 := hv.c6
    rw [hx] at hk
    dsimp only [Option.elim, putR] at hk
    rw [hci] at hk
    have no : ¬ (rz r = rz s ∧ (-9 ≤ fc ∧ fc ≤ 9)) → Wg G C M 0 0 37 [some (.ref m), some (.int (nI i)), some (.int (nI j)), some (.int fc), some (.int (xB (isR (A 0) (nI i) ∧ isR (A 0) (nI j)))), none, none, none, none] [] := by
      intro c2
      rw [if_neg c2] at hk
      refine x_iconst (v := 0) hC dX3_addRecording_37 (by decide) ?_
      refine x_istore (lv' := [_, _, _, _, _, _, _, _, _]) hC dX3_addRecording_38 (by decide) rfl ?_
      refine x_aload_n hC dX3_addRecording_40 rfl rfl ?_
      refine x_iload hC dX3_addRecording_41 rfl ?_
      refine x_iload hC dX3_addRecording_43 rfl ?_
      refine x_callV0 (na := 2) hC (ct_good2 hG hm _ False) (lw_V q2540 q2542 qs49 q89 q2543) hm.1 rfl rfl (by decide +kernel) rfl ⟨Nat.le_of_ble_eq_true rfl, Nat.le_of_ble_eq_true rfl⟩ rfl (Nat.le_of_ble_eq_true rfl) ⟨rfl, rfl⟩ ⟨Nat.le_of_ble_eq_true rfl, Nat.le_of_ble_eq_true rfl⟩ dX3_addRecording_45 ?_
      rintro _ M ⟨rfl, hm, hF1⟩
      have hF := hF.tr hF1
      refine x_if_neB (tgt := 53) hC dX3_addRecording_48 (by decide) (fun c => ?_) (fun c => ?_)
      · exact absurd c.2 id
      · refine x_iconst (v := -1) hC dX3_addRecording_51 (by decide) ?_
        exact x_iret hC hk dX3_addRecording_52 (Nat.le_of_ble_eq_true rfl) (Nat.le_of_ble_eq_true rfl) ⟨_, _, _, rfl, (fun h => absurd h (show ¬ (2 : Int32) = 0 by decide)), hm, hF, hS.k6, upd_s.trans ((if_pos c1).trans (if_neg id))⟩
    refine x_aload_n hC dX3_addRecording_13 rfl rfl ?_
    refine x_iload_n hC dX3_addRecording_14 rfl rfl ?_
    refine x_iload_n hC dX3_addRecording_15 rfl rfl ?_
    refine x_callV0 (na := 2) hC (ct_alikeR hG hm hw hv) (lw_V q2680 q2682 qs63 q89 q2683) hm.1 rfl rfl (by decide +kernel) rfl ⟨Nat.le_of_ble_eq_true rfl, Nat.le_of_ble_eq_true rfl⟩ rfl (Nat.le_of_ble_eq_true rfl) ⟨rfl, rfl⟩ ⟨Nat.le_of_ble_eq_true rfl, Nat.le_of_ble_eq_true rfl⟩ dX3_addRecording_16 ?_
    rintro _ M ⟨rfl, rfl⟩
    refine x_if_eqB (tgt := 37) hC dX3_addRecording_19 (by decide) (fun c2 => ?_) (fun c2 => ?_)
    · exact no (fun h => c2 h.1)
    · refine x_iload_n hC dX3_addRecording_22 rfl rfl ?_
      refine x_bipush (v := -9) hC dX3_addRecording_23 (by decide) ?_
      refine x_bipush (v := 9) hC dX3_addRecording_25 (by decide) ?_
      refine x_callS0 (na := 3) hC (ct_isIn hG _ _ _ _) (lw_S q2414 q2415 q89 q2416) (by decide +kernel) rfl ⟨Nat.le_of_ble_eq_true rfl, Nat.le_of_ble_eq_true rfl⟩ rfl (Nat.le_of_ble_eq_true rfl) ⟨rfl, rfl⟩ ⟨Nat.le_of_ble_eq_true rfl, Nat.le_of_ble_eq_true rfl⟩ dX3_addRecording_27 ?_
      rintro _ M ⟨rfl, rfl⟩
      refine x_if_eqB (tgt := 37) hC dX3_addRecording_30 (by decide) (fun c3 => ?_) (fun c3 => ?_)
      · exact no (fun h => c3 h.2)
      · rw [if_pos ⟨c2,c3⟩] at hk
        refine x_iconst (v := 1) hC dX3_addRecording_33 (by decide) ?_
        refine x_goto (tgt := 38) hC dX3_addRecording_34 (by decide) ?_
        refine x_istore (lv' := [_, _, _, _, _, _, _, _, _]) hC dX3_addRecording_38 (by decide) rfl ?_
        refine x_aload_n hC dX3_addRecording_40 rfl rfl ?_
        refine x_iload hC dX3_addRecording_41 rfl ?_
        refine x_iload hC dX3_addRecording_43 rfl ?_
        refine x_callV0 (na := 2) hC (ct_good2 hG hm _ True) (lw_V q2540 q2542 qs49 q89 q2543) hm.1 rfl rfl (by decide +kernel) rfl ⟨Nat.le_of_ble_eq_true rfl, Nat.le_of_ble_eq_true rfl⟩ rfl (Nat.le_of_ble_eq_true rfl) ⟨rfl, rfl⟩ ⟨Nat.le_of_ble_eq_true rfl, Nat.le_of_ble_eq_true rfl⟩ dX3_addRecording_45 ?_
        rintro _ M ⟨rfl, hm, hF1⟩
        have hF := hF.tr hF1
        refine x_if_neB (tgt := 53) hC dX3_addRecording_48 (by decide) (fun c => ?_) (fun c => ?_)
        · refine x_aload_n hC dX3_addRecording_53 rfl rfl ?_
          refine x_callV0 (na := 0) hC (ct_rem hG hm hS.k6) (lw_V q2759 q2761 qs74 q89 q2762) hm.1 rfl rfl (by decide +kernel) rfl ⟨Nat.le_of_ble_eq_true rfl, Nat.le_of_ble_eq_true rfl⟩ rfl (Nat.le_of_ble_eq_true rfl) ⟨rfl, rfl⟩ ⟨Nat.le_of_ble_eq_true rfl, Nat.le_of_ble_eq_true rfl⟩ dX3_addRecording_54 ?_
          rintro _ M ⟨rfl, V7, A7, hm, hF1, hS7, h76, h70, -, -⟩
          have hF := hF.tr hF1
          have hw7 : Rw (sR S) (A7 0) i r := by rw [h70]; exact hw
          have hv7 : Rw (sR S) (A7 0) j s := by rw [h70]; exact hv
          have hsame : j = i → s = r := fun e => by
            subst e
            have h1 := hw.2.1
            rw [hv.2.1] at h1
            exact Option.some.inj h1
          refine x_iconst (v := nI 0) hC dX3_addRecording_57 (by decide) ?_
          refine x_istore (lv' := [_, _, _, _, _, _, _, _, _]) hC dX3_addRecording_58 (by decide) rfl ?_
          refine x_iconst (v := nI 0) hC dX3_addRecording_60 (by decide) ?_
          refine x_istore (lv' := [_, _, _, _, _, _, _, _, _]) hC dX3_addRecording_61 (by decide) rfl ?_
          refine x_up (n := rz r) (I := fun k => ∀ M1 f, (∀ q, ¬ (9 + 72 * i ≤ q ∧ q < 73 + 72 * i) → f q = A7 0 q) → (∀ l, l < k → f (9 + 72 * i + l) = clip (rg r l + fc * rg s l)) → (∀ l, k ≤ l → l < rz r → f (9 + 72 * i + l) = rg r l) → Mdl M1 m P V7 (va_up A7 0 f) → Fm M0 M1 → ∀ w8, Wg G C M1 0 0 63 [some (.ref m), some (.int (nI i)), some (.int (nI j)), some (.int fc), some (.int (xB (isR (A 0) (nI i) ∧ isR (A 0) (nI j)))), some (.int (xB True)), some (.int (iS (fun k => xB (¬ rg r k + fc * rg s k = clip (rg r k + fc * rg s k))) k)), some (.int (nI k)), w8] []) (fun k hk2 ih M f hf hlo hhi hm hF w8 => ?_) 0 (Nat.zero_le _) M (A7 0) (fun q hq => rfl) (fun l hl => by omega) (fun l h1 h2 => hw7.hg l h2) (hm.to rfl (by rw [up_id])) hF none
          have hsz : va_up A7 0 f 0 (8 + 72 * i) = nI (rz r) := by rw [va_up_s, hf _ (by omega)]; exact hw7.hn
          refine x_iload hC dX3_addRecording_63 rfl ?_
          refine x_aload_n hC dX3_addRecording_65 rfl rfl ?_
          refine x_iload_n hC dX3_addRecording_66 rfl rfl ?_
          refine x_callV0 (na := 1) hC (ct_size hG hm hi6 hsz) (lw_V q2495 q2497 qs45 q89 q2498) hm.1 rfl rfl (by decide +kernel) rfl ⟨Nat.le_of_ble_eq_true rfl, Nat.le_of_ble_eq_true rfl⟩ rfl (Nat.le_of_ble_eq_true rfl) ⟨rfl, rfl⟩ ⟨Nat.le_of_ble_eq_true rfl, Nat.le_of_ble_eq_true rfl⟩ dX3_addRecording_67 ?_
          rintro _ M ⟨rfl, rfl⟩
          refine x_icmp_geN (tgt := 138) hC (by omega) (by omega) dX3_addRecording_70 (by decide) (fun c4 => ?_) (fun c4 => ?_)
          · have hk3 : k = rz r := by omega
            subst hk3
            refine x_iload hC dX3_addRecording_138 rfl ?_
            exact x_iret hC hk dX3_addRecording_140 (Nat.le_of_ble_eq_true rfl) (Nat.le_of_ble_eq_true rfl) ⟨_, _, _, rfl, (fun _ => rfl), hm, hF, hS7.row hw7 hw.2.2.2.2.2.1 (fun l hl => clip_lim _) (fun q hq => hf q (by omega)) (by rw [← hsz, va_up_s]) (fun l hl => hlo l hl), h76.trans (upd_s.trans ((if_pos c1).trans (if_pos trivial)))⟩
          · have ha : va_up A7 0 f 0 (9 + 72 * i + k) = rg r k := by rw [va_up_s]; exact hhi k (Nat.le_refl k) c4
            have hb : va_up A7 0 f 0 (9 + 72 * j + k) = rg s k := by
              by_cases e : j = i
              · rw [hsame e, e]; exact ha
              · rw [va_up_s, hf _ (by omega)]
                exact hv7.hg k (by omega)
            refine x_aload_n hC dX3_addRecording_73 rfl rfl ?_
            refine x_iload_n hC dX3_addRecording_74 rfl rfl ?_
            refine x_iload hC dX3_addRecording_75 rfl ?_
            refine x_callV0 (na := 2) hC (ct_atV hG hm hi6 (by omega) ha) (lw_V q2515 q2517 qs47 q89 q2518) hm.1 rfl rfl (by decide +kernel) rfl ⟨Nat.le_of_ble_eq_true rfl, Nat.le_of_ble_eq_true rfl⟩ rfl (Nat.le_of_ble_eq_true rfl) ⟨rfl, rfl⟩ ⟨Nat.le_of_ble_eq_true rfl, Nat.le_of_ble_eq_true rfl⟩ dX3_addRecording_77 ?_
            rintro _ M ⟨rfl, rfl⟩
            refine x_iload_n hC dX3_addRecording_80 rfl rfl ?_
            refine x_aload_n hC dX3_addRecording_81 rfl rfl ?_
            refine x_iload_n hC dX3_addRecording_82 rfl rfl ?_
            refine x_iload hC dX3_addRecording_83 rfl ?_
            refine x_callV0 (na := 2) hC (ct_atV hG hm hj6 (by omega) hb) (lw_V q2515 q2517 qs47 q89 q2518) hm.1 rfl rfl (by decide +kernel) rfl ⟨Nat.le_of_ble_eq_true rfl, Nat.le_of_ble_eq_true rfl⟩ rfl (Nat.le_of_ble_eq_true rfl) ⟨rfl, rfl⟩ ⟨Nat.le_of_ble_eq_true rfl, Nat.le_of_ble_eq_true rfl⟩ dX3_addRecording_85 ?_
            rintro _ M ⟨rfl, rfl⟩
            refine x_imul hC dX3_addRecording_88 ?_
            refine x_iadd hC dX3_addRecording_89 ?_
            refine x_istore (lv' := [_, _, _, _, _, _, _, _, _]) hC dX3_addRecording_90 (by decide) rfl ?_
            refine x_iload hC dX3_addRecording_92 rfl ?_
            refine x_iload hC dX3_addRecording_94 rfl ?_
            refine x_iload hC dX3_addRecording_96 rfl ?_
            refine x_callS0 (na := 1) hC (ct_clipped hG _ _) (lw_S q2746 q2747 q89 q2748) (by decide +kernel) rfl ⟨Nat.le_of_ble_eq_true rfl, Nat.le_of_ble_eq_true rfl⟩ rfl (Nat.le_of_ble_eq_true rfl) ⟨rfl, rfl⟩ ⟨Nat.le_of_ble_eq_true rfl, Nat.le_of_ble_eq_true rfl⟩ dX3_addRecording_98 ?_
            rintro _ M ⟨rfl, rfl⟩
            refine x_j2 (fun v => v = xB (¬ rg r k + fc * rg s k = clip (rg r k + fc * rg s k))) 109 (fun hj => ?_) (fun v hv => ?_)
            · refine x_icmp_ne (tgt := 108) hC dX3_addRecording_101 (by decide) (fun c5 => ?_) (fun c5 => ?_)
              · refine x_iconst (v := 1) hC dX3_addRecording_108 (by decide) ?_
                exact hj _ (xB_t c5).symm
              · refine x_iconst (v := 0) hC dX3_addRecording_104 (by decide) ?_
                refine x_goto (tgt := 109) hC dX3_addRecording_105 (by decide) ?_
                exact hj _ (xB_f (Decidable.not_not.mpr c5)).symm
            · subst hv
              refine x_iadd hC dX3_addRecording_109 ?_
              refine x_istore (lv' := [_, _, _, _, _, _, _, _, _]) hC dX3_addRecording_110 (by decide) rfl ?_
              refine x_aload_n hC dX3_addRecording_112 rfl rfl ?_
              refine x_get hC 0 hm.1 rfl (by decide) q2330 rfl rfl dX3_addRecording_113 ?_
              refine x_iload_n hC dX3_addRecording_116 rfl rfl ?_
              refine x_callS0 (na := 1) hC (ct_row hG _ _) (lw_S q2457 q2458 q89 q2459) (by decide +kernel) rfl ⟨Nat.le_of_ble_eq_true rfl, Nat.le_of_ble_eq_true rfl⟩ rfl (Nat.le_of_ble_eq_true rfl) ⟨rfl, rfl⟩ ⟨Nat.le_of_ble_eq_true rfl, Nat.le_of_ble_eq_true rfl⟩ dX3_addRecording_117 ?_
              rintro _ M ⟨rfl, rfl⟩
              refine x_bipush (v := nI 8) hC dX3_addRecording_120 (by decide) ?_
              refine x_iaddN hC dX3_addRecording_122 ?_
              refine x_iload hC dX3_addRecording_123 rfl ?_
              refine x_iaddN hC dX3_addRecording_125 ?_
              refine x_iload hC dX3_addRecording_126 rfl ?_
              refine x_callS0 (na := 1) hC (ct_clipped hG _ _) (lw_S q2746 q2747 q89 q2748) (by decide +kernel) rfl ⟨Nat.le_of_ble_eq_true rfl, Nat.le_of_ble_eq_true rfl⟩ rfl (Nat.le_of_ble_eq_true rfl) ⟨rfl, rfl⟩ ⟨Nat.le_of_ble_eq_true rfl, Nat.le_of_ble_eq_true rfl⟩ dX3_addRecording_128 ?_
              rintro _ M ⟨rfl, rfl⟩
              refine x_miastN hC hm 0 (by decide) (show _ < 433 from (by omega)) (by decide) dX3_addRecording_131 (fun M hm hF1 => ?_)
              have hF := hF.tr hF1
              refine x_iincN (lv' := [_, _, _, _, _, _, _, _, _]) (b := 1) hC dX3_addRecording_132 rfl (by decide) (by decide) rfl ?_
              refine x_goto (tgt := 63) hC dX3_addRecording_135 (by decide) ?_
              rw [up_up] at hm
              refine ih c4 M _ (fun q hq => ?_) (fun l hl => ?_) (fun l h1 h2 => ?_) hm hF _
              · rw [upd_n (by omega), va_up_s]
                exact hf q hq
              · by_cases e : l = k
                · subst e
                  rw [show 9 + 72 * i + l = 1 + 72 * i + 8 + l by omega, upd_s]
                · rw [upd_n (by omega), va_up_s]
                  exact hlo l (by omega)
              · rw [upd_n (by omega), va_up_s]
                exact hhi l (by omega) h2
        · exact absurd ⟨c1, trivial⟩ c
end M23

