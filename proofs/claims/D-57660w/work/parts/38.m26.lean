/-! ===== the reference's edits of the archive: copy, rename ===== -/
theorem nodup_set {l : List (List Nat)} {i : Nat} {a : List Nat} (h : l.Nodup) (ha : a ∉ l) : (l.set i a).Nodup := by
  unfold List.Nodup at *
  rw [List.pairwise_iff_getElem] at *
  intro p q hp hq hpq
  rw [List.length_set] at hp hq
  rw [List.getElem_set, List.getElem_set]
  by_cases h1 : i = p
  · rw [if_pos h1, if_neg (by omega)]
    intro e
    exact ha (by rw [e]; exact List.getElem_mem hq)
  · rw [if_neg h1]
    by_cases h2 : i = q
    · rw [if_pos h2]
      intro e
      exact ha (by rw [← e]; exact List.getElem_mem hp)
    · rw [if_neg h2]
      exact h p q hp hq hpq
section M26
variable {G : X_G} {M : X_M} {m : Nat} {P : Nat → Nat} {V : Nat → Int32} {A : Nat → Nat → Int32} {S : X_S} {R : List Rcd} {i k j : Nat} {r s : Rcd}
theorem ct_copyRecording (hG : GOK G) (hm : Mdl M m P V A) (hS : MRep S V A) (x : Int32) : Ct G yX3_copyRecording cX3_copyRecording 3 (some .int) (xrm 8 0 0) [.ref m, .int x] M (MOi M m P (opCopy S x).2.2 (opCopy S x).1 (opCopy S x).2.1) := by
  refine ct_open (lv := [_, _, _]) hG (by decide +kernel) (Nat.le_of_ble_eq_true rfl) rfl (fun C hC hk => ?_)
  obtain ⟨M0, hM0⟩ : ∃ M0, M0 = M := ⟨M, rfl⟩
  rw [← hM0] at hk
  have hF : Fm M0 M := by rw [hM0]; exact Fr.rf
  unfold opCopy at hk
  have h6 := hS.1.2.1
  refine x_aload_n hC dX3_copyRecording_0 rfl rfl ?_
  refine x_aload_n hC dX3_copyRecording_1 rfl rfl ?_
  refine x_iload_n hC dX3_copyRecording_2 rfl rfl ?_
  refine x_callV0 (na := 1) hC (ct_isRecording hG hm _) (lw_V q2491 q2493 qs44 q89 q2494) hm.1 rfl rfl (by decide +kernel) rfl ⟨Nat.le_of_ble_eq_true rfl, Nat.le_of_ble_eq_true rfl⟩ rfl (Nat.le_of_ble_eq_true rfl) ⟨rfl, rfl⟩ ⟨Nat.le_of_ble_eq_true rfl, Nat.le_of_ble_eq_true rfl⟩ dX3_copyRecording_3 ?_
  rintro _ M ⟨rfl, rfl⟩
  refine x_aload_n hC dX3_copyRecording_6 rfl rfl ?_
  refine x_callV0 (na := 0) hC (ct_newN hG hm hS) (lw_V q2755 q2757 qs73 q89 q2758) hm.1 rfl rfl (by decide +kernel) rfl ⟨Nat.le_of_ble_eq_true rfl, Nat.le_of_ble_eq_true rfl⟩ rfl (Nat.le_of_ble_eq_true rfl) ⟨rfl, rfl⟩ ⟨Nat.le_of_ble_eq_true rfl, Nat.le_of_ble_eq_true rfl⟩ dX3_copyRecording_7 ?_
  rintro _ M ⟨rfl, rfl⟩
  refine x_aload_n hC dX3_copyRecording_10 rfl rfl ?_
  refine x_get hC 0 hm.1 rfl (by decide) q2330 rfl rfl dX3_copyRecording_11 ?_
  refine x_iconst (v := nI 0) hC dX3_copyRecording_14 (by decide) ?_
  refine x_ialdN hC (hm.arr 0 (by decide)) (show _ < 433 from (by omega)) (by decide) dX3_copyRecording_15 ?_
  suffices h : ∀ z, z = nI (sR S).length → Wg G C M 0 0 16 [some (.ref m), some (.int x), none] (.int z :: .int (xB (nwN S)) :: .int (xB (isR (A 0) x)) :: [.ref m]) from h _ hS.1.1.1
  rintro _ rfl
  refine x_bipush (v := nI 6) hC dX3_copyRecording_16 (by decide) ?_
  refine x_j2 (fun v => v = xB ((sR S).length < 6)) 26 (fun hj => ?_) (fun v hv => ?_)
  · refine x_icmp_geN (tgt := 25) hC (by omega) (by omega) dX3_copyRecording_18 (by decide) (fun c2 => ?_) (fun c2 => ?_)
    · refine x_iconst (v := 0) hC dX3_copyRecording_25 (by decide) ?_
      exact hj _ (xB_f (by omega)).symm
    · refine x_iconst (v := 1) hC dX3_copyRecording_21 (by decide) ?_
      refine x_goto (tgt := 26) hC dX3_copyRecording_22 (by decide) ?_
      exact hj _ (xB_t (by omega)).symm
  · subst hv
    refine x_callV0 (na := 3) hC (ct_good3 hG hm _ _ _) (lw_V q2767 q2769 qs75 q89 q2770) hm.1 rfl rfl (by decide +kernel) rfl ⟨Nat.le_of_ble_eq_true rfl, Nat.le_of_ble_eq_true rfl⟩ rfl (Nat.le_of_ble_eq_true rfl) ⟨rfl, rfl⟩ ⟨Nat.le_of_ble_eq_true rfl, Nat.le_of_ble_eq_true rfl⟩ dX3_copyRecording_26 ?_
    rintro _ M ⟨rfl, hm, hF1⟩
    have hF := hF.tr hF1
    by_cases c1 : isR (A 0) x
    · obtain ⟨i, r, hx, rfl, hw⟩ := rc_ok hS.1.1 hS.1.2 c1
      have hi6 := hw.c6
      have hlen := hw.1
      have hn6 := hw.n6
      rw [hx] at hk
      dsimp only [Option.elim] at hk
      by_cases c2 : nwN S
      · rw [if_pos c2] at hk
        by_cases c3 : (sR S).length < 6
        · rw [if_pos c3] at hk
          refine x_if_neB (tgt := 34) hC dX3_copyRecording_29 (by decide) (fun c => ?_) (fun c => ?_)
          · refine x_aload_n hC dX3_copyRecording_34 rfl rfl ?_
            refine x_callV0 (na := 0) hC (ct_rem hG hm hS.k6) (lw_V q2759 q2761 qs74 q89 q2762) hm.1 rfl rfl (by decide +kernel) rfl ⟨Nat.le_of_ble_eq_true rfl, Nat.le_of_ble_eq_true rfl⟩ rfl (Nat.le_of_ble_eq_true rfl) ⟨rfl, rfl⟩ ⟨Nat.le_of_ble_eq_true rfl, Nat.le_of_ble_eq_true rfl⟩ dX3_copyRecording_35 ?_
            rintro _ M ⟨rfl, V7, A7, hm, hF1, hS7, h76, h70, h72, h74⟩
            have hF := hF.tr hF1
            have hB := hS7.2.2.2.1
            have hR7 : RepR (sR S) (A7 0) := hS7.1.1
            have hw7 : Rw (sR S) (A7 0) i r := by rw [h70]; exact hw
            have hl6 := c2.1.1.2
            refine x_aload_n hC dX3_copyRecording_38 rfl rfl ?_
            refine x_iconst (v := 0) hC dX3_copyRecording_39 (by decide) ?_
            refine x_aload_n hC dX3_copyRecording_40 rfl rfl ?_
            refine x_get hC 12 hm.1 rfl (by decide) q2342 rfl rfl dX3_copyRecording_41 ?_
            rw [hB.1]
            refine x_callV0 (na := 2) hC (ct_putName hG hm (fr := 0) (L := (sB S).length) hR7.1 (by omega) hl6 (by omega)) (lw_V q2460 q2462 qs41 q89 q2463) hm.1 rfl rfl (by decide +kernel) rfl ⟨Nat.le_of_ble_eq_true rfl, Nat.le_of_ble_eq_true rfl⟩ rfl (Nat.le_of_ble_eq_true rfl) ⟨rfl, rfl⟩ ⟨Nat.le_of_ble_eq_true rfl, Nat.le_of_ble_eq_true rfl⟩ dX3_copyRecording_44 ?_
            rintro _ M ⟨rfl, hm, hF1⟩
            have hF := hF.tr hF1
            obtain ⟨p1, p2, p3, p4⟩ := pnm_0 (f := A7 0) (b := A7 4) (N := (sR S).length) hl6
            generalize hff : pnm (A7 0) (A7 4) (sR S).length 0 (sB S).length = f0 at *
            refine x_bipush (v := nI 7) hC dX3_copyRecording_47 (by decide) ?_
            refine x_istore_n (lv' := [_, _, _]) hC dX3_copyRecording_49 rfl (by decide) rfl ?_
            have lp := x_up (n := 65) (I := fun k => ∀ M1 f, (∀ q, ¬ (8 + 72 * (sR S).length ≤ q ∧ q < 8 + 72 * (sR S).length + k) → f q = f0 q) → (∀ a, a < k → f (8 + 72 * (sR S).length + a) = A7 0 (8 + 72 * i + a)) → Mdl M1 m P V7 (va_up A7 0 f) → Fm M0 M1 → Wg G C M1 0 0 50 [some (.ref m), some (.int (nI i)), some (.int (nI (7 + k)))] []) (fun k hk2 ih M f hf1 hf2 hm hF => ?_) 0 (Nat.zero_le _) M f0 (fun q hq => rfl) (fun a ha => by omega) hm hF
            · exact lp
            · have hf0 : va_up A7 0 f 0 0 = nI (sR S).length := by rw [va_up_s, hf1 0 (by omega), p1 0 (by omega)]; exact hR7.1
              refine x_iload_n hC dX3_copyRecording_50 rfl rfl ?_
              refine x_bipush (v := nI 72) hC dX3_copyRecording_51 (by decide) ?_
              refine x_icmp_geN (tgt := 89) hC (by omega) (by omega) dX3_copyRecording_53 (by decide) (fun c4 => ?_) (fun c4 => ?_)
              · have hk3 : k = 65 := by omega
                subst hk3
                refine x_aload_n hC dX3_copyRecording_89 rfl rfl ?_
                refine x_get hC 0 hm.1 rfl (by decide) q2330 rfl rfl dX3_copyRecording_90 ?_
                refine x_iconst (v := nI 0) hC dX3_copyRecording_93 (by decide) ?_
                refine x_dup2_11 hC dX3_copyRecording_94 rfl rfl ?_
                refine x_ialdN hC (hm.arr 0 (by decide)) (show _ < 433 from (by omega)) (by decide) dX3_copyRecording_95 ?_
                rw [hf0]
                refine x_iconst (v := nI 1) hC dX3_copyRecording_96 (by decide) ?_
                refine x_iaddN hC dX3_copyRecording_97 ?_
                refine x_miastN hC hm 0 (by decide) (show _ < 433 from (by omega)) (by decide) dX3_copyRecording_98 (fun M hm hF1 => ?_)
                have hF := hF.tr hF1
                rw [up_up, va_up_s] at hm
                refine x_aload_n hC dX3_copyRecording_99 rfl rfl ?_
                refine x_iconst (v := 0) hC dX3_copyRecording_100 (by decide) ?_
                refine x_mput hC hm 12 2 (by decide) q2342 rfl rfl rfl rfl rfl rfl dX3_copyRecording_101 (fun M hm hF1 => ?_)
                have hF := hF.tr hF1
                refine x_aload_n hC dX3_copyRecording_104 rfl rfl ?_
                refine x_get hC 0 hm.1 rfl (by decide) q2330 rfl rfl dX3_copyRecording_105 ?_
                refine x_iconst (v := nI 0) hC dX3_copyRecording_108 (by decide) ?_
                refine x_ialdN hC (hm.arr 0 (by decide)) (show _ < 433 from (by omega)) (by decide) dX3_copyRecording_109 ?_
                rw [show va_up A7 0 (upd f 0 (nI ((sR S).length + 1))) 0 0 = nI ((sR S).length + 1) by rw [va_up_s, upd_s]]
                refine x_iconst (v := nI 1) hC dX3_copyRecording_110 (by decide) ?_
                refine x_isubN hC dX3_copyRecording_111 (by omega) ?_
                have hb7 := bN_of hB.2.2
                refine x_iret hC hk dX3_copyRecording_112 (Nat.le_of_ble_eq_true rfl) (Nat.le_of_ble_eq_true rfl) ⟨_, _, _, rfl, (fun _ => rfl), hm, hF, (hS7.setR (R := sR S ++ [(sB S, r.2)]) (rep_new hR7 hS.1.2 upd_s (fun q q1 q2 => ?_) ?_ (fun q hq => ?_) ?_ (fun q hq => ?_)) (wf_new hS.1.2 (by omega) (wf_nm hS c2 hw.2.2.2.2.2.1 hw.2.2.2.2.2.2) (fnd_none.mp c2.2))).clr, ?_⟩
                · rw [upd_n (by omega), hf1 q (by omega)]; exact p1 q (by omega)
                · rw [upd_n (by omega), hf1 _ (by omega)]; exact p2
                · rw [upd_n (by omega), hf1 _ (by omega), p3 q hq]; exact (hb7 q hq).2
                · rw [upd_n (by omega)]
                  exact (hf2 0 (by omega)).trans hw7.hn
                · rw [upd_n (by omega), show 9 + 72 * (sR S).length + q = 8 + 72 * (sR S).length + (1 + q) by omega, hf2 _ (by have : q < rz r := hq; omega), show 8 + 72 * i + (1 + q) = 9 + 72 * i + q by omega]
                  exact hw7.hg q hq
                · rw [upd_n (by decide)]
                  exact h76.trans (upd_s.trans ((if_pos c1).trans ((if_pos c2).trans (if_pos c3))))
              · refine x_aload_n hC dX3_copyRecording_56 rfl rfl ?_
                refine x_get hC 0 hm.1 rfl (by decide) q2330 rfl rfl dX3_copyRecording_57 ?_
                refine x_aload_n hC dX3_copyRecording_60 rfl rfl ?_
                refine x_get hC 0 hm.1 rfl (by decide) q2330 rfl rfl dX3_copyRecording_61 ?_
                refine x_iconst (v := nI 0) hC dX3_copyRecording_64 (by decide) ?_
                refine x_ialdN hC (hm.arr 0 (by decide)) (show _ < 433 from (by omega)) (by decide) dX3_copyRecording_65 ?_
                rw [hf0]
                refine x_callS0 (na := 1) hC (ct_row hG _ _) (lw_S q2457 q2458 q89 q2459) (by decide +kernel) rfl ⟨Nat.le_of_ble_eq_true rfl, Nat.le_of_ble_eq_true rfl⟩ rfl (Nat.le_of_ble_eq_true rfl) ⟨rfl, rfl⟩ ⟨Nat.le_of_ble_eq_true rfl, Nat.le_of_ble_eq_true rfl⟩ dX3_copyRecording_66 ?_
                rintro _ M ⟨rfl, rfl⟩
                refine x_iload_n hC dX3_copyRecording_69 rfl rfl ?_
                refine x_iaddN hC dX3_copyRecording_70 ?_
                refine x_aload_n hC dX3_copyRecording_71 rfl rfl ?_
                refine x_get hC 0 hm.1 rfl (by decide) q2330 rfl rfl dX3_copyRecording_72 ?_
                refine x_iload_n hC dX3_copyRecording_75 rfl rfl ?_
                refine x_callS0 (na := 1) hC (ct_row hG _ _) (lw_S q2457 q2458 q89 q2459) (by decide +kernel) rfl ⟨Nat.le_of_ble_eq_true rfl, Nat.le_of_ble_eq_true rfl⟩ rfl (Nat.le_of_ble_eq_true rfl) ⟨rfl, rfl⟩ ⟨Nat.le_of_ble_eq_true rfl, Nat.le_of_ble_eq_true rfl⟩ dX3_copyRecording_76 ?_
                rintro _ M ⟨rfl, rfl⟩
                refine x_iload_n hC dX3_copyRecording_79 rfl rfl ?_
                refine x_iaddN hC dX3_copyRecording_80 ?_
                refine x_ialdN hC (hm.arr 0 (by decide)) (show _ < 433 from (by omega)) (by decide) dX3_copyRecording_81 ?_
                rw [show va_up A7 0 f 0 (1 + 72 * i + (7 + k)) = A7 0 (8 + 72 * i + k) by rw [va_up_s, hf1 _ (by omega), p1 _ (by omega)]; congr 1; omega]
                refine x_miastN hC hm 0 (by decide) (show _ < 433 from (by omega)) (by decide) dX3_copyRecording_82 (fun M hm hF1 => ?_)
                have hF := hF.tr hF1
                refine x_iincN (lv' := [_, _, _]) (b := 1) hC dX3_copyRecording_83 rfl (by decide) (by decide) rfl ?_
                refine x_goto (tgt := 50) hC dX3_copyRecording_86 (by decide) ?_
                rw [up_up] at hm
                refine ih (by omega) M _ (fun q hq => ?_) (fun a ha => ?_) hm hF
                · rw [upd_n (by omega), va_up_s]; exact hf1 q (by omega)
                · by_cases e : a = k
                  · subst e
                    rw [show 8 + 72 * (sR S).length + a = 1 + 72 * (sR S).length + (7 + a) by omega, upd_s]
                  · rw [upd_n (by omega), va_up_s]; exact hf2 a (by omega)
          · exact absurd ⟨c1, c2, c3⟩ c
        · rw [if_neg c3] at hk
          refine x_if_neB (tgt := 34) hC dX3_copyRecording_29 (by decide) (fun c => ?_) (fun c => ?_)
          · exact absurd c.2.2 c3
          · refine x_iconst (v := -1) hC dX3_copyRecording_32 (by decide) ?_
            exact x_iret hC hk dX3_copyRecording_33 (Nat.le_of_ble_eq_true rfl) (Nat.le_of_ble_eq_true rfl) ⟨_, _, _, rfl, (fun h => absurd h (show ¬ (3 : Int32) = 0 by decide)), hm, hF, hS.k6, upd_s.trans ((if_pos c1).trans ((if_pos c2).trans (if_neg c3)))⟩
      · rw [if_neg c2] at hk
        refine x_if_neB (tgt := 34) hC dX3_copyRecording_29 (by decide) (fun c => ?_) (fun c => ?_)
        · exact absurd c.2.1 c2
        · refine x_iconst (v := -1) hC dX3_copyRecording_32 (by decide) ?_
          exact x_iret hC hk dX3_copyRecording_33 (Nat.le_of_ble_eq_true rfl) (Nat.le_of_ble_eq_true rfl) ⟨_, _, _, rfl, (fun h => absurd h (show ¬ (2 : Int32) = 0 by decide)), hm, hF, hS.k6, upd_s.trans ((if_pos c1).trans (if_neg c2))⟩
    · rw [rc_no hS.1.1 hS.1.2 c1] at hk
      refine x_if_neB (tgt := 34) hC dX3_copyRecording_29 (by decide) (fun c => ?_) (fun c => ?_)
      · exact absurd c.1 c1
      · refine x_iconst (v := -1) hC dX3_copyRecording_32 (by decide) ?_
        exact x_iret hC hk dX3_copyRecording_33 (Nat.le_of_ble_eq_true rfl) (Nat.le_of_ble_eq_true rfl) ⟨_, _, _, rfl, (fun h => absurd h (show ¬ (1 : Int32) = 0 by decide)), hm, hF, hS.k6, upd_s.trans (if_neg c1)⟩
theorem ct_rename (hG : GOK G) (hm : Mdl M m P V A) (hS : MRep S V A) (x : Int32) : Ct G yX3_rename cX3_rename 4 (some .int) (xrm 8 0 0) [.ref m, .int x] M (MOi M m P (opRename S x).2.2 (opRename S x).1 (opRename S x).2.1) := by
  refine ct_open (lv := [_, _, _, _]) hG (by decide +kernel) (Nat.le_of_ble_eq_true rfl) rfl (fun C hC hk => ?_)
  obtain ⟨M0, hM0⟩ : ∃ M0, M0 = M := ⟨M, rfl⟩
  rw [← hM0] at hk
  have hF : Fm M0 M := by rw [hM0]; exact Fr.rf
  unfold opRename at hk
  refine x_aload_n hC dX3_rename_0 rfl rfl ?_
  refine x_aload_n hC dX3_rename_1 rfl rfl ?_
  refine x_iload_n hC dX3_rename_2 rfl rfl ?_
  refine x_callV0 (na := 1) hC (ct_isRecording hG hm _) (lw_V q2491 q2493 qs44 q89 q2494) hm.1 rfl rfl (by decide +kernel) rfl ⟨Nat.le_of_ble_eq_true rfl, Nat.le_of_ble_eq_true rfl⟩ rfl (Nat.le_of_ble_eq_true rfl) ⟨rfl, rfl⟩ ⟨Nat.le_of_ble_eq_true rfl, Nat.le_of_ble_eq_true rfl⟩ dX3_rename_3 ?_
  rintro _ M ⟨rfl, rfl⟩
  refine x_aload_n hC dX3_rename_6 rfl rfl ?_
  refine x_callV0 (na := 0) hC (ct_newN hG hm hS) (lw_V q2755 q2757 qs73 q89 q2758) hm.1 rfl rfl (by decide +kernel) rfl ⟨Nat.le_of_ble_eq_true rfl, Nat.le_of_ble_eq_true rfl⟩ rfl (Nat.le_of_ble_eq_true rfl) ⟨rfl, rfl⟩ ⟨Nat.le_of_ble_eq_true rfl, Nat.le_of_ble_eq_true rfl⟩ dX3_rename_7 ?_
  rintro _ M ⟨rfl, rfl⟩
  refine x_callV0 (na := 2) hC (ct_good2 hG hm _ _) (lw_V q2540 q2542 qs49 q89 q2543) hm.1 rfl rfl (by decide +kernel) rfl ⟨Nat.le_of_ble_eq_true rfl, Nat.le_of_ble_eq_true rfl⟩ rfl (Nat.le_of_ble_eq_true rfl) ⟨rfl, rfl⟩ ⟨Nat.le_of_ble_eq_true rfl, Nat.le_of_ble_eq_true rfl⟩ dX3_rename_10 ?_
  rintro _ M ⟨rfl, hm, hF1⟩
  have hF := hF.tr hF1
  by_cases c1 : isR (A 0) x
  · obtain ⟨i, r, hx, rfl, hw⟩ := rc_ok hS.1.1 hS.1.2 c1
    have hi6 := hw.c6
    have hlen := hw.1
    have hn6 := hw.n6
    have hci : (nI i).toNatClampNeg = i := nI_clamp (by omega)
    rw [hx] at hk
    dsimp only [Option.elim] at hk
    rw [hci] at hk
    by_cases c2 : nwN S
    · rw [if_pos c2] at hk
      have hl6 := c2.1.1.2
      refine x_if_neB (tgt := 18) hC dX3_rename_13 (by decide) (fun c => ?_) (fun c => ?_)
      · refine x_aload_n hC dX3_rename_18 rfl rfl ?_
        refine x_callV0 (na := 0) hC (ct_rem hG hm hS.k6) (lw_V q2759 q2761 qs74 q89 q2762) hm.1 rfl rfl (by decide +kernel) rfl ⟨Nat.le_of_ble_eq_true rfl, Nat.le_of_ble_eq_true rfl⟩ rfl (Nat.le_of_ble_eq_true rfl) ⟨rfl, rfl⟩ ⟨Nat.le_of_ble_eq_true rfl, Nat.le_of_ble_eq_true rfl⟩ dX3_rename_19 ?_
        rintro _ M ⟨rfl, V7, A7, hm, hF1, hS7, h76, h70, h72, h74⟩
        have hF := hF.tr hF1
        have hB := hS7.2.2.2.1
        have hR7 : RepR (sR S) (A7 0) := hS7.1.1
        have hw7 : Rw (sR S) (A7 0) i r := by rw [h70]; exact hw
        have hb7 := bN_of hB.2.2
        refine x_aload_n hC dX3_rename_22 rfl rfl ?_
        refine x_get hC 12 hm.1 rfl (by decide) q2342 rfl rfl dX3_rename_23 ?_
        rw [hB.1]
        refine x_istore_n (lv' := [_, _, _, _]) hC dX3_rename_26 rfl (by decide) rfl ?_
        refine x_aload_n hC dX3_rename_27 rfl rfl ?_
        refine x_get hC 0 hm.1 rfl (by decide) q2330 rfl rfl dX3_rename_28 ?_
        refine x_iload_n hC dX3_rename_31 rfl rfl ?_
        refine x_callS0 (na := 1) hC (ct_row hG _ _) (lw_S q2457 q2458 q89 q2459) (by decide +kernel) rfl ⟨Nat.le_of_ble_eq_true rfl, Nat.le_of_ble_eq_true rfl⟩ rfl (Nat.le_of_ble_eq_true rfl) ⟨rfl, rfl⟩ ⟨Nat.le_of_ble_eq_true rfl, Nat.le_of_ble_eq_true rfl⟩ dX3_rename_32 ?_
        rintro _ M ⟨rfl, rfl⟩
        refine x_iload_n hC dX3_rename_35 rfl rfl ?_
        refine x_miastN hC hm 0 (by decide) (show _ < 433 from (by omega)) (by decide) dX3_rename_36 (fun M hm hF1 => ?_)
        have hF := hF.tr hF1
        refine x_iconst (v := nI 0) hC dX3_rename_37 (by decide) ?_
        refine x_istore_n (lv' := [_, _, _, _]) hC dX3_rename_38 rfl (by decide) rfl ?_
        refine x_up (n := 6) (I := fun k => ∀ M1 f, (∀ q, ¬ (1 + 72 * i ≤ q ∧ q < 8 + 72 * i) → f q = A7 0 q) → f (1 + 72 * i) = nI (sB S).length → (∀ a, a < k → a < (sB S).length → f (2 + 72 * i + a) = nI ((sB S).getD a 0)) → Mdl M1 m P V7 (va_up A7 0 f) → Fm M0 M1 → Wg G C M1 0 0 39 [some (.ref m), some (.int (nI i)), some (.int (nI (sB S).length)), some (.int (nI k))] []) (fun k hk2 ih M f hf1 hf2 hf3 hm hF => ?_) 0 (Nat.zero_le _) M _ (fun q hq => upd_n (by omega)) upd_s (fun a ha => by omega) hm hF
        refine x_iload_n hC dX3_rename_39 rfl rfl ?_
        refine x_bipush (v := nI 6) hC dX3_rename_40 (by decide) ?_
        refine x_icmp_geN (tgt := 79) hC (by omega) (by omega) dX3_rename_42 (by decide) (fun c4 => ?_) (fun c4 => ?_)
        · have hk3 : k = 6 := by omega
          subst hk3
          refine x_aload_n hC dX3_rename_79 rfl rfl ?_
          refine x_iconst (v := 0) hC dX3_rename_80 (by decide) ?_
          refine x_mput hC hm 12 2 (by decide) q2342 rfl rfl rfl rfl rfl rfl dX3_rename_81 (fun M hm hF1 => ?_)
          have hF := hF.tr hF1
          refine x_iload_n hC dX3_rename_84 rfl rfl ?_
          have hset : RepR ((sR S).set i (sB S, r.2)) f := by
            obtain ⟨p1, p2, p3, p4⟩ := hw7.2.2.1
            refine rep_set hR7 hS.1.2 ⟨hf2, fun q hq => ?_, ?_, fun q hq => ?_⟩ (fun q hq => hf1 q (by omega))
            · have hq : q < (sB S).length := hq
              exact hf3 q (by omega) hq
            · rw [hf1 _ (by omega)]; exact p3
            · have hq : q < rz r := hq
              rw [hf1 _ (by omega)]; exact p4 q hq
          have hwf : WfR ((sR S).set i (sB S, r.2)) := by
            refine ⟨by rw [List.length_set]; exact hlen.2, fun q hq => ?_, ?_⟩
            · rcases List.mem_or_eq_of_mem_set hq with h | h
              · exact hS.1.2.2.1 q h
              · rw [h]; exact wf_nm hS c2 hw.2.2.2.2.2.1 hw.2.2.2.2.2.2
            · rw [List.map_set]
              exact nodup_set hS.1.2.2.2 (fnd_none.mp c2.2)
          exact x_iret hC hk dX3_rename_85 (Nat.le_of_ble_eq_true rfl) (Nat.le_of_ble_eq_true rfl) ⟨_, _, _, rfl, (fun _ => rfl), hm, hF, (hS7.setR (R := (sR S).set i (sB S, r.2)) hset hwf).clr, (upd_n (by decide)).trans (h76.trans (upd_s.trans ((if_pos c1).trans (if_pos c2))))⟩
        · refine x_aload_n hC dX3_rename_45 rfl rfl ?_
          refine x_get hC 0 hm.1 rfl (by decide) q2330 rfl rfl dX3_rename_46 ?_
          refine x_iload_n hC dX3_rename_49 rfl rfl ?_
          refine x_callS0 (na := 1) hC (ct_row hG _ _) (lw_S q2457 q2458 q89 q2459) (by decide +kernel) rfl ⟨Nat.le_of_ble_eq_true rfl, Nat.le_of_ble_eq_true rfl⟩ rfl (Nat.le_of_ble_eq_true rfl) ⟨rfl, rfl⟩ ⟨Nat.le_of_ble_eq_true rfl, Nat.le_of_ble_eq_true rfl⟩ dX3_rename_50 ?_
          rintro _ M ⟨rfl, rfl⟩
          refine x_iconst (v := nI 1) hC dX3_rename_53 (by decide) ?_
          refine x_iaddN hC dX3_rename_54 ?_
          refine x_iload_n hC dX3_rename_55 rfl rfl ?_
          refine x_iaddN hC dX3_rename_56 ?_
          refine x_iload_n hC dX3_rename_57 rfl rfl ?_
          refine x_iload_n hC dX3_rename_58 rfl rfl ?_
          have next : ∀ y, (k < (sB S).length → y = nI ((sB S).getD k 0)) → Wg G C M 0 0 72 [some (.ref m), some (.int (nI i)), some (.int (nI (sB S).length)), some (.int (nI k))] [.int y, .int (nI (1 + 72 * i + 1 + k)), .ref (P 0)] := by
            intro y hy
            refine x_miastN hC hm 0 (by decide) (show _ < 433 from (by omega)) (by decide) dX3_rename_72 (fun M hm hF1 => ?_)
            have hF := hF.tr hF1
            refine x_iincN (lv' := [_, _, _, _]) (b := 1) hC dX3_rename_73 rfl (by decide) (by decide) rfl ?_
            refine x_goto (tgt := 39) hC dX3_rename_76 (by decide) ?_
            rw [up_up] at hm
            refine ih c4 M _ (fun q hq => ?_) ?_ (fun a h1 h2 => ?_) hm hF
            · rw [upd_n (by omega), va_up_s]; exact hf1 q hq
            · rw [upd_n (by omega), va_up_s]; exact hf2
            · by_cases e : a = k
              · subst e
                rw [show 2 + 72 * i + a = 1 + 72 * i + 1 + a by omega, upd_s]
                exact hy h2
              · rw [upd_n (by omega), va_up_s]; exact hf3 a (by omega) h2
          refine x_icmp_geN (tgt := 71) hC (by omega) (by omega) dX3_rename_59 (by decide) (fun c5 => ?_) (fun c5 => ?_)
          · refine x_iconst (v := nI 0) hC dX3_rename_71 (by decide) ?_
            exact next _ (fun h => by omega)
          · refine x_aload_n hC dX3_rename_62 rfl rfl ?_
            refine x_get hC 5 hm.1 rfl (by decide) q2335 rfl rfl dX3_rename_63 ?_
            refine x_iload_n hC dX3_rename_66 rfl rfl ?_
            refine x_ialdN hC (hm.arr 4 (by decide)) (show _ < 900 from (by omega)) (by decide) dX3_rename_67 ?_
            refine x_goto (tgt := 72) hC dX3_rename_68 (by decide) ?_
            exact next _ (fun h => (hb7 k h).2)
      · exact absurd ⟨c1, c2⟩ c
    · rw [if_neg c2] at hk
      refine x_if_neB (tgt := 18) hC dX3_rename_13 (by decide) (fun c => ?_) (fun c => ?_)
      · exact absurd c.2 c2
      · refine x_iconst (v := -1) hC dX3_rename_16 (by decide) ?_
        exact x_iret hC hk dX3_rename_17 (Nat.le_of_ble_eq_true rfl) (Nat.le_of_ble_eq_true rfl) ⟨_, _, _, rfl, (fun h => absurd h (show ¬ (2 : Int32) = 0 by decide)), hm, hF, hS.k6, upd_s.trans ((if_pos c1).trans (if_neg c2))⟩
  · rw [rc_no hS.1.1 hS.1.2 c1] at hk
    refine x_if_neB (tgt := 18) hC dX3_rename_13 (by decide) (fun c => ?_) (fun c => ?_)
    · exact absurd c.1 c1
    · refine x_iconst (v := -1) hC dX3_rename_16 (by decide) ?_
      exact x_iret hC hk dX3_rename_17 (Nat.le_of_ble_eq_true rfl) (Nat.le_of_ble_eq_true rfl) ⟨_, _, _, rfl, (fun h => absurd h (show ¬ (1 : Int32) = 0 by decide)), hm, hF, hS.k6, upd_s.trans (if_neg c1)⟩
end M26

