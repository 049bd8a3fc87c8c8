/-! ===== the reference's edits that double a row ===== -/
section M24
variable {G : X_G} {M : X_M} {m : Nat} {P : Nat → Nat} {V : Nat → Int32} {A : Nat → Nat → Int32} {S : X_S} {R : List Rcd} {i k j : Nat} {r s : Rcd}
theorem ct_appendRecording (hG : GOK G) (hm : Mdl M m P V A) (hS : MRep S V A) (x z : Int32) : Ct G yX3_appendRecording cX3_appendRecording 7 (some .int) (xrm 8 0 0) [.ref m, .int x, .int z] M (MOi M m P (opAppR S x z).2.2 (opAppR S x z).1 (opAppR S x z).2.1) := by
  refine ct_open (lv := [_, _, _, _, _, _, _]) hG (by decide +kernel) (Nat.le_of_ble_eq_true rfl) rfl (fun C hC hk => ?_)
  obtain ⟨M0, hM0⟩ : ∃ M0, M0 = M := ⟨M, rfl⟩
  rw [← hM0] at hk
  have hF : Fm M0 M := by rw [hM0]; exact Fr.rf
  unfold opAppR at hk
  refine x_aload_n hC dX3_appendRecording_0 rfl rfl ?_
  refine x_iload_n hC dX3_appendRecording_1 rfl rfl ?_
  refine x_iload_n hC dX3_appendRecording_2 rfl rfl ?_
  refine x_callV0 (na := 2) hC (ct_areRecordings hG hm _ _) (lw_V q2676 q2678 qs62 q89 q2679) hm.1 rfl rfl (by decide +kernel) rfl ⟨Nat.le_of_ble_eq_true rfl, Nat.le_of_ble_eq_true rfl⟩ rfl (Nat.le_of_ble_eq_true rfl) ⟨rfl, rfl⟩ ⟨Nat.le_of_ble_eq_true rfl, Nat.le_of_ble_eq_true rfl⟩ dX3_appendRecording_3 ?_
  rintro _ M ⟨rfl, rfl⟩
  refine x_istore_n (lv' := [_, _, _, _, _, _, _]) hC dX3_appendRecording_6 rfl (by decide) rfl ?_
  refine x_iload_n hC dX3_appendRecording_7 rfl rfl ?_
  refine x_if_eqB (tgt := 24) hC dX3_appendRecording_8 (by decide) (fun c1 => ?_) (fun c1 => ?_)
  · rw [rc2_no hS.1.1 hS.1.2 c1] at hk
    refine x_iconst (v := 0) hC dX3_appendRecording_24 (by decide) ?_
    refine x_istore (lv' := [_, _, _, _, _, _, _]) hC dX3_appendRecording_25 (by decide) rfl ?_
    refine x_aload_n hC dX3_appendRecording_27 rfl rfl ?_
    refine x_iload_n hC dX3_appendRecording_28 rfl rfl ?_
    refine x_iload hC dX3_appendRecording_29 rfl ?_
    refine x_iload hC dX3_appendRecording_31 rfl ?_
    refine x_if_eq (tgt := 50) hC dX3_appendRecording_33 (by decide) (fun c2 => ?_) (fun c2 => ?_)
    · refine x_iconst (v := 0) hC dX3_appendRecording_50 (by decide) ?_
      refine x_callV0 (na := 3) hC (ct_good3 hG hm _ False False) (lw_V q2767 q2769 qs75 q89 q2770) hm.1 rfl rfl (by decide +kernel) rfl ⟨Nat.le_of_ble_eq_true rfl, Nat.le_of_ble_eq_true rfl⟩ rfl (Nat.le_of_ble_eq_true rfl) ⟨rfl, rfl⟩ ⟨Nat.le_of_ble_eq_true rfl, Nat.le_of_ble_eq_true rfl⟩ dX3_appendRecording_51 ?_
      rintro _ M ⟨rfl, hm, hF1⟩
      have hF := hF.tr hF1
      refine x_if_neB (tgt := 59) hC dX3_appendRecording_54 (by decide) (fun c => ?_) (fun c => ?_)
      · exact absurd c.1 c1
      · refine x_iconst (v := -1) hC dX3_appendRecording_57 (by decide) ?_
        exact x_iret hC hk dX3_appendRecording_58 (Nat.le_of_ble_eq_true rfl) (Nat.le_of_ble_eq_true rfl) ⟨_, _, _, rfl, (fun h => absurd h (show ¬ (1 : Int32) = 0 by decide)), hm, hF, hS.k6, upd_s.trans (if_neg c1)⟩
    · exact absurd rfl c2
  · obtain ⟨i, r, j, s, hx, rfl, rfl, hw, hv⟩ := rc2_ok hS.1.1 hS.1.2 c1
    have hci : (nI i).toNatClampNeg = i := nI_clamp (by have := hw.c6; omega)
    have h6 := hw.n6
    have hi6 := hw.c6
    have hj6 := hv.c6
    rw [hx] at hk
    dsimp only [Option.elim, putR] at hk
    rw [hci] at hk
    refine x_aload_n hC dX3_appendRecording_11 rfl rfl ?_
    refine x_iload_n hC dX3_appendRecording_12 rfl rfl ?_
    refine x_iload_n hC dX3_appendRecording_13 rfl rfl ?_
    refine x_callV0 (na := 2) hC (ct_alikeR hG hm hw hv) (lw_V q2680 q2682 qs63 q89 q2683) hm.1 rfl rfl (by decide +kernel) rfl ⟨Nat.le_of_ble_eq_true rfl, Nat.le_of_ble_eq_true rfl⟩ rfl (Nat.le_of_ble_eq_true rfl) ⟨rfl, rfl⟩ ⟨Nat.le_of_ble_eq_true rfl, Nat.le_of_ble_eq_true rfl⟩ dX3_appendRecording_14 ?_
    rintro _ M ⟨rfl, rfl⟩
    refine x_if_eqB (tgt := 24) hC dX3_appendRecording_17 (by decide) (fun c2 => ?_) (fun c2 => ?_)
    · rw [if_neg c2] at hk
      refine x_iconst (v := 0) hC dX3_appendRecording_24 (by decide) ?_
      refine x_istore (lv' := [_, _, _, _, _, _, _]) hC dX3_appendRecording_25 (by decide) rfl ?_
      refine x_aload_n hC dX3_appendRecording_27 rfl rfl ?_
      refine x_iload_n hC dX3_appendRecording_28 rfl rfl ?_
      refine x_iload hC dX3_appendRecording_29 rfl ?_
      refine x_iload hC dX3_appendRecording_31 rfl ?_
      refine x_if_eq (tgt := 50) hC dX3_appendRecording_33 (by decide) (fun c3 => ?_) (fun c3 => ?_)
      · refine x_iconst (v := 0) hC dX3_appendRecording_50 (by decide) ?_
        refine x_callV0 (na := 3) hC (ct_good3 hG hm _ False False) (lw_V q2767 q2769 qs75 q89 q2770) hm.1 rfl rfl (by decide +kernel) rfl ⟨Nat.le_of_ble_eq_true rfl, Nat.le_of_ble_eq_true rfl⟩ rfl (Nat.le_of_ble_eq_true rfl) ⟨rfl, rfl⟩ ⟨Nat.le_of_ble_eq_true rfl, Nat.le_of_ble_eq_true rfl⟩ dX3_appendRecording_51 ?_
        rintro _ M ⟨rfl, hm, hF1⟩
        have hF := hF.tr hF1
        refine x_if_neB (tgt := 59) hC dX3_appendRecording_54 (by decide) (fun c => ?_) (fun c => ?_)
        · exact absurd c.2.1 id
        · refine x_iconst (v := -1) hC dX3_appendRecording_57 (by decide) ?_
          exact x_iret hC hk dX3_appendRecording_58 (Nat.le_of_ble_eq_true rfl) (Nat.le_of_ble_eq_true rfl) ⟨_, _, _, rfl, (fun h => absurd h (show ¬ (2 : Int32) = 0 by decide)), hm, hF, hS.k6, upd_s.trans ((if_pos c1).trans (if_neg id))⟩
      · exact absurd rfl c3
    · rw [if_pos c2] at hk
      refine x_iconst (v := 1) hC dX3_appendRecording_20 (by decide) ?_
      refine x_goto (tgt := 25) hC dX3_appendRecording_21 (by decide) ?_
      refine x_istore (lv' := [_, _, _, _, _, _, _]) hC dX3_appendRecording_25 (by decide) rfl ?_
      refine x_aload_n hC dX3_appendRecording_27 rfl rfl ?_
      refine x_iload_n hC dX3_appendRecording_28 rfl rfl ?_
      refine x_iload hC dX3_appendRecording_29 rfl ?_
      refine x_iload hC dX3_appendRecording_31 rfl ?_
      refine x_if_eq (tgt := 50) hC dX3_appendRecording_33 (by decide) (fun c3 => ?_) (fun c3 => ?_)
      · exact absurd c3 (by decide)
      · refine x_aload_n hC dX3_appendRecording_36 rfl rfl ?_
        refine x_iload_n hC dX3_appendRecording_37 rfl rfl ?_
        refine x_callV0 (na := 1) hC (ct_sizeR hG hm hw) (lw_V q2495 q2497 qs45 q89 q2498) hm.1 rfl rfl (by decide +kernel) rfl ⟨Nat.le_of_ble_eq_true rfl, Nat.le_of_ble_eq_true rfl⟩ rfl (Nat.le_of_ble_eq_true rfl) ⟨rfl, rfl⟩ ⟨Nat.le_of_ble_eq_true rfl, Nat.le_of_ble_eq_true rfl⟩ dX3_appendRecording_38 ?_
        rintro _ M ⟨rfl, rfl⟩
        refine x_bipush (v := nI 64) hC dX3_appendRecording_41 (by decide) ?_
        refine x_icmp_geN (tgt := 50) hC (by omega) (by omega) dX3_appendRecording_43 (by decide) (fun c4 => ?_) (fun c4 => ?_)
        · rw [if_neg (show ¬ rz r < 64 by omega)] at hk
          refine x_iconst (v := 0) hC dX3_appendRecording_50 (by decide) ?_
          refine x_callV0 (na := 3) hC (ct_good3 hG hm _ True False) (lw_V q2767 q2769 qs75 q89 q2770) hm.1 rfl rfl (by decide +kernel) rfl ⟨Nat.le_of_ble_eq_true rfl, Nat.le_of_ble_eq_true rfl⟩ rfl (Nat.le_of_ble_eq_true rfl) ⟨rfl, rfl⟩ ⟨Nat.le_of_ble_eq_true rfl, Nat.le_of_ble_eq_true rfl⟩ dX3_appendRecording_51 ?_
          rintro _ M ⟨rfl, hm, hF1⟩
          have hF := hF.tr hF1
          refine x_if_neB (tgt := 59) hC dX3_appendRecording_54 (by decide) (fun c => ?_) (fun c => ?_)
          · exact absurd c.2.2 id
          · refine x_iconst (v := -1) hC dX3_appendRecording_57 (by decide) ?_
            exact x_iret hC hk dX3_appendRecording_58 (Nat.le_of_ble_eq_true rfl) (Nat.le_of_ble_eq_true rfl) ⟨_, _, _, rfl, (fun h => absurd h (show ¬ (3 : Int32) = 0 by decide)), hm, hF, hS.k6, upd_s.trans ((if_pos c1).trans ((if_pos trivial).trans (if_neg id)))⟩
        · have h64 := hw.d64 c4
          rw [if_pos c4] at hk
          refine x_iconst (v := 1) hC dX3_appendRecording_46 (by decide) ?_
          refine x_goto (tgt := 51) hC dX3_appendRecording_47 (by decide) ?_
          refine x_callV0 (na := 3) hC (ct_good3 hG hm _ True True) (lw_V q2767 q2769 qs75 q89 q2770) hm.1 rfl rfl (by decide +kernel) rfl ⟨Nat.le_of_ble_eq_true rfl, Nat.le_of_ble_eq_true rfl⟩ rfl (Nat.le_of_ble_eq_true rfl) ⟨rfl, rfl⟩ ⟨Nat.le_of_ble_eq_true rfl, Nat.le_of_ble_eq_true rfl⟩ dX3_appendRecording_51 ?_
          rintro _ M ⟨rfl, hm, hF1⟩
          have hF := hF.tr hF1
          refine x_if_neB (tgt := 59) hC dX3_appendRecording_54 (by decide) (fun c => ?_) (fun c => ?_)
          · refine x_aload_n hC dX3_appendRecording_59 rfl rfl ?_
            refine x_callV0 (na := 0) hC (ct_rem hG hm hS.k6) (lw_V q2759 q2761 qs74 q89 q2762) hm.1 rfl rfl (by decide +kernel) rfl ⟨Nat.le_of_ble_eq_true rfl, Nat.le_of_ble_eq_true rfl⟩ rfl (Nat.le_of_ble_eq_true rfl) ⟨rfl, rfl⟩ ⟨Nat.le_of_ble_eq_true rfl, Nat.le_of_ble_eq_true rfl⟩ dX3_appendRecording_60 ?_
            rintro _ M ⟨rfl, V7, A7, hm, hF1, hS7, h76, h70, -, -⟩
            have hF := hF.tr hF1
            have hw7 : Rw (sR S) (A7 0) i r := by rw [h70]; exact hw
            have hv7 : Rw (sR S) (A7 0) j s := by rw [h70]; exact hv
            have hsame : j = i → s = r := fun e => by
              subst e
              have h1 := hw.2.1
              rw [hv.2.1] at h1
              exact Option.some.inj h1
            refine x_aload_n hC dX3_appendRecording_63 rfl rfl ?_
            refine x_iload_n hC dX3_appendRecording_64 rfl rfl ?_
            refine x_callV0 (na := 1) hC (ct_sizeR hG hm hw7) (lw_V q2495 q2497 qs45 q89 q2498) hm.1 rfl rfl (by decide +kernel) rfl ⟨Nat.le_of_ble_eq_true rfl, Nat.le_of_ble_eq_true rfl⟩ rfl (Nat.le_of_ble_eq_true rfl) ⟨rfl, rfl⟩ ⟨Nat.le_of_ble_eq_true rfl, Nat.le_of_ble_eq_true rfl⟩ dX3_appendRecording_65 ?_
            rintro _ M ⟨rfl, rfl⟩
            refine x_istore (lv' := [_, _, _, _, _, _, _]) hC dX3_appendRecording_68 (by decide) rfl ?_
            refine x_iconst (v := nI 0) hC dX3_appendRecording_70 (by decide) ?_
            refine x_istore (lv' := [_, _, _, _, _, _, _]) hC dX3_appendRecording_71 (by decide) rfl ?_
            refine x_up (n := rz r) (I := fun k => ∀ M1 f, (∀ q, ¬ (9 + 72 * i ≤ q ∧ q < 73 + 72 * i) → f q = A7 0 q) → (∀ l, l < rz r → f (9 + 72 * i + l) = rg r l) → (∀ l, l < k → f (9 + 72 * i + rz r + l) = rg s l) → Mdl M1 m P V7 (va_up A7 0 f) → Fm M0 M1 → Wg G C M1 0 0 73 [some (.ref m), some (.int (nI i)), some (.int (nI j)), some (.int (xB (isR (A 0) (nI i) ∧ isR (A 0) (nI j)))), some (.int 1), some (.int (nI (rz r))), some (.int (nI k))] []) (fun k hk2 ih M f hf hlo hhi hm hF => ?_) 0 (Nat.zero_le _) M (A7 0) (fun q hq => rfl) (fun l hl => hw7.hg l hl) (fun l hl => by omega) (hm.to rfl (by rw [up_id])) hF
            refine x_iload hC dX3_appendRecording_73 rfl ?_
            refine x_iload hC dX3_appendRecording_75 rfl ?_
            refine x_icmp_geN (tgt := 111) hC (by omega) (by omega) dX3_appendRecording_77 (by decide) (fun c5 => ?_) (fun c5 => ?_)
            · have hk3 : k = rz r := by omega
              subst hk3
              refine x_aload_n hC dX3_appendRecording_111 rfl rfl ?_
              refine x_get hC 0 hm.1 rfl (by decide) q2330 rfl rfl dX3_appendRecording_112 ?_
              refine x_iload_n hC dX3_appendRecording_115 rfl rfl ?_
              refine x_callS0 (na := 1) hC (ct_row hG _ _) (lw_S q2457 q2458 q89 q2459) (by decide +kernel) rfl ⟨Nat.le_of_ble_eq_true rfl, Nat.le_of_ble_eq_true rfl⟩ rfl (Nat.le_of_ble_eq_true rfl) ⟨rfl, rfl⟩ ⟨Nat.le_of_ble_eq_true rfl, Nat.le_of_ble_eq_true rfl⟩ dX3_appendRecording_116 ?_
              rintro _ M ⟨rfl, rfl⟩
              refine x_bipush (v := nI 7) hC dX3_appendRecording_119 (by decide) ?_
              refine x_iaddN hC dX3_appendRecording_121 ?_
              refine x_iconst (v := nI 2) hC dX3_appendRecording_122 (by decide) ?_
              refine x_iload hC dX3_appendRecording_123 rfl ?_
              refine x_imulN hC dX3_appendRecording_125 ?_
              refine x_miastN hC hm 0 (by decide) (show _ < 433 from (by omega)) (by decide) dX3_appendRecording_126 (fun M hm hF1 => ?_)
              have hF := hF.tr hF1
              refine x_iconst (v := nI 2) hC dX3_appendRecording_127 (by decide) ?_
              refine x_iload hC dX3_appendRecording_128 rfl ?_
              refine x_imulN hC dX3_appendRecording_130 ?_
              rw [up_up] at hm
              refine x_iret hC hk dX3_appendRecording_131 (Nat.le_of_ble_eq_true rfl) (Nat.le_of_ble_eq_true rfl) ⟨_, _, _, rfl, (fun _ => rfl), hm, hF, hS7.row hw7 (hw.dbl c4) (fun l hl => ?_) (fun q hq => ?_) ?_ (fun l hl2 => ?_), h76.trans (upd_s.trans ((if_pos c1).trans ((if_pos trivial).trans (if_pos trivial))))⟩
              · split
                · exact hw.lim (by omega)
                · exact hv.lim (by omega)
              · rw [upd_n (by omega), va_up_s]; exact hf q (by omega)
              · rw [show 8 + 72 * i = 1 + 72 * i + 7 by omega, upd_s]
              · rw [upd_n (by omega), va_up_s]
                split
                next h9 => exact hlo l h9
                next h9 =>
                  rw [← hhi (l - rz r) (by omega)]
                  congr 1
                  omega
            · have hb : va_up A7 0 f 0 (9 + 72 * j + k) = rg s k := by
                by_cases e : j = i
                · rw [hsame e, e, va_up_s]; exact hlo k c5
                · rw [va_up_s, hf _ (by omega)]
                  exact hv7.hg k (by omega)
              refine x_aload_n hC dX3_appendRecording_80 rfl rfl ?_
              refine x_get hC 0 hm.1 rfl (by decide) q2330 rfl rfl dX3_appendRecording_81 ?_
              refine x_iload_n hC dX3_appendRecording_84 rfl rfl ?_
              refine x_callS0 (na := 1) hC (ct_row hG _ _) (lw_S q2457 q2458 q89 q2459) (by decide +kernel) rfl ⟨Nat.le_of_ble_eq_true rfl, Nat.le_of_ble_eq_true rfl⟩ rfl (Nat.le_of_ble_eq_true rfl) ⟨rfl, rfl⟩ ⟨Nat.le_of_ble_eq_true rfl, Nat.le_of_ble_eq_true rfl⟩ dX3_appendRecording_85 ?_
              rintro _ M ⟨rfl, rfl⟩
              refine x_bipush (v := nI 8) hC dX3_appendRecording_88 (by decide) ?_
              refine x_iaddN hC dX3_appendRecording_90 ?_
              refine x_iload hC dX3_appendRecording_91 rfl ?_
              refine x_iaddN hC dX3_appendRecording_93 ?_
              refine x_iload hC dX3_appendRecording_94 rfl ?_
              refine x_iaddN hC dX3_appendRecording_96 ?_
              refine x_aload_n hC dX3_appendRecording_97 rfl rfl ?_
              refine x_iload_n hC dX3_appendRecording_98 rfl rfl ?_
              refine x_iload hC dX3_appendRecording_99 rfl ?_
              refine x_callV0 (na := 2) hC (ct_atV hG hm hj6 (by omega) hb) (lw_V q2515 q2517 qs47 q89 q2518) hm.1 rfl rfl (by decide +kernel) rfl ⟨Nat.le_of_ble_eq_true rfl, Nat.le_of_ble_eq_true rfl⟩ rfl (Nat.le_of_ble_eq_true rfl) ⟨rfl, rfl⟩ ⟨Nat.le_of_ble_eq_true rfl, Nat.le_of_ble_eq_true rfl⟩ dX3_appendRecording_101 ?_
              rintro _ M ⟨rfl, rfl⟩
              refine x_miastN hC hm 0 (by decide) (show _ < 433 from (by omega)) (by decide) dX3_appendRecording_104 (fun M hm hF1 => ?_)
              have hF := hF.tr hF1
              refine x_iincN (lv' := [_, _, _, _, _, _, _]) (b := 1) hC dX3_appendRecording_105 rfl (by decide) (by decide) rfl ?_
              refine x_goto (tgt := 73) hC dX3_appendRecording_108 (by decide) ?_
              rw [up_up] at hm
              refine ih c5 M _ (fun q hq => ?_) (fun l hl => ?_) (fun l hl => ?_) hm hF
              · rw [upd_n (by omega), va_up_s]
                exact hf q hq
              · rw [upd_n (by omega), va_up_s]
                exact hlo l hl
              · by_cases e : l = k
                · subst e
                  rw [show 9 + 72 * i + rz r + l = 1 + 72 * i + 8 + rz r + l by omega, upd_s]
                · rw [upd_n (by omega), va_up_s]
                  exact hhi l (by omega)
          · exact absurd ⟨c1, trivial, trivial⟩ c
theorem ct_interleave (hG : GOK G) (hm : Mdl M m P V A) (hS : MRep S V A) (x z : Int32) : Ct G yX3_interleave cX3_interleave 9 (some .int) (xrm 8 0 0) [.ref m, .int x, .int z] M (MOi M m P (opInter S x z).2.2 (opInter S x z).1 (opInter S x z).2.1) := by
  refine ct_open (lv := [_, _, _, _, _, _, _, _, _]) hG (by decide +kernel) (Nat.le_of_ble_eq_true rfl) rfl (fun C hC hk => ?_)
  obtain ⟨M0, hM0⟩ : ∃ M0, M0 = M := ⟨M, rfl⟩
  rw [← hM0] at hk
  have hF : Fm M0 M := by rw [hM0]; exact Fr.rf
  unfold opInter at hk
  refine x_aload_n hC dX3_interleave_0 rfl rfl ?_
  refine x_iload_n hC dX3_interleave_1 rfl rfl ?_
  refine x_iload_n hC dX3_interleave_2 rfl rfl ?_
  refine x_callV0 (na := 2) hC (ct_areRecordings hG hm _ _) (lw_V q2676 q2678 qs62 q89 q2679) hm.1 rfl rfl (by decide +kernel) rfl ⟨Nat.le_of_ble_eq_true rfl, Nat.le_of_ble_eq_true rfl⟩ rfl (Nat.le_of_ble_eq_true rfl) ⟨rfl, rfl⟩ ⟨Nat.le_of_ble_eq_true rfl, Nat.le_of_ble_eq_true rfl⟩ dX3_interleave_3 ?_
  rintro _ M ⟨rfl, rfl⟩
  refine x_istore_n (lv' := [_, _, _, _, _, _, _, _, _]) hC dX3_interleave_6 rfl (by decide) rfl ?_
  refine x_iload_n hC dX3_interleave_7 rfl rfl ?_
  refine x_if_eqB (tgt := 24) hC dX3_interleave_8 (by decide) (fun c1 => ?_) (fun c1 => ?_)
  · rw [rc2_no hS.1.1 hS.1.2 c1] at hk
    refine x_iconst (v := 0) hC dX3_interleave_24 (by decide) ?_
    refine x_istore (lv' := [_, _, _, _, _, _, _, _, _]) hC dX3_interleave_25 (by decide) rfl ?_
    refine x_aload_n hC dX3_interleave_27 rfl rfl ?_
    refine x_iload_n hC dX3_interleave_28 rfl rfl ?_
    refine x_iload hC dX3_interleave_29 rfl ?_
    refine x_iload hC dX3_interleave_31 rfl ?_
    refine x_if_eq (tgt := 50) hC dX3_interleave_33 (by decide) (fun c2 => ?_) (fun c2 => ?_)
    · refine x_iconst (v := 0) hC dX3_interleave_50 (by decide) ?_
      refine x_callV0 (na := 3) hC (ct_good3 hG hm _ False False) (lw_V q2767 q2769 qs75 q89 q2770) hm.1 rfl rfl (by decide +kernel) rfl ⟨Nat.le_of_ble_eq_true rfl, Nat.le_of_ble_eq_true rfl⟩ rfl (Nat.le_of_ble_eq_true rfl) ⟨rfl, rfl⟩ ⟨Nat.le_of_ble_eq_true rfl, Nat.le_of_ble_eq_true rfl⟩ dX3_interleave_51 ?_
      rintro _ M ⟨rfl, hm, hF1⟩
      have hF := hF.tr hF1
      refine x_if_neB (tgt := 59) hC dX3_interleave_54 (by decide) (fun c => ?_) (fun c => ?_)
      · exact absurd c.1 c1
      · refine x_iconst (v := -1) hC dX3_interleave_57 (by decide) ?_
        exact x_iret hC hk dX3_interleave_58 (Nat.le_of_ble_eq_true rfl) (Nat.le_of_ble_eq_true rfl) ⟨_, _, _, rfl, (fun h => absurd h (show ¬ (1 : Int32) = 0 by decide)), hm, hF, hS.k6, upd_s.trans (if_neg c1)⟩
    · exact absurd rfl c2
  · obtain ⟨i, r, j, s, hx, rfl, rfl, hw, hv⟩ := rc2_ok hS.1.1 hS.1.2 c1
    have hci : (nI i).toNatClampNeg = i := nI_clamp (by have := hw.c6; omega)
    have h6 := hw.n6
    have h2 := hw.n2
    have hi6 := hw.c6
    have hj6 := hv.c6
    rw [hx] at hk
    dsimp only [Option.elim, putR] at hk
    rw [hci] at hk
    refine x_aload_n hC dX3_interleave_11 rfl rfl ?_
    refine x_iload_n hC dX3_interleave_12 rfl rfl ?_
    refine x_iload_n hC dX3_interleave_13 rfl rfl ?_
    refine x_callV0 (na := 2) hC (ct_alikeR hG hm hw hv) (lw_V q2680 q2682 qs63 q89 q2683) hm.1 rfl rfl (by decide +kernel) rfl ⟨Nat.le_of_ble_eq_true rfl, Nat.le_of_ble_eq_true rfl⟩ rfl (Nat.le_of_ble_eq_true rfl) ⟨rfl, rfl⟩ ⟨Nat.le_of_ble_eq_true rfl, Nat.le_of_ble_eq_true rfl⟩ dX3_interleave_14 ?_
    rintro _ M ⟨rfl, rfl⟩
    refine x_if_eqB (tgt := 24) hC dX3_interleave_17 (by decide) (fun c2 => ?_) (fun c2 => ?_)
    · rw [if_neg c2] at hk
      refine x_iconst (v := 0) hC dX3_interleave_24 (by decide) ?_
      refine x_istore (lv' := [_, _, _, _, _, _, _, _, _]) hC dX3_interleave_25 (by decide) rfl ?_
      refine x_aload_n hC dX3_interleave_27 rfl rfl ?_
      refine x_iload_n hC dX3_interleave_28 rfl rfl ?_
      refine x_iload hC dX3_interleave_29 rfl ?_
      refine x_iload hC dX3_interleave_31 rfl ?_
      refine x_if_eq (tgt := 50) hC dX3_interleave_33 (by decide) (fun c3 => ?_) (fun c3 => ?_)
      · refine x_iconst (v := 0) hC dX3_interleave_50 (by decide) ?_
        refine x_callV0 (na := 3) hC (ct_good3 hG hm _ False False) (lw_V q2767 q2769 qs75 q89 q2770) hm.1 rfl rfl (by decide +kernel) rfl ⟨Nat.le_of_ble_eq_true rfl, Nat.le_of_ble_eq_true rfl⟩ rfl (Nat.le_of_ble_eq_true rfl) ⟨rfl, rfl⟩ ⟨Nat.le_of_ble_eq_true rfl, Nat.le_of_ble_eq_true rfl⟩ dX3_interleave_51 ?_
        rintro _ M ⟨rfl, hm, hF1⟩
        have hF := hF.tr hF1
        refine x_if_neB (tgt := 59) hC dX3_interleave_54 (by decide) (fun c => ?_) (fun c => ?_)
        · exact absurd c.2.1 id
        · refine x_iconst (v := -1) hC dX3_interleave_57 (by decide) ?_
          exact x_iret hC hk dX3_interleave_58 (Nat.le_of_ble_eq_true rfl) (Nat.le_of_ble_eq_true rfl) ⟨_, _, _, rfl, (fun h => absurd h (show ¬ (2 : Int32) = 0 by decide)), hm, hF, hS.k6, upd_s.trans ((if_pos c1).trans (if_neg id))⟩
      · exact absurd rfl c3
    · rw [if_pos c2] at hk
      refine x_iconst (v := 1) hC dX3_interleave_20 (by decide) ?_
      refine x_goto (tgt := 25) hC dX3_interleave_21 (by decide) ?_
      refine x_istore (lv' := [_, _, _, _, _, _, _, _, _]) hC dX3_interleave_25 (by decide) rfl ?_
      refine x_aload_n hC dX3_interleave_27 rfl rfl ?_
      refine x_iload_n hC dX3_interleave_28 rfl rfl ?_
      refine x_iload hC dX3_interleave_29 rfl ?_
      refine x_iload hC dX3_interleave_31 rfl ?_
      refine x_if_eq (tgt := 50) hC dX3_interleave_33 (by decide) (fun c3 => ?_) (fun c3 => ?_)
      · exact absurd c3 (by decide)
      · refine x_aload_n hC dX3_interleave_36 rfl rfl ?_
        refine x_iload_n hC dX3_interleave_37 rfl rfl ?_
        refine x_callV0 (na := 1) hC (ct_sizeR hG hm hw) (lw_V q2495 q2497 qs45 q89 q2498) hm.1 rfl rfl (by decide +kernel) rfl ⟨Nat.le_of_ble_eq_true rfl, Nat.le_of_ble_eq_true rfl⟩ rfl (Nat.le_of_ble_eq_true rfl) ⟨rfl, rfl⟩ ⟨Nat.le_of_ble_eq_true rfl, Nat.le_of_ble_eq_true rfl⟩ dX3_interleave_38 ?_
        rintro _ M ⟨rfl, rfl⟩
        refine x_bipush (v := nI 64) hC dX3_interleave_41 (by decide) ?_
        refine x_icmp_geN (tgt := 50) hC (by omega) (by omega) dX3_interleave_43 (by decide) (fun c4 => ?_) (fun c4 => ?_)
        · rw [if_neg (show ¬ rz r < 64 by omega)] at hk
          refine x_iconst (v := 0) hC dX3_interleave_50 (by decide) ?_
          refine x_callV0 (na := 3) hC (ct_good3 hG hm _ True False) (lw_V q2767 q2769 qs75 q89 q2770) hm.1 rfl rfl (by decide +kernel) rfl ⟨Nat.le_of_ble_eq_true rfl, Nat.le_of_ble_eq_true rfl⟩ rfl (Nat.le_of_ble_eq_true rfl) ⟨rfl, rfl⟩ ⟨Nat.le_of_ble_eq_true rfl, Nat.le_of_ble_eq_true rfl⟩ dX3_interleave_51 ?_
          rintro _ M ⟨rfl, hm, hF1⟩
          have hF := hF.tr hF1
          refine x_if_neB (tgt := 59) hC dX3_interleave_54 (by decide) (fun c => ?_) (fun c => ?_)
          · exact absurd c.2.2 id
          · refine x_iconst (v := -1) hC dX3_interleave_57 (by decide) ?_
            exact x_iret hC hk dX3_interleave_58 (Nat.le_of_ble_eq_true rfl) (Nat.le_of_ble_eq_true rfl) ⟨_, _, _, rfl, (fun h => absurd h (show ¬ (3 : Int32) = 0 by decide)), hm, hF, hS.k6, upd_s.trans ((if_pos c1).trans ((if_pos trivial).trans (if_neg id)))⟩
        · have h64 := hw.d64 c4
          rw [if_pos c4] at hk
          refine x_iconst (v := 1) hC dX3_interleave_46 (by decide) ?_
          refine x_goto (tgt := 51) hC dX3_interleave_47 (by decide) ?_
          refine x_callV0 (na := 3) hC (ct_good3 hG hm _ True True) (lw_V q2767 q2769 qs75 q89 q2770) hm.1 rfl rfl (by decide +kernel) rfl ⟨Nat.le_of_ble_eq_true rfl, Nat.le_of_ble_eq_true rfl⟩ rfl (Nat.le_of_ble_eq_true rfl) ⟨rfl, rfl⟩ ⟨Nat.le_of_ble_eq_true rfl, Nat.le_of_ble_eq_true rfl⟩ dX3_interleave_51 ?_
          rintro _ M ⟨rfl, hm, hF1⟩
          have hF := hF.tr hF1
          refine x_if_neB (tgt := 59) hC dX3_interleave_54 (by decide) (fun c => ?_) (fun c => ?_)
          · refine x_aload_n hC dX3_interleave_59 rfl rfl ?_
            refine x_callV0 (na := 0) hC (ct_rem hG hm hS.k6) (lw_V q2759 q2761 qs74 q89 q2762) hm.1 rfl rfl (by decide +kernel) rfl ⟨Nat.le_of_ble_eq_true rfl, Nat.le_of_ble_eq_true rfl⟩ rfl (Nat.le_of_ble_eq_true rfl) ⟨rfl, rfl⟩ ⟨Nat.le_of_ble_eq_true rfl, Nat.le_of_ble_eq_true rfl⟩ dX3_interleave_60 ?_
            rintro _ M ⟨rfl, V7, A7, hm, hF1, hS7, h76, h70, -, -⟩
            have hF := hF.tr hF1
            have hw7 : Rw (sR S) (A7 0) i r := by rw [h70]; exact hw
            have hv7 : Rw (sR S) (A7 0) j s := by rw [h70]; exact hv
            have hsame : j = i → s = r := fun e => by
              subst e
              have h1 := hw.2.1
              rw [hv.2.1] at h1
              exact Option.some.inj h1
            refine x_aload_n hC dX3_interleave_63 rfl rfl ?_
            refine x_iload_n hC dX3_interleave_64 rfl rfl ?_
            refine x_callV0 (na := 1) hC (ct_sizeR hG hm hw7) (lw_V q2495 q2497 qs45 q89 q2498) hm.1 rfl rfl (by decide +kernel) rfl ⟨Nat.le_of_ble_eq_true rfl, Nat.le_of_ble_eq_true rfl⟩ rfl (Nat.le_of_ble_eq_true rfl) ⟨rfl, rfl⟩ ⟨Nat.le_of_ble_eq_true rfl, Nat.le_of_ble_eq_true rfl⟩ dX3_interleave_65 ?_
            rintro _ M ⟨rfl, rfl⟩
            refine x_istore (lv' := [_, _, _, _, _, _, _, _, _]) hC dX3_interleave_68 (by decide) rfl ?_
            refine x_iload hC dX3_interleave_70 rfl ?_
            refine x_iconst (v := nI 1) hC dX3_interleave_72 (by decide) ?_
            refine x_isubN hC dX3_interleave_73 (by omega) ?_
            refine x_istore (lv' := [_, _, _, _, _, _, _, _, _]) hC dX3_interleave_74 (by decide) rfl ?_
            have fin : ∀ M1 f, (∀ q, ¬ (9 + 72 * i ≤ q ∧ q < 73 + 72 * i) → f q = A7 0 q) → (∀ l, l < rz r → f (9 + 72 * i + 2 * l) = rg r l ∧ f (9 + 72 * i + 2 * l + 1) = rg s l) → Mdl M1 m P V7 (va_up A7 0 f) → Fm M0 M1 → ∀ w6 w7 w8, Wg G C M1 0 0 145 [some (.ref m), some (.int (nI i)), some (.int (nI j)), some (.int (xB (isR (A 0) (nI i) ∧ isR (A 0) (nI j)))), some (.int 1), some (.int (nI (rz r))), w6, w7, w8] [] := by
              intro M f hf hl hm hF w6 w7 w8
              refine x_aload_n hC dX3_interleave_145 rfl rfl ?_
              refine x_get hC 0 hm.1 rfl (by decide) q2330 rfl rfl dX3_interleave_146 ?_
              refine x_iload_n hC dX3_interleave_149 rfl rfl ?_
              refine x_callS0 (na := 1) hC (ct_row hG _ _) (lw_S q2457 q2458 q89 q2459) (by decide +kernel) rfl ⟨Nat.le_of_ble_eq_true rfl, Nat.le_of_ble_eq_true rfl⟩ rfl (Nat.le_of_ble_eq_true rfl) ⟨rfl, rfl⟩ ⟨Nat.le_of_ble_eq_true rfl, Nat.le_of_ble_eq_true rfl⟩ dX3_interleave_150 ?_
              rintro _ M ⟨rfl, rfl⟩
              refine x_bipush (v := nI 7) hC dX3_interleave_153 (by decide) ?_
              refine x_iaddN hC dX3_interleave_155 ?_
              refine x_iconst (v := nI 2) hC dX3_interleave_156 (by decide) ?_
              refine x_iload hC dX3_interleave_157 rfl ?_
              refine x_imulN hC dX3_interleave_159 ?_
              refine x_miastN hC hm 0 (by decide) (show _ < 433 from (by omega)) (by decide) dX3_interleave_160 (fun M hm hF1 => ?_)
              have hF := hF.tr hF1
              refine x_iconst (v := nI 2) hC dX3_interleave_161 (by decide) ?_
              refine x_iload hC dX3_interleave_162 rfl ?_
              refine x_imulN hC dX3_interleave_164 ?_
              rw [up_up] at hm
              refine x_iret hC hk dX3_interleave_165 (Nat.le_of_ble_eq_true rfl) (Nat.le_of_ble_eq_true rfl) ⟨_, _, _, rfl, (fun _ => rfl), hm, hF, hS7.row hw7 (hw.dbl c4) (fun l hl => ?_) (fun q hq => ?_) ?_ (fun l hl2 => ?_), h76.trans (upd_s.trans ((if_pos c1).trans ((if_pos trivial).trans (if_pos trivial))))⟩
              · split
                · exact hw.lim (by omega)
                · exact hv.lim (by omega)
              · rw [upd_n (by omega), va_up_s]; exact hf q (by omega)
              · rw [show 8 + 72 * i = 1 + 72 * i + 7 by omega, upd_s]
              · rw [upd_n (by omega), va_up_s]
                rcases Nat.mod_two_eq_zero_or_one l with h9 | h9
                · rw [if_pos h9]
                  have := (hl (l / 2) (by omega)).1
                  rwa [show 9 + 72 * i + 2 * (l / 2) = 9 + 72 * i + l by omega] at this
                · rw [if_neg (by omega)]
                  have := (hl (l / 2) (by omega)).2
                  rwa [show 9 + 72 * i + 2 * (l / 2) + 1 = 9 + 72 * i + l by omega] at this
            have step : ∀ d, d < rz r → ∀ M1 f, (∀ q, ¬ (9 + 72 * i ≤ q ∧ q < 73 + 72 * i) → f q = A7 0 q) → (∀ l, l ≤ d → f (9 + 72 * i + l) = rg r l) → (∀ l, d < l → l < rz r → f (9 + 72 * i + 2 * l) = rg r l ∧ f (9 + 72 * i + 2 * l + 1) = rg s l) → Mdl M1 m P V7 (va_up A7 0 f) → Fm M0 M1 → ∀ w7 w8, (∀ M2 f2, (∀ q, ¬ (9 + 72 * i ≤ q ∧ q < 73 + 72 * i) → f2 q = A7 0 q) → (∀ l, l < d → f2 (9 + 72 * i + l) = rg r l) → (∀ l, d ≤ l → l < rz r → f2 (9 + 72 * i + 2 * l) = rg r l ∧ f2 (9 + 72 * i + 2 * l + 1) = rg s l) → Mdl M2 m P V7 (va_up A7 0 f2) → Fm M0 M2 → ∀ w7 w8, Wg G C M2 0 0 139 [some (.ref m), some (.int (nI i)), some (.int (nI j)), some (.int (xB (isR (A 0) (nI i) ∧ isR (A 0) (nI j)))), some (.int 1), some (.int (nI (rz r))), some (.int (nI d)), w7, w8] []) → Wg G C M1 0 0 76 [some (.ref m), some (.int (nI i)), some (.int (nI j)), some (.int (xB (isR (A 0) (nI i) ∧ isR (A 0) (nI j)))), some (.int 1), some (.int (nI (rz r))), some (.int (nI d)), w7, w8] [] := by
              intro d hd M f hf hlo hhi hm hF w7 w8 kk
              have ha : va_up A7 0 f 0 (9 + 72 * i + d) = rg r d := by rw [va_up_s]; exact hlo d (Nat.le_refl d)
              have hb : va_up A7 0 f 0 (9 + 72 * j + d) = rg s d := by
                by_cases e : j = i
                · rw [hsame e, e]; exact ha
                · rw [va_up_s, hf _ (by omega)]
                  exact hv7.hg d (by omega)
              refine x_iload hC dX3_interleave_76 rfl ?_
              refine x_if_ltN (tgt := 145) hC (by omega) dX3_interleave_78 (by decide) (fun c5 => ?_) (fun c5 => ?_)
              · exact absurd c5 (by omega)
              · refine x_aload_n hC dX3_interleave_81 rfl rfl ?_
                refine x_iload_n hC dX3_interleave_82 rfl rfl ?_
                refine x_iload hC dX3_interleave_83 rfl ?_
                refine x_callV0 (na := 2) hC (ct_atV hG hm hi6 (by omega) ha) (lw_V q2515 q2517 qs47 q89 q2518) hm.1 rfl rfl (by decide +kernel) rfl ⟨Nat.le_of_ble_eq_true rfl, Nat.le_of_ble_eq_true rfl⟩ rfl (Nat.le_of_ble_eq_true rfl) ⟨rfl, rfl⟩ ⟨Nat.le_of_ble_eq_true rfl, Nat.le_of_ble_eq_true rfl⟩ dX3_interleave_85 ?_
                rintro _ M ⟨rfl, rfl⟩
                refine x_istore (lv' := [_, _, _, _, _, _, _, _, _]) hC dX3_interleave_88 (by decide) rfl ?_
                refine x_aload_n hC dX3_interleave_90 rfl rfl ?_
                refine x_iload_n hC dX3_interleave_91 rfl rfl ?_
                refine x_iload hC dX3_interleave_92 rfl ?_
                refine x_callV0 (na := 2) hC (ct_atV hG hm hj6 (by omega) hb) (lw_V q2515 q2517 qs47 q89 q2518) hm.1 rfl rfl (by decide +kernel) rfl ⟨Nat.le_of_ble_eq_true rfl, Nat.le_of_ble_eq_true rfl⟩ rfl (Nat.le_of_ble_eq_true rfl) ⟨rfl, rfl⟩ ⟨Nat.le_of_ble_eq_true rfl, Nat.le_of_ble_eq_true rfl⟩ dX3_interleave_94 ?_
                rintro _ M ⟨rfl, rfl⟩
                refine x_istore (lv' := [_, _, _, _, _, _, _, _, _]) hC dX3_interleave_97 (by decide) rfl ?_
                refine x_aload_n hC dX3_interleave_99 rfl rfl ?_
                refine x_get hC 0 hm.1 rfl (by decide) q2330 rfl rfl dX3_interleave_100 ?_
                refine x_iload_n hC dX3_interleave_103 rfl rfl ?_
                refine x_callS0 (na := 1) hC (ct_row hG _ _) (lw_S q2457 q2458 q89 q2459) (by decide +kernel) rfl ⟨Nat.le_of_ble_eq_true rfl, Nat.le_of_ble_eq_true rfl⟩ rfl (Nat.le_of_ble_eq_true rfl) ⟨rfl, rfl⟩ ⟨Nat.le_of_ble_eq_true rfl, Nat.le_of_ble_eq_true rfl⟩ dX3_interleave_104 ?_
                rintro _ M ⟨rfl, rfl⟩
                refine x_bipush (v := nI 8) hC dX3_interleave_107 (by decide) ?_
                refine x_iaddN hC dX3_interleave_109 ?_
                refine x_iconst (v := nI 2) hC dX3_interleave_110 (by decide) ?_
                refine x_iload hC dX3_interleave_111 rfl ?_
                refine x_imulN hC dX3_interleave_113 ?_
                refine x_iaddN hC dX3_interleave_114 ?_
                refine x_iconst (v := nI 1) hC dX3_interleave_115 (by decide) ?_
                refine x_iaddN hC dX3_interleave_116 ?_
                refine x_iload hC dX3_interleave_117 rfl ?_
                refine x_miastN hC hm 0 (by decide) (show _ < 433 from (by omega)) (by decide) dX3_interleave_119 (fun M hm hF1 => ?_)
                have hF := hF.tr hF1
                refine x_aload_n hC dX3_interleave_120 rfl rfl ?_
                refine x_get hC 0 hm.1 rfl (by decide) q2330 rfl rfl dX3_interleave_121 ?_
                refine x_iload_n hC dX3_interleave_124 rfl rfl ?_
                refine x_callS0 (na := 1) hC (ct_row hG _ _) (lw_S q2457 q2458 q89 q2459) (by decide +kernel) rfl ⟨Nat.le_of_ble_eq_true rfl, Nat.le_of_ble_eq_true rfl⟩ rfl (Nat.le_of_ble_eq_true rfl) ⟨rfl, rfl⟩ ⟨Nat.le_of_ble_eq_true rfl, Nat.le_of_ble_eq_true rfl⟩ dX3_interleave_125 ?_
                rintro _ M ⟨rfl, rfl⟩
                refine x_bipush (v := nI 8) hC dX3_interleave_128 (by decide) ?_
                refine x_iaddN hC dX3_interleave_130 ?_
                refine x_iconst (v := nI 2) hC dX3_interleave_131 (by decide) ?_
                refine x_iload hC dX3_interleave_132 rfl ?_
                refine x_imulN hC dX3_interleave_134 ?_
                refine x_iaddN hC dX3_interleave_135 ?_
                refine x_iload hC dX3_interleave_136 rfl ?_
                refine x_miastN hC hm 0 (by decide) (show _ < 433 from (by omega)) (by decide) dX3_interleave_138 (fun M hm hF1 => ?_)
                have hF := hF.tr hF1
                rw [up_up, up_up] at hm
                refine kk M _ (fun q hq => ?_) (fun l hl => ?_) (fun l h1 h2 => ?_) hm hF _ _
                · rw [upd_n (by omega), va_up_s, upd_n (by omega), va_up_s]
                  exact hf q hq
                · rw [upd_n (by omega), va_up_s, upd_n (by omega), va_up_s]
                  exact hlo l (by omega)
                · by_cases e : l = d
                  · subst e
                    refine ⟨?_, ?_⟩
                    · rw [show 9 + 72 * i + 2 * l = 1 + 72 * i + 8 + 2 * l by omega, upd_s]
                    · rw [upd_n (by omega), va_up_s, show 9 + 72 * i + 2 * l + 1 = 1 + 72 * i + 8 + 2 * l + 1 by omega, upd_s]
                  · have := hhi l (by omega) h2
                    refine ⟨?_, ?_⟩
                    · rw [upd_n (by omega), va_up_s, upd_n (by omega), va_up_s]; exact this.1
                    · rw [upd_n (by omega), va_up_s, upd_n (by omega), va_up_s]; exact this.2
            suffices lp : ∀ d, d < rz r → ∀ M1 f, (∀ q, ¬ (9 + 72 * i ≤ q ∧ q < 73 + 72 * i) → f q = A7 0 q) → (∀ l, l ≤ d → f (9 + 72 * i + l) = rg r l) → (∀ l, d < l → l < rz r → f (9 + 72 * i + 2 * l) = rg r l ∧ f (9 + 72 * i + 2 * l + 1) = rg s l) → Mdl M1 m P V7 (va_up A7 0 f) → Fm M0 M1 → ∀ w7 w8, Wg G C M1 0 0 76 [some (.ref m), some (.int (nI i)), some (.int (nI j)), some (.int (xB (isR (A 0) (nI i) ∧ isR (A 0) (nI j)))), some (.int 1), some (.int (nI (rz r))), some (.int (nI d)), w7, w8] [] from lp (rz r - 1) (by omega) M (A7 0) (fun q hq => rfl) (fun l hl => hw7.hg l (by omega)) (fun l h1 h2 => by omega) (hm.to rfl (by rw [up_id])) hF none none
            intro d
            induction d with
            | zero =>
              intro hd M f hf hlo hhi hm hF w7 w8
              refine step 0 hd M f hf hlo hhi hm hF w7 w8 (fun M f hf hlo hhi hm hF w7 w8 => ?_)
              refine x_iinc (lv' := [_, _, _, _, _, _, _, _, _]) (v := -1) hC dX3_interleave_139 rfl (by decide) (by decide) rfl ?_
              refine x_goto (tgt := 76) hC dX3_interleave_142 (by decide) ?_
              refine x_iload hC dX3_interleave_76 rfl ?_
              refine x_if_lt (tgt := 145) hC dX3_interleave_78 (by decide) (fun c5 => ?_) (fun c5 => ?_)
              · exact fin M f hf (fun l hl => hhi l (Nat.zero_le l) hl) hm hF _ _ _
              · exact absurd (show nI 0 + -1 < 0 by decide) c5
            | succ d ih =>
              intro hd M f hf hlo hhi hm hF w7 w8
              refine step (d + 1) hd M f hf hlo hhi hm hF w7 w8 (fun M f hf hlo hhi hm hF w7 w8 => ?_)
              refine x_iincM (lv' := [_, _, _, _, _, _, _, _, _]) (b := 1) hC dX3_interleave_139 rfl (by decide) (by decide) (by omega) rfl ?_
              refine x_goto (tgt := 76) hC dX3_interleave_142 (by decide) ?_
              exact ih (by omega) M f hf (fun l hl => hlo l (by omega)) (fun l h1 h2 => hhi l (by omega) h2) hm hF _ _
          · exact absurd ⟨c1, trivial, trivial⟩ c
end M24

