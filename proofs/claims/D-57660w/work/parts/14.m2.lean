/-! ===== the reference's methods that only read ===== -/
/-- a recording's number, by the reference's own count -/
abbrev isR (f : Nat → Int32) (x : Int32) : Prop := 0 ≤ x ∧ x ≤ f 0 - 1
section M2
variable {G : X_G} {M : X_M} {m : Nat} {P : Nat → Nat} {V : Nat → Int32} {A : Nat → Nat → Int32}
theorem ct_good3 (hG : GOK G) (hm : Mdl M m P V A) (p q r : Prop) [Decidable p] [Decidable q] [Decidable r] : Ct G yX3_good_3 cX3_good_3 4 (some .boolean) (xrm 1 0 0) [.ref m, .int (xB p), .int (xB q), .int (xB r)] M (Pm (.int (xB (p ∧ q ∧ r))) M m P (upd V 6 (if p then if q then if r then 0 else 3 else 2 else 1)) A) := by
  refine ct_open (lv := [_, _, _, _]) hG (by decide +kernel) (Nat.le_of_ble_eq_true rfl) rfl (fun C hC hk => ?_)
  have hF : Fm M M := Fr.rf
  refine x_aload_n hC dX3_good_3_0 rfl rfl ?_
  refine x_iload_n hC dX3_good_3_1 rfl rfl ?_
  refine x_if_neB (tgt := 9) hC dX3_good_3_2 (by decide) (fun c => ?_) (fun c => ?_)
  · refine x_iload_n hC dX3_good_3_9 rfl rfl ?_
    refine x_if_neB (tgt := 17) hC dX3_good_3_10 (by decide) (fun c2 => ?_) (fun c2 => ?_)
    · refine x_iload_n hC dX3_good_3_17 rfl rfl ?_
      refine x_if_eqB (tgt := 25) hC dX3_good_3_18 (by decide) (fun c3 => ?_) (fun c3 => ?_)
      · refine x_iconst (v := 3) hC dX3_good_3_25 (by decide) ?_
        refine x_mput hC hm 16 6 (by decide) q2346 rfl rfl rfl rfl rfl rfl dX3_good_3_26 (fun M hm hF1 => ?_)
        have hF := hF.tr hF1
        refine x_aload_n hC dX3_good_3_29 rfl rfl ?_
        refine x_get hC 16 hm.1 rfl (by decide) q2346 rfl rfl dX3_good_3_30 ?_
        refine x_if_ne (tgt := 40) hC dX3_good_3_33 (by decide) (fun c4 => ?_) (fun c4 => ?_)
        · refine x_iconst (v := 0) hC dX3_good_3_40 (by decide) ?_
          exact x_zret hC hk dX3_good_3_41 (by first | rfl | exact xB_nar) (Nat.le_of_ble_eq_true rfl) (Nat.le_of_ble_eq_true rfl) ⟨by rw [xB_f fun h => c3 h.2.2], by rw [if_pos c, if_pos c2, if_neg c3]; exact hm, hF⟩
        · exact absurd c4 (show ¬ (3 : Int32) = 0 by decide)
      · refine x_iconst (v := 0) hC dX3_good_3_21 (by decide) ?_
        refine x_goto (tgt := 26) hC dX3_good_3_22 (by decide) ?_
        refine x_mput hC hm 16 6 (by decide) q2346 rfl rfl rfl rfl rfl rfl dX3_good_3_26 (fun M hm hF1 => ?_)
        have hF := hF.tr hF1
        refine x_aload_n hC dX3_good_3_29 rfl rfl ?_
        refine x_get hC 16 hm.1 rfl (by decide) q2346 rfl rfl dX3_good_3_30 ?_
        refine x_if_ne (tgt := 40) hC dX3_good_3_33 (by decide) (fun c4 => ?_) (fun c4 => ?_)
        · exact absurd (show upd V 6 0 6 = 0 from rfl) c4
        · refine x_iconst (v := 1) hC dX3_good_3_36 (by decide) ?_
          refine x_goto (tgt := 41) hC dX3_good_3_37 (by decide) ?_
          exact x_zret hC hk dX3_good_3_41 (by first | rfl | exact xB_nar) (Nat.le_of_ble_eq_true rfl) (Nat.le_of_ble_eq_true rfl) ⟨by rw [xB_t ⟨c, c2, c3⟩], by rw [if_pos c, if_pos c2, if_pos c3]; exact hm, hF⟩
    · refine x_iconst (v := 2) hC dX3_good_3_13 (by decide) ?_
      refine x_goto (tgt := 26) hC dX3_good_3_14 (by decide) ?_
      refine x_mput hC hm 16 6 (by decide) q2346 rfl rfl rfl rfl rfl rfl dX3_good_3_26 (fun M hm hF1 => ?_)
      have hF := hF.tr hF1
      refine x_aload_n hC dX3_good_3_29 rfl rfl ?_
      refine x_get hC 16 hm.1 rfl (by decide) q2346 rfl rfl dX3_good_3_30 ?_
      refine x_if_ne (tgt := 40) hC dX3_good_3_33 (by decide) (fun c4 => ?_) (fun c4 => ?_)
      · refine x_iconst (v := 0) hC dX3_good_3_40 (by decide) ?_
        exact x_zret hC hk dX3_good_3_41 (by first | rfl | exact xB_nar) (Nat.le_of_ble_eq_true rfl) (Nat.le_of_ble_eq_true rfl) ⟨by rw [xB_f fun h => c2 h.2.1], by rw [if_pos c, if_neg c2]; exact hm, hF⟩
      · exact absurd c4 (show ¬ (2 : Int32) = 0 by decide)
  · refine x_iconst (v := 1) hC dX3_good_3_5 (by decide) ?_
    refine x_goto (tgt := 26) hC dX3_good_3_6 (by decide) ?_
    refine x_mput hC hm 16 6 (by decide) q2346 rfl rfl rfl rfl rfl rfl dX3_good_3_26 (fun M hm hF1 => ?_)
    have hF := hF.tr hF1
    refine x_aload_n hC dX3_good_3_29 rfl rfl ?_
    refine x_get hC 16 hm.1 rfl (by decide) q2346 rfl rfl dX3_good_3_30 ?_
    refine x_if_ne (tgt := 40) hC dX3_good_3_33 (by decide) (fun c4 => ?_) (fun c4 => ?_)
    · refine x_iconst (v := 0) hC dX3_good_3_40 (by decide) ?_
      exact x_zret hC hk dX3_good_3_41 (by first | rfl | exact xB_nar) (Nat.le_of_ble_eq_true rfl) (Nat.le_of_ble_eq_true rfl) ⟨by rw [xB_f fun h => c h.1], by rw [if_neg c]; exact hm, hF⟩
    · exact absurd c4 (show ¬ (1 : Int32) = 0 by decide)
theorem ct_isRecording (hG : GOK G) (hm : Mdl M m P V A) (x : Int32) : Ct G yX3_isRecording cX3_isRecording 2 (some .boolean) (xrm 2 0 0) [.ref m, .int x] M (Pr (.int (xB (isR (A 0) x))) M) := by
  refine ct_open (lv := [_, _]) hG (by decide +kernel) (Nat.le_of_ble_eq_true rfl) rfl (fun C hC hk => ?_)
  refine x_iload_n hC dX3_isRecording_0 rfl rfl ?_
  refine x_iconst (v := 0) hC dX3_isRecording_1 (by decide) ?_
  refine x_aload_n hC dX3_isRecording_2 rfl rfl ?_
  refine x_get hC 0 hm.1 rfl (by decide) q2330 rfl rfl dX3_isRecording_3 ?_
  refine x_iconst (v := nI 0) hC dX3_isRecording_6 (by decide) ?_
  refine x_ialdN hC (hm.arr 0 (by decide)) (show _ < 433 from (by omega)) (by decide) dX3_isRecording_7 ?_
  refine x_iconst (v := 1) hC dX3_isRecording_8 (by decide) ?_
  refine x_isub hC dX3_isRecording_9 ?_
  refine x_callS0 (na := 3) hC (ct_isIn hG _ _ _ _) (lw_S q2414 q2415 q89 q2416) (by decide +kernel) rfl ⟨Nat.le_of_ble_eq_true rfl, Nat.le_of_ble_eq_true rfl⟩ rfl (Nat.le_of_ble_eq_true rfl) ⟨rfl, rfl⟩ ⟨Nat.le_of_ble_eq_true rfl, Nat.le_of_ble_eq_true rfl⟩ dX3_isRecording_10 ?_
  rintro _ M ⟨rfl, rfl⟩
  exact x_zret hC hk dX3_isRecording_13 (by first | rfl | exact xB_nar) (Nat.le_of_ble_eq_true rfl) (Nat.le_of_ble_eq_true rfl) ⟨rfl, rfl⟩
theorem ct_areRecordings (hG : GOK G) (hm : Mdl M m P V A) (x z : Int32) : Ct G yX3_areRecordings cX3_areRecordings 3 (some .boolean) (xrm 3 0 0) [.ref m, .int x, .int z] M (Pr (.int (xB (isR (A 0) x ∧ isR (A 0) z))) M) := by
  refine ct_open (lv := [_, _, _]) hG (by decide +kernel) (Nat.le_of_ble_eq_true rfl) rfl (fun C hC hk => ?_)
  refine x_aload_n hC dX3_areRecordings_0 rfl rfl ?_
  refine x_iload_n hC dX3_areRecordings_1 rfl rfl ?_
  refine x_callV0 (na := 1) hC (ct_isRecording hG hm _) (lw_V q2491 q2493 qs44 q89 q2494) hm.1 rfl rfl (by decide +kernel) rfl ⟨Nat.le_of_ble_eq_true rfl, Nat.le_of_ble_eq_true rfl⟩ rfl (Nat.le_of_ble_eq_true rfl) ⟨rfl, rfl⟩ ⟨Nat.le_of_ble_eq_true rfl, Nat.le_of_ble_eq_true rfl⟩ dX3_areRecordings_2 ?_
  rintro _ M ⟨rfl, rfl⟩
  refine x_if_eqB (tgt := 20) hC dX3_areRecordings_5 (by decide) (fun c => ?_) (fun c => ?_)
  · refine x_iconst (v := 0) hC dX3_areRecordings_20 (by decide) ?_
    exact x_zret hC hk dX3_areRecordings_21 (by first | rfl | exact xB_nar) (Nat.le_of_ble_eq_true rfl) (Nat.le_of_ble_eq_true rfl) ⟨by rw [xB_f fun h => c h.1], rfl⟩
  · refine x_aload_n hC dX3_areRecordings_8 rfl rfl ?_
    refine x_iload_n hC dX3_areRecordings_9 rfl rfl ?_
    refine x_callV0 (na := 1) hC (ct_isRecording hG hm _) (lw_V q2491 q2493 qs44 q89 q2494) hm.1 rfl rfl (by decide +kernel) rfl ⟨Nat.le_of_ble_eq_true rfl, Nat.le_of_ble_eq_true rfl⟩ rfl (Nat.le_of_ble_eq_true rfl) ⟨rfl, rfl⟩ ⟨Nat.le_of_ble_eq_true rfl, Nat.le_of_ble_eq_true rfl⟩ dX3_areRecordings_10 ?_
    rintro _ M ⟨rfl, rfl⟩
    refine x_if_eqB (tgt := 20) hC dX3_areRecordings_13 (by decide) (fun c2 => ?_) (fun c2 => ?_)
    · refine x_iconst (v := 0) hC dX3_areRecordings_20 (by decide) ?_
      exact x_zret hC hk dX3_areRecordings_21 (by first | rfl | exact xB_nar) (Nat.le_of_ble_eq_true rfl) (Nat.le_of_ble_eq_true rfl) ⟨by rw [xB_f fun h => c2 h.2], rfl⟩
    · refine x_iconst (v := 1) hC dX3_areRecordings_16 (by decide) ?_
      refine x_goto (tgt := 21) hC dX3_areRecordings_17 (by decide) ?_
      exact x_zret hC hk dX3_areRecordings_21 (by first | rfl | exact xB_nar) (Nat.le_of_ble_eq_true rfl) (Nat.le_of_ble_eq_true rfl) ⟨by rw [xB_t ⟨c, c2⟩], rfl⟩
theorem ct_size (hG : GOK G) (hm : Mdl M m P V A) {c : Nat} (hc : c < 6) {z : Int32} (hz : A 0 (8 + 72 * c) = z) : Ct G yX3_size cX3_size 2 (some .int) (xrm 2 0 0) [.ref m, .int (nI c)] M (Pr (.int z) M) := by
  refine ct_open (lv := [_, _]) hG (by decide +kernel) (Nat.le_of_ble_eq_true rfl) rfl (fun C hC hk => ?_)
  refine x_aload_n hC dX3_size_0 rfl rfl ?_
  refine x_get hC 0 hm.1 rfl (by decide) q2330 rfl rfl dX3_size_1 ?_
  refine x_iload_n hC dX3_size_4 rfl rfl ?_
  refine x_callS0 (na := 1) hC (ct_row hG _ _) (lw_S q2457 q2458 q89 q2459) (by decide +kernel) rfl ⟨Nat.le_of_ble_eq_true rfl, Nat.le_of_ble_eq_true rfl⟩ rfl (Nat.le_of_ble_eq_true rfl) ⟨rfl, rfl⟩ ⟨Nat.le_of_ble_eq_true rfl, Nat.le_of_ble_eq_true rfl⟩ dX3_size_5 ?_
  rintro _ M ⟨rfl, rfl⟩
  refine x_bipush (v := nI 7) hC dX3_size_8 (by decide) ?_
  refine x_iaddN hC dX3_size_10 ?_
  refine x_ialdN hC (hm.arr 0 (by decide)) (show _ < 433 from (by omega)) (by decide) dX3_size_11 ?_
  exact x_iret hC hk dX3_size_12 (Nat.le_of_ble_eq_true rfl) (Nat.le_of_ble_eq_true rfl) ⟨by rw [← hz, show 8 + 72 * c = 1 + 72 * c + 7 by omega], rfl⟩
theorem ct_at (hG : GOK G) (hm : Mdl M m P V A) {c k : Nat} (hc : c < 6) (hk2 : k < 64) : Ct G yX3_at cX3_at 3 (some .int) (xrm 2 0 0) [.ref m, .int (nI c), .int (nI k)] M (Pr (.int (A 0 (9 + 72 * c + k))) M) := by
  refine ct_open (lv := [_, _, _]) hG (by decide +kernel) (Nat.le_of_ble_eq_true rfl) rfl (fun C hC hk => ?_)
  refine x_aload_n hC dX3_at_0 rfl rfl ?_
  refine x_get hC 0 hm.1 rfl (by decide) q2330 rfl rfl dX3_at_1 ?_
  refine x_iload_n hC dX3_at_4 rfl rfl ?_
  refine x_callS0 (na := 1) hC (ct_row hG _ _) (lw_S q2457 q2458 q89 q2459) (by decide +kernel) rfl ⟨Nat.le_of_ble_eq_true rfl, Nat.le_of_ble_eq_true rfl⟩ rfl (Nat.le_of_ble_eq_true rfl) ⟨rfl, rfl⟩ ⟨Nat.le_of_ble_eq_true rfl, Nat.le_of_ble_eq_true rfl⟩ dX3_at_5 ?_
  rintro _ M ⟨rfl, rfl⟩
  refine x_bipush (v := nI 8) hC dX3_at_8 (by decide) ?_
  refine x_iaddN hC dX3_at_10 ?_
  refine x_iload_n hC dX3_at_11 rfl rfl ?_
  refine x_iaddN hC dX3_at_12 ?_
  refine x_ialdN hC (hm.arr 0 (by decide)) (show _ < 433 from (by omega)) (by decide) dX3_at_13 ?_
  exact x_iret hC hk dX3_at_14 (Nat.le_of_ble_eq_true rfl) (Nat.le_of_ble_eq_true rfl) ⟨by rw [show 9 + 72 * c + k = 1 + 72 * c + 8 + k by omega], rfl⟩
theorem ct_isPlace (hG : GOK G) (hm : Mdl M m P V A) (x z : Int32) {p : Prop} [Decidable p] (hx : isR (A 0) x → ∃ c, c < 6 ∧ x = nI c ∧ (p ↔ 0 ≤ z ∧ z ≤ A 0 (8 + 72 * c) - 1)) : Ct G yX3_isPlace cX3_isPlace 3 (some .boolean) (xrm 3 0 0) [.ref m, .int x, .int z] M (Pr (.int (xB (isR (A 0) x ∧ p))) M) := by
  refine ct_open (lv := [_, _, _]) hG (by decide +kernel) (Nat.le_of_ble_eq_true rfl) rfl (fun C hC hk => ?_)
  refine x_aload_n hC dX3_isPlace_0 rfl rfl ?_
  refine x_iload_n hC dX3_isPlace_1 rfl rfl ?_
  refine x_callV0 (na := 1) hC (ct_isRecording hG hm _) (lw_V q2491 q2493 qs44 q89 q2494) hm.1 rfl rfl (by decide +kernel) rfl ⟨Nat.le_of_ble_eq_true rfl, Nat.le_of_ble_eq_true rfl⟩ rfl (Nat.le_of_ble_eq_true rfl) ⟨rfl, rfl⟩ ⟨Nat.le_of_ble_eq_true rfl, Nat.le_of_ble_eq_true rfl⟩ dX3_isPlace_2 ?_
  rintro _ M ⟨rfl, rfl⟩
  refine x_if_eqB (tgt := 27) hC dX3_isPlace_5 (by decide) (fun c1 => ?_) (fun c1 => ?_)
  · refine x_iconst (v := 0) hC dX3_isPlace_27 (by decide) ?_
    exact x_zret hC hk dX3_isPlace_28 (by first | rfl | exact xB_nar) (Nat.le_of_ble_eq_true rfl) (Nat.le_of_ble_eq_true rfl) ⟨by rw [xB_f fun h => c1 h.1], rfl⟩
  · obtain ⟨c, hc, rfl, hp⟩ := hx c1
    refine x_iload_n hC dX3_isPlace_8 rfl rfl ?_
    refine x_iconst (v := 0) hC dX3_isPlace_9 (by decide) ?_
    refine x_aload_n hC dX3_isPlace_10 rfl rfl ?_
    refine x_iload_n hC dX3_isPlace_11 rfl rfl ?_
    refine x_callV0 (na := 1) hC (ct_size hG hm hc rfl) (lw_V q2495 q2497 qs45 q89 q2498) hm.1 rfl rfl (by decide +kernel) rfl ⟨Nat.le_of_ble_eq_true rfl, Nat.le_of_ble_eq_true rfl⟩ rfl (Nat.le_of_ble_eq_true rfl) ⟨rfl, rfl⟩ ⟨Nat.le_of_ble_eq_true rfl, Nat.le_of_ble_eq_true rfl⟩ dX3_isPlace_12 ?_
    rintro _ M ⟨rfl, rfl⟩
    refine x_iconst (v := 1) hC dX3_isPlace_15 (by decide) ?_
    refine x_isub hC dX3_isPlace_16 ?_
    refine x_callS0 (na := 3) hC (ct_isIn hG _ _ _ _) (lw_S q2414 q2415 q89 q2416) (by decide +kernel) rfl ⟨Nat.le_of_ble_eq_true rfl, Nat.le_of_ble_eq_true rfl⟩ rfl (Nat.le_of_ble_eq_true rfl) ⟨rfl, rfl⟩ ⟨Nat.le_of_ble_eq_true rfl, Nat.le_of_ble_eq_true rfl⟩ dX3_isPlace_17 ?_
    rintro _ M ⟨rfl, rfl⟩
    refine x_if_eqB (tgt := 27) hC dX3_isPlace_20 (by decide) (fun c2 => ?_) (fun c2 => ?_)
    · refine x_iconst (v := 0) hC dX3_isPlace_27 (by decide) ?_
      exact x_zret hC hk dX3_isPlace_28 (by first | rfl | exact xB_nar) (Nat.le_of_ble_eq_true rfl) (Nat.le_of_ble_eq_true rfl) ⟨by rw [xB_f fun h => c2 (hp.mp h.2)], rfl⟩
    · refine x_iconst (v := 1) hC dX3_isPlace_23 (by decide) ?_
      refine x_goto (tgt := 28) hC dX3_isPlace_24 (by decide) ?_
      exact x_zret hC hk dX3_isPlace_28 (by first | rfl | exact xB_nar) (Nat.le_of_ble_eq_true rfl) (Nat.le_of_ble_eq_true rfl) ⟨by rw [xB_t ⟨c1, hp.mpr c2⟩], rfl⟩
/-- a length that a recording may have -/
abbrev isL (x : Int32) : Prop := (2 ≤ x ∧ x ≤ 64) ∧ x &&& (x - 1) = 0
theorem ct_isLength (hG : GOK G) (x : Int32) (M : X_M) : Ct G yX3_isLength cX3_isLength 1 (some .boolean) (xrm 2 0 0) [.int x] M (Pr (.int (xB (isL x))) M) := by
  refine ct_open (lv := [_]) hG (by decide +kernel) (Nat.le_of_ble_eq_true rfl) rfl (fun C hC hk => ?_)
  refine x_iload_n hC dX3_isLength_0 rfl rfl ?_
  refine x_iconst (v := 2) hC dX3_isLength_1 (by decide) ?_
  refine x_bipush (v := 64) hC dX3_isLength_2 (by decide) ?_
  refine x_callS0 (na := 3) hC (ct_isIn hG _ _ _ _) (lw_S q2414 q2415 q89 q2416) (by decide +kernel) rfl ⟨Nat.le_of_ble_eq_true rfl, Nat.le_of_ble_eq_true rfl⟩ rfl (Nat.le_of_ble_eq_true rfl) ⟨rfl, rfl⟩ ⟨Nat.le_of_ble_eq_true rfl, Nat.le_of_ble_eq_true rfl⟩ dX3_isLength_4 ?_
  rintro _ M ⟨rfl, rfl⟩
  refine x_if_eqB (tgt := 22) hC dX3_isLength_7 (by decide) (fun c1 => ?_) (fun c1 => ?_)
  · refine x_iconst (v := 0) hC dX3_isLength_22 (by decide) ?_
    exact x_zret hC hk dX3_isLength_23 (by first | rfl | exact xB_nar) (Nat.le_of_ble_eq_true rfl) (Nat.le_of_ble_eq_true rfl) ⟨by rw [xB_f fun h => c1 h.1], rfl⟩
  · refine x_iload_n hC dX3_isLength_10 rfl rfl ?_
    refine x_iload_n hC dX3_isLength_11 rfl rfl ?_
    refine x_iconst (v := 1) hC dX3_isLength_12 (by decide) ?_
    refine x_isub hC dX3_isLength_13 ?_
    refine x_iand hC dX3_isLength_14 ?_
    refine x_if_ne (tgt := 22) hC dX3_isLength_15 (by decide) (fun c2 => ?_) (fun c2 => ?_)
    · refine x_iconst (v := 0) hC dX3_isLength_22 (by decide) ?_
      exact x_zret hC hk dX3_isLength_23 (by first | rfl | exact xB_nar) (Nat.le_of_ble_eq_true rfl) (Nat.le_of_ble_eq_true rfl) ⟨by rw [xB_f fun h => c2 h.2], rfl⟩
    · refine x_iconst (v := 1) hC dX3_isLength_18 (by decide) ?_
      refine x_goto (tgt := 23) hC dX3_isLength_19 (by decide) ?_
      exact x_zret hC hk dX3_isLength_23 (by first | rfl | exact xB_nar) (Nat.le_of_ble_eq_true rfl) (Nat.le_of_ble_eq_true rfl) ⟨by rw [xB_t ⟨c1, c2⟩], rfl⟩
theorem ct_areAlike (hG : GOK G) (hm : Mdl M m P V A) {c d : Nat} (hc : c < 6) (hd : d < 6) : Ct G yX3_areAlike cX3_areAlike 3 (some .boolean) (xrm 3 0 0) [.ref m, .int (nI c), .int (nI d)] M (Pr (.int (xB (A 0 (8 + 72 * c) = A 0 (8 + 72 * d)))) M) := by
  refine ct_open (lv := [_, _, _]) hG (by decide +kernel) (Nat.le_of_ble_eq_true rfl) rfl (fun C hC hk => ?_)
  refine x_aload_n hC dX3_areAlike_0 rfl rfl ?_
  refine x_iload_n hC dX3_areAlike_1 rfl rfl ?_
  refine x_callV0 (na := 1) hC (ct_size hG hm hc rfl) (lw_V q2495 q2497 qs45 q89 q2498) hm.1 rfl rfl (by decide +kernel) rfl ⟨Nat.le_of_ble_eq_true rfl, Nat.le_of_ble_eq_true rfl⟩ rfl (Nat.le_of_ble_eq_true rfl) ⟨rfl, rfl⟩ ⟨Nat.le_of_ble_eq_true rfl, Nat.le_of_ble_eq_true rfl⟩ dX3_areAlike_2 ?_
  rintro _ M ⟨rfl, rfl⟩
  refine x_aload_n hC dX3_areAlike_5 rfl rfl ?_
  refine x_iload_n hC dX3_areAlike_6 rfl rfl ?_
  refine x_callV0 (na := 1) hC (ct_size hG hm hd rfl) (lw_V q2495 q2497 qs45 q89 q2498) hm.1 rfl rfl (by decide +kernel) rfl ⟨Nat.le_of_ble_eq_true rfl, Nat.le_of_ble_eq_true rfl⟩ rfl (Nat.le_of_ble_eq_true rfl) ⟨rfl, rfl⟩ ⟨Nat.le_of_ble_eq_true rfl, Nat.le_of_ble_eq_true rfl⟩ dX3_areAlike_7 ?_
  rintro _ M ⟨rfl, rfl⟩
  refine x_icmp_ne (tgt := 17) hC dX3_areAlike_10 (by decide) (fun c => ?_) (fun c => ?_)
  · refine x_iconst (v := 0) hC dX3_areAlike_17 (by decide) ?_
    exact x_zret hC hk dX3_areAlike_18 (by first | rfl | exact xB_nar) (Nat.le_of_ble_eq_true rfl) (Nat.le_of_ble_eq_true rfl) ⟨by rw [xB_f c], rfl⟩
  · refine x_iconst (v := 1) hC dX3_areAlike_13 (by decide) ?_
    refine x_goto (tgt := 18) hC dX3_areAlike_14 (by decide) ?_
    exact x_zret hC hk dX3_areAlike_18 (by first | rfl | exact xB_nar) (Nat.le_of_ble_eq_true rfl) (Nat.le_of_ble_eq_true rfl) ⟨by rw [xB_t c], rfl⟩
def clip (x : Int32) : Int32 := imax (-9999) (imin 9999 x)
theorem ct_clipped (hG : GOK G) (x : Int32) (M : X_M) : Ct G yX3_clipped cX3_clipped 1 (some .int) (xrm 2 0 0) [.int x] M (Pr (.int (clip x)) M) := by
  refine ct_open (lv := [_]) hG (by decide +kernel) (Nat.le_of_ble_eq_true rfl) rfl (fun C hC hk => ?_)
  refine x_sipush (v := -9999) hC dX3_clipped_0 (by decide) ?_
  refine x_sipush (v := 9999) hC dX3_clipped_3 (by decide) ?_
  refine x_iload_n hC dX3_clipped_6 rfl rfl ?_
  refine x_callS0 (na := 2) hC (ct_min hG _ _ _) (lw_S q2749 q346 q103 q347) (by decide +kernel) rfl ⟨Nat.le_of_ble_eq_true rfl, Nat.le_of_ble_eq_true rfl⟩ rfl (Nat.le_of_ble_eq_true rfl) ⟨rfl, rfl⟩ ⟨Nat.le_of_ble_eq_true rfl, Nat.le_of_ble_eq_true rfl⟩ dX3_clipped_7 ?_
  rintro _ M ⟨rfl, rfl⟩
  refine x_callS0 (na := 2) hC (ct_max hG _ _ _) (lw_S q2750 q328 q103 q329) (by decide +kernel) rfl ⟨Nat.le_of_ble_eq_true rfl, Nat.le_of_ble_eq_true rfl⟩ rfl (Nat.le_of_ble_eq_true rfl) ⟨rfl, rfl⟩ ⟨Nat.le_of_ble_eq_true rfl, Nat.le_of_ble_eq_true rfl⟩ dX3_clipped_10 ?_
  rintro _ M ⟨rfl, rfl⟩
  exact x_iret hC hk dX3_clipped_13 (Nat.le_of_ble_eq_true rfl) (Nat.le_of_ble_eq_true rfl) ⟨rfl, rfl⟩
theorem ct_sign (hG : GOK G) (x z : Int32) (M : X_M) : Ct G yX3_sign cX3_sign 2 (some .int) (xrm 2 0 0) [.int x, .int z] M (Pr (.int (sg x z)) M) := by
  refine ct_open (lv := [_, _]) hG (by decide +kernel) (Nat.le_of_ble_eq_true rfl) rfl (fun C hC hk => ?_)
  refine x_iload_n hC dX3_sign_0 rfl rfl ?_
  refine x_iload_n hC dX3_sign_1 rfl rfl ?_
  refine x_iand hC dX3_sign_2 ?_
  refine x_callS0 (na := 1) hC (ct_bitCount hG _ _) (lw_S q2575 q1678 q110 q1679) (by decide +kernel) rfl ⟨Nat.le_of_ble_eq_true rfl, Nat.le_of_ble_eq_true rfl⟩ rfl (Nat.le_of_ble_eq_true rfl) ⟨rfl, rfl⟩ ⟨Nat.le_of_ble_eq_true rfl, Nat.le_of_ble_eq_true rfl⟩ dX3_sign_3 ?_
  rintro _ M ⟨rfl, rfl⟩
  refine x_iconst (v := 2) hC dX3_sign_6 (by decide) ?_
  refine x_irem hC dX3_sign_7 (by decide) ?_
  refine x_if_ne (tgt := 15) hC dX3_sign_8 (by decide) (fun c => ?_) (fun c => ?_)
  · refine x_iconst (v := -1) hC dX3_sign_15 (by decide) ?_
    exact x_iret hC hk dX3_sign_16 (Nat.le_of_ble_eq_true rfl) (Nat.le_of_ble_eq_true rfl) ⟨by rw [sg, if_neg c], rfl⟩
  · refine x_iconst (v := 1) hC dX3_sign_11 (by decide) ?_
    refine x_goto (tgt := 16) hC dX3_sign_12 (by decide) ?_
    exact x_iret hC hk dX3_sign_16 (Nat.le_of_ble_eq_true rfl) (Nat.le_of_ble_eq_true rfl) ⟨by rw [sg, if_pos c], rfl⟩
theorem ct_changes (hG : GOK G) {n : Nat} (hn : n < 2 ^ 30) (h0 : 0 < n) (x : Int32) (M : X_M) : Ct G yX3_changes cX3_changes 4 (some .int) (xrm 3 0 0) [.int (nI n), .int x] M (Pr (.int (chg x n)) M) := by
  refine ct_open (lv := [_, _, _, _]) hG (by decide +kernel) (Nat.le_of_ble_eq_true rfl) rfl (fun C hC hk => ?_)
  refine x_iconst (v := nI 0) hC dX3_changes_0 (by decide) ?_
  refine x_istore_n (lv' := [_, _, _, _]) hC dX3_changes_1 rfl (by decide) rfl ?_
  refine x_iconst (v := nI 1) hC dX3_changes_2 (by decide) ?_
  refine x_istore_n (lv' := [_, _, _, _]) hC dX3_changes_3 rfl (by decide) rfl ?_
  have lp : ∀ k, k + 1 ≤ n → Wg G C M 0 0 4 [some (.int (nI n)), some (.int x), some (.int (chg x (k + 1))), some (.int (nI (k + 1)))] [] := by
    intro k hk1
    have := x_up (n := n - 1) (I := fun k => Wg G C M 0 0 4 [some (.int (nI n)), some (.int x), some (.int (chg x (k + 1))), some (.int (nI (k + 1)))] []) (fun k hk2 ih => ?_) k (by omega)
    exact this
    refine x_iload_n hC dX3_changes_4 rfl rfl ?_
    refine x_iload_n hC dX3_changes_5 rfl rfl ?_
    refine x_icmp_geN (tgt := 38) hC (by omega) (by omega) dX3_changes_6 (by decide) (fun c => ?_) (fun c => ?_)
    · refine x_iload_n hC dX3_changes_38 rfl rfl ?_
      exact x_iret hC hk dX3_changes_39 (Nat.le_of_ble_eq_true rfl) (Nat.le_of_ble_eq_true rfl) ⟨by rw [show k + 1 = n by omega], rfl⟩
    · refine x_iload_n hC dX3_changes_9 rfl rfl ?_
      refine x_iload_n hC dX3_changes_10 rfl rfl ?_
      refine x_iload_n hC dX3_changes_11 rfl rfl ?_
      refine x_callS0 (na := 2) hC (ct_sign hG _ _ _) (lw_S q2572 q2573 q89 q2574) (by decide +kernel) rfl ⟨Nat.le_of_ble_eq_true rfl, Nat.le_of_ble_eq_true rfl⟩ rfl (Nat.le_of_ble_eq_true rfl) ⟨rfl, rfl⟩ ⟨Nat.le_of_ble_eq_true rfl, Nat.le_of_ble_eq_true rfl⟩ dX3_changes_12 ?_
      rintro _ M ⟨rfl, rfl⟩
      refine x_iload_n hC dX3_changes_15 rfl rfl ?_
      refine x_iload_n hC dX3_changes_16 rfl rfl ?_
      refine x_iconst (v := nI 1) hC dX3_changes_17 (by decide) ?_
      refine x_isubN hC dX3_changes_18 (by omega) ?_
      refine x_callS0 (na := 2) hC (ct_sign hG _ _ _) (lw_S q2572 q2573 q89 q2574) (by decide +kernel) rfl ⟨Nat.le_of_ble_eq_true rfl, Nat.le_of_ble_eq_true rfl⟩ rfl (Nat.le_of_ble_eq_true rfl) ⟨rfl, rfl⟩ ⟨Nat.le_of_ble_eq_true rfl, Nat.le_of_ble_eq_true rfl⟩ dX3_changes_19 ?_
      rintro _ M ⟨rfl, rfl⟩
      rw [show k + 1 - 1 = k by omega]
      refine x_j2 (fun v => v = if sg x (nI (k + 1)) = sg x (nI k) then 0 else 1) 30 (fun hj => ?_) (fun v hv => ?_)
      · refine x_icmp_ne (tgt := 29) hC dX3_changes_22 (by decide) (fun c2 => ?_) (fun c2 => ?_)
        · refine x_iconst (v := 1) hC dX3_changes_29 (by decide) ?_
          exact hj _ (by rw [if_neg c2])
        · refine x_iconst (v := 0) hC dX3_changes_25 (by decide) ?_
          refine x_goto (tgt := 30) hC dX3_changes_26 (by decide) ?_
          exact hj _ (by rw [if_pos c2])
      · subst hv
        refine x_iadd hC dX3_changes_30 ?_
        refine x_istore_n (lv' := [_, _, _, _]) hC dX3_changes_31 rfl (by decide) rfl ?_
        refine x_iincN (lv' := [_, _, _, _]) (b := 1) hC dX3_changes_32 rfl (by decide) (by decide) rfl ?_
        refine x_goto (tgt := 4) hC dX3_changes_35 (by decide) ?_
        exact ih (by omega)
  exact lp 0 (by omega)
theorem ct_sum (hG : GOK G) (hm : Mdl M m P V A) {c n : Nat} (hc : c < 6) (hn : A 0 (8 + 72 * c) = nI n) (hn6 : n ≤ 64) (x : Int32) : Ct G yX3_sum cX3_sum 5 (some .int) (xrm 3 0 0) [.ref m, .int (nI c), .int x] M (Pr (.int (iS (fun k => A 0 (9 + 72 * c + k) * sg x (nI k)) n)) M) := by
  refine ct_open (lv := [_, _, _, _, _]) hG (by decide +kernel) (Nat.le_of_ble_eq_true rfl) rfl (fun C hC hk => ?_)
  refine x_iconst (v := nI 0) hC dX3_sum_0 (by decide) ?_
  refine x_istore_n (lv' := [_, _, _, _, _]) hC dX3_sum_1 rfl (by decide) rfl ?_
  refine x_iconst (v := nI 0) hC dX3_sum_2 (by decide) ?_
  refine x_istore (lv' := [_, _, _, _, _]) hC dX3_sum_3 (by decide) rfl ?_
  refine x_up (n := n) (I := fun k => Wg G C M 0 0 5 [some (.ref m), some (.int (nI c)), some (.int x), some (.int (iS (fun k => A 0 (9 + 72 * c + k) * sg x (nI k)) k)), some (.int (nI k))] []) (fun k hk2 ih => ?_) 0 (Nat.zero_le _)
  refine x_iload hC dX3_sum_5 rfl ?_
  refine x_aload_n hC dX3_sum_7 rfl rfl ?_
  refine x_iload_n hC dX3_sum_8 rfl rfl ?_
  refine x_callV0 (na := 1) hC (ct_size hG hm hc hn) (lw_V q2495 q2497 qs45 q89 q2498) hm.1 rfl rfl (by decide +kernel) rfl ⟨Nat.le_of_ble_eq_true rfl, Nat.le_of_ble_eq_true rfl⟩ rfl (Nat.le_of_ble_eq_true rfl) ⟨rfl, rfl⟩ ⟨Nat.le_of_ble_eq_true rfl, Nat.le_of_ble_eq_true rfl⟩ dX3_sum_9 ?_
  rintro _ M ⟨rfl, rfl⟩
  refine x_icmp_geN (tgt := 38) hC (by omega) (by omega) dX3_sum_12 (by decide) (fun c1 => ?_) (fun c1 => ?_)
  · refine x_iload_n hC dX3_sum_38 rfl rfl ?_
    exact x_iret hC hk dX3_sum_39 (Nat.le_of_ble_eq_true rfl) (Nat.le_of_ble_eq_true rfl) ⟨by rw [show k = n by omega], rfl⟩
  · refine x_iload_n hC dX3_sum_15 rfl rfl ?_
    refine x_aload_n hC dX3_sum_16 rfl rfl ?_
    refine x_iload_n hC dX3_sum_17 rfl rfl ?_
    refine x_iload hC dX3_sum_18 rfl ?_
    refine x_callV0 (na := 2) hC (ct_at hG hm hc (by omega)) (lw_V q2515 q2517 qs47 q89 q2518) hm.1 rfl rfl (by decide +kernel) rfl ⟨Nat.le_of_ble_eq_true rfl, Nat.le_of_ble_eq_true rfl⟩ rfl (Nat.le_of_ble_eq_true rfl) ⟨rfl, rfl⟩ ⟨Nat.le_of_ble_eq_true rfl, Nat.le_of_ble_eq_true rfl⟩ dX3_sum_20 ?_
    rintro _ M ⟨rfl, rfl⟩
    refine x_iload_n hC dX3_sum_23 rfl rfl ?_
    refine x_iload hC dX3_sum_24 rfl ?_
    refine x_callS0 (na := 2) hC (ct_sign hG _ _ _) (lw_S q2572 q2573 q89 q2574) (by decide +kernel) rfl ⟨Nat.le_of_ble_eq_true rfl, Nat.le_of_ble_eq_true rfl⟩ rfl (Nat.le_of_ble_eq_true rfl) ⟨rfl, rfl⟩ ⟨Nat.le_of_ble_eq_true rfl, Nat.le_of_ble_eq_true rfl⟩ dX3_sum_26 ?_
    rintro _ M ⟨rfl, rfl⟩
    refine x_imul hC dX3_sum_29 ?_
    refine x_iadd hC dX3_sum_30 ?_
    refine x_istore_n (lv' := [_, _, _, _, _]) hC dX3_sum_31 rfl (by decide) rfl ?_
    refine x_iincN (lv' := [_, _, _, _, _]) (b := 1) hC dX3_sum_32 rfl (by decide) (by decide) rfl ?_
    refine x_goto (tgt := 5) hC dX3_sum_35 (by decide) ?_
    exact ih c1
end M2

