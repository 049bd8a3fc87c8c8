/-! ===== the component's recordings: signChanges, interleaved, stretched, normalized ===== -/
theorem ng_lt {x : Int32} (h : ¬ x = 0) (h2 : x ≤ 0) : x < 0 := by
  have h3 := Int32.le_iff_toInt_le.mp h2
  have h4 : ¬ x.toInt = (0 : Int32).toInt := fun e => h (Int32.toInt_inj.mp e)
  exact Int32.lt_iff_toInt_lt.mpr (by omega)
section R15
variable {G : X_G} {M : X_M} {q na sa n j : Nat} {f : Nat → Int32} {cv rv : Value}
theorem ct_rsigns (hG : GOK G) (h : M q = some (ob 2 3 (reF na sa cv rv))) (hs : M sa = some (ia 0 n f)) (hn : n ≤ 64) : Ct G yX7_signChanges cX7_signChanges 7 (some .int) (xrm 1 0 0) [.ref q] M (Pr (.int (sgF f n).1) M) := by
  refine ct_open (lv := [_, _, _, _, _, _, _]) hG (by decide +kernel) (Nat.le_of_ble_eq_true rfl) rfl (fun C hC hk => ?_)
  refine x_iconst (v := 0) hC dX7_signChanges_0 (by decide) ?_
  refine x_istore_n (lv' := [_, _, _, _, _, _, _]) hC dX7_signChanges_1 rfl (by decide) rfl ?_
  refine x_iconst (v := 0) hC dX7_signChanges_2 (by decide) ?_
  refine x_istore_n (lv' := [_, _, _, _, _, _, _]) hC dX7_signChanges_3 rfl (by decide) rfl ?_
  refine x_aload_n hC dX7_signChanges_4 rfl rfl ?_
  refine x_get hC 1 h rfl (by decide) q1486 rfl rfl dX7_signChanges_5 ?_
  refine x_astore_n (lv' := [_, _, _, _, _, _, _]) hC dX7_signChanges_8 rfl (by decide) rfl ?_
  refine x_aload_n hC dX7_signChanges_9 rfl rfl ?_
  refine x_alen hC hs dX7_signChanges_10 ?_
  dsimp only
  refine x_istore (lv' := [_, _, _, _, _, _, _]) hC dX7_signChanges_11 (by decide) rfl ?_
  refine x_iconst (v := nI 0) hC dX7_signChanges_13 (by decide) ?_
  refine x_istore (lv' := [_, _, _, _, _, _, _]) hC dX7_signChanges_14 (by decide) rfl ?_
  refine x_up (n := n) (I := fun k => ∀ w6, Wg G C M 0 0 16 [some (.ref q), some (.int (sgF f k).1), some (.int (sgF f k).2), some (.ref sa), some (.int (nI n)), some (.int (nI k)), w6] []) (fun k hk2 ih w6 => ?_) 0 (Nat.zero_le _) none
  refine x_iload hC dX7_signChanges_16 rfl ?_
  refine x_iload hC dX7_signChanges_18 rfl ?_
  refine x_icmp_geN (tgt := 75) hC (by omega) (by omega) dX7_signChanges_20 (by decide) (fun c1 => ?_) (fun c1 => ?_)
  · refine x_iload_n hC dX7_signChanges_75 rfl rfl ?_
    exact x_iret hC hk dX7_signChanges_76 (Nat.le_of_ble_eq_true rfl) (Nat.le_of_ble_eq_true rfl) ⟨by rw [show k = n by omega], rfl⟩
  · have hst : sgF f (k + 1) = ((sgF f k).1 + xB ((f k < 0 ∧ 0 < (sgF f k).2) ∨ (0 < f k ∧ (sgF f k).2 < 0)), if f k = 0 then (sgF f k).2 else f k) := rfl
    have ih2 := ih c1
    rw [hst] at ih2
    refine x_aload_n hC dX7_signChanges_23 rfl rfl ?_
    refine x_iload hC dX7_signChanges_24 rfl ?_
    refine x_ialdN hC hs c1 (by first | decide | omega) dX7_signChanges_26 ?_
    generalize sgF f k = sb at ih2 ⊢
    obtain ⟨s1, s2⟩ := sb
    generalize f k = z at ih2 ⊢
    dsimp only at ih2 ⊢
    refine x_istore (lv' := [_, _, _, _, _, _, _]) hC dX7_signChanges_27 (by decide) rfl ?_
    refine x_iload hC dX7_signChanges_29 rfl ?_
    refine x_if_ne (tgt := 37) hC dX7_signChanges_31 (by decide) (fun c2 => ?_) (fun c2 => ?_)
    · refine x_iload_n hC dX7_signChanges_37 rfl rfl ?_
      rw [if_neg c2] at ih2
      refine x_if_eq (tgt := 66) hC dX7_signChanges_38 (by decide) (fun c3 => ?_) (fun c3 => ?_)
      · rw [xB_f (by rintro (h | h); exact absurd (c3 ▸ h.2) Int32.lt_irrefl; exact absurd (c3 ▸ h.2) Int32.lt_irrefl), Int32.add_zero] at ih2
        refine x_iload hC dX7_signChanges_66 rfl ?_
        refine x_istore_n (lv' := [_, _, _, _, _, _, _]) hC dX7_signChanges_68 rfl (by decide) rfl ?_
        refine x_iincN (lv' := [_, _, _, _, _, _, _]) (b := 1) hC dX7_signChanges_69 rfl (by decide) (by decide) rfl ?_
        refine x_goto (tgt := 16) hC dX7_signChanges_72 (by decide) ?_
        exact ih2 _
      · refine x_iload_n hC dX7_signChanges_41 rfl rfl ?_
        refine x_if_le (tgt := 49) hC dX7_signChanges_42 (by decide) (fun c4 => ?_) (fun c4 => ?_)
        · refine x_iconst (v := 0) hC dX7_signChanges_49 (by decide) ?_
          refine x_iload hC dX7_signChanges_50 rfl ?_
          refine x_if_le (tgt := 59) hC dX7_signChanges_52 (by decide) (fun c5 => ?_) (fun c5 => ?_)
          · rw [xB_f (by rintro (h | h); exact absurd h.2 (Int32.not_lt.mpr c4); exact absurd h.1 (Int32.not_lt.mpr c5)), Int32.add_zero] at ih2
            refine x_iconst (v := 0) hC dX7_signChanges_59 (by decide) ?_
            refine x_icmp_eq (tgt := 66) hC dX7_signChanges_60 (by decide) (fun c6 => ?_) (fun c6 => ?_)
            · refine x_iload hC dX7_signChanges_66 rfl ?_
              refine x_istore_n (lv' := [_, _, _, _, _, _, _]) hC dX7_signChanges_68 rfl (by decide) rfl ?_
              refine x_iincN (lv' := [_, _, _, _, _, _, _]) (b := 1) hC dX7_signChanges_69 rfl (by decide) (by decide) rfl ?_
              refine x_goto (tgt := 16) hC dX7_signChanges_72 (by decide) ?_
              exact ih2 _
            · exact absurd rfl c6
          · rw [xB_t (Or.inr ⟨Int32.not_le.mp c5, ng_lt c3 c4⟩)] at ih2
            refine x_iconst (v := 1) hC dX7_signChanges_55 (by decide) ?_
            refine x_goto (tgt := 60) hC dX7_signChanges_56 (by decide) ?_
            refine x_icmp_eq (tgt := 66) hC dX7_signChanges_60 (by decide) (fun c6 => ?_) (fun c6 => ?_)
            · exact absurd c6 (by decide)
            · refine x_iinc (lv' := [_, _, _, _, _, _, _]) (v := 1) hC dX7_signChanges_63 rfl (by decide) (by decide) rfl ?_
              refine x_iload hC dX7_signChanges_66 rfl ?_
              refine x_istore_n (lv' := [_, _, _, _, _, _, _]) hC dX7_signChanges_68 rfl (by decide) rfl ?_
              refine x_iincN (lv' := [_, _, _, _, _, _, _]) (b := 1) hC dX7_signChanges_69 rfl (by decide) (by decide) rfl ?_
              refine x_goto (tgt := 16) hC dX7_signChanges_72 (by decide) ?_
              exact ih2 _
        · refine x_iconst (v := 1) hC dX7_signChanges_45 (by decide) ?_
          refine x_goto (tgt := 50) hC dX7_signChanges_46 (by decide) ?_
          refine x_iload hC dX7_signChanges_50 rfl ?_
          refine x_if_le (tgt := 59) hC dX7_signChanges_52 (by decide) (fun c5 => ?_) (fun c5 => ?_)
          · rw [xB_t (Or.inl ⟨ng_lt c2 c5, Int32.not_le.mp c4⟩)] at ih2
            refine x_iconst (v := 0) hC dX7_signChanges_59 (by decide) ?_
            refine x_icmp_eq (tgt := 66) hC dX7_signChanges_60 (by decide) (fun c6 => ?_) (fun c6 => ?_)
            · exact absurd c6 (by decide)
            · refine x_iinc (lv' := [_, _, _, _, _, _, _]) (v := 1) hC dX7_signChanges_63 rfl (by decide) (by decide) rfl ?_
              refine x_iload hC dX7_signChanges_66 rfl ?_
              refine x_istore_n (lv' := [_, _, _, _, _, _, _]) hC dX7_signChanges_68 rfl (by decide) rfl ?_
              refine x_iincN (lv' := [_, _, _, _, _, _, _]) (b := 1) hC dX7_signChanges_69 rfl (by decide) (by decide) rfl ?_
              refine x_goto (tgt := 16) hC dX7_signChanges_72 (by decide) ?_
              exact ih2 _
          · rw [xB_f (by rintro (h | h); exact c5 (Int32.le_of_lt h.1); exact c4 (Int32.le_of_lt h.2)), Int32.add_zero] at ih2
            refine x_iconst (v := 1) hC dX7_signChanges_55 (by decide) ?_
            refine x_goto (tgt := 60) hC dX7_signChanges_56 (by decide) ?_
            refine x_icmp_eq (tgt := 66) hC dX7_signChanges_60 (by decide) (fun c6 => ?_) (fun c6 => ?_)
            · refine x_iload hC dX7_signChanges_66 rfl ?_
              refine x_istore_n (lv' := [_, _, _, _, _, _, _]) hC dX7_signChanges_68 rfl (by decide) rfl ?_
              refine x_iincN (lv' := [_, _, _, _, _, _, _]) (b := 1) hC dX7_signChanges_69 rfl (by decide) (by decide) rfl ?_
              refine x_goto (tgt := 16) hC dX7_signChanges_72 (by decide) ?_
              exact ih2 _
            · exact absurd rfl c6
    · rw [if_pos c2, xB_f (by rintro (h | h); exact absurd (c2 ▸ h.1) Int32.lt_irrefl; exact absurd (c2 ▸ h.1) Int32.lt_irrefl), Int32.add_zero] at ih2
      refine x_goto (tgt := 69) hC dX7_signChanges_34 (by decide) ?_
      refine x_iincN (lv' := [_, _, _, _, _, _, _]) (b := 1) hC dX7_signChanges_69 rfl (by decide) (by decide) rfl ?_
      refine x_goto (tgt := 16) hC dX7_signChanges_72 (by decide) ?_
      exact ih2 _
theorem ct_rinter (hG : GOK G) {g : Nat} (hg : g ≠ 0) {q' na' sa' : Nat} {f' : Nat → Int32} {cv' rv' : Value} (h : M q = some (ob 2 3 (reF na sa cv rv))) (hs : M sa = some (ia 0 n f)) (h' : M q' = some (ob 2 3 (reF na' sa' cv' rv'))) (hs' : M sa' = some (ia 0 n f')) (hn : 2 * n ≤ 64) : Ct G yX7_interleaved cX7_interleaved 4 (some (.array .int)) (xrm 1 1 64) [.ref q, .ref q'] M (PNw M g (2 * n) (fun k => if k % 2 = 0 then f (k / 2) else f' (k / 2))) := by
  refine ct_open (lv := [_, _, _, _]) hG (by decide +kernel) (Nat.le_of_ble_eq_true rfl) rfl (fun C hC hk => ?_)
  obtain ⟨M0, hM0⟩ : ∃ M0, M0 = M := ⟨M, rfl⟩
  rw [← hM0] at hk
  have hF : Fm M0 M := by rw [hM0]; exact Fr.rf
  subst hM0
  refine x_iconst (v := nI 2) hC dX7_interleaved_0 (by decide) ?_
  refine x_aload_n hC dX7_interleaved_1 rfl rfl ?_
  refine x_get hC 1 h rfl (by decide) q1486 rfl rfl dX7_interleaved_2 ?_
  refine x_alen hC hs dX7_interleaved_5 ?_
  dsimp only
  refine x_imulN hC dX7_interleaved_6 ?_
  refine x_newi hC (2 * n) g q1328 hg rfl (by omega) (Nat.le_of_ble_eq_true rfl) (show 0 + 2 * n ≤ 64 by omega) dX7_interleaved_7 (fun a ha => ?_)
  refine x_astore_n (lv' := [_, _, _, _]) hC dX7_interleaved_9 rfl (by decide) rfl ?_
  refine x_iconst (v := nI 0) hC dX7_interleaved_10 (by decide) ?_
  refine x_istore_n (lv' := [_, _, _, _]) hC dX7_interleaved_11 rfl (by decide) rfl ?_
  refine x_up (n := 2 * n) (I := fun k => ∀ u, (∀ l, l < k → u l = if l % 2 = 0 then f (l / 2) else f' (l / 2)) → Wg G C (mu M0 a (ia g (2 * n) u)) (0 + 1) (0 + 2 * n) 12 [some (.ref q), some (.ref q'), some (.ref a), some (.int (nI k))] []) (fun k hk2 ih u i1 => ?_) 0 (Nat.zero_le _) _ (fun l hl => by omega)
  refine x_iload_n hC dX7_interleaved_12 rfl rfl ?_
  refine x_aload_n hC dX7_interleaved_13 rfl rfl ?_
  refine x_alen hC mu_s dX7_interleaved_14 ?_
  dsimp only
  refine x_icmp_geN (tgt := 48) hC (by omega) (by omega) dX7_interleaved_15 (by decide) (fun c1 => ?_) (fun c1 => ?_)
  · have hk3 : k = 2 * n := by omega
    subst hk3
    refine x_aload_n hC dX7_interleaved_48 rfl rfl ?_
    exact x_aret hC hk dX7_interleaved_49 (Or.inr ⟨_, rfl⟩) (Or.inr ⟨_, rfl⟩) (Nat.le_of_ble_eq_true rfl) (show 0 + 2 * n ≤ 64 by omega) ⟨a, u, rfl, ha, rfl, i1⟩
  · have fin : ∀ v, v = (if k % 2 = 0 then f (k / 2) else f' (k / 2)) → Wg G C (mu M0 a (ia g (2 * n) u)) (0 + 1) (0 + 2 * n) 41 [some (.ref q), some (.ref q'), some (.ref a), some (.int (nI k))] [.int v, .int (nI k), .ref a] := by
      intro v hv
      refine x_iastN hC mu_s (by first | decide | assumption) c1 (by first | decide | omega) dX7_interleaved_41 ?_
      refine x_iincN (lv' := [_, _, _, _]) (b := 1) hC dX7_interleaved_42 rfl (by decide) (by decide) rfl ?_
      refine x_goto (tgt := 12) hC dX7_interleaved_45 (by decide) ?_
      rw [mu_mu]
      refine ih c1 _ (fun l hl => ?_)
      by_cases e : l = k
      · subst e; rw [upd_s]; exact hv
      · rw [upd_n e]; exact i1 l (by omega)
    refine x_aload_n hC dX7_interleaved_18 rfl rfl ?_
    refine x_iload_n hC dX7_interleaved_19 rfl rfl ?_
    refine x_iload_n hC dX7_interleaved_20 rfl rfl ?_
    refine x_iconst (v := nI 2) hC dX7_interleaved_21 (by decide) ?_
    refine x_iremN hC dX7_interleaved_22 (by omega) (by decide) (by decide) ?_
    refine x_if_neN (tgt := 33) hC (by omega) dX7_interleaved_23 (by decide) (fun c2 => ?_) (fun c2 => ?_)
    · refine x_aload_n hC dX7_interleaved_33 rfl rfl ?_
      refine x_get hC 1 (mu_f ha h') rfl (by decide) q1486 rfl rfl dX7_interleaved_34 ?_
      refine x_iload_n hC dX7_interleaved_37 rfl rfl ?_
      refine x_iconst (v := nI 2) hC dX7_interleaved_38 (by decide) ?_
      refine x_idivN hC dX7_interleaved_39 (by omega) (by decide) (by decide) ?_
      refine x_ialdN hC (mu_f ha hs') (by omega) (by first | decide | omega) dX7_interleaved_40 ?_
      exact fin _ (if_neg c2).symm
    · refine x_aload_n hC dX7_interleaved_26 rfl rfl ?_
      refine x_get hC 1 (mu_f ha h) rfl (by decide) q1486 rfl rfl dX7_interleaved_27 ?_
      refine x_goto (tgt := 37) hC dX7_interleaved_30 (by decide) ?_
      refine x_iload_n hC dX7_interleaved_37 rfl rfl ?_
      refine x_iconst (v := nI 2) hC dX7_interleaved_38 (by decide) ?_
      refine x_idivN hC dX7_interleaved_39 (by omega) (by decide) (by decide) ?_
      refine x_ialdN hC (mu_f ha hs) (by omega) (by first | decide | omega) dX7_interleaved_40 ?_
      exact fin _ (if_pos (by omega)).symm
theorem ct_rstretch (hG : GOK G) {g : Nat} (hg : g ≠ 0) (h : M q = some (ob 2 3 (reF na sa cv rv))) (hs : M sa = some (ia 0 n f)) (hn : 2 * n ≤ 64) : Ct G yX7_stretched cX7_stretched 1 (some (.array .int)) (xrm 2 1 64) [.ref q] M (PNw M g (2 * n) (fun k => f (k / 2))) := by
  refine ct_open (lv := [_]) hG (by decide +kernel) (Nat.le_of_ble_eq_true rfl) rfl (fun C hC hk => ?_)
  obtain ⟨M0, hM0⟩ : ∃ M0, M0 = M := ⟨M, rfl⟩
  rw [← hM0] at hk
  have hF : Fm M0 M := by rw [hM0]; exact Fr.rf
  subst hM0
  refine x_aload_n hC dX7_stretched_0 rfl rfl ?_
  refine x_aload_n hC dX7_stretched_1 rfl rfl ?_
  refine x_callV (k := 1) (n := 64) (na := 1) hC (ct_rinter hG hg h hs h hs hn) (lw_V q2245 q2231 q2232 q115 q2233) h rfl rfl (by decide +kernel) rfl ⟨Nat.le_of_ble_eq_true rfl, Nat.le_of_ble_eq_true rfl⟩ rfl (Nat.le_of_ble_eq_true rfl) (Nat.le_of_ble_eq_true rfl) (Nat.le_of_ble_eq_true rfl) ⟨Nat.le_of_ble_eq_true rfl, Nat.le_of_ble_eq_true rfl⟩ dX7_stretched_2 ?_
  rintro _ _ ⟨a, u, rfl, ha, rfl, hu⟩
  exact x_aret hC hk dX7_stretched_5 (Or.inr ⟨_, rfl⟩) (Or.inr ⟨_, rfl⟩) (Nat.le_of_ble_eq_true rfl) (Nat.le_of_ble_eq_true rfl) ⟨a, u, rfl, ha, rfl, fun k hk => by rw [hu k hk]; exact ite_self _⟩
theorem ct_rnorm (hG : GOK G) {g : Nat} (hg : g ≠ 0) (h : M q = some (ob 2 3 (reF na sa cv rv))) (hs : M sa = some (ia 0 n f)) (hn : n ≤ 64) (lv : Int32) (hmx : ¬ mxA f n = 0) : Ct G yX7_normalized cX7_normalized 4 (some (.array .int)) (xrm 4 1 64) [.ref q, .int lv] M (PNw M g n (fun k => fdiv (lv * f k) (mxA f n))) := by
  refine ct_open (lv := [_, _, _, _]) hG (by decide +kernel) (Nat.le_of_ble_eq_true rfl) rfl (fun C hC hk => ?_)
  obtain ⟨M0, hM0⟩ : ∃ M0, M0 = M := ⟨M, rfl⟩
  rw [← hM0] at hk
  have hF : Fm M0 M := by rw [hM0]; exact Fr.rf
  subst hM0
  refine x_aload_n hC dX7_normalized_0 rfl rfl ?_
  refine x_callV (k := 1) (n := 64) (na := 0) hC (ct_copyS hG hg h hs hn) (lw_V q1717 q1719 qs15 q115 q1720) h rfl rfl (by decide +kernel) rfl ⟨Nat.le_of_ble_eq_true rfl, Nat.le_of_ble_eq_true rfl⟩ rfl (Nat.le_of_ble_eq_true rfl) (Nat.le_of_ble_eq_true rfl) (Nat.le_of_ble_eq_true rfl) ⟨Nat.le_of_ble_eq_true rfl, Nat.le_of_ble_eq_true rfl⟩ dX7_normalized_1 ?_
  rintro _ _ ⟨a, u, rfl, ha, rfl, hu⟩
  refine x_astore_n (lv' := [_, _, _, _]) hC dX7_normalized_4 rfl (by decide) rfl ?_
  refine x_iconst (v := nI 0) hC dX7_normalized_5 (by decide) ?_
  refine x_istore_n (lv' := [_, _, _, _]) hC dX7_normalized_6 rfl (by decide) rfl ?_
  refine x_up (n := n) (I := fun k => ∀ u, (∀ l, l < k → u l = fdiv (lv * f l) (mxA f n)) → (∀ l, k ≤ l → l < n → u l = f l) → Wg G C (mu M0 a (ia g n u)) 1 64 7 [some (.ref q), some (.int lv), some (.ref a), some (.int (nI k))] []) (fun k hk2 ih u i1 i2 => ?_) 0 (Nat.zero_le _) u (fun l hl => by omega) (fun l h1 h2 => hu l h2)
  refine x_iload_n hC dX7_normalized_7 rfl rfl ?_
  refine x_aload_n hC dX7_normalized_8 rfl rfl ?_
  refine x_alen hC mu_s dX7_normalized_9 ?_
  dsimp only
  refine x_icmp_geN (tgt := 34) hC (by omega) (by omega) dX7_normalized_10 (by decide) (fun c1 => ?_) (fun c1 => ?_)
  · have hk3 : k = n := by omega
    subst hk3
    refine x_aload_n hC dX7_normalized_34 rfl rfl ?_
    exact x_aret hC hk dX7_normalized_35 (Or.inr ⟨_, rfl⟩) (Or.inr ⟨_, rfl⟩) (Nat.le_of_ble_eq_true rfl) (Nat.le_of_ble_eq_true rfl) ⟨a, u, rfl, ha, rfl, i1⟩
  · refine x_aload_n hC dX7_normalized_13 rfl rfl ?_
    refine x_iload_n hC dX7_normalized_14 rfl rfl ?_
    refine x_aload_n hC dX7_normalized_15 rfl rfl ?_
    refine x_iload_n hC dX7_normalized_16 rfl rfl ?_
    refine x_ialdN hC mu_s c1 (by first | decide | omega) dX7_normalized_17 ?_
    rw [i2 k (Nat.le_refl k) c1]
    refine x_iload_n hC dX7_normalized_18 rfl rfl ?_
    refine x_imul hC dX7_normalized_19 ?_
    refine x_aload_n hC dX7_normalized_20 rfl rfl ?_
    refine x_callV0 (na := 0) hC (ct_rgreat hG (mu_f ha h) (mu_f ha hs) hn) (lw_V q2222 q2214 q2215 q115 q2216) (mu_f ha h) rfl rfl (by decide +kernel) rfl ⟨Nat.le_of_ble_eq_true rfl, Nat.le_of_ble_eq_true rfl⟩ rfl (Nat.le_of_ble_eq_true rfl) ⟨rfl, rfl⟩ ⟨Nat.le_of_ble_eq_true rfl, Nat.le_of_ble_eq_true rfl⟩ dX7_normalized_21 ?_
    rintro _ M ⟨rfl, rfl⟩
    refine x_callS0 (na := 2) hC (ct_floorDiv hG _ _ hmx _) (lw_S q1945 q1946 q103 q1947) (by decide +kernel) rfl ⟨Nat.le_of_ble_eq_true rfl, Nat.le_of_ble_eq_true rfl⟩ rfl (Nat.le_of_ble_eq_true rfl) ⟨rfl, rfl⟩ ⟨Nat.le_of_ble_eq_true rfl, Nat.le_of_ble_eq_true rfl⟩ dX7_normalized_24 ?_
    rintro _ M ⟨rfl, rfl⟩
    refine x_iastN hC mu_s (by first | decide | assumption) c1 (by first | decide | omega) dX7_normalized_27 ?_
    refine x_iincN (lv' := [_, _, _, _]) (b := 1) hC dX7_normalized_28 rfl (by decide) (by decide) rfl ?_
    refine x_goto (tgt := 7) hC dX7_normalized_31 (by decide) ?_
    rw [mu_mu]
    refine ih c1 _ (fun l hl => ?_) (fun l h1 h2 => ?_)
    · by_cases e : l = k
      · subst e; rw [upd_s, Int32.mul_comm]
      · rw [upd_n e]; exact i1 l (by omega)
    · rw [upd_n (by omega)]; exact i2 l (by omega) h2
end R15

