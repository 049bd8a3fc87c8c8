/-! ===== the component's parser: a sample ===== -/
/-- the cells that reading samples may write -/
abbrev P8 : Nat → Prop := fun g => g = 8 ∨ g = 7 ∨ g = 3 ∨ g = 5
theorem P8_1 : ¬ P8 1 := by decide
theorem P8_0 : ¬ P8 0 := by decide
theorem p87 {M M' : X_M} (h : Fr P7 M M') : Fr P8 M M' := h.wk fun _ e => Or.inr e
theorem pe87 {M M' : X_M} {k o q : Nat} {E : String} (h : PEr P7 M k o q E M') : PEr P8 M k o q E M' := h.wk fun _ e => Or.inr e
theorem srt_eq {G : X_G} {T : X_T} (hT : T2 G T) {c d : Nat} (hc : c < 6) (hd : d < 6) (hc1 : c ≠ 1) (hd1 : d ≠ 1) : T (srt c) = T (srt d) ↔ c = d := by
  have key0 : ∀ c, c < 6 → ∀ d, d < 6 → (c = 1 ∨ d = 1 ∨ ((7 ≤ srt c ∧ srt c < 12) ∧ (srt c ≠ srt d ∨ c = d))) := by decide
  have key : ∀ c, c < 6 → ∀ d, d < 6 → c ≠ 1 → d ≠ 1 → (7 ≤ srt c ∧ srt c < 12) ∧ (srt c = srt d → c = d) := fun c hc d hd h1 h2 => by
    rcases key0 c hc d hd with h | h | ⟨h3, h4⟩
    · exact absurd h h1
    · exact absurd h h2
    · exact ⟨h3, fun e => h4.resolve_left (fun z => z e)⟩
  obtain ⟨k1, k2⟩ := key c hc d hd hc1 hd1
  obtain ⟨k3, -⟩ := key d hd c hc hd1 hc1
  exact ⟨fun e => k2 (hT.2.1 _ _ k1.1 k1.2 k3.1 k3.2 e), fun e => by rw [e]⟩
/-- the parser stands at the token that begins at s -/
def PAt (M : X_M) (T : X_T) (pa bu L ar rd rc : Nat) (b : Nat → Nat) (s : Nat) : Prop := ∃ so wo nu, M pa = some (pO bu L ar rd rc (tkN b L s) s so wo nu) ∧ TkO M T b L s so wo nu
/-- where the number's token of a sample begins -/
abbrev smS (b : Nat → Nat) (L s : Nat) : Nat := if tkC b L s = 5 then adv b L s else s
theorem smS_le {b : Nat → Nat} {L s : Nat} (h : s ≤ L) : s ≤ smS b L s ∧ smS b L s ≤ L ∧ tkN b L s ≤ tkN b L (smS b L s) := by
  have h1 := tkN_le b h
  have h2 := adv_le (b := b) h
  have h3 := tkN_le b h2.2
  have h4 := tkS_le b h1.2
  have h5 : tkN b L s ≤ adv b L s := h4.1
  show s ≤ (if tkC b L s = 5 then adv b L s else s) ∧ (if tkC b L s = 5 then adv b L s else s) ≤ L ∧ tkN b L s ≤ tkN b L (if tkC b L s = 5 then adv b L s else s)
  split <;> omega
section PS4
variable {G : X_G} {M : X_M} {T : X_T} {pa bu L ar rd rc po st so wo : Nat} {nu : Int32} {b : Nat → Nat}
theorem cq_psample (hG : GOK G) (hT : T2 G T) (hM : M2c T M) {n s : Nat} (h : PAt M T pa bu L ar rd n b s) (hb : PBt M bu L b) (hs : s ≤ L) {f : Nat → Int32} (hrd : M rd = some (ia 8 64 f)) (hn : n ≤ 64) : Cq G yX4_parseSample cX4_parseSample 2 none (xrm 10 (3 + 22 * (tkN b L (smS b L s) - tkN b L s)) (24 + 70 * (tkN b L (smS b L s) - tkN b L s))) [.ref pa] M (fun r M' => r = none ∧ ∃ x, pS1 b L s n = .ok (x, adv b L (smS b L s)) ∧ PAt M' T pa bu L ar rd (n + 1) b (smS b L s) ∧ M' rd = some (ia 8 64 (upd f n x)) ∧ Fr P8 M M') (fun q E M' => ∃ k o, pS1 b L s n = .error (k, o) ∧ PEr P8 M k o q E M') := by
  have hL9 := hb.le
  have hc6 := tkC_lt b L s
  have hsm := smS_le (b := b) hs
  obtain ⟨so, wo, nu, hp, ht⟩ := h
  refine cq_open (lv := [_, _]) hG (by decide +kernel) (Nat.le_of_ble_eq_true rfl) rfl (fun C hC hk hx => ?_)
  obtain ⟨M0, hM0⟩ : ∃ M0, M0 = M := ⟨M, rfl⟩
  subst hM0
  have rest : ∀ M1 kc ks so' wo' nu' (ng : Bool), kc ≤ 1 + 22 * (tkN b L (smS b L s) - tkN b L s) → ks ≤ 8 + 70 * (tkN b L (smS b L s) - tkN b L s) → M1 pa = some (pO bu L ar rd n (tkN b L (smS b L s)) (smS b L s) so' wo' nu') → TkO M1 T b L (smS b L s) so' wo' nu' → Fr P7 M0 M1 → pS1 b L s n = pS2 b L (smS b L s) n ng → Wg G C M1 kc ks 24 [some (.ref pa), some (.int (xB (ng = true)))] [] := by
    intro M1 kc ks so' wo' nu' ng hkc hks hp1 ht1 hF hps
    have hc6' := tkC_lt b L (smS b L s)
    generalize hs1 : smS b L s = s1 at hC hk hx hkc hks hp1 ht1 hps hc6' hsm ⊢
    have key : ∀ v, v = xB (tkC b L s1 = 3) → Wg G C M1 kc ks 40 [some (.ref pa), some (.int (xB (ng = true)))] [.int v, .ref pa] := by
      rintro _ rfl
      refine x_iconst (v := nI 1) hC dX4_parseSample_40 (by decide) ?_
      refine x_qV (k := kc + 1) (n := ks + 8) (na := 2) hC (cq_check hG hp1 (tkC b L s1 = 3) 1) (lw_V q1416 q1418 qs9 q95 q1419) hp1 rfl rfl (by decide +kernel) rfl ⟨Nat.le_of_ble_eq_true rfl, Nat.le_of_ble_eq_true rfl⟩ rfl (Nat.le_of_ble_eq_true rfl) (Nat.le_refl _) (Nat.le_refl _) ⟨(show kc + 1 ≤ 3 + 22 * (tkN b L s1 - tkN b L s) by omega), (show ks + 8 ≤ 24 + 70 * (tkN b L s1 - tkN b L s) by omega)⟩ dX4_parseSample_41 ?_ (fun q9 E9 M9 h9 => x_out hC hx ((show kc + 1 ≤ 3 + 22 * (tkN b L s1 - tkN b L s) by omega)) ((show ks + 8 ≤ 24 + 70 * (tkN b L s1 - tkN b L s) by omega)) (by obtain ⟨n9, e9⟩ := h9; exact ⟨1, s1, by rw [hps, pS2, if_neg n9], pe87 (PEr.tr hF (e9.wk fun _ z => z.elim))⟩))
      rintro _ M2 ⟨rfl, hM2, h3⟩
      subst hM2
      have key2 : ∀ v, v = xB (n < 64) → Wg G C M2 (kc + 1) (ks + 8) 59 [some (.ref pa), some (.int (xB (ng = true)))] [.int v, .ref pa] := by
        rintro _ rfl
        refine x_iconst (v := nI 4) hC dX4_parseSample_59 (by decide) ?_
        refine x_qV (k := kc + 1 + 1) (n := ks + 8 + 8) (na := 2) hC (cq_check hG hp1 (n < 64) 4) (lw_V q1416 q1418 qs9 q95 q1419) hp1 rfl rfl (by decide +kernel) rfl ⟨Nat.le_of_ble_eq_true rfl, Nat.le_of_ble_eq_true rfl⟩ rfl (Nat.le_of_ble_eq_true rfl) (Nat.le_refl _) (Nat.le_refl _) ⟨(show kc + 1 + 1 ≤ 3 + 22 * (tkN b L s1 - tkN b L s) by omega), (show ks + 8 + 8 ≤ 24 + 70 * (tkN b L s1 - tkN b L s) by omega)⟩ dX4_parseSample_60 ?_ (fun q9 E9 M9 h9 => x_out hC hx ((show kc + 1 + 1 ≤ 3 + 22 * (tkN b L s1 - tkN b L s) by omega)) ((show ks + 8 + 8 ≤ 24 + 70 * (tkN b L s1 - tkN b L s) by omega)) (by obtain ⟨n9, e9⟩ := h9; exact ⟨4, s1, by rw [hps, pS2, if_pos h3, if_pos (show n = 64 by omega)], pe87 (PEr.tr hF (e9.wk fun _ z => z.elim))⟩))
        rintro _ M3 ⟨rfl, hM3, h64⟩
        subst hM3
        have hnu := ht1.2.2.2.2 h3
        have hx1 : pS1 b L s n = .ok (if ng = true then -nI (vl b s1 (tkN b L s1 - s1)) else nI (vl b s1 (tkN b L s1 - s1)), adv b L s1) := by rw [hps, pS2, if_pos h3, if_neg (show ¬ n = 64 by omega)]
        have hrd1 : M3 rd = some (ia 8 64 f) := hF.z (by decide) hrd
        have key3 : ∀ v, v = (if ng = true then -nI (vl b s1 (tkN b L s1 - s1)) else nI (vl b s1 (tkN b L s1 - s1))) → Wg G C M3 (kc + 1 + 1) (ks + 8 + 8) 87 [some (.ref pa), some (.int (xB (ng = true)))] [.int v, .int (nI n), .ref rd] := by
          intro v hv
          rw [← hv] at hx1
          refine x_iastN hC hrd1 (by first | decide | assumption) h64 (by first | decide | omega) dX4_parseSample_87 ?_
          have hF2 : Fr (fun g => g = 8) M3 (mu M3 rd (ia 8 64 (upd f n v))) := Fr.set hrd1 rfl
          have hp2 := hF2.z (by decide) hp1
          refine x_aload_n hC dX4_parseSample_88 rfl rfl ?_
          refine x_dup hC dX4_parseSample_89 rfl ?_
          refine x_get hC 4 hp2 rfl (by decide) q1368 rfl rfl dX4_parseSample_90 ?_
          refine x_iconst (v := nI 1) hC dX4_parseSample_93 (by decide) ?_
          refine x_iaddN hC dX4_parseSample_94 ?_
          refine x_put hC 4 hp2 (by decide) rfl (by decide) q1368 rfl rfl rfl rfl rfl (show 4 < 10 by decide) (fs' := pF bu L ar rd (n + 1) (tkN b L s1) s1 so' wo' nu') rfl dX4_parseSample_95 ?_
          have hF3 : Fr P7 (mu M3 rd (ia 8 64 (upd f n v))) (mu (mu M3 rd (ia 8 64 (upd f n v))) pa (pO bu L ar rd (n + 1) (tkN b L s1) s1 so' wo' nu')) := p77 hp2
          have hF4 : Fr P8 M0 (mu (mu M3 rd (ia 8 64 (upd f n v))) pa (pO bu L ar rd (n + 1) (tkN b L s1) s1 so' wo' nu')) := ((p87 hF).tr (hF2.wk fun _ e => Or.inl e)).tr (p87 hF3)
          refine x_vret hC hk dX4_parseSample_98 (show kc + 1 + 1 ≤ 3 + 22 * (tkN b L s1 - tkN b L s) by omega) (show ks + 8 + 8 ≤ 24 + 70 * (tkN b L s1 - tkN b L s) by omega) ⟨rfl, v, hx1, ⟨so', wo', nu', mu_s, (ht1.fr hF2 (by decide)).fr hF3 P7_0⟩, ?_, hF4⟩
          exact mu_o (mx_tag (mu_s (M := M3) (e := ia 8 64 (upd f n v))) hp2 (show (8 : Nat) ≠ 7 by decide)) mu_s
        refine x_aload_n hC dX4_parseSample_63 rfl rfl ?_
        refine x_get hC 3 hp1 rfl (by decide) q1367 rfl rfl dX4_parseSample_64 ?_
        refine x_aload_n hC dX4_parseSample_67 rfl rfl ?_
        refine x_get hC 4 hp1 rfl (by decide) q1368 rfl rfl dX4_parseSample_68 ?_
        refine x_iload_n hC dX4_parseSample_71 rfl rfl ?_
        refine x_if_eqB (tgt := 83) hC dX4_parseSample_72 (by decide) (fun c3 => ?_) (fun c3 => ?_)
        · refine x_aload_n hC dX4_parseSample_83 rfl rfl ?_
          refine x_get hC 9 hp1 rfl (by decide) q1373 rfl rfl dX4_parseSample_84 ?_
          refine key3 _ ?_
          rw [if_neg c3, hnu]
        · refine x_aload_n hC dX4_parseSample_75 rfl rfl ?_
          refine x_get hC 9 hp1 rfl (by decide) q1373 rfl rfl dX4_parseSample_76 ?_
          refine x_ineg hC dX4_parseSample_79 ?_
          refine x_goto (tgt := 87) hC dX4_parseSample_80 (by decide) ?_
          refine key3 _ ?_
          rw [if_pos c3, hnu]
      refine x_aload_n hC dX4_parseSample_44 rfl rfl ?_
      refine x_aload_n hC dX4_parseSample_45 rfl rfl ?_
      refine x_get hC 4 hp1 rfl (by decide) q1368 rfl rfl dX4_parseSample_46 ?_
      refine x_bipush (v := nI 64) hC dX4_parseSample_49 (by decide) ?_
      refine x_icmp_geN (tgt := 58) hC (by omega) (by omega) dX4_parseSample_51 (by decide) (fun c4 => ?_) (fun c4 => ?_)
      · refine x_iconst (v := 0) hC dX4_parseSample_58 (by decide) ?_
        exact key2 _ (xB_f (by omega)).symm
      · refine x_iconst (v := 1) hC dX4_parseSample_54 (by decide) ?_
        refine x_goto (tgt := 59) hC dX4_parseSample_55 (by decide) ?_
        exact key2 _ (xB_t (by omega)).symm
    refine x_aload_n hC dX4_parseSample_24 rfl rfl ?_
    refine x_aload_n hC dX4_parseSample_25 rfl rfl ?_
    refine x_get hC 7 hp1 rfl (by decide) q1371 rfl rfl dX4_parseSample_26 ?_
    refine x_gets hC hT.1.2.1 q1450 rfl dX4_parseSample_29 ?_
    refine x_acmp_neR (tgt := 39) hC dX4_parseSample_32 (by decide) (fun c5 => ?_) (fun c5 => ?_)
    · refine x_iconst (v := 0) hC dX4_parseSample_39 (by decide) ?_
      refine key _ (xB_f (fun z => c5 ?_)).symm
      rw [ht1.2.1, z]
      rfl
    · refine x_iconst (v := 1) hC dX4_parseSample_35 (by decide) ?_
      refine x_goto (tgt := 40) hC dX4_parseSample_36 (by decide) ?_
      refine key _ (xB_t ?_).symm
      rw [ht1.2.1] at c5
      exact (srt_eq hT hc6' (by decide) ht1.1 (by decide)).mp c5
  have key0 : ∀ v, v = xB (tkC b L s = 5) → Wg G C M0 0 0 15 [some (.ref pa), none] [.int v] := by
    rintro _ rfl
    refine x_istore_n (lv' := [_, _]) hC dX4_parseSample_15 rfl (by decide) rfl ?_
    refine x_iload_n hC dX4_parseSample_16 rfl rfl ?_
    refine x_if_eqB (tgt := 24) hC dX4_parseSample_17 (by decide) (fun c1 => ?_) (fun c1 => ?_)
    · have e1 : smS b L s = s := if_neg c1
      have h9 := rest M0 0 0 so wo nu false (Nat.zero_le _) (Nat.zero_le _) (by rw [e1]; exact hp) (by rw [e1]; exact ht) Fr.rf (by rw [e1, pS1, if_neg c1])
      rw [show xB (tkC b L s = 5) = xB (false = true) by rw [xB_f c1, xB_f (by decide)]]
      exact h9
    · have e1 : smS b L s = adv b L s := if_pos c1
      have e2 : tkS b L (tkN b L s) = smS b L s := e1.symm
      refine x_aload_n hC dX4_parseSample_20 rfl rfl ?_
      have hpa := cq_padv hG hT hM hp hb (tkN_le b hs).2
      rw [e2] at hpa
      refine x_qV (k := 1 + 22 * (tkN b L (smS b L s) - tkN b L s)) (n := 8 + 70 * (tkN b L (smS b L s) - tkN b L s)) (na := 0) hC (hpa) (lw_V q1399 q1401 qs6 q95 q1402) hp rfl rfl (by decide +kernel) rfl ⟨Nat.le_of_ble_eq_true rfl, Nat.le_of_ble_eq_true rfl⟩ rfl (Nat.le_of_ble_eq_true rfl) (Nat.le_of_eq (Nat.zero_add _)) (Nat.le_of_eq (Nat.zero_add _)) ⟨(show 1 + 22 * (tkN b L (smS b L s) - tkN b L s) ≤ 3 + 22 * (tkN b L (smS b L s) - tkN b L s) by omega), (show 8 + 70 * (tkN b L (smS b L s) - tkN b L s) ≤ 24 + 70 * (tkN b L (smS b L s) - tkN b L s) by omega)⟩ dX4_parseSample_21 ?_ (fun q9 E9 M9 h9 => x_out hC hx ((show 1 + 22 * (tkN b L (smS b L s) - tkN b L s) ≤ 3 + 22 * (tkN b L (smS b L s) - tkN b L s) by omega)) ((show 8 + 70 * (tkN b L (smS b L s) - tkN b L s) ≤ 24 + 70 * (tkN b L (smS b L s) - tkN b L s) by omega)) (by obtain ⟨n9, e9⟩ := h9; exact ⟨1, smS b L s, by rw [pS1, if_pos c1, pS2, ← e1, if_neg (by rw [n9]; decide)], pe87 e9⟩))
      rintro _ M1 ⟨rfl, so', wo', nu', hp1, ht1, hF1⟩
      have h9 := rest M1 _ _ so' wo' nu' true (Nat.le_refl _) (Nat.le_refl _) hp1 ht1 hF1 (by rw [pS1, if_pos c1, e1])
      rw [show xB (tkC b L s = 5) = xB (true = true) by rw [xB_t c1, xB_t rfl]]
      exact h9
  refine x_aload_n hC dX4_parseSample_0 rfl rfl ?_
  refine x_get hC 7 hp rfl (by decide) q1371 rfl rfl dX4_parseSample_1 ?_
  refine x_gets hC hT.1.2.2.1 q1452 rfl dX4_parseSample_4 ?_
  refine x_acmp_neR (tgt := 14) hC dX4_parseSample_7 (by decide) (fun c0 => ?_) (fun c0 => ?_)
  · refine x_iconst (v := 0) hC dX4_parseSample_14 (by decide) ?_
    refine key0 _ (xB_f (fun z => c0 ?_)).symm
    rw [ht.2.1, z]
    rfl
  · refine x_iconst (v := 1) hC dX4_parseSample_10 (by decide) ?_
    refine x_goto (tgt := 15) hC dX4_parseSample_11 (by decide) ?_
    refine key0 _ (xB_t ?_).symm
    rw [ht.2.1] at c0
    exact (srt_eq hT hc6 (by decide) ht.1 (by decide)).mp c0
end PS4

