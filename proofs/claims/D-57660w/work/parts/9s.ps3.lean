/-! ===== the component's parser: advance ===== -/
/-- the constant of a token's sort -/
def srt : Nat → Nat
  | 0 => 11
  | 2 => 7
  | 3 => 8
  | 4 => 10
  | _ => 9
/-- what the parser holds of the token that begins at s -/
def TkO (M : X_M) (T : X_T) (b : Nat → Nat) (L s so wo : Nat) (nu : Int32) : Prop := tkC b L s ≠ 1 ∧ so = T (srt (tkC b L s)) ∧ (tkC b L s = 2 → SM M wo (sub b s (tkN b L s))) ∧ (tkC b L s ≠ 2 → SM M wo []) ∧ (tkC b L s = 3 → nu = nI (vl b s (tkN b L s - s)))
theorem TkO.fr {P : Nat → Prop} {M M' : X_M} {T : X_T} {b : Nat → Nat} {L s so wo : Nat} {nu : Int32} (h : TkO M T b L s so wo nu) (hF : Fr P M M') (h0 : ¬ P 0) : TkO M' T b L s so wo nu := ⟨h.1, h.2.1, fun z => (h.2.2.1 z).fr hF h0, fun z => (h.2.2.2.1 z).fr hF h0, h.2.2.2.2⟩
section PS3
variable {G : X_G} {M : X_M} {T : X_T} {pa bu L ar rd rc po st so wo : Nat} {nu : Int32} {b : Nat → Nat}
theorem cq_padv (hG : GOK G) (hT : T2 G T) (hM : M2c T M) (h : M pa = some (pO bu L ar rd rc po st so wo nu)) (hb : PBt M bu L b) (hpo : po ≤ L) : Cq G yX4_advance cX4_advance 1 none (xrm 9 (1 + 22 * (tkN b L (tkS b L po) - po)) (8 + 70 * (tkN b L (tkS b L po) - po))) [.ref pa] M (fun r M' => r = none ∧ ∃ so' wo' nu', M' pa = some (pO bu L ar rd rc (tkN b L (tkS b L po)) (tkS b L po) so' wo' nu') ∧ TkO M' T b L (tkS b L po) so' wo' nu' ∧ Fr P7 M M') (fun q E M' => tkC b L (tkS b L po) = 1 ∧ PEr P7 M 1 (tkS b L po) q E M') := by
  have hL9 := hb.le
  refine cq_open (lv := [_]) hG (by decide +kernel) (Nat.le_of_ble_eq_true rfl) rfl (fun C hC hk hx => ?_)
  obtain ⟨M0, hM0⟩ : ∃ M0, M0 = M := ⟨M, rfl⟩
  subst hM0
  generalize hs : tkS b L po = s at hC hk hx ⊢
  have hsL : po ≤ s ∧ s ≤ L := by rw [← hs]; exact tkS_le b hpo
  have hnL := tkN_le b hsL.2
  generalize hn : tkN b L s = e at hC hk hx hnL ⊢
  have fin : ∀ M1 kc ks so' wo' nu', kc ≤ 1 + 22 * (e - po) → ks ≤ 8 + 70 * (e - po) → M1 pa = some (pO bu L ar rd rc e s so' wo' nu') → TkO M1 T b L s so' wo' nu' → Fr P7 M0 M1 → Wg G C M1 kc ks 172 [some (.ref pa)] [] := by
    intro M1 kc ks so' wo' nu' hkc hks hp ht hF
    exact x_vret hC hk dX4_advance_172 hkc hks ⟨rfl, so', wo', nu', hp, ht, hF⟩
  have rest : ∀ M1, M1 pa = some (pO bu L ar rd rc s st so wo nu) → Fr P7 M0 M1 → Wg G C M1 0 0 35 [some (.ref pa)] [] := by
    intro M1 hp hF
    refine x_aload_n hC dX4_advance_35 rfl rfl ?_
    refine x_aload_n hC dX4_advance_36 rfl rfl ?_
    refine x_get hC 5 hp rfl (by decide) q1369 rfl rfl dX4_advance_37 ?_
    refine x_put hC 6 hp (by decide) rfl (by decide) q1370 rfl rfl rfl rfl rfl (show 6 < 10 by decide) (fs' := pF bu L ar rd rc s s so wo nu) rfl dX4_advance_40 ?_
    refine x_aload_n hC dX4_advance_43 rfl rfl ?_
    refine x_ldcS hC hT.2.2.1 dX4_advance_44 ?_
    refine x_put hC 8 mu_s (by decide) rfl (by decide) q1372 rfl rfl rfl rfl rfl (show 8 < 10 by decide) (fs' := pF bu L ar rd rc s s so (T 3) nu) rfl dX4_advance_46 ?_
    rw [mu_mu]
    have hF2 : Fr P7 M0 (mu M1 pa (pO bu L ar rd rc s s so (T 3) nu)) := hF.tr (p77 hp)
    have hM2 := hM.fr hF2 P7_0
    have hb2 := hb.fr hF2 P7_1
    have hp2 : (mu M1 pa (pO bu L ar rd rc s s so (T 3) nu)) pa = some (pO bu L ar rd rc s s so (T 3) nu) := mu_s
    generalize mu M1 pa (pO bu L ar rd rc s s so (T 3) nu) = M2 at hF2 hM2 hb2 hp2 ⊢
    refine x_aload_n hC dX4_advance_49 rfl rfl ?_
    refine x_get hC 5 hp2 rfl (by decide) q1369 rfl rfl dX4_advance_50 ?_
    refine x_aload_n hC dX4_advance_53 rfl rfl ?_
    refine x_get hC 1 hp2 rfl (by decide) q1365 rfl rfl dX4_advance_54 ?_
    refine x_icmp_neN (tgt := 70) hC (by omega) (by omega) dX4_advance_57 (by decide) (fun c0 => ?_) (fun c0 => ?_)
    · -- more text
      have hs1 : s < L := by omega
      obtain ⟨bf, b1, b2, b3⟩ := id hb2
      have hb9 := (b3 s hs1).1
      refine x_aload_n hC dX4_advance_70 rfl rfl ?_
      refine x_bipush (v := nI 97) hC dX4_advance_71 (by decide) ?_
      refine x_bipush (v := nI 122) hC dX4_advance_73 (by decide) ?_
      refine x_callV0 (na := 2) hC (ct_isNext hG hp2 hb2 hsL.2 (by decide) (by decide) (by decide)) (lw_V q1403 q1405 qs7 q95 q1406) hp2 rfl rfl (by decide +kernel) rfl ⟨Nat.le_of_ble_eq_true rfl, Nat.le_of_ble_eq_true rfl⟩ rfl (Nat.le_of_ble_eq_true rfl) ⟨rfl, rfl⟩ ⟨Nat.zero_le _, Nat.zero_le _⟩ dX4_advance_75 ?_
      rintro _ M ⟨rfl, rfl⟩
      refine x_if_eqB (tgt := 88) hC dX4_advance_78 (by decide) (fun c1 => ?_) (fun c1 => ?_)
      · have n1 : ¬ isLt (b s) := fun z => c1 ⟨hs1, z.1, z.2⟩
        refine x_aload_n hC dX4_advance_88 rfl rfl ?_
        refine x_bipush (v := nI 48) hC dX4_advance_89 (by decide) ?_
        refine x_bipush (v := nI 57) hC dX4_advance_91 (by decide) ?_
        refine x_callV0 (na := 2) hC (ct_isNext hG hp2 hb2 hsL.2 (by decide) (by decide) (by decide)) (lw_V q1403 q1405 qs7 q95 q1406) hp2 rfl rfl (by decide +kernel) rfl ⟨Nat.le_of_ble_eq_true rfl, Nat.le_of_ble_eq_true rfl⟩ rfl (Nat.le_of_ble_eq_true rfl) ⟨rfl, rfl⟩ ⟨Nat.zero_le _, Nat.zero_le _⟩ dX4_advance_93 ?_
        rintro _ M ⟨rfl, rfl⟩
        refine x_if_eqB (tgt := 106) hC dX4_advance_96 (by decide) (fun c2 => ?_) (fun c2 => ?_)
        · have n2 : ¬ isDg (b s) := fun z => c2 ⟨hs1, z.1, z.2⟩
          have en : e = s + 1 := by rw [← hn]; unfold tkN; rw [if_neg (by omega), if_neg n1, if_neg n2]
          have ec : tkC b L s = if b s = 59 then 4 else if b s = 45 then 5 else 1 := by unfold tkC; rw [if_neg (by omega), if_neg n1, if_neg n2]
          have key : ∀ v, v = xB (b s = 59 ∨ b s = 45) → Wg G C M 0 0 134 [some (.ref pa)] [.int v, .ref pa] := by
            rintro _ rfl
            refine x_iconst (v := nI 1) hC dX4_advance_134 (by decide) ?_
            refine x_qV (k := 1) (n := 8) (na := 2) hC (cq_check hG hp2 (b s = 59 ∨ b s = 45) 1) (lw_V q1416 q1418 qs9 q95 q1419) hp2 rfl rfl (by decide +kernel) rfl ⟨Nat.le_of_ble_eq_true rfl, Nat.le_of_ble_eq_true rfl⟩ rfl (Nat.le_of_ble_eq_true rfl) (Nat.le_refl _) (Nat.le_refl _) ⟨(show 1 ≤ 1 + 22 * (e - po) by omega), (show 8 ≤ 8 + 70 * (e - po) by omega)⟩ dX4_advance_135 ?_ (fun q9 E9 M9 h9 => x_out hC hx ((show 1 ≤ 1 + 22 * (e - po) by omega)) ((show 8 ≤ 8 + 70 * (e - po) by omega)) (by obtain ⟨n9, e9⟩ := h9; exact ⟨by rw [ec, if_neg (fun z => n9 (Or.inl z)), if_neg (fun z => n9 (Or.inr z))], PEr.tr hF2 (e9.wk fun _ z => z.elim)⟩))
            rintro _ M3 ⟨rfl, hM3, h9⟩
            subst hM3
            have key2 : ∀ so', so' = T (srt (tkC b L s)) → tkC b L s ≠ 1 → tkC b L s ≠ 2 → tkC b L s ≠ 3 → Wg G C M3 1 8 159 [some (.ref pa)] [.ref so', .ref pa] := by
              rintro _ rfl k1 k2 k3
              refine x_put hC 7 hp2 (by decide) rfl (by decide) q1371 rfl rfl rfl rfl rfl (show 7 < 10 by decide) (fs' := pF bu L ar rd rc s s (T (srt (tkC b L s))) (T 3) nu) rfl dX4_advance_159 ?_
              refine x_aload_n hC dX4_advance_162 rfl rfl ?_
              refine x_dup hC dX4_advance_163 rfl ?_
              refine x_get hC 5 mu_s rfl (by decide) q1369 rfl rfl dX4_advance_164 ?_
              refine x_iconst (v := nI 1) hC dX4_advance_167 (by decide) ?_
              refine x_iaddN hC dX4_advance_168 ?_
              refine x_put hC 5 mu_s (by decide) rfl (by decide) q1369 rfl rfl rfl rfl rfl (show 5 < 10 by decide) (fs' := pF bu L ar rd rc (s + 1) s (T (srt (tkC b L s))) (T 3) nu) rfl dX4_advance_169 ?_
              rw [mu_mu]
              have hF3 : Fr P7 M3 (mu M3 pa (pO bu L ar rd rc (s + 1) s (T (srt (tkC b L s))) (T 3) nu)) := p77 hp2
              exact fin _ 1 8 _ _ _ (by omega) (by omega) (by rw [en]; exact mu_s) ⟨k1, rfl, fun z => absurd z k2, fun _ => hM2.1.fr hF3 P7_0, fun z => absurd z k3⟩ (hF2.tr hF3)
            refine x_aload_n hC dX4_advance_138 rfl rfl ?_
            refine x_aload_n hC dX4_advance_139 rfl rfl ?_
            refine x_bipush (v := nI 45) hC dX4_advance_140 (by decide) ?_
            refine x_bipush (v := nI 45) hC dX4_advance_142 (by decide) ?_
            refine x_callV0 (na := 2) hC (ct_isNext hG hp2 hb2 hsL.2 (by decide) (by decide) (by decide)) (lw_V q1403 q1405 qs7 q95 q1406) hp2 rfl rfl (by decide +kernel) rfl ⟨Nat.le_of_ble_eq_true rfl, Nat.le_of_ble_eq_true rfl⟩ rfl (Nat.le_of_ble_eq_true rfl) ⟨rfl, rfl⟩ ⟨(show 1 ≤ 1 + 22 * (e - po) by omega), (show 8 ≤ 8 + 70 * (e - po) by omega)⟩ dX4_advance_144 ?_
            rintro _ M ⟨rfl, rfl⟩
            refine x_if_eqB (tgt := 156) hC dX4_advance_147 (by decide) (fun c5 => ?_) (fun c5 => ?_)
            · have c6 : b s = 59 := by
                rcases h9 with z | z
                · exact z
                · exact absurd ⟨hs1, by omega, by omega⟩ c5
              rw [if_pos c6] at ec
              refine x_gets hC hT.1.2.2.2.1 q1454 rfl dX4_advance_156 ?_
              exact key2 _ (by rw [ec]; rfl) (by rw [ec]; decide) (by rw [ec]; decide) (by rw [ec]; decide)
            · have c6 : b s = 45 := by omega
              rw [if_neg (by omega), if_pos c6] at ec
              refine x_gets hC hT.1.2.2.1 q1452 rfl dX4_advance_150 ?_
              refine x_goto (tgt := 159) hC dX4_advance_153 (by decide) ?_
              exact key2 _ (by rw [ec]; rfl) (by rw [ec]; decide) (by rw [ec]; decide) (by rw [ec]; decide)
          refine x_aload_n hC dX4_advance_106 rfl rfl ?_
          refine x_aload_n hC dX4_advance_107 rfl rfl ?_
          refine x_bipush (v := nI 59) hC dX4_advance_108 (by decide) ?_
          refine x_bipush (v := nI 59) hC dX4_advance_110 (by decide) ?_
          refine x_callV0 (na := 2) hC (ct_isNext hG hp2 hb2 hsL.2 (by decide) (by decide) (by decide)) (lw_V q1403 q1405 qs7 q95 q1406) hp2 rfl rfl (by decide +kernel) rfl ⟨Nat.le_of_ble_eq_true rfl, Nat.le_of_ble_eq_true rfl⟩ rfl (Nat.le_of_ble_eq_true rfl) ⟨rfl, rfl⟩ ⟨Nat.zero_le _, Nat.zero_le _⟩ dX4_advance_112 ?_
          rintro _ M ⟨rfl, rfl⟩
          refine x_if_neB (tgt := 129) hC dX4_advance_115 (by decide) (fun c3 => ?_) (fun c3 => ?_)
          · refine x_iconst (v := 1) hC dX4_advance_129 (by decide) ?_
            refine x_goto (tgt := 134) hC dX4_advance_130 (by decide) ?_
            exact key _ (xB_t (Or.inl (by omega))).symm
          · refine x_aload_n hC dX4_advance_118 rfl rfl ?_
            refine x_bipush (v := nI 45) hC dX4_advance_119 (by decide) ?_
            refine x_bipush (v := nI 45) hC dX4_advance_121 (by decide) ?_
            refine x_callV0 (na := 2) hC (ct_isNext hG hp2 hb2 hsL.2 (by decide) (by decide) (by decide)) (lw_V q1403 q1405 qs7 q95 q1406) hp2 rfl rfl (by decide +kernel) rfl ⟨Nat.le_of_ble_eq_true rfl, Nat.le_of_ble_eq_true rfl⟩ rfl (Nat.le_of_ble_eq_true rfl) ⟨rfl, rfl⟩ ⟨Nat.zero_le _, Nat.zero_le _⟩ dX4_advance_123 ?_
            rintro _ M ⟨rfl, rfl⟩
            refine x_if_eqB (tgt := 133) hC dX4_advance_126 (by decide) (fun c4 => ?_) (fun c4 => ?_)
            · refine x_iconst (v := 0) hC dX4_advance_133 (by decide) ?_
              exact key _ (xB_f (fun z => by rcases z with z | z; exact c3 ⟨hs1, by omega, by omega⟩; exact c4 ⟨hs1, by omega, by omega⟩)).symm
            · refine x_iconst (v := 1) hC dX4_advance_129 (by decide) ?_
              refine x_goto (tgt := 134) hC dX4_advance_130 (by decide) ?_
              exact key _ (xB_t (Or.inr (by omega))).symm
        · have y2 : isDg (b s) := ⟨c2.2.1, c2.2.2⟩
          have en : e = rn isDg b (L - s) s := by rw [← hn]; unfold tkN; rw [if_neg (by omega), if_neg n1, if_pos y2]
          have ec : tkC b L s = if rn isDg b (L - s) s - s ≤ 4 then 3 else 1 := by unfold tkC; rw [if_neg (by omega), if_neg n1, if_pos y2]
          refine x_aload_n hC dX4_advance_99 rfl rfl ?_
          refine x_qV (k := 1) (n := 8) (na := 0) hC (cq_readNumber hG hT hp2 hb2 hs1 y2) (lw_V q1446 q1448 qs10 q95 q1449) hp2 rfl rfl (by decide +kernel) rfl ⟨Nat.le_of_ble_eq_true rfl, Nat.le_of_ble_eq_true rfl⟩ rfl (Nat.le_of_ble_eq_true rfl) (Nat.le_refl _) (Nat.le_refl _) ⟨(show 1 ≤ 1 + 22 * (e - po) by omega), (show 8 ≤ 8 + 70 * (e - po) by omega)⟩ dX4_advance_100 ?_ (fun q9 E9 M9 h9 => x_out hC hx ((show 1 ≤ 1 + 22 * (e - po) by omega)) ((show 8 ≤ 8 + 70 * (e - po) by omega)) (by obtain ⟨n9, e9⟩ := h9; exact ⟨by rw [ec, if_neg n9], PEr.tr hF2 e9⟩))
          rintro _ M3 ⟨rfl, h4, hp3, hF3⟩
          rw [if_pos h4] at ec
          rw [← en] at hp3
          refine x_goto (tgt := 172) hC dX4_advance_103 (by decide) ?_
          exact fin _ 1 8 _ _ _ (by omega) (by omega) hp3 ⟨by rw [ec]; decide, by rw [ec]; rfl, fun z => absurd (ec.symm.trans z) (by decide), fun _ => hM2.1.fr hF3 P7_0, fun _ => by rw [hn]⟩ (hF2.tr hF3)
      · have y1 : isLt (b s) := ⟨c1.2.1, c1.2.2⟩
        have en : e = rn isLt b (L - s) s := by rw [← hn]; unfold tkN; rw [if_neg (by omega), if_pos y1]
        have ec : tkC b L s = if rn isLt b (L - s) s - s ≤ 6 then 2 else 1 := by unfold tkC; rw [if_neg (by omega), if_pos y1]
        refine x_aload_n hC dX4_advance_81 rfl rfl ?_
        have hrw := cq_readWord hG hT hp2 hb2 hs1 y1
        rw [← en] at hrw ec
        refine x_qV (k := 22 * (e - s)) (n := 70 * (e - s)) (na := 0) hC (hrw) (lw_V q1408 q1410 qs8 q95 q1411) hp2 rfl rfl (by decide +kernel) rfl ⟨Nat.le_of_ble_eq_true rfl, Nat.le_of_ble_eq_true rfl⟩ rfl (Nat.le_of_ble_eq_true rfl) (Nat.le_of_eq (Nat.zero_add _)) (Nat.le_of_eq (Nat.zero_add _)) ⟨(show 22 * (e - s) ≤ 1 + 22 * (e - po) by omega), (show 70 * (e - s) ≤ 8 + 70 * (e - po) by omega)⟩ dX4_advance_82 ?_ (fun q9 E9 M9 h9 => x_out hC hx ((show 22 * (e - s) ≤ 1 + 22 * (e - po) by omega)) ((show 70 * (e - s) ≤ 8 + 70 * (e - po) by omega)) (by obtain ⟨n9, e9⟩ := h9; exact ⟨by rw [ec, if_neg n9], PEr.tr hF2 e9⟩))
        rintro _ M3 ⟨rfl, h4, w, hp3, hSM, hF3⟩
        rw [if_pos h4] at ec
        refine x_goto (tgt := 172) hC dX4_advance_85 (by decide) ?_
        exact fin _ _ _ _ _ _ (by omega) (by omega) hp3 ⟨by rw [ec]; decide, by rw [ec]; rfl, fun _ => by rw [hn]; exact hSM, fun z => absurd ec z, fun z => absurd (ec.symm.trans z) (by decide)⟩ (hF2.tr hF3)
    · -- the end
      have hs1 : s = L := by omega
      have en : e = s := by rw [← hn]; unfold tkN; rw [if_pos hs1]
      have ec : tkC b L s = 0 := by unfold tkC; rw [if_pos hs1]
      refine x_aload_n hC dX4_advance_60 rfl rfl ?_
      refine x_gets hC hT.1.2.2.2.2 q1361 rfl dX4_advance_61 ?_
      refine x_put hC 7 hp2 (by decide) rfl (by decide) q1371 rfl rfl rfl rfl rfl (show 7 < 10 by decide) (fs' := pF bu L ar rd rc s s (T 11) (T 3) nu) rfl dX4_advance_64 ?_
      refine x_goto (tgt := 172) hC dX4_advance_67 (by decide) ?_
      have hF3 : Fr P7 M2 (mu M2 pa (pO bu L ar rd rc s s (T 11) (T 3) nu)) := p77 hp2
      exact fin _ 0 0 _ _ _ (Nat.zero_le _) (Nat.zero_le _) (by rw [en]; exact mu_s) ⟨by rw [ec]; decide, by rw [ec]; rfl, fun z => absurd (ec.symm.trans z) (by decide), fun _ => hM2.1.fr hF3 P7_0, fun z => absurd (ec.symm.trans z) (by decide)⟩ (hF2.tr hF3)
  refine x_up (n := L) (I := fun j => s = tkS b L j → po ≤ j → ∀ M1, M1 pa = some (pO bu L ar rd rc j st so wo nu) → Fr P7 M0 M1 → Wg G C M1 0 0 0 [some (.ref pa)] []) (fun j hj ih h2 h3 M1 hp hF => ?_) po hpo hs.symm (Nat.le_refl _) M0 h Fr.rf
  have hb1 := hb.fr hF P7_1
  have done : (j < L → ¬ isSp (b j)) → Wg G C M1 0 0 35 [some (.ref pa)] [] := by
    intro hno
    have hsj : s = j := by rw [h2, tkS, rn_f hno]
    exact rest M1 (by rw [hsj]; exact hp) hF
  have more : ∀ hjl : j < L, isSp (b j) → Wg G C M1 0 0 22 [some (.ref pa)] [] := by
    intro hjl hsp
    refine x_aload_n hC dX4_advance_22 rfl rfl ?_
    refine x_dup hC dX4_advance_23 rfl ?_
    refine x_get hC 5 hp rfl (by decide) q1369 rfl rfl dX4_advance_24 ?_
    refine x_iconst (v := nI 1) hC dX4_advance_27 (by decide) ?_
    refine x_iaddN hC dX4_advance_28 ?_
    refine x_put hC 5 hp (by decide) rfl (by decide) q1369 rfl rfl rfl rfl rfl (show 5 < 10 by decide) (fs' := pF bu L ar rd rc (j + 1) st so wo nu) rfl dX4_advance_29 ?_
    refine x_goto (tgt := 0) hC dX4_advance_32 (by decide) ?_
    exact ih hjl (h2.trans (rn_t hjl hsp)) (by omega) _ mu_s (hF.tr (p77 hp))
  refine x_aload_n hC dX4_advance_0 rfl rfl ?_
  refine x_bipush (v := nI 32) hC dX4_advance_1 (by decide) ?_
  refine x_bipush (v := nI 32) hC dX4_advance_3 (by decide) ?_
  refine x_callV0 (na := 2) hC (ct_isNext hG hp hb1 hj (by decide) (by decide) (by decide)) (lw_V q1403 q1405 qs7 q95 q1406) hp rfl rfl (by decide +kernel) rfl ⟨Nat.le_of_ble_eq_true rfl, Nat.le_of_ble_eq_true rfl⟩ rfl (Nat.le_of_ble_eq_true rfl) ⟨rfl, rfl⟩ ⟨Nat.zero_le _, Nat.zero_le _⟩ dX4_advance_5 ?_
  rintro _ M ⟨rfl, rfl⟩
  refine x_if_neB (tgt := 22) hC dX4_advance_8 (by decide) (fun c1 => ?_) (fun c1 => ?_)
  · exact more c1.1 (Or.inl (by omega))
  · refine x_aload_n hC dX4_advance_11 rfl rfl ?_
    refine x_bipush (v := nI 10) hC dX4_advance_12 (by decide) ?_
    refine x_bipush (v := nI 10) hC dX4_advance_14 (by decide) ?_
    refine x_callV0 (na := 2) hC (ct_isNext hG hp hb1 hj (by decide) (by decide) (by decide)) (lw_V q1403 q1405 qs7 q95 q1406) hp rfl rfl (by decide +kernel) rfl ⟨Nat.le_of_ble_eq_true rfl, Nat.le_of_ble_eq_true rfl⟩ rfl (Nat.le_of_ble_eq_true rfl) ⟨rfl, rfl⟩ ⟨Nat.zero_le _, Nat.zero_le _⟩ dX4_advance_16 ?_
    rintro _ M ⟨rfl, rfl⟩
    refine x_if_eqB (tgt := 35) hC dX4_advance_19 (by decide) (fun c2 => ?_) (fun c2 => ?_)
    · exact done (fun z y => by rcases y with y | y; exact c1 ⟨z, by omega, by omega⟩; exact c2 ⟨z, by omega, by omega⟩)
    · exact more c2.1 (Or.inr (by omega))
end PS3

