/-! ===== the component's ranking, found when it is needed ===== -/
/-- only coefficients and rankings were found -/
def Lr (M M' : X_M) : Prop := Fr (fun g => g = 2) M M' ∧ ∀ q na sa n f cv rv, M q = some (ob 2 3 (reF na sa cv rv)) → M sa = some (ia 0 n f) → ∃ cv' rv', M' q = some (ob 2 3 (reF na sa cv' rv')) ∧ (cv' = cv ∨ CV M' n f cv') ∧ (rv' = rv ∨ RV M' n f rv')
theorem Lr.rf {M : X_M} : Lr M M := ⟨Fr.rf, fun q na sa n f cv rv h1 _ => ⟨cv, rv, h1, Or.inl rfl, Or.inl rfl⟩⟩
theorem Lc.lr {M M' : X_M} (h : Lc M M') : Lr M M' := ⟨h.1, fun q na sa n f cv rv h1 h2 => by
  obtain ⟨cv', a1, a2⟩ := h.2 q na sa n f cv rv h1 h2
  exact ⟨cv', rv, a1, a2, Or.inl rfl⟩⟩
theorem Lr.tr {M M1 M2 : X_M} (h1 : Lr M M1) (h2 : Lr M1 M2) : Lr M M2 := by
  refine ⟨h1.1.tr h2.1, fun q na sa n f cv rv a1 a2 => ?_⟩
  obtain ⟨c1, r1, b1, b2, b3⟩ := h1.2 q na sa n f cv rv a1 a2
  obtain ⟨c2, r2, d1, d2, d3⟩ := h2.2 q na sa n f c1 r1 b1 (h1.1.z (by decide) a2)
  refine ⟨c2, r2, d1, ?_, ?_⟩
  · rcases d2 with d2 | d2
    · subst d2
      rcases b2 with b2 | b2
      · exact Or.inl b2
      · exact Or.inr (b2.fr h2.1 (by decide))
    · exact Or.inr d2
  · rcases d3 with d3 | d3
    · subst d3
      rcases b3 with b3 | b3
      · exact Or.inl b3
      · exact Or.inr (b3.fr h2.1 (by decide))
    · exact Or.inr d3
/-- the same, but for the recording q, whose ranking's new array is a -/
def LcQ (q a : Nat) (M M' : X_M) : Prop := (Fr (fun g => g = 2) M M' ∧ M a = none) ∧ ∀ q' na sa n f cv rv, q' ≠ q → M q' = some (ob 2 3 (reF na sa cv rv)) → M sa = some (ia 0 n f) → ∃ cv', M' q' = some (ob 2 3 (reF na sa cv' rv)) ∧ (cv' = cv ∨ CV M' n f cv')
theorem LcQ.lc {q a : Nat} {M M1 M2 : X_M} (h1 : LcQ q a M M1) (h2 : Lc M1 M2) : LcQ q a M M2 := by
  refine ⟨⟨h1.1.1.tr h2.1, h1.1.2⟩, fun q' na sa n f cv rv hne a1 a2 => ?_⟩
  obtain ⟨c1, b1, b2⟩ := h1.2 q' na sa n f cv rv hne a1 a2
  obtain ⟨c2, d1, d2⟩ := h2.2 q' na sa n f c1 rv b1 (h1.1.1.z (by decide) a2)
  refine ⟨c2, d1, ?_⟩
  rcases d2 with d2 | d2
  · subst d2
    rcases b2 with b2 | b2
    · exact Or.inl b2
    · exact Or.inr (b2.fr h2.1 (by decide))
  · exact Or.inr d2
theorem CV.mu {M : X_M} {n a : Nat} {f : Nat → Int32} {cv : Value} {e : X_E} {k : Nat} {u0 : Nat → Int32} (ha : M a = some (ia 3 k u0)) (h : CV M n f cv) : CV (mu M a e) n f cv := by
  obtain ⟨b, u, h1, h2, h3⟩ := h
  exact ⟨b, u, h1, mu_o (mx_tag h2 ha (show (0 : Nat) ≠ 3 by decide)) h2, h3⟩
theorem LcQ.wr {q a k : Nat} {M M1 : X_M} {u0 : Nat → Int32} {e : X_E} (h : LcQ q a M M1) (ha : M1 a = some (ia 3 k u0)) : LcQ q a M (mu M1 a e) := by
  refine ⟨⟨fun b e hb hn => mu_o (fun e9 => by rw [e9, h.1.2] at hb; cases hb) (h.1.1 b e hb hn), h.1.2⟩, fun q' na sa n f cv rv hne a1 a2 => ?_⟩
  obtain ⟨c1, b1, b2⟩ := h.2 q' na sa n f cv rv hne a1 a2
  refine ⟨c1, mu_o (fun e9 => by rw [e9, h.1.2] at a1; cases a1) b1, b2.imp id (fun h9 => h9.mu ha)⟩
theorem RcB.wr {M : X_M} {q na sa n a k : Nat} {f u0 : Nat → Int32} {rv : Value} {b : Bool} {e : X_E} (h : RcB M q na sa n f rv b) (ha : M a = some (ia 3 k u0)) : RcB (mu M a e) q na sa n f rv b := by
  obtain ⟨cv, h1, h2, h3, h4⟩ := h
  exact ⟨cv, mu_o (mx_tag h1 ha (show (2 : Nat) ≠ 3 by decide)) h1, mu_o (mx_tag h2 ha (show (0 : Nat) ≠ 3 by decide)) h2, h3, fun hb => (h4 hb).mu ha⟩
section R3
variable {G : X_G} {M : X_M} {q na sa n j : Nat} {f : Nat → Int32} {cv rv : Value}
/-- what asking for the ranking leaves -/
def PRk (M : X_M) (q na sa n : Nat) (f : Nat → Int32) : Option Value → X_M → Prop := fun r M' => ∃ a u, r = some (.ref a) ∧ M' a = some (ia 0 n u) ∧ (∀ k, k < n → u k = nI (pk (cfN f n) n k)) ∧ Lr M M' ∧ RcB M' q na sa n f (.ref a) true
theorem ct_ranking0 (hG : GOK G) {b : Bool} (h : RcB M q na sa n f .null b) (hj1 : 1 ≤ j) (hj : j ≤ 6 ∧ n = 2 ^ j) : Ct G yX7_ranking cX7_ranking 3 (some (.array .int)) (xrm 5 (1 + bC b) (64 + bS b)) [.ref q] M (PRk M q na sa n f) := by
  have hp := (pw_le (j := j) (by omega)).2
  have hn64 : n ≤ 64 := by rw [hj.2]; exact hp
  have hn2 : 2 ≤ n := by
    rw [hj.2]
    exact Nat.le_trans (show 2 ≤ 2 ^ 1 by decide) (Nat.pow_le_pow_right (by decide) hj1)
  refine ct_open (lv := [_, _, _]) hG (by decide +kernel) (Nat.le_of_ble_eq_true rfl) rfl (fun C hC hk => ?_)
  obtain ⟨M0, hM0⟩ : ∃ M0, M0 = M := ⟨M, rfl⟩
  rw [← hM0] at hk
  have hF : Fm M0 M := by rw [hM0]; exact Fr.rf
  subst hM0
  obtain ⟨cv, h1, hs, h3, h4⟩ := h
  refine x_aload_n hC dX7_ranking_0 rfl rfl ?_
  refine x_get hC 3 h1 rfl (by decide) q1490 rfl rfl dX7_ranking_1 ?_
  refine x_ifnullN (tgt := 12) hC dX7_ranking_4 (by decide) ?_
  refine x_aload_n hC dX7_ranking_12 rfl rfl ?_
  refine x_aload_n hC dX7_ranking_13 rfl rfl ?_
  refine x_get hC 1 h1 rfl (by decide) q1486 rfl rfl dX7_ranking_14 ?_
  refine x_alen hC hs dX7_ranking_17 ?_
  dsimp only
  refine x_newi hC n 3 q1328 (by decide) rfl (by omega) (show 0 + 1 ≤ 1 + bC b by omega) (show 0 + n ≤ 64 + bS b by omega) dX7_ranking_18 (fun a ha => ?_)
  have hqa : q ≠ a := fun e => by rw [e, ha] at h1; cases h1
  refine x_put hC 3 (mu_f ha h1) (by decide) rfl (by decide) q1490 rfl rfl rfl rfl rfl (show 3 < 4 by decide) (fs' := reF na sa cv (.ref a)) rfl dX7_ranking_20 ?_
  have hsa : sa ≠ q := mx_tag hs h1 (show (0 : Nat) ≠ 2 by decide)
  have hb1 : RcB (mu (mu M0 a (ia 3 n (fun _ => 0))) q (ob 2 3 (reF na sa cv (.ref a)))) q na sa n f (.ref a) b := by
    refine ⟨cv, mu_s, mu_o hsa (mu_f ha hs), h3, fun hb => ?_⟩
    obtain ⟨c, u, g1, g2, g3⟩ := h4 hb
    exact ⟨c, u, g1, mu_o (mx_tag g2 h1 (show (0 : Nat) ≠ 2 by decide)) (mu_f ha g2), g3⟩
  have hL1 : LcQ q a M0 (mu (mu M0 a (ia 3 n (fun _ => 0))) q (ob 2 3 (reF na sa cv (.ref a)))) := by
    refine ⟨⟨(Fr.new ha).tr (Fr.set (mu_f ha h1) rfl), ha⟩, fun q' na sa n f cv rv hne a1 a2 => ⟨cv, mu_o hne (mu_f ha a1), Or.inl rfl⟩⟩
  have ha1 : (mu (mu M0 a (ia 3 n (fun _ => 0))) q (ob 2 3 (reF na sa cv (.ref a)))) a = some (ia 3 n (fun _ => 0)) := mu_o (Ne.symm hqa) mu_s
  generalize hM1 : mu (mu M0 a (ia 3 n (fun _ => 0))) q (ob 2 3 (reF na sa cv (.ref a))) = M1 at hb1 hL1 ha1 ⊢
  clear hM1
  refine x_iconst (v := nI 0) hC dX7_ranking_23 (by decide) ?_
  refine x_istore_n (lv' := [_, _, _]) hC dX7_ranking_24 rfl (by decide) rfl ?_
  suffices lp : ∀ d m, m + d = n → ∀ M1 b1 kc ks u v, (m = 0 ∨ m = 1 ∨ b1 = true) → kc + bC b1 ≤ 1 + bC b → ks + bS b1 ≤ 64 + bS b → RcB M1 q na sa n f (.ref a) b1 → LcQ q a M0 M1 → M1 a = some (ia 3 n u) → IsRk (cfN f n) m v → (∀ l, l < m → u l = nI (v l)) → ∀ w2, Wg G C M1 kc ks 25 [some (.ref q), some (.int (nI m)), w2] [] from lp n 0 (by omega) M1 b (0 + 1) (0 + n) (fun _ => 0) (fun _ => 0) (Or.inl rfl) (by omega) (by omega) hb1 hL1 ha1 ⟨fun a ha => by omega, fun a b h1 h2 => by omega⟩ (fun l hl => by omega) none
  intro d
  induction d with
  | zero =>
    intro m hd M1 b1 kc ks u v hmb hkc hks hb hL ha hv hu w2
    have hd : m = n := by omega
    subst hd
    have hb1 : b1 = true := by
      rcases hmb with h | h | h
      · omega
      · omega
      · exact h
    subst hb1
    obtain ⟨cv1, g1, g2, g3, g4⟩ := hb
    refine x_iload_n hC dX7_ranking_25 rfl rfl ?_
    refine x_aload_n hC dX7_ranking_26 rfl rfl ?_
    refine x_get hC 1 g1 rfl (by decide) q1486 rfl rfl dX7_ranking_27 ?_
    refine x_alen hC g2 dX7_ranking_30 ?_
    dsimp only
    refine x_icmp_geN (tgt := 89) hC (by omega) (by omega) dX7_ranking_31 (by decide) (fun c1 => ?_) (fun c1 => ?_)
    · refine x_aload_n hC dX7_ranking_89 rfl rfl ?_
      refine x_get hC 3 g1 rfl (by decide) q1490 rfl rfl dX7_ranking_90 ?_
      refine x_tag 0 ha (by decide) ?_
      have hur : ∀ k, k < m → u k = nI (pk (cfN f m) m k) := fun k hk => by rw [hu k hk, rk_uni hv k hk]
      have hb2 : RcB (mu M1 a (ia 0 m u)) q na sa m f (.ref a) true := RcB.wr ⟨cv1, g1, g2, g3, g4⟩ ha
      have hL2 : LcQ q a M0 (mu M1 a (ia 0 m u)) := hL.wr ha
      have hL3 : Lr M0 (mu M1 a (ia 0 m u)) := by
        refine ⟨hL2.1.1, fun q' na' sa' n' f' cv' rv' e1 e2 => ?_⟩
        by_cases e : q' = q
        · subst e
          rw [h1] at e1
          have h9 := congrArg (fun z : Option X_E => z) e1
          simp only [Option.some.injEq, Prod.mk.injEq, Sum.inl.injEq, List.cons.injEq, Value.ref.injEq, true_and, and_true] at h9
          obtain ⟨rfl, rfl, rfl, rfl⟩ := h9
          rw [hs] at e2
          cases e2
          obtain ⟨cv2, k1, k2, k3, k4⟩ := hb2
          exact ⟨cv2, .ref a, k1, Or.inr (k4 rfl), Or.inr ⟨a, u, rfl, mu_s, hur⟩⟩
        · obtain ⟨c2, k1, k2⟩ := hL2.2 q' na' sa' n' f' cv' rv' e e1 e2
          exact ⟨c2, rv', k1, k2, Or.inl rfl⟩
      exact x_aret hC hk dX7_ranking_93 (Or.inr ⟨_, rfl⟩) (Or.inr ⟨_, rfl⟩) (show kc ≤ 1 + bC b by omega) (show ks ≤ 64 + bS b by omega) ⟨a, u, rfl, mu_s, hur, hL3, hb2⟩
    · exact absurd c1 (by omega)
  | succ d ih =>
    intro m hd M1 b1 kc ks u v hmb hkc hks hb hL ha hv hu w2
    have hmn : m < n := by omega
    have done : ∀ p, p ≤ m → ∀ M1 b1 kc ks u, (m = 0 ∨ b1 = true) → kc + bC b1 ≤ 1 + bC b → ks + bS b1 ≤ 64 + bS b → RcB M1 q na sa n f (.ref a) b1 → LcQ q a M0 M1 → M1 a = some (ia 3 n u) → (∀ l, l < p → u l = nI (v l)) → (∀ l, p < l → l ≤ m → u l = nI (v (l - 1))) → (∀ l, p ≤ l → l < m → befo (cfN f n) m (v l)) → (p = 0 ∨ befo (cfN f n) (v (p - 1)) m) → Wg G C M1 kc ks 76 [some (.ref q), some (.int (nI m)), some (.int (nI p))] [] := by
      intro p hp1 M1 b1 kc ks u hmb hkc hks hb hL ha i1 i2 i3 i4
      obtain ⟨cv1, g1, g2, g3, g4⟩ := hb
      refine x_aload_n hC dX7_ranking_76 rfl rfl ?_
      refine x_get hC 3 g1 rfl (by decide) q1490 rfl rfl dX7_ranking_77 ?_
      refine x_iload_n hC dX7_ranking_80 rfl rfl ?_
      refine x_iload_n hC dX7_ranking_81 rfl rfl ?_
      refine x_iastN hC ha (by first | decide | assumption) (by omega) (by first | decide | omega) dX7_ranking_82 ?_
      refine x_iincN (lv' := [_, _, _]) (b := 1) hC dX7_ranking_83 rfl (by decide) (by decide) rfl ?_
      refine x_goto (tgt := 25) hC dX7_ranking_86 (by decide) ?_
      refine ih (m + 1) (by omega) _ b1 kc ks (upd u p (nI m)) (insR v p m) (hmb.elim (fun h => Or.inr (Or.inl (by omega))) (fun h => Or.inr (Or.inr h))) hkc hks (RcB.wr ⟨cv1, g1, g2, g3, g4⟩ ha) (hL.wr ha) mu_s (ins_ok hv hp1 i3 i4) (fun l hl => ?_) _
      unfold insR
      by_cases l1 : l < p
      · rw [if_pos l1, upd_n (by omega)]; exact i1 l l1
      · rw [if_neg l1]
        by_cases l2 : l = p
        · rw [if_pos l2, l2, upd_s]
        · rw [if_neg l2, upd_n l2]; exact i2 l (by omega) (by omega)
    have inner : ∀ p, p ≤ m → ∀ M1 b1 kc ks u, (p < m → b1 = true) → kc + bC b1 ≤ 1 + bC b → ks + bS b1 ≤ 64 + bS b → RcB M1 q na sa n f (.ref a) b1 → LcQ q a M0 M1 → M1 a = some (ia 3 n u) → (∀ l, l < p → u l = nI (v l)) → (∀ l, p < l → l ≤ m → u l = nI (v (l - 1))) → (∀ l, p ≤ l → l < m → befo (cfN f n) m (v l)) → Wg G C M1 kc ks 36 [some (.ref q), some (.int (nI m)), some (.int (nI p))] [] := by
      intro p
      induction p with
      | zero =>
        intro hp1 M1 b1 kc ks u hbm hkc hks hb hL ha i1 i2 i3
        refine x_iload_n hC dX7_ranking_36 rfl rfl ?_
        refine x_if_le (tgt := 76) hC dX7_ranking_37 (by decide) (fun c1 => ?_) (fun c1 => ?_)
        · refine done 0 hp1 M1 b1 kc ks u ?_ hkc hks hb hL ha i1 i2 i3 (Or.inl rfl)
          rcases Nat.eq_zero_or_pos m with h0 | h0
          · exact Or.inl h0
          · exact Or.inr (hbm h0)
        · exact absurd (show nI 0 ≤ 0 by decide) c1
      | succ p ihp =>
        intro hp1 M1 b1 kc ks u hbm hkc hks hb hL ha i1 i2 i3
        have hvl := hv.1 p (by omega)
        refine x_iload_n hC dX7_ranking_36 rfl rfl ?_
        refine x_if_le (tgt := 76) hC dX7_ranking_37 (by decide) (fun c1 => ?_) (fun c1 => ?_)
        · refine absurd c1 ?_
          rw [show (0 : Int32) = nI 0 from rfl, nI_leI (by omega) (by decide)]
          omega
        · obtain ⟨cv1, g1⟩ := hb.rec
          refine x_aload_n hC dX7_ranking_40 rfl rfl ?_
          refine x_iload_n hC dX7_ranking_41 rfl rfl ?_
          refine x_aload_n hC dX7_ranking_42 rfl rfl ?_
          refine x_get hC 3 g1 rfl (by decide) q1490 rfl rfl dX7_ranking_43 ?_
          refine x_iload_n hC dX7_ranking_46 rfl rfl ?_
          refine x_iconst (v := nI 1) hC dX7_ranking_47 (by decide) ?_
          refine x_isubN hC dX7_ranking_48 (by omega) ?_
          refine x_ialdN hC ha (by omega) (by first | decide | omega) dX7_ranking_49 ?_
          rw [show u (p + 1 - 1) = nI (v p) from i1 p (by omega)]
          refine x_callV (k := kc + bC b1) (n := ks + bS b1) (na := 2) hC (ct_isHigher hG hb hj (i := m) (o := v p) hmn (by omega)) (lw_V q1814 q1816 qs17 q115 q1817) g1 rfl rfl (by decide +kernel) rfl ⟨Nat.le_of_ble_eq_true rfl, Nat.le_of_ble_eq_true rfl⟩ rfl (Nat.le_of_ble_eq_true rfl) (Nat.le_refl _) (Nat.le_refl _) ⟨hkc, hks⟩ dX7_ranking_50 ?_
          rintro _ M2 ⟨rfl, hLc, hb2⟩
          have ha2 : M2 a = some (ia 3 n u) := hLc.1.z (by decide) ha
          have hL2 := hL.lc hLc
          refine x_if_eqB (tgt := 76) hC dX7_ranking_53 (by decide) (fun c2 => ?_) (fun c2 => ?_)
          · exact done (p + 1) hp1 M2 true _ _ u (Or.inr rfl) hkc hks hb2 hL2 ha2 i1 i2 i3 (Or.inr ((befo_tot (show m ≠ v p by omega)).resolve_left c2))
          · obtain ⟨cv2, k1⟩ := hb2.rec
            refine x_aload_n hC dX7_ranking_56 rfl rfl ?_
            refine x_get hC 3 k1 rfl (by decide) q1490 rfl rfl dX7_ranking_57 ?_
            refine x_iload_n hC dX7_ranking_60 rfl rfl ?_
            refine x_aload_n hC dX7_ranking_61 rfl rfl ?_
            refine x_get hC 3 k1 rfl (by decide) q1490 rfl rfl dX7_ranking_62 ?_
            refine x_iload_n hC dX7_ranking_65 rfl rfl ?_
            refine x_iconst (v := nI 1) hC dX7_ranking_66 (by decide) ?_
            refine x_isubN hC dX7_ranking_67 (by omega) ?_
            refine x_ialdN hC ha2 (by omega) (by first | decide | omega) dX7_ranking_68 ?_
            refine x_iastN hC ha2 (by first | decide | assumption) (by omega) (by first | decide | omega) dX7_ranking_69 ?_
            refine x_iincM (lv' := [_, _, _]) (b := 1) hC dX7_ranking_70 rfl (by decide) (by decide) (by omega) rfl ?_
            refine x_goto (tgt := 36) hC dX7_ranking_73 (by decide) ?_
            refine ihp (by omega) _ true _ _ (upd u (p + 1) (u (p + 1 - 1))) (fun _ => rfl) hkc hks (hb2.wr ha2) (hL2.wr ha2) mu_s (fun l hl => ?_) (fun l l1 l2 => ?_) (fun l l1 l2 => ?_)
            · rw [upd_n (by omega)]; exact i1 l (by omega)
            · by_cases e : l = p + 1
              · subst e
                rw [upd_s]
                exact i1 p (by omega)
              · rw [upd_n e]; exact i2 l (by omega) l2
            · by_cases e : l = p
              · subst e; exact c2
              · exact i3 l (by omega) l2
    obtain ⟨cv1, g1, g2, g3, g4⟩ := hb
    refine x_iload_n hC dX7_ranking_25 rfl rfl ?_
    refine x_aload_n hC dX7_ranking_26 rfl rfl ?_
    refine x_get hC 1 g1 rfl (by decide) q1486 rfl rfl dX7_ranking_27 ?_
    refine x_alen hC g2 dX7_ranking_30 ?_
    dsimp only
    refine x_icmp_geN (tgt := 89) hC (by omega) (by omega) dX7_ranking_31 (by decide) (fun c1 => ?_) (fun c1 => ?_)
    · exact absurd c1 (by omega)
    · refine x_iload_n hC dX7_ranking_34 rfl rfl ?_
      refine x_istore_n (lv' := [_, _, _]) hC dX7_ranking_35 rfl (by decide) rfl ?_
      exact inner m (Nat.le_refl m) M1 b1 kc ks u (fun h => absurd h (Nat.lt_irrefl m)) hkc hks ⟨cv1, g1, g2, g3, g4⟩ hL ha hu (fun l h1 h2 => by omega) (fun l h1 h2 => by omega)
end R3

