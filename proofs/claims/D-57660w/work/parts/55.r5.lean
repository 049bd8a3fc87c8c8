/-! ===== the component's recordings: ranking known or not; rank ===== -/
/-- a recording; whether its coefficients and its ranking are known -/
def RcR (M : X_M) (q na sa n : Nat) (f : Nat → Int32) (b c : Bool) : Prop := ∃ rv, RcB M q na sa n f rv b ∧ (c = false → rv = .null) ∧ (c = true → RV M n f rv)
abbrev rC (b c : Bool) : Nat := if c then 0 else 1 + bC b
abbrev rS (b c : Bool) : Nat := if c then 0 else 64 + bS b
theorem RcB.lr {M M' : X_M} {q na sa n : Nat} {f : Nat → Int32} {rv : Value} {b : Bool} (h : RcB M q na sa n f rv b) (hL : Lr M M') : ∃ b' rv', RcB M' q na sa n f rv' b' ∧ (b = true → b' = true) ∧ (rv' = rv ∨ RV M' n f rv') := by
  obtain ⟨cv, h1, h2, h3, h4⟩ := h
  obtain ⟨c2, r2, d1, d2, d3⟩ := hL.2 q na sa n f cv rv h1 h2
  have hs := hL.1.z (by decide) h2
  rcases d2 with d2 | d2
  · subst d2
    exact ⟨b, r2, ⟨c2, d1, hs, h3, fun hb => (h4 hb).fr hL.1 (by decide)⟩, id, d3⟩
  · exact ⟨true, r2, ⟨c2, d1, hs, (fun h => by cases h), fun _ => d2⟩, fun _ => rfl, d3⟩
section R5
variable {G : X_G} {M : X_M} {q na sa n j : Nat} {f : Nat → Int32} {cv rv : Value}
theorem ct_ranking1 (hG : GOK G) {a : Nat} (h : M q = some (ob 2 3 (reF na sa cv (.ref a)))) : Ct G yX7_ranking cX7_ranking 3 (some (.array .int)) (xrm 1 0 0) [.ref q] M (Pr (.ref a) M) := by
  refine ct_open (lv := [_, _, _]) hG (by decide +kernel) (Nat.le_of_ble_eq_true rfl) rfl (fun C hC hk => ?_)
  refine x_aload_n hC dX7_ranking_0 rfl rfl ?_
  refine x_get hC 3 h rfl (by decide) q1490 rfl rfl dX7_ranking_1 ?_
  refine x_ifnull hC dX7_ranking_4 ?_
  refine x_aload_n hC dX7_ranking_7 rfl rfl ?_
  refine x_get hC 3 h rfl (by decide) q1490 rfl rfl dX7_ranking_8 ?_
  exact x_aret hC hk dX7_ranking_11 (Or.inr ⟨_, rfl⟩) (Or.inr ⟨_, rfl⟩) (Nat.le_of_ble_eq_true rfl) (Nat.le_of_ble_eq_true rfl) ⟨rfl, rfl⟩
/-- what asking for the ranking leaves, known before or not -/
def PRr (M : X_M) (q na sa n : Nat) (f : Nat → Int32) (b c : Bool) : Option Value → X_M → Prop := fun r M' => ∃ a u, r = some (.ref a) ∧ M' a = some (ia 0 n u) ∧ (∀ k, k < n → u k = nI (pk (cfN f n) n k)) ∧ Lr M M' ∧ RcB M' q na sa n f (.ref a) (b || !c)
theorem ct_ranking (hG : GOK G) {b c : Bool} (h : RcR M q na sa n f b c) (hj1 : 1 ≤ j) (hj : j ≤ 6 ∧ n = 2 ^ j) : Ct G yX7_ranking cX7_ranking 3 (some (.array .int)) (xrm 5 (rC b c) (rS b c)) [.ref q] M (PRr M q na sa n f b c) := by
  obtain ⟨rv, hb, h1, h2⟩ := h
  cases c
  · have h1 := h1 rfl
    subst h1
    refine (ct_ranking0 hG hb hj1 hj).mono fun r M' hp => ?_
    obtain ⟨a, u, e1, e2, e3, e4, e5⟩ := hp
    exact ⟨a, u, e1, e2, e3, e4, by rw [Bool.not_false, Bool.or_true]; exact e5⟩
  · obtain ⟨a, u, rfl, e2, e3⟩ := h2 rfl
    obtain ⟨cv, g1⟩ := hb.rec
    refine ct_open (lv := [_, _, _]) hG (by decide +kernel) (Nat.le_of_ble_eq_true rfl) rfl (fun C hC hk => ?_)
    refine x_aload_n hC dX7_ranking_0 rfl rfl ?_
    refine x_get hC 3 g1 rfl (by decide) q1490 rfl rfl dX7_ranking_1 ?_
    refine x_ifnull hC dX7_ranking_4 ?_
    refine x_aload_n hC dX7_ranking_7 rfl rfl ?_
    refine x_get hC 3 g1 rfl (by decide) q1490 rfl rfl dX7_ranking_8 ?_
    exact x_aret hC hk dX7_ranking_11 (Or.inr ⟨_, rfl⟩) (Or.inr ⟨_, rfl⟩) (Nat.zero_le _) (Nat.zero_le _) ⟨a, u, rfl, e2, e3, Lr.rf, by rw [Bool.not_true, Bool.or_false]; exact hb⟩
/-- the rank of an index -/
abbrev rkN (f : Nat → Int32) (n i : Nat) : Int32 := optI (fstI (fun k => pk (cfN f n) n k = i) n 0)
theorem ct_rrank (hG : GOK G) {b c : Bool} (h : RcR M q na sa n f b c) (hj1 : 1 ≤ j) (hj : j ≤ 6 ∧ n = 2 ^ j) {i : Nat} (hi : i < n) : Ct G yX7_rank cX7_rank 3 (some .int) (xrm 6 (rC b c) (rS b c)) [.ref q, .int (nI i)] M (fun r M' => r = some (.int (rkN f n i)) ∧ Lr M M' ∧ ∃ a u, RcB M' q na sa n f (.ref a) (b || !c) ∧ M' a = some (ia 0 n u) ∧ ∀ k, k < n → u k = nI (pk (cfN f n) n k)) := by
  have hp := (pw_le (j := j) (by omega)).2
  have hn64 : n ≤ 64 := by rw [hj.2]; exact hp
  have h0 := h
  obtain ⟨rv0, hb0, -, -⟩ := h0
  obtain ⟨cv0, g0⟩ := hb0.rec
  obtain ⟨t, t1, t2⟩ := pk_sur (cfN f n) n hi
  refine ct_open (lv := [_, _, _]) hG (by decide +kernel) (Nat.le_of_ble_eq_true rfl) rfl (fun C hC hk => ?_)
  obtain ⟨M0, hM0⟩ : ∃ M0, M0 = M := ⟨M, rfl⟩
  rw [← hM0] at hk
  have hF : Fm M0 M := by rw [hM0]; exact Fr.rf
  subst hM0
  refine x_iconst (v := nI 0) hC dX7_rank_0 (by decide) ?_
  refine x_istore_n (lv' := [_, _, _]) hC dX7_rank_1 rfl (by decide) rfl ?_
  refine x_aload_n hC dX7_rank_2 rfl rfl ?_
  refine x_callV (k := rC b c) (n := rS b c) (na := 0) hC (ct_ranking hG h hj1 hj) (lw_V q1829 q1811 q1812 q115 q1813) g0 rfl rfl (by decide +kernel) rfl ⟨Nat.le_of_ble_eq_true rfl, Nat.le_of_ble_eq_true rfl⟩ rfl (Nat.le_of_ble_eq_true rfl) (Nat.le_of_eq (Nat.zero_add _)) (Nat.le_of_eq (Nat.zero_add _)) ⟨Nat.le_refl _, Nat.le_refl _⟩ dX7_rank_3 ?_
  rintro _ M1 ⟨a, u, rfl, ha, hu, hL, hb⟩
  have fin : ∀ k, k < n → pk (cfN f n) n k = i → (∀ l, l < k → ¬ pk (cfN f n) n l = i) → Wg G C M1 (rC b c) (rS b c) 18 [some (.ref q), some (.int (nI i)), some (.int (nI k))] [] := by
    intro k hkn hk1 hk2
    refine x_iload_n hC dX7_rank_18 rfl rfl ?_
    exact x_iret hC hk dX7_rank_19 (Nat.le_refl _) (Nat.le_refl _) ⟨by unfold rkN; rw [fstI_at (p := fun k => pk (cfN f n) n k = i) (b := k) (Nat.zero_le _) (by omega) hk1 (fun l _ hl => hk2 l hl)]; rfl, hL, a, u, hb, ha, hu⟩
  obtain ⟨cv1, g1⟩ := hb.rec
  suffices lp : ∀ d k, k + d = t → (∀ l, l < k → ¬ pk (cfN f n) n l = i) → Wg G C M1 (rC b c) (rS b c) 6 [some (.ref q), some (.int (nI i)), some (.int (nI k))] [.ref a] from lp t 0 (by omega) (fun l hl => by omega)
  intro d
  induction d with
  | zero =>
    intro k hd hno
    have hd : k = t := by omega
    subst hd
    refine x_iload_n hC dX7_rank_6 rfl rfl ?_
    refine x_ialdN hC ha t1 (by first | decide | omega) dX7_rank_7 ?_
    rw [hu k t1]
    refine x_iload_n hC dX7_rank_8 rfl rfl ?_
    refine x_icmp_eq (tgt := 18) hC dX7_rank_9 (by decide) (fun c1 => ?_) (fun c1 => ?_)
    · exact fin k t1 t2 hno
    · exact absurd (congrArg nI t2) c1
  | succ d ih =>
    intro k hd hno
    have hkn : k < n := by omega
    have hl : pk (cfN f n) n k < n := pkr_lt (cfN f n) n hkn
    refine x_iload_n hC dX7_rank_6 rfl rfl ?_
    refine x_ialdN hC ha hkn (by first | decide | omega) dX7_rank_7 ?_
    rw [hu k hkn]
    refine x_iload_n hC dX7_rank_8 rfl rfl ?_
    refine x_icmp_eqN (tgt := 18) hC (by omega) (by omega) dX7_rank_9 (by decide) (fun c1 => ?_) (fun c1 => ?_)
    · exact fin k hkn c1 hno
    · refine x_iincN (lv' := [_, _, _]) (b := 1) hC dX7_rank_12 rfl (by decide) (by decide) rfl ?_
      refine x_goto (tgt := 2) hC dX7_rank_15 (by decide) ?_
      refine x_aload_n hC dX7_rank_2 rfl rfl ?_
      refine x_callV0 (na := 0) hC (ct_ranking1 hG g1) (lw_V q1829 q1811 q1812 q115 q1813) g1 rfl rfl (by decide +kernel) rfl ⟨Nat.le_of_ble_eq_true rfl, Nat.le_of_ble_eq_true rfl⟩ rfl (Nat.le_of_ble_eq_true rfl) ⟨rfl, rfl⟩ ⟨Nat.le_refl _, Nat.le_refl _⟩ dX7_rank_3 ?_
      rintro _ M1 ⟨rfl, rfl⟩
      exact ih (k + 1) (by omega) (fun l hl => by
        by_cases e : l = k
        · subst e; exact c1
        · exact hno l (by omega))
end R5

