/-! ===== the component's ranking by insertion: plain law ===== -/
theorem befo_irr {co : Nat → Int32} {i j : Nat} (h1 : befo co i j) (h2 : befo co j i) : False := by
  rcases h1 with h1 | h1
  · rcases h2 with h2 | h2
    · exact Int32.lt_irrefl (Int32.lt_trans h1 h2)
    · rw [h2.1] at h1
      exact Int32.lt_irrefl h1
  · rcases h2 with h2 | h2
    · rw [h1.1] at h2
      exact Int32.lt_irrefl h2
    · omega
theorem befo_tr {co : Nat → Int32} {i j k : Nat} (h1 : befo co i j) (h2 : befo co j k) : befo co i k := by
  rcases h1 with h1 | h1
  · rcases h2 with h2 | h2
    · exact Or.inl (Int32.lt_trans h2 h1)
    · rw [h2.1] at h1
      exact Or.inl h1
  · rcases h2 with h2 | h2
    · rw [← h1.1] at h2
      exact Or.inl h2
    · exact Or.inr ⟨h1.1.trans h2.1, by omega⟩
theorem befo_tot {co : Nat → Int32} {i j : Nat} (hne : i ≠ j) : befo co i j ∨ befo co j i := by
  unfold befo
  by_cases h : iabs (co i) = iabs (co j)
  · rcases Nat.lt_or_gt_of_ne hne with h1 | h1
    · exact Or.inl (Or.inr ⟨h, h1⟩)
    · exact Or.inr (Or.inr ⟨h.symm, h1⟩)
  · rcases Int32.lt_or_lt_of_ne h with h1 | h1
    · exact Or.inr (Or.inl h1)
    · exact Or.inl (Or.inl h1)
theorem IsRk.inj {co : Nat → Int32} {n : Nat} {p : Nat → Nat} (h : IsRk co n p) {a b : Nat} (ha : a < n) (hb : b < n) (e : p a = p b) : a = b := by
  rcases Nat.lt_trichotomy a b with h1 | h1 | h1
  · have := h.2 a b h1 hb
    rw [e] at this
    exact (befo_irr this this).elim
  · exact h1
  · have := h.2 b a h1 ha
    rw [e] at this
    exact (befo_irr this this).elim
theorem IsRk.sur {co : Nat → Int32} {n : Nat} {p : Nat → Nat} (h : IsRk co n p) {i : Nat} (hi : i < n) : ∃ k, k < n ∧ p k = i := by
  by_cases hx : ∃ k, k < n ∧ p k = i
  · exact hx
  · exfalso
    have h3 : n + 1 ≤ n := by
      refine hol n (n + 1) (fun a => if a < n then p a else i) (fun a ha => ?_) (fun a b hab hb => ?_)
      · split
        next h4 => exact h.1 a h4
        next => exact hi
      · rw [if_pos (show a < n by omega)]
        split
        next h4 => intro e; have := h.inj (by omega) h4 e; omega
        next => intro e; exact hx ⟨a, by omega, e⟩
    omega
/-- there is but one ranking -/
theorem IsRk.uni {co : Nat → Int32} {n : Nat} {p p' : Nat → Nat} (h : IsRk co n p) (h' : IsRk co n p') : ∀ k, k < n → p k = p' k := by
  intro k
  induction k using Nat.strongRecOn with
  | ind k ih =>
    intro hk
    obtain ⟨m, m1, m2⟩ := h'.sur (h.1 k hk)
    obtain ⟨m', m3, m4⟩ := h.sur (h'.1 k hk)
    rcases Nat.lt_trichotomy m k with h1 | h1 | h1
    · have h2 := ih m h1 m1
      rw [m2] at h2
      have := h.inj m1 hk h2
      omega
    · rw [h1] at m2; exact m2.symm
    · rcases Nat.lt_trichotomy m' k with h2 | h2 | h2
      · have h3 := ih m' h2 m3
        rw [m4] at h3
        have := h'.inj hk m3 h3
        omega
      · rw [h2] at m4; exact m4
      · have e1 := h'.2 k m h1 m1
        have e2 := h.2 k m' h2 m3
        rw [m2] at e1
        rw [m4] at e2
        exact (befo_irr e1 e2).elim
/-- m put in before the p-th -/
def insR (v : Nat → Nat) (p m l : Nat) : Nat := if l < p then v l else if l = p then m else v (l - 1)
theorem ins_ok {co : Nat → Int32} {v : Nat → Nat} {p m : Nat} (h : IsRk co m v) (hp : p ≤ m) (h1 : ∀ l, p ≤ l → l < m → befo co m (v l)) (h2 : p = 0 ∨ befo co (v (p - 1)) m) : IsRk co (m + 1) (insR v p m) := by
  refine ⟨fun a ha => ?_, fun a b hab hb => ?_⟩
  · unfold insR
    split
    · have := h.1 a (by omega); omega
    · split
      · omega
      · have := h.1 (a - 1) (by omega); omega
  · unfold insR
    by_cases a1 : a < p
    · rw [if_pos a1]
      by_cases b1 : b < p
      · rw [if_pos b1]; exact h.2 a b hab (by omega)
      · rw [if_neg b1]
        have hm : befo co (v a) m := by
          rcases h2 with h2 | h2
          · omega
          · by_cases e : a = p - 1
            · rw [e]; exact h2
            · exact befo_tr (h.2 a (p - 1) (by omega) (by omega)) h2
        by_cases b2 : b = p
        · rw [if_pos b2]; exact hm
        · rw [if_neg b2]; exact befo_tr hm (h1 (b - 1) (by omega) (by omega))
    · rw [if_neg a1, if_neg (show ¬ b < p by omega), if_neg (show ¬ b = p by omega)]
      by_cases a2 : a = p
      · rw [if_pos a2]; exact h1 (b - 1) (by omega) (by omega)
      · rw [if_neg a2]; exact h.2 (a - 1) (b - 1) (by omega) (by omega)
/-- the ranking that insertion finds is the ranking by peaks -/
theorem rk_uni {co : Nat → Int32} {n : Nat} {v : Nat → Nat} (h : IsRk co n v) : ∀ k, k < n → v k = pk co n k := h.uni (pk_rk co n)

