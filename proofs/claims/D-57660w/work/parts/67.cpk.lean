/-! ===== sums of ints: order; the common peaks, counted from either side; the peaks needed ===== -/
theorem iS_add {f g : Nat → Int32} : ∀ {n : Nat}, iS (fun k => f k + g k) n = iS f n + iS g n
  | 0 => by show (0 : Int32) = 0 + 0; decide
  | n + 1 => by
    show iS (fun k => f k + g k) n + (f n + g n) = iS f n + f n + (iS g n + g n)
    rw [iS_add, Int32.add_assoc, Int32.add_assoc, ← Int32.add_assoc (iS g n), Int32.add_comm (iS g n) (f n), Int32.add_assoc]
theorem iS_0 : ∀ {n : Nat} {f : Nat → Int32}, (∀ k, k < n → f k = 0) → iS f n = 0
  | 0, _, _ => rfl
  | n + 1, f, h => by
    show iS f n + f n = 0
    rw [iS_0 (fun k hk => h k (by omega)), h n (by omega)]
    decide
theorem iS_1 {f : Nat → Int32} {q : Nat} : ∀ {n : Nat}, q < n → (∀ k, k < n → k ≠ q → f k = 0) → iS f n = f q
  | 0, h, _ => by omega
  | n + 1, h, h2 => by
    show iS f n + f n = f q
    by_cases e : q = n
    · rw [iS_0 (fun k hk => h2 k (by omega) (by omega)), e, Int32.zero_add]
    · rw [iS_1 (by omega) (fun k hk => h2 k (by omega)), h2 n (by omega) (by omega), Int32.add_zero]
theorem iS_sw {F : Nat → Nat → Int32} {n : Nat} : ∀ {m : Nat}, iS (fun j => iS (fun i => F j i) n) m = iS (fun i => iS (fun j => F j i) m) n
  | 0 => (iS_0 (n := n) (f := fun _ => 0) (fun _ _ => rfl)).symm
  | m + 1 => by
    show iS (fun j => iS (fun i => F j i) n) m + iS (fun i => F m i) n = iS (fun i => iS (fun j => F j i) m + F m i) n
    rw [iS_sw, iS_add]
theorem iS_ex {P : Nat → Nat} {c : Nat} (hP : ∀ a b, a < c → b < c → P a = P b → a = b) (x : Nat) : xB (∃ j, j < c ∧ P j = x) = iS (fun j => xB (P j = x)) c := by
  by_cases h : ∃ j, j < c ∧ P j = x
  · obtain ⟨t, t1, t2⟩ := h
    rw [xB_t ⟨t, t1, t2⟩, iS_1 (q := t) t1 (fun k hk hne => xB_f (fun e => hne (hP _ _ hk t1 (by rw [e, t2])))), xB_t t2]
  · rw [xB_f h, iS_0 (fun k hk => xB_f (fun e => h ⟨k, hk, e⟩))]
/-- how many values two enumerations share -/
theorem iS_common {P Q : Nat → Nat} {c : Nat} (hP : ∀ a b, a < c → b < c → P a = P b → a = b) (hQ : ∀ a b, a < c → b < c → Q a = Q b → a = b) : iS (fun k => xB (∃ j, j < c ∧ P j = Q k)) c = iS (fun k => xB (∃ j, j < c ∧ Q j = P k)) c := by
  rw [iS_cong (g := fun k => xB (∃ j, j < c ∧ P j = Q k)) (fun k _ => iS_ex hP (Q k)), iS_sw]
  refine iS_cong fun k _ => ?_
  rw [iS_ex hQ (P k)]
  exact iS_cong fun i _ => xB_iff ⟨Eq.symm, Eq.symm⟩
theorem pk_inj {co : Nat → Int32} {n a b : Nat} (ha : a < n) (hb : b < n) (h : pk co n a = pk co n b) : a = b := by
  have hr := (pk_rk co n).2
  rcases Nat.lt_trichotomy a b with h1 | h1 | h1
  · have h2 := hr a b h1 hb
    rw [h] at h2
    exact (befo_irr h2 h2).elim
  · exact h1
  · have h2 := hr b a h1 ha
    rw [h] at h2
    exact (befo_irr h2 h2).elim
/-- that an index is among the first peaks, said by its rank -/
theorem rk_lt {f : Nat → Int32} {n i c : Nat} (hn : n ≤ 64) (hi : i < n) (hc : c ≤ n) : optI (fstI (fun k => pk (cfN f n) n k = i) n 0) < nI c ↔ ∃ k, k < c ∧ pk (cfN f n) n k = i := by
  obtain ⟨t, t1, t2⟩ := pk_sur (cfN f n) n hi
  rw [fstI_at (p := fun k => pk (cfN f n) n k = i) (b := t) (Nat.zero_le _) (by omega) t2 (fun l _ hl e => by have := pk_inj (by omega) t1 (e.trans t2.symm); omega)]
  show nI t < nI c ↔ _
  rw [nI_ltI (by omega) (by omega)]
  constructor
  · intro h; exact ⟨t, h, t2⟩
  · rintro ⟨k, k1, k2⟩
    have := pk_inj (by omega) t1 (k2.trans t2.symm)
    omega
/-- the energy of the coefficients; of the first peaks -/
abbrev coS (f : Nat → Int32) (n : Nat) : Int64 := jS (fun l => sq (cfN f n l)) n
abbrev pkS (f : Nat → Int32) (n k : Nat) : Int64 := jS (fun j => sq (cfN f n (pk (cfN f n) n j))) k
abbrev ndN (f : Nat → Int32) (n : Nat) (p : Int32) : Int32 := optI (fstI (fun k => p.toInt64 * coS f n ≤ 100 * pkS f n k) (n + 1) 0)
theorem pkS_all {f : Nat → Int32} {n : Nat} : pkS f n n = coS f n :=
  jS_pm (h := fun i => sq (cfN f n i)) (pk_rk (cfN f n) n).1 (fun a b hab hb e => by have := pk_inj (by omega) hb e; omega) (fun i hi => pk_sur _ _ hi)
theorem nd_ok {f : Nat → Int32} {n : Nat} (hn : n ≤ 64) (hf : ∀ l, l < n → lim (f l)) {p : Int32} (hp : 0 ≤ p ∧ p ≤ 100) : p.toInt64 * coS f n ≤ 100 * pkS f n n := by
  rw [pkS_all]
  have h := jS_b (f := fun i => sq (cfN f n i)) (B := 639936 * 639936) (n := n) (fun k hk => sq_i (cf_b hn hf) (by decide)) (by omega)
  obtain ⟨h1, h2⟩ := h
  have h3 := Int32.le_iff_toInt_le.mp hp.1
  have h4 := Int32.le_iff_toInt_le.mp hp.2
  rw [show (0 : Int32).toInt = 0 by decide] at h3
  rw [show (100 : Int32).toInt = 100 by decide] at h4
  have h5 : p.toInt64.toInt = p.toInt := Int32.toInt_toInt64 p
  show p.toInt64 * coS f n ≤ 100 * coS f n
  have e : coS f n = jS (fun i => sq (cfN f n i)) n := rfl
  rw [e]
  generalize jS (fun i => sq (cfN f n i)) n = E at *
  have h6 : p.toInt * E.toInt ≤ 100 * E.toInt := Int.mul_le_mul_of_nonneg_right h4 h1
  have h7 : 0 ≤ p.toInt * E.toInt := Int.mul_nonneg h3 h1
  rw [Int64.le_iff_toInt_le, Int64.toInt_mul, Int64.toInt_mul, h5, show (100 : Int64).toInt = 100 by decide, Int.bmod_eq_of_le (by omega) (by omega), Int.bmod_eq_of_le (by omega) (by omega)]
  exact h6

