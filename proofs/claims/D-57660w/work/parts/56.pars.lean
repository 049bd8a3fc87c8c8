/-! ===== Parseval: the energy of the coefficients ===== -/
theorem jS_split (g : Nat → Int64) (a : Nat) : ∀ b, jS g (a + b) = jS g a + jS (fun k => g (a + k)) b
  | 0 => (Int64.add_zero _).symm
  | b + 1 => by
    show jS g (a + b) + g (a + b) = jS g a + (jS (fun k => g (a + k)) b + g (a + b))
    rw [jS_split g a b, Int64.add_assoc]
theorem jS_dbl (g : Nat → Int64) : ∀ n, jS (fun k => g k + g k) n = jS g n + jS g n := fun _ => jS_add
theorem sq_t {x : Int32} (h : x.toInt.natAbs < 2 ^ 31) : (sq x).toInt = x.toInt * x.toInt ∧ 0 ≤ x.toInt * x.toInt := by
  unfold sq
  have h1 : x.toInt64.toInt = x.toInt := Int32.toInt_toInt64 x
  have h2 : x.toInt.natAbs * x.toInt.natAbs ≤ (2 ^ 31 - 1) * (2 ^ 31 - 1) := Nat.mul_le_mul (by omega) (by omega)
  have h3 : x.toInt * x.toInt = ((x.toInt.natAbs * x.toInt.natAbs : Nat) : Int) := Int.natAbs_mul_self.symm
  rw [Int64.toInt_mul, h1, h3, Int.bmod_eq_of_le (by omega) (by omega)]
  exact ⟨rfl, by omega⟩
theorem sq_pm {x y : Int32} (hx : x.toInt.natAbs < 2 ^ 28) (hy : y.toInt.natAbs < 2 ^ 28) : sq (x + y) + sq (x - y) = sq x + sq x + (sq y + sq y) := by
  have ha : (x + y).toInt = x.toInt + y.toInt := by rw [Int32.toInt_add, Int.bmod_eq_of_le (by omega) (by omega)]
  have hs : (x - y).toInt = x.toInt - y.toInt := by rw [Int32.toInt_sub, Int.bmod_eq_of_le (by omega) (by omega)]
  have e1 := sq_t (x := x + y) (by omega)
  have e2 := sq_t (x := x - y) (by omega)
  have e3 := sq_t (x := x) (by omega)
  have e4 := sq_t (x := y) (by omega)
  have b1 := (sq_i (x := x + y) (B := 2 ^ 29) (by omega) (by decide)).2
  have b2 := (sq_i (x := x - y) (B := 2 ^ 29) (by omega) (by decide)).2
  have b3 := (sq_i (x := x) (B := 2 ^ 29) (by omega) (by decide)).2
  have b4 := (sq_i (x := y) (B := 2 ^ 29) (by omega) (by decide)).2
  rw [ha] at e1
  rw [hs] at e2
  apply Int64.toInt_inj.mp
  have f1 : (x.toInt + y.toInt) * (x.toInt + y.toInt) = x.toInt * x.toInt + x.toInt * y.toInt + (x.toInt * y.toInt + y.toInt * y.toInt) := by
    rw [Int.add_mul, Int.mul_add, Int.mul_add, Int.mul_comm y.toInt x.toInt]
  have f2 : (x.toInt - y.toInt) * (x.toInt - y.toInt) = x.toInt * x.toInt - x.toInt * y.toInt - (x.toInt * y.toInt - y.toInt * y.toInt) := by
    rw [Int.sub_mul, Int.mul_sub, Int.mul_sub, Int.mul_comm y.toInt x.toInt]
  rw [f1] at e1
  rw [f2] at e2
  rw [Int64.toInt_add, Int64.toInt_add, Int64.toInt_add, Int64.toInt_add]
  rw [Int.bmod_eq_of_le (n := (sq (x + y)).toInt + (sq (x - y)).toInt) (by omega) (by omega), Int.bmod_eq_of_le (n := (sq x).toInt + (sq x).toInt) (by omega) (by omega), Int.bmod_eq_of_le (n := (sq y).toInt + (sq y).toInt) (by omega) (by omega), Int.bmod_eq_of_le (by omega) (by omega)]
  omega
/-- one pass doubles the energy -/
theorem stg_E {h : Nat} (hh : 0 < h) {f : Nat → Int32} : ∀ {m : Nat}, (∀ l, l < 2 * h * m → (f l).toInt.natAbs < 2 ^ 28) → jS (fun l => sq (stg h f l)) (2 * h * m) = jS (fun l => sq (f l)) (2 * h * m) + jS (fun l => sq (f l)) (2 * h * m)
  | 0, _ => by
    rw [Nat.mul_zero]
    show (0 : Int64) = 0 + 0
    decide
  | m + 1, hb => by
    have em : 2 * h * (m + 1) = 2 * h * m + (h + h) := by rw [Nat.mul_succ, Nat.two_mul]
    have ih := stg_E hh (m := m) (fun l hl => hb l (by omega))
    have key : jS (fun k => sq (stg h f (2 * h * m + k))) (h + h) = jS (fun k => sq (f (2 * h * m + k))) (h + h) + jS (fun k => sq (f (2 * h * m + k))) (h + h) := by
      rw [jS_split, ← jS_add, jS_split (fun k => sq (f (2 * h * m + k)))]
      have e : ∀ b, b < h → sq (stg h f (2 * h * m + b)) + sq (stg h f (2 * h * m + (h + b))) = (sq (f (2 * h * m + b)) + sq (f (2 * h * m + b))) + (sq (f (2 * h * m + (h + b))) + sq (f (2 * h * m + (h + b)))) := by
        intro b hbh
        have q0 : 2 * h * m = h * (2 * m) := by rw [Nat.mul_comm 2 h, Nat.mul_assoc]
        have q1 : (2 * h * m + b) / h % 2 = 0 := by
          rw [q0, Nat.mul_add_div hh, Nat.div_eq_of_lt hbh]; omega
        have q2 : ¬ (2 * h * m + (h + b)) / h % 2 = 0 := by
          rw [q0, Nat.mul_add_div hh, Nat.add_div_left _ hh, Nat.div_eq_of_lt hbh]; omega
        unfold stg
        rw [if_pos q1, if_neg q2, show 2 * h * m + b + h = 2 * h * m + (h + b) by omega, show 2 * h * m + (h + b) - h = 2 * h * m + b by omega]
        exact sq_pm (hb _ (by omega)) (hb _ (by omega))
      rw [jS_cong e, jS_add, jS_add, jS_add]
      generalize jS (fun k => sq (f (2 * h * m + k))) h = X
      generalize jS (fun k => sq (f (2 * h * m + (h + k)))) h = Y
      rw [Int64.add_assoc, Int64.add_assoc, ← Int64.add_assoc Y, Int64.add_comm Y X, Int64.add_assoc X Y]
    rw [em, jS_split, ih, key, jS_split (fun l => sq (f l))]
    generalize jS (fun l => sq (f l)) (2 * h * m) = X
    generalize jS (fun k => sq (f (2 * h * m + k))) (h + h) = Y
    ac_rfl
theorem wht_b {f : Nat → Int32} {j : Nat} (hj : j ≤ 6) (hf : ∀ l, l < 2 ^ j → lim (f l)) : ∀ i, i ≤ j → ∀ l, l < 2 ^ j → (wht f i l).toInt.natAbs ≤ 2 ^ i * 9999
  | 0, _, l, hl => by
    have := lim_i.mp (hf l hl)
    show (f l).toInt.natAbs ≤ 1 * 9999
    omega
  | i + 1, hi, l, hl => by
    have ih := wht_b hj hf i (by omega)
    have hh : 0 < 2 ^ i := Nat.two_pow_pos i
    have h64 : 2 ^ i ≤ 2 ^ 6 := Nat.pow_le_pow_right (by decide) (by omega)
    have hq : 2 ^ j = 2 * 2 ^ i * 2 ^ (j - i - 1) := by rw [Nat.mul_comm 2, ← Nat.pow_succ, ← Nat.pow_add]; congr 1; omega
    show (stg (2 ^ i) (wht f i) l).toInt.natAbs ≤ 2 ^ (i + 1) * 9999
    rw [Nat.pow_succ]
    unfold stg
    have h1 := ih l hl
    split
    next h0 =>
      have h2 := ih (l + 2 ^ i) (by rw [hq]; exact pair_lt hh (by rw [← hq]; exact hl) h0)
      rw [Int32.toInt_add, Int.bmod_eq_of_le (by omega) (by omega)]
      omega
    next h0 =>
      have h2 := ih (l - 2 ^ i) (by omega)
      rw [Int32.toInt_sub, Int.bmod_eq_of_le (by omega) (by omega)]
      omega
theorem two64 : ∀ i, i < 6 → (nI (2 ^ i)).toInt64 + (nI (2 ^ i)).toInt64 = (nI (2 ^ (i + 1))).toInt64 := by decide
theorem wht_E {f : Nat → Int32} {j : Nat} (hj : j ≤ 6) (hf : ∀ l, l < 2 ^ j → lim (f l)) : ∀ i, i ≤ j → jS (fun l => sq (wht f i l)) (2 ^ j) = jS (fun l => sq (f l)) (2 ^ j) * (nI (2 ^ i)).toInt64
  | 0, _ => by
    show jS (fun l => sq (f l)) (2 ^ j) = jS (fun l => sq (f l)) (2 ^ j) * (nI (2 ^ 0)).toInt64
    rw [show (nI (2 ^ 0)).toInt64 = 1 by decide, Int64.mul_one]
  | i + 1, hi => by
    have ih := wht_E hj hf i (by omega)
    have hq : 2 ^ j = 2 * 2 ^ i * 2 ^ (j - i - 1) := by rw [Nat.mul_comm 2, ← Nat.pow_succ, ← Nat.pow_add]; congr 1; omega
    have h64 : 2 ^ i ≤ 2 ^ 6 := Nat.pow_le_pow_right (by decide) (by omega)
    have hd := stg_E (Nat.two_pow_pos i) (f := wht f i) (m := 2 ^ (j - i - 1)) (fun l hl => by
      have := wht_b hj hf i (by omega) l (by rw [hq]; exact hl)
      omega)
    rw [← hq] at hd
    show jS (fun l => sq (stg (2 ^ i) (wht f i) l)) (2 ^ j) = _
    rw [hd, ih, ← Int64.mul_add, two64 i (by omega)]
/-- Parseval -/
theorem coef_E {f : Nat → Int32} {j : Nat} (hj : j ≤ 6) (hf : ∀ l, l < 2 ^ j → lim (f l)) : jS (fun l => sq (cfN f (2 ^ j) l)) (2 ^ j) = jS (fun l => sq (f l)) (2 ^ j) * (nI (2 ^ j)).toInt64 := by
  rw [← wht_E hj hf j (Nat.le_refl j)]
  exact jS_cong fun l hl => by rw [wht_cf f hj hl]

