/-! ===== the component's Walsh functions: plain laws ===== -/
theorem nI_and (a b : Nat) : nI a &&& nI b = nI (a &&& b) := by
  apply Int32.toBitVec_inj.mp
  rw [Int32.toBitVec_and]
  apply BitVec.eq_of_toNat_eq
  rw [BitVec.toNat_and]
  show (BitVec.ofNat 32 a).toNat &&& (BitVec.ofNat 32 b).toNat = (BitVec.ofNat 32 (a &&& b)).toNat
  simp only [BitVec.toNat_ofNat]
  rw [← Nat.and_mod_two_pow]
theorem mu_mu {M : X_M} {a : Nat} {e e' : X_E} : mu (mu M a e) a e' = mu M a e' := by
  funext q
  unfold mu
  split <;> rfl
theorem mu_id {M : X_M} {a : Nat} {e : X_E} (h : M a = some e) : mu M a e = M := by
  funext q
  unfold mu
  split
  next h1 => rw [h1, h]
  next => rfl
/-- the number whose Gray code is c -/
def ug : Nat → Nat → Nat
  | 0, _ => 0
  | d + 1, c => c ^^^ ug d (c / 2)
theorem ug_ok : ∀ j, j < 7 → ∀ x, x < 2 ^ j → ug 7 (rev j x) < 2 ^ j ∧ sqI j (ug 7 (rev j x)) = x := by decide +kernel
theorem rev_lt : ∀ (j x : Nat), rev j x < 2 ^ j
  | 0, _ => Nat.zero_lt_one
  | j + 1, x => by
    have ih := rev_lt j (x / 2)
    unfold rev
    rw [Nat.pow_succ]
    rcases Nat.mod_two_eq_zero_or_one x with h | h <;> rw [h] <;> omega
theorem chg_ug {j x : Nat} (h1 : j < 7) (h2 : 1 ≤ j) (h3 : x < 2 ^ j) : chg (nI x) (2 ^ j) = nI (ug 7 (rev j x)) := by
  obtain ⟨g1, g2⟩ := ug_ok j h1 x h3
  have h := (sqI_ok j h1 h2 _ g1).2
  rwa [g2] at h
theorem chg_sqI {j s i : Nat} (h1 : j < 7) (h2 : 1 ≤ j) (hs : s < 2 ^ j) (hi : i < 2 ^ j) : chg (nI i) (2 ^ j) = nI s ↔ i = sqI j s := by
  constructor
  · intro h
    obtain ⟨g1, g2⟩ := ug_ok j h1 i hi
    have hp := (pw_le h1).2
    rw [chg_ug h1 h2 hi, nI_eq (by omega) (by omega)] at h
    rw [← h, g2]
  · rintro rfl
    exact (sqI_ok j h1 h2 s hs).2
/-- one pass of the fast transform -/
def stg (h : Nat) (f : Nat → Int32) (l : Nat) : Int32 := if l / h % 2 = 0 then f l + f (l + h) else f (l - h) - f l
/-- the passes up to the i-th -/
def wht (f : Nat → Int32) : Nat → Nat → Int32
  | 0 => f
  | i + 1 => stg (2 ^ i) (wht f i)
theorem sg_pw : ∀ i, i < 6 → ∀ b, b < 2 ^ i → ∀ m, m < 2 ^ i → sg (nI b) (nI (2 ^ i + m)) = sg (nI b) (nI m) ∧ sg (nI (2 ^ i + b)) (nI m) = sg (nI b) (nI m) ∧ sg (nI (2 ^ i + b)) (nI (2 ^ i + m)) = -sg (nI b) (nI m) := by decide +kernel
theorem iS_split (g : Nat → Int32) (a : Nat) : ∀ b, iS g (a + b) = iS g a + iS (fun k => g (a + k)) b
  | 0 => (Int32.add_zero _).symm
  | b + 1 => by
    show iS g (a + b) + g (a + b) = iS g a + (iS (fun k => g (a + k)) b + g (a + b))
    rw [iS_split g a b, Int32.add_assoc]
theorem iS_neg (g : Nat → Int32) : ∀ n, iS (fun k => -g k) n = -iS g n
  | 0 => by show (0 : Int32) = -0; decide
  | n + 1 => by
    show iS (fun k => -g k) n + -g n = -(iS g n + g n)
    rw [iS_neg g n, Int32.neg_add, Int32.sub_eq_add_neg]
theorem wht_ok (f : Nat → Int32) : ∀ i, i ≤ 6 → ∀ a b, b < 2 ^ i → wht f i (a * 2 ^ i + b) = iS (fun m => f (a * 2 ^ i + m) * sg (nI b) (nI m)) (2 ^ i)
  | 0, _, a, b, hb => by
    have hb0 : b = 0 := by simpa using hb
    subst hb0
    show f (a * 1 + 0) = 0 + f (a * 1 + 0) * sg (nI 0) (nI 0)
    rw [show sg (nI 0) (nI 0) = 1 by decide, Int32.mul_one, Int32.zero_add]
  | i + 1, hi, a, b, hb => by
    have ih := wht_ok f i (by omega)
    have hpos : 0 < 2 ^ i := Nat.two_pow_pos i
    have e2 : 2 ^ (i + 1) = 2 ^ i + 2 ^ i := by rw [Nat.pow_succ]; omega
    have ea : a * 2 ^ (i + 1) = (2 * a) * 2 ^ i := by rw [e2, Nat.mul_add, Nat.two_mul, Nat.add_mul]
    have ea1 : (2 * a) * 2 ^ i + 2 ^ i = (2 * a + 1) * 2 ^ i := by rw [Nat.add_mul, Nat.one_mul]
    show stg (2 ^ i) (wht f i) (a * 2 ^ (i + 1) + b) = _
    rw [e2] at hb
    rw [e2, iS_split, ← e2, ea]
    unfold stg
    rcases Nat.lt_or_ge b (2 ^ i) with h | h
    · have hd : ((2 * a) * 2 ^ i + b) / 2 ^ i % 2 = 0 := by
        rw [Nat.add_comm, Nat.add_mul_div_right _ _ hpos, Nat.div_eq_of_lt h]
        omega
      rw [if_pos hd, show (2 * a) * 2 ^ i + b + 2 ^ i = (2 * a + 1) * 2 ^ i + b by omega, ih (2 * a) b h, ih (2 * a + 1) b h]
      congr 1
      refine iS_cong fun m hm => ?_
      rw [(sg_pw i (by omega) b h m hm).1, ← ea1]
      congr 2
      omega
    · obtain ⟨c, rfl⟩ : ∃ c, b = 2 ^ i + c := ⟨b - 2 ^ i, by omega⟩
      have hc : c < 2 ^ i := by omega
      have hd : ¬ ((2 * a) * 2 ^ i + (2 ^ i + c)) / 2 ^ i % 2 = 0 := by
        rw [show (2 * a) * 2 ^ i + (2 ^ i + c) = c + (2 * a + 1) * 2 ^ i by omega, Nat.add_mul_div_right _ _ hpos, Nat.div_eq_of_lt hc]
        omega
      rw [if_neg hd, show (2 * a) * 2 ^ i + (2 ^ i + c) - 2 ^ i = (2 * a) * 2 ^ i + c by omega, show (2 * a) * 2 ^ i + (2 ^ i + c) = (2 * a + 1) * 2 ^ i + c by omega, ih (2 * a) c hc, ih (2 * a + 1) c hc, Int32.sub_eq_add_neg, ← iS_neg]
      congr 1
      · refine iS_cong fun m hm => ?_
        rw [(sg_pw i (by omega) c hc m hm).2.1]
      · refine iS_cong fun m hm => ?_
        rw [(sg_pw i (by omega) c hc m hm).2.2, Int32.mul_neg, ← ea1]
        congr 3
        omega
/-- the fast transform is the sum -/
theorem wht_cf (f : Nat → Int32) {j l : Nat} (hj : j ≤ 6) (hl : l < 2 ^ j) : wht f j l = cfN f (2 ^ j) l := by
  have h := wht_ok f j hj 0 l hl
  simp only [Nat.zero_mul, Nat.zero_add] at h
  exact h

