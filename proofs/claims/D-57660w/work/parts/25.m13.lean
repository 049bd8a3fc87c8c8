/-! ===== quotients of whole numbers are numbers ===== -/
/-- facts of a format -/
abbrev fpG (f : FP.Core.Fmt) : Prop := 2 ^ f.p = 2 * f.tails ∧ 0 < f.tails ∧ f.qmax - f.qmin + 3 = (f.exps : Int) ∧ f.qmin ≤ 0 ∧ 64 ≤ f.qmax ∧ 1 ≤ f.p
theorem fpG64 : fpG FP.Core.b64 := by decide +kernel
theorem fpG32 : fpG FP.Core.b32 := by decide +kernel
theorem fp_enc {f : FP.Core.Fmt} (hf : fpG f) {s : Bool} {c : Nat} {q : Int} (hc : c < 2 ^ f.p) (h1 : f.qmin ≤ q) (h2 : q ≤ f.qmax) : ∃ e t, FP.Core.encode f (.fin s c q) = FP.Core.assemble f s e t ∧ e + 2 ≤ f.exps ∧ t < f.tails ∧ (c ≠ 0 → e ≠ 0 ∨ t ≠ 0) := by
  obtain ⟨f1, f2, f3, f4, f5, f6⟩ := hf
  have he : FP.Core.encode f (.fin s c q) = if c < f.tails then FP.Core.assemble f s 0 c else FP.Core.assemble f s ((q - f.qmin).toNat + 1) (c - f.tails) := rfl
  rw [he]
  split
  next h => exact ⟨0, c, rfl, by omega, h, fun h => Or.inr h⟩
  next h => exact ⟨(q - f.qmin).toNat + 1, c - f.tails, rfl, by omega, by omega, fun h => Or.inl (by omega)⟩
theorem fp_asm {f : FP.Core.Fmt} (hf : fpG f) {s : Bool} {e t : Nat} (he : e < f.exps) (ht : t < f.tails) : FP.Core.assemble f s e t % (f.exps * f.tails) = e * f.tails + t ∧ FP.Core.fieldT f (FP.Core.assemble f s e t) = t ∧ FP.Core.fieldE f (FP.Core.assemble f s e t) = e ∧ FP.Core.assemble f s e t < 2 * f.exps * f.tails := by
  unfold FP.Core.fieldT FP.Core.fieldE FP.Core.assemble
  have h1 : ((s.toNat * f.exps + e) * f.tails + t) / f.tails = s.toNat * f.exps + e := by
    rw [Nat.add_comm, Nat.add_mul_div_right _ _ hf.2.1, Nat.div_eq_of_lt ht, Nat.zero_add]
  have h3 : e * f.tails + t < f.exps * f.tails := by
    have : (e + 1) * f.tails ≤ f.exps * f.tails := Nat.mul_le_mul_right _ he
    rw [Nat.add_mul, Nat.one_mul] at this
    omega
  refine ⟨?_, ?_, ?_, ?_⟩
  · rw [Nat.add_mul, Nat.mul_assoc, Nat.add_assoc, Nat.mul_comm s.toNat, Nat.mul_add_mod, Nat.mod_eq_of_lt h3]
  · rw [Nat.add_comm, Nat.add_mul_mod_self_right, Nat.mod_eq_of_lt ht]
  · rw [h1, Nat.mul_comm, Nat.mul_add_mod, Nat.mod_eq_of_lt he]
  · have : s.toNat ≤ 1 := by cases s <;> decide
    have h4 : s.toNat * (f.exps * f.tails) ≤ 1 * (f.exps * f.tails) := Nat.mul_le_mul_right _ this
    rw [Nat.add_mul, Nat.mul_assoc, Nat.mul_assoc 2]
    omega
/-- the fields say: no NaN -/
theorem fp_rr {f : FP.Core.Fmt} (hf : fpG f) (s : Bool) (a b : Nat) (e : Int) : (∃ s0, FP.Core.roundRatio f s a b e = .inf s0) ∨ ∃ s0 c q, FP.Core.roundRatio f s a b e = .fin s0 c q ∧ c < 2 ^ f.p ∧ f.qmin ≤ q ∧ q ≤ f.qmax := by
  obtain ⟨f1, f2, f3, f4, f5, f6⟩ := hf
  unfold FP.Core.roundRatio
  split
  · exact Or.inr ⟨s, 0, f.qmin, rfl, by omega, by omega, by omega⟩
  · have hq : f.qmin ≤ FP.Core.quantum f a b e := by unfold FP.Core.quantum; omega
    generalize FP.Core.quantum f a b e = q at hq
    unfold FP.Core.roundAt FP.Core.settle FP.Core.bound
    split
    · split
      · exact Or.inr ⟨s, _, q, rfl, by assumption, hq, by assumption⟩
      · exact Or.inl ⟨s, rfl⟩
    · split
      · exact Or.inr ⟨s, _, q + 1, rfl, by omega, by omega, by assumption⟩
      · exact Or.inl ⟨s, rfl⟩
theorem fp_int {f : FP.Core.Fmt} (hf : fpG f) (i : Int) (hi : i.natAbs < 2 ^ 64) : ∃ s c q, FP.Core.round f (FP.Core.ofInt i) = .fin s c q ∧ (c < 2 ^ f.p ∧ f.qmin ≤ q ∧ q ≤ f.qmax) ∧ (i ≠ 0 → c ≠ 0) := by
  have hf0 := hf
  obtain ⟨f1, f2, f3, f4, f5, f6⟩ := hf
  show ∃ s c q, FP.Core.roundRatio f (decide (i < 0)) i.natAbs 1 0 = .fin s c q ∧ _
  generalize decide (i < 0) = s
  have hn : i ≠ 0 ↔ i.natAbs ≠ 0 := by omega
  rw [hn]
  generalize i.natAbs = n at hi
  unfold FP.Core.roundRatio
  split
  next h => exact ⟨s, 0, f.qmin, rfl, ⟨by omega, by omega, by omega⟩, fun h2 => absurd h h2⟩
  next h =>
    have hl : FP.Core.leading n 1 = (n.log2 : Int) := by
      unfold FP.Core.leading
      have e1 : Nat.log2 1 = 0 := by decide
      rw [e1]
      dsimp only
      rw [if_pos]
      · omega
      · have h3 : ((n.log2 : Int) - ((0 : Nat) : Int)).toNat = n.log2 := by omega
        have h4 : (-((n.log2 : Int) - ((0 : Nat) : Int))).toNat = 0 := by omega
        rw [h3, h4, Nat.one_mul, Nat.pow_zero, Nat.mul_one]
        exact Nat.log2_self_le h
    have h63 : n.log2 < 64 := (Nat.log2_lt h).mpr hi
    have hq : FP.Core.quantum f n 1 0 = max f.qmin ((n.log2 : Int) + 0 - ((f.p : Int) - 1)) := by unfold FP.Core.quantum; rw [hl]
    have hself := Nat.log2_self_le h
    generalize FP.Core.quantum f n 1 0 = q at hq
    have hc : 1 ≤ FP.Core.nearest (FP.Core.unitsNum n 0 q) (FP.Core.unitsDen 1 0 q) := by
      have hle : FP.Core.unitsDen 1 0 q ≤ FP.Core.unitsNum n 0 q := by
        unfold FP.Core.unitsDen FP.Core.unitsNum
        rw [Nat.one_mul]
        rcases Int.le_total q 0 with h0 | h0
        · rw [show (q - 0).toNat = 0 by omega, Nat.pow_zero]
          exact Nat.mul_pos (Nat.pos_of_ne_zero h) (Nat.two_pow_pos _)
        · rw [show (0 - q).toNat = 0 by omega, Nat.pow_zero, Nat.mul_one]
          exact Nat.le_trans (Nat.pow_le_pow_right (by decide) (by omega)) hself
      have hpos : 0 < FP.Core.unitsDen 1 0 q := by
        unfold FP.Core.unitsDen
        rw [Nat.one_mul]
        exact Nat.two_pow_pos _
      have h5 : 1 ≤ FP.Core.unitsNum n 0 q / FP.Core.unitsDen 1 0 q := (Nat.le_div_iff_mul_le hpos).mpr (by rw [Nat.one_mul]; exact hle)
      unfold FP.Core.nearest
      split
      · exact h5
      · split <;> omega
    unfold FP.Core.roundAt FP.Core.settle FP.Core.bound
    split
    · rw [if_pos (show q ≤ f.qmax by omega)]
      exact ⟨s, _, q, rfl, ⟨by assumption, by omega, by omega⟩, fun _ => by omega⟩
    · rw [if_pos (show q + 1 ≤ f.qmax by omega)]
      exact ⟨s, _, q + 1, rfl, ⟨by omega, by omega, by omega⟩, fun _ => by omega⟩
theorem fp_dec {f : FP.Core.Fmt} (hf : fpG f) {s : Bool} {e t : Nat} (he : e + 2 ≤ f.exps) (ht : t < f.tails) : ∃ s' c q, FP.Core.decode f (FP.Core.assemble f s e t) = .fin s' c q ∧ (e ≠ 0 ∨ t ≠ 0 → c ≠ 0) := by
  obtain ⟨-, h1, h2, -⟩ := fp_asm hf (s := s) (e := e) (t := t) (by omega) ht
  have h3 := hf.2.1
  unfold FP.Core.decode
  rw [h1, h2, if_neg (by omega)]
  split
  · exact ⟨_, _, _, rfl, fun h => by omega⟩
  · exact ⟨_, _, _, rfl, fun h => by omega⟩
/-- the number that a whole number is turned to -/
theorem fp_of {f : FP.Core.Fmt} (hf : fpG f) (i : Int) (hi : i.natAbs < 2 ^ 64) : FP.Core.fromInt f i < 2 * f.exps * f.tails ∧ ∃ s c q, FP.Core.decode f (FP.Core.fromInt f i) = .fin s c q ∧ (i ≠ 0 → c ≠ 0) := by
  obtain ⟨s, c, q, h1, ⟨h2, h3, h4⟩, h5⟩ := fp_int hf i hi
  unfold FP.Core.fromInt
  rw [h1]
  obtain ⟨e, t, g1, g2, g3, g4⟩ := fp_enc hf (s := s) h2 h3 h4
  rw [g1]
  refine ⟨(fp_asm hf (e := e) (by omega) g3).2.2.2, ?_⟩
  obtain ⟨s', c', q', k1, k2⟩ := fp_dec hf (s := s) g2 g3
  exact ⟨s', c', q', k1, fun h => k2 (g4 (h5 h))⟩
/-- the quotient's fields -/
theorem fp_quo {f : FP.Core.Fmt} (hf : fpG f) {s t : Bool} {c d : Nat} {q r : Int} (hd : d ≠ 0) : ∃ s0 e t', FP.Core.encode f (FP.Core.quotient f (.fin s c q) (.fin t d r)) = FP.Core.assemble f s0 e t' ∧ e * f.tails + t' ≤ (f.exps - 1) * f.tails ∧ e < f.exps ∧ t' < f.tails := by
  have hq : FP.Core.quotient f (.fin s c q) (.fin t d r) = if d = 0 then (if c = 0 then .nan else .inf (s != t)) else FP.Core.roundRatio f (s != t) c d (q - r) := rfl
  rw [hq, if_neg hd]
  have hx : 0 < f.exps := Nat.two_pow_pos _
  rcases fp_rr hf (s != t) c d (q - r) with ⟨s', h⟩ | ⟨s', c', q', h, h2, h3, h4⟩
  · rw [h]
    exact ⟨s', f.exps - 1, 0, rfl, by omega, by omega, hf.2.1⟩
  · rw [h]
    obtain ⟨e, t', g1, g2, g3, g4⟩ := fp_enc hf (s := s') h2 h3 h4
    refine ⟨s', e, t', g1, ?_, by omega, g3⟩
    have : (e + 1) * f.tails ≤ (f.exps - 1) * f.tails := Nat.mul_le_mul_right _ (by omega)
    rw [Nat.add_mul, Nat.one_mul] at this
    omega
theorem fp_n64 {n : Nat} {s : Bool} {e t : Nat} (h : n = FP.Core.assemble FP.Core.b64 s e t) (h1 : e * FP.Core.b64.tails + t ≤ (FP.Core.b64.exps - 1) * FP.Core.b64.tails) (h2 : e < FP.Core.b64.exps) (h3 : t < FP.Core.b64.tails) : vf_n64 (UInt64.ofNat n) := by
  obtain ⟨k1, -, -, k2⟩ := fp_asm fpG64 (s := s) h2 h3
  rw [← h] at k1 k2
  have e1 : 2 * FP.Core.b64.exps * FP.Core.b64.tails = 2 ^ 64 := by decide +kernel
  have e2 : FP.Core.b64.exps * FP.Core.b64.tails = 2 ^ 63 := by decide +kernel
  have e3 : (FP.Core.b64.exps - 1) * FP.Core.b64.tails = 0x7ff0000000000000 := by decide +kernel
  rw [e1] at k2
  rw [e2] at k1
  rw [e3] at h1
  unfold vf_n64
  rw [UInt64.le_iff_toNat_le, UInt64.toNat_and, UInt64.toNat_ofNat_of_lt' k2]
  rw [show (0x7fffffffffffffff : UInt64).toNat = 2 ^ 63 - 1 by decide, Nat.and_two_pow_sub_one_eq_mod, k1]
  exact h1
theorem fp_n32 {n : Nat} {s : Bool} {e t : Nat} (h : n = FP.Core.assemble FP.Core.b32 s e t) (h1 : e * FP.Core.b32.tails + t ≤ (FP.Core.b32.exps - 1) * FP.Core.b32.tails) (h2 : e < FP.Core.b32.exps) (h3 : t < FP.Core.b32.tails) : vf_n32 (UInt32.ofNat n) := by
  obtain ⟨k1, -, -, k2⟩ := fp_asm fpG32 (s := s) h2 h3
  rw [← h] at k1 k2
  have e1 : 2 * FP.Core.b32.exps * FP.Core.b32.tails = 2 ^ 32 := by decide +kernel
  have e2 : FP.Core.b32.exps * FP.Core.b32.tails = 2 ^ 31 := by decide +kernel
  have e3 : (FP.Core.b32.exps - 1) * FP.Core.b32.tails = 0x7f800000 := by decide +kernel
  rw [e1] at k2
  rw [e2] at k1
  rw [e3] at h1
  unfold vf_n32
  rw [UInt32.le_iff_toNat_le, UInt32.toNat_and, UInt32.toNat_ofNat_of_lt' k2]
  rw [show (0x7fffffff : UInt32).toNat = 2 ^ 31 - 1 by decide, Nat.and_two_pow_sub_one_eq_mod, k1]
  exact h1
theorem fp_d64 (i j : Int) (hi : i.natAbs < 2 ^ 64) (hj : j.natAbs < 2 ^ 64) (h0 : j ≠ 0) : vf_n64 (FP.Core.ddiv (UInt64.ofNat (FP.Core.fromInt FP.Core.b64 i)) (UInt64.ofNat (FP.Core.fromInt FP.Core.b64 j))) := by
  obtain ⟨a1, s, c, q, a2, -⟩ := fp_of fpG64 i hi
  obtain ⟨b1, t, d, r, b2, b3⟩ := fp_of fpG64 j hj
  have e1 : 2 * FP.Core.b64.exps * FP.Core.b64.tails = 2 ^ 64 := by decide +kernel
  rw [e1] at a1 b1
  unfold FP.Core.ddiv FP.Core.div
  rw [UInt64.toNat_ofNat_of_lt' a1, UInt64.toNat_ofNat_of_lt' b1, a2, b2]
  obtain ⟨s', e, t', g1, g2, g3, g4⟩ := fp_quo fpG64 (s := s) (t := t) (c := c) (q := q) (r := r) (b3 h0)
  exact fp_n64 g1 g2 g3 g4
theorem fp_d32 (i j : Int) (hi : i.natAbs < 2 ^ 64) (hj : j.natAbs < 2 ^ 64) (h0 : j ≠ 0) : vf_n32 (FP.Core.fdiv (UInt32.ofNat (FP.Core.fromInt FP.Core.b32 i)) (UInt32.ofNat (FP.Core.fromInt FP.Core.b32 j))) := by
  obtain ⟨a1, s, c, q, a2, -⟩ := fp_of fpG32 i hi
  obtain ⟨b1, t, d, r, b2, b3⟩ := fp_of fpG32 j hj
  have e1 : 2 * FP.Core.b32.exps * FP.Core.b32.tails = 2 ^ 32 := by decide +kernel
  rw [e1] at a1 b1
  unfold FP.Core.fdiv FP.Core.div
  rw [UInt32.toNat_ofNat_of_lt' a1, UInt32.toNat_ofNat_of_lt' b1, a2, b2]
  obtain ⟨s', e, t', g1, g2, g3, g4⟩ := fp_quo fpG32 (s := s) (t := t) (c := c) (q := q) (r := r) (b3 h0)
  exact fp_n32 g1 g2 g3 g4
theorem i_abs (x : Int32) : x.toInt.natAbs < 2 ^ 64 := by
  have := x.toInt_lt
  have := x.le_toInt
  omega
theorem j_abs (x : Int64) : x.toInt.natAbs < 2 ^ 64 := by
  have := x.toInt_lt
  have := x.le_toInt
  omega
theorem i2d_n64 (a b : Int32) (h : b ≠ 0) : vf_n64 (FP.ddiv (FP.i2d a) (FP.i2d b)) := fp_d64 a.toInt b.toInt (i_abs a) (i_abs b) fun e => h (Int32.toInt_inj.mp e)
theorem l2d_n64 (a b : Int64) (h : b ≠ 0) : vf_n64 (FP.ddiv (FP.l2d a) (FP.l2d b)) := fp_d64 a.toInt b.toInt (j_abs a) (j_abs b) fun e => h (Int64.toInt_inj.mp e)
theorem l2f_n32 (a b : Int64) (h : b ≠ 0) : vf_n32 (FP.fdiv (FP.l2f a) (FP.l2f b)) := fp_d32 a.toInt b.toInt (j_abs a) (j_abs b) fun e => h (Int64.toInt_inj.mp e)

