/-! ===== the component's class Walsh ===== -/
theorem pair_lt {h m k : Nat} (hh : 0 < h) (hk : k < 2 * h * m) (h0 : k / h % 2 = 0) : k + h < 2 * h * m := by
  have h1 : k / h < 2 * m := by
    rw [Nat.div_lt_iff_lt_mul hh]
    rw [Nat.mul_comm 2 m, Nat.mul_assoc, Nat.mul_comm m (2 * h)]
    exact hk
  have h2 : k / h + 2 ≤ 2 * m := by omega
  have h3 : k < (k / h + 1) * h := Nat.lt_mul_of_div_lt (Nat.lt_succ_self _) hh
  have h4 : (k / h + 2) * h ≤ 2 * m * h := Nat.mul_le_mul_right h h2
  have h5 : 2 * m * h = 2 * h * m := by rw [Nat.mul_assoc, Nat.mul_comm m h, Nat.mul_assoc]
  have h6 : (k / h + 2) * h = (k / h + 1) * h + h := by rw [Nat.add_mul, Nat.add_mul]; omega
  omega
theorem and_pw (k i : Nat) (hk : k < 2 ^ 31) : nI k &&& nI (2 ^ i) = 0 ↔ k / 2 ^ i % 2 = 0 := by
  have ht : k.testBit i = decide (k / 2 ^ i % 2 = 1) := by rw [Nat.testBit_eq_decide_div_mod_eq]
  have hle : k &&& 2 ^ i ≤ k := Nat.and_le_left
  rw [nI_and, show (0 : Int32) = nI 0 from rfl, nI_eq (by omega) (by decide)]
  constructor
  · intro h
    have h1 : (k &&& 2 ^ i).testBit i = false := by rw [h]; exact Nat.zero_testBit i
    rw [Nat.testBit_and, Nat.testBit_two_pow_self, Bool.and_true, ht] at h1
    have := of_decide_eq_false h1
    omega
  · intro h
    apply Nat.eq_of_testBit_eq
    intro q
    rw [Nat.testBit_and, Nat.zero_testBit, Nat.testBit_two_pow]
    by_cases e : i = q
    · subst e
      rw [ht, decide_eq_false (by omega)]
      rfl
    · rw [decide_eq_false e, Bool.and_false]
/-- within a pass: the pairs that begin below k are done -/
def stK (h : Nat) (f : Nat → Int32) (k l : Nat) : Int32 := if (l / h % 2 = 0 ∧ l < k) ∨ (l / h % 2 = 1 ∧ l < k + h) then stg h f l else f l
section W2
variable {G : X_G} {M : X_M}
theorem ct_value (hG : GOK G) (x z : Int32) (M : X_M) : Ct G yX8_value cX8_value 2 (some .int) (xrm 2 0 0) [.int x, .int z] M (Pr (.int (sg x z)) M) := by
  refine ct_open (lv := [_, _]) hG (by decide +kernel) (Nat.le_of_ble_eq_true rfl) rfl (fun C hC hk => ?_)
  refine x_iload_n hC dX8_value_0 rfl rfl ?_
  refine x_iload_n hC dX8_value_1 rfl rfl ?_
  refine x_iand hC dX8_value_2 ?_
  refine x_callS0 (na := 1) hC (ct_bitCount hG _ _) (lw_S q1677 q1678 q110 q1679) (by decide +kernel) rfl ⟨Nat.le_of_ble_eq_true rfl, Nat.le_of_ble_eq_true rfl⟩ rfl (Nat.le_of_ble_eq_true rfl) ⟨rfl, rfl⟩ ⟨Nat.le_of_ble_eq_true rfl, Nat.le_of_ble_eq_true rfl⟩ dX8_value_3 ?_
  rintro _ M ⟨rfl, rfl⟩
  refine x_iconst (v := 2) hC dX8_value_6 (by decide) ?_
  refine x_irem hC dX8_value_7 (by decide) ?_
  refine x_if_ne (tgt := 15) hC dX8_value_8 (by decide) (fun c => ?_) (fun c => ?_)
  · refine x_iconst (v := -1) hC dX8_value_15 (by decide) ?_
    exact x_iret hC hk dX8_value_16 (Nat.le_of_ble_eq_true rfl) (Nat.le_of_ble_eq_true rfl) ⟨by rw [sg, if_neg c], rfl⟩
  · refine x_iconst (v := 1) hC dX8_value_11 (by decide) ?_
    refine x_goto (tgt := 16) hC dX8_value_12 (by decide) ?_
    exact x_iret hC hk dX8_value_16 (Nat.le_of_ble_eq_true rfl) (Nat.le_of_ble_eq_true rfl) ⟨by rw [sg, if_pos c], rfl⟩
theorem ct_reversed (hG : GOK G) {j x : Nat} (hj : j < 7) (hx : x < 2 ^ 30) (M : X_M) : Ct G yX8_reversed cX8_reversed 5 (some .int) (xrm 1 0 0) [.int (nI (2 ^ j)), .int (nI x)] M (Pr (.int (nI (rev j x))) M) := by
  refine ct_open (lv := [_, _, _, _, _]) hG (by decide +kernel) (Nat.le_of_ble_eq_true rfl) rfl (fun C hC hk => ?_)
  refine x_iconst (v := nI 0) hC dX8_reversed_0 (by decide) ?_
  refine x_istore_n (lv' := [_, _, _, _, _]) hC dX8_reversed_1 rfl (by decide) rfl ?_
  refine x_iload_n hC dX8_reversed_2 rfl rfl ?_
  refine x_istore_n (lv' := [_, _, _, _, _]) hC dX8_reversed_3 rfl (by decide) rfl ?_
  refine x_iconst (v := nI 1) hC dX8_reversed_4 (by decide) ?_
  refine x_istore (lv' := [_, _, _, _, _]) hC dX8_reversed_5 (by decide) rfl ?_
  have hp := (pw_le hj).2
  suffices lp : ∀ d i, i + d = j → ∀ b r, r < 2 ^ 30 → b * 2 ^ d + rev d r = rev j x → Wg G C M 0 0 7 [some (.int (nI (2 ^ j))), some (.int (nI x)), some (.int (nI b)), some (.int (nI r)), some (.int (nI (2 ^ i)))] [] from lp j 0 (by omega) 0 x hx (by rw [Nat.zero_mul, Nat.zero_add])
  intro d
  induction d with
  | zero =>
    intro i hi b r hr he
    have hi : i = j := by omega
    subst hi
    refine x_iload hC dX8_reversed_7 rfl ?_
    refine x_iload_n hC dX8_reversed_9 rfl rfl ?_
    refine x_icmp_geN (tgt := 34) hC (by omega) (by omega) dX8_reversed_10 (by decide) (fun c1 => ?_) (fun c1 => ?_)
    · refine x_iload_n hC dX8_reversed_34 rfl rfl ?_
      exact x_iret hC hk dX8_reversed_35 (Nat.le_of_ble_eq_true rfl) (Nat.le_of_ble_eq_true rfl) ⟨by rw [← he]; show _ = some (Value.int (nI (b * 1 + 0))); rw [Nat.mul_one, Nat.add_zero], rfl⟩
    · exact absurd c1 (by omega)
  | succ d ih =>
    intro i hi b r hr he
    have hlt : 2 ^ i < 2 ^ j := Nat.pow_lt_pow_right (by decide) (by omega)
    refine x_iload hC dX8_reversed_7 rfl ?_
    refine x_iload_n hC dX8_reversed_9 rfl rfl ?_
    refine x_icmp_geN (tgt := 34) hC (by omega) (by omega) dX8_reversed_10 (by decide) (fun c1 => ?_) (fun c1 => ?_)
    · exact absurd c1 (by omega)
    · refine x_iconst (v := nI 2) hC dX8_reversed_13 (by decide) ?_
      refine x_iload_n hC dX8_reversed_14 rfl rfl ?_
      refine x_imulN hC dX8_reversed_15 ?_
      refine x_iload_n hC dX8_reversed_16 rfl rfl ?_
      refine x_iconst (v := nI 2) hC dX8_reversed_17 (by decide) ?_
      refine x_iremN hC dX8_reversed_18 (by omega) (by decide) (by decide) ?_
      refine x_iaddN hC dX8_reversed_19 ?_
      refine x_istore_n (lv' := [_, _, _, _, _]) hC dX8_reversed_20 rfl (by decide) rfl ?_
      refine x_iload_n hC dX8_reversed_21 rfl rfl ?_
      refine x_iconst (v := nI 2) hC dX8_reversed_22 (by decide) ?_
      refine x_idivN hC dX8_reversed_23 (by omega) (by decide) (by decide) ?_
      refine x_istore_n (lv' := [_, _, _, _, _]) hC dX8_reversed_24 rfl (by decide) rfl ?_
      refine x_iload hC dX8_reversed_25 rfl ?_
      refine x_iconst (v := nI 2) hC dX8_reversed_27 (by decide) ?_
      refine x_imulN hC dX8_reversed_28 ?_
      refine x_istore (lv' := [_, _, _, _, _]) hC dX8_reversed_29 (by decide) rfl ?_
      refine x_goto (tgt := 7) hC dX8_reversed_31 (by decide) ?_
      rw [← Nat.pow_succ]
      refine ih (i + 1) (by omega) (2 * b + r % 2) (r / 2) (by omega) ?_
      rw [← he]
      show (2 * b + r % 2) * 2 ^ d + rev d (r / 2) = b * 2 ^ (d + 1) + (r % 2 * 2 ^ d + rev d (r / 2))
      rw [Nat.pow_succ, Nat.add_mul, Nat.add_assoc, Nat.mul_comm 2 b, Nat.mul_assoc, Nat.mul_comm 2 (2 ^ d)]
theorem ct_wseq (hG : GOK G) {j x : Nat} (hj : j < 7) (hj1 : 1 ≤ j) (hx : x < 2 ^ j) (M : X_M) : Ct G yX8_sequency cX8_sequency 4 (some .int) (xrm 2 0 0) [.int (nI (2 ^ j)), .int (nI x)] M (Pr (.int (chg (nI x) (2 ^ j))) M) := by
  refine ct_open (lv := [_, _, _, _]) hG (by decide +kernel) (Nat.le_of_ble_eq_true rfl) rfl (fun C hC hk => ?_)
  have hp := (pw_le hj).2
  rw [chg_ug hj hj1 hx] at hk
  refine x_iload_n hC dX8_sequency_0 rfl rfl ?_
  refine x_iload_n hC dX8_sequency_1 rfl rfl ?_
  refine x_callS0 (na := 2) hC (ct_reversed hG hj (by omega) _) (lw_S q1693 q1694 q123 q1695) (by decide +kernel) rfl ⟨Nat.le_of_ble_eq_true rfl, Nat.le_of_ble_eq_true rfl⟩ rfl (Nat.le_of_ble_eq_true rfl) ⟨rfl, rfl⟩ ⟨Nat.le_of_ble_eq_true rfl, Nat.le_of_ble_eq_true rfl⟩ dX8_sequency_2 ?_
  rintro _ M ⟨rfl, rfl⟩
  have hr := rev_lt j x
  generalize rev j x = r at *
  refine x_istore_n (lv' := [_, _, _, _]) hC dX8_sequency_5 rfl (by decide) rfl ?_
  refine x_iconst (v := nI 0) hC dX8_sequency_6 (by decide) ?_
  refine x_istore_n (lv' := [_, _, _, _]) hC dX8_sequency_7 rfl (by decide) rfl ?_
  suffices lp : ∀ d u c, c < 2 ^ d → d ≤ 7 → u ^^^ ug d c = ug 7 r → Wg G C M 0 0 8 [some (.int (nI (2 ^ j))), some (.int (nI x)), some (.int (nI c)), some (.int (nI u))] [] from lp 7 0 r (by omega) (by omega) (Nat.zero_xor _)
  intro d
  induction d with
  | zero =>
    intro u c hc hd7 he
    have hc0 : c = 0 := by simpa using hc
    subst hc0
    refine x_iload_n hC dX8_sequency_8 rfl rfl ?_
    refine x_if_le (tgt := 23) hC dX8_sequency_9 (by decide) (fun c1 => ?_) (fun c1 => ?_)
    · refine x_iload_n hC dX8_sequency_23 rfl rfl ?_
      exact x_iret hC hk dX8_sequency_24 (Nat.le_of_ble_eq_true rfl) (Nat.le_of_ble_eq_true rfl) ⟨by rw [← he]; show _ = some (Value.int (nI (u ^^^ 0))); rw [Nat.xor_zero], rfl⟩
    · exact absurd (show nI 0 ≤ 0 by decide) c1
  | succ d ih =>
    intro u c hc hd7 he
    have hc128 : c < 2 ^ 7 := Nat.lt_of_lt_of_le hc (Nat.pow_le_pow_right (by decide) hd7)
    refine x_iload_n hC dX8_sequency_8 rfl rfl ?_
    refine x_if_le (tgt := 23) hC dX8_sequency_9 (by decide) (fun c1 => ?_) (fun c1 => ?_)
    · have h0 : c = 0 := by
        have h9 := c1
        rw [show (0 : Int32) = nI 0 from rfl, nI_leI (by omega) (by decide)] at h9
        omega
      subst h0
      have hz : ∀ d, ug d 0 = 0 := by
        intro d
        induction d with
        | zero => rfl
        | succ d ih => show 0 ^^^ ug d (0 / 2) = 0; rw [Nat.zero_div, ih]; rfl
      refine x_iload_n hC dX8_sequency_23 rfl rfl ?_
      exact x_iret hC hk dX8_sequency_24 (Nat.le_of_ble_eq_true rfl) (Nat.le_of_ble_eq_true rfl) ⟨by rw [← he, hz, Nat.xor_zero], rfl⟩
    · refine x_iload_n hC dX8_sequency_12 rfl rfl ?_
      refine x_iload_n hC dX8_sequency_13 rfl rfl ?_
      refine x_ixor hC dX8_sequency_14 ?_
      rw [nI_xor]
      refine x_istore_n (lv' := [_, _, _, _]) hC dX8_sequency_15 rfl (by decide) rfl ?_
      refine x_iload_n hC dX8_sequency_16 rfl rfl ?_
      refine x_iconst (v := nI 2) hC dX8_sequency_17 (by decide) ?_
      refine x_idivN hC dX8_sequency_18 (by omega) (by decide) (by decide) ?_
      refine x_istore_n (lv' := [_, _, _, _]) hC dX8_sequency_19 rfl (by decide) rfl ?_
      refine x_goto (tgt := 8) hC dX8_sequency_20 (by decide) ?_
      refine ih (u ^^^ c) (c / 2) (by rw [Nat.pow_succ] at hc; omega) (by omega) ?_
      rw [← he, Nat.xor_assoc]
      rfl
theorem ct_indexOf (hG : GOK G) {j s : Nat} (hj : j < 7) (hs : s < 2 ^ j) (M : X_M) : Ct G yX8_indexOf cX8_indexOf 2 (some .int) (xrm 2 0 0) [.int (nI (2 ^ j)), .int (nI s)] M (Pr (.int (nI (sqI j s))) M) := by
  refine ct_open (lv := [_, _]) hG (by decide +kernel) (Nat.le_of_ble_eq_true rfl) rfl (fun C hC hk => ?_)
  have hp := (pw_le hj).2
  refine x_iload_n hC dX8_indexOf_0 rfl rfl ?_
  refine x_iload_n hC dX8_indexOf_1 rfl rfl ?_
  refine x_iload_n hC dX8_indexOf_2 rfl rfl ?_
  refine x_iconst (v := nI 2) hC dX8_indexOf_3 (by decide) ?_
  refine x_idivN hC dX8_indexOf_4 (by omega) (by decide) (by decide) ?_
  refine x_ixor hC dX8_indexOf_5 ?_
  rw [nI_xor]
  have hxl : s ^^^ s / 2 < 2 ^ j := Nat.xor_lt_two_pow hs (by omega)
  refine x_callS0 (na := 2) hC (ct_reversed hG hj (by omega) _) (lw_S q1693 q1694 q123 q1695) (by decide +kernel) rfl ⟨Nat.le_of_ble_eq_true rfl, Nat.le_of_ble_eq_true rfl⟩ rfl (Nat.le_of_ble_eq_true rfl) ⟨rfl, rfl⟩ ⟨Nat.le_of_ble_eq_true rfl, Nat.le_of_ble_eq_true rfl⟩ dX8_indexOf_6 ?_
  rintro _ M ⟨rfl, rfl⟩
  exact x_iret hC hk dX8_indexOf_9 (Nat.le_of_ble_eq_true rfl) (Nat.le_of_ble_eq_true rfl) ⟨rfl, rfl⟩
end W2

