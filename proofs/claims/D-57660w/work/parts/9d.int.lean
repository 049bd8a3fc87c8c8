/-! ===== the digits of StringBuilder.append(int) ===== -/
theorem neg_10 {p : Nat} (h : p ≤ 10 ^ 7) : (10 : Int32) * -nI p = -nI (p * 10) := by
  apply Int32.toInt_inj.mp
  rw [Int32.toInt_mul, sb_negT (by omega), sb_negT (by omega), show (10 : Int32).toInt = 10 by decide, Int.bmod_eq_of_le (by omega) (by omega)]
  omega
theorem neg_of {x : Int32} (h : x < 0) (h2 : x.toInt.natAbs < 2 ^ 31) : x = -nI x.toInt.natAbs := by
  apply Int32.toInt_inj.mp
  have h1 := Int32.lt_iff_toInt_lt.mp h
  rw [show (0 : Int32).toInt = 0 by decide] at h1
  rw [sb_negT h2]
  omega
theorem pos_of {x : Int32} (h : ¬ x < 0) : -x = -nI x.toInt.natAbs := by
  have h2 : (0 : Int) ≤ x.toInt := by
    have h1 := Int32.not_lt.mp h
    have h2 := Int32.le_iff_toInt_le.mp h1
    rwa [show (0 : Int32).toInt = 0 by decide] at h2
  have h3 := Int32.toInt_lt x
  congr 1
  apply Int32.toInt_inj.mp
  rw [nI_toInt (by omega)]
  omega
/-- how many digits -/
theorem dgs_n {a : Nat} : ∀ {i : Nat}, 1 ≤ i → (i = 1 ∨ 10 ^ (i - 1) ≤ a) → a < 10 ^ i → (dgs a).length = i
  | 0, h, _, _ => by omega
  | 1, _, _, h => by
    rw [dgs, if_pos (by simpa using h)]
    rfl
  | i + 2, _, h1, h2 => by
    have h3 : 10 ^ (i + 1) ≤ a := by
      rcases h1 with h1 | h1
      · omega
      · exact h1
    have h4 : 10 ≤ a := Nat.le_trans (by rw [Nat.pow_succ]; exact Nat.le_mul_of_pos_left 10 (Nat.pow_pos (by decide))) h3
    rw [dgs, if_neg (by omega), List.length_append, dgs_n (i := i + 1) (by omega) (by
      rcases Nat.eq_zero_or_pos i with e | e
      · exact Or.inl (by omega)
      · refine Or.inr ?_
        obtain ⟨l, rfl⟩ : ∃ l, i = l + 1 := ⟨i - 1, by omega⟩
        rw [Nat.le_div_iff_mul_le (by decide)]
        show 10 ^ (l + 1) * 10 ≤ a
        rw [← Nat.pow_succ]
        exact h3) (by rw [Nat.div_lt_iff_lt_mul (by decide), ← Nat.pow_succ]; exact h2)]
    rfl
theorem dgs_100 {w : Nat} (h : 100 ≤ w) : dgs w = dgs (w / 100) ++ [48 + w % 100 / 10, 48 + w % 100 % 10] := by
  rw [dgs, if_neg (by omega), dgs, if_neg (by omega), List.append_assoc, Nat.div_div_eq_div_mul]
  congr 1
  show [48 + w / 10 % 10, 48 + w % 10] = _
  rw [show w / 10 % 10 = w % 100 / 10 by omega, show w % 10 = w % 100 % 10 by omega]
theorem dgs_1 {w : Nat} (h : w < 10) : dgs w = [48 + w] := by rw [dgs, if_pos h]
theorem dgs_2 {w : Nat} (h : 10 ≤ w) (h2 : w < 100) : dgs w = [48 + w / 10, 48 + w % 10] := by rw [dgs, if_neg (by omega), dgs, if_pos (by omega)]; rfl
theorem dgs_ch : ∀ (f v : Nat), v < f → ∀ c ∈ dgs v, c < 256
  | 0, _, h, _, _ => by omega
  | f + 1, v, h, c, hc => by
    rw [dgs] at hc
    split at hc
    · rw [List.mem_singleton.mp hc]; omega
    · rcases List.mem_append.mp hc with hc | hc
      · exact dgs_ch f (v / 10) (by omega) c hc
      · rw [List.mem_singleton.mp hc]; omega
theorem dgI_ch {x : Int32} : ∀ c ∈ dgI x, c < 256 := by
  intro c hc
  unfold dgI at hc
  rcases List.mem_append.mp hc with hc | hc
  · split at hc
    · rw [List.mem_singleton.mp hc]; decide
    · cases hc
  · exact dgs_ch _ _ (Nat.lt_succ_self _) c hc
/-- the tables of digits -/
def T1 (G : X_G) (T : X_T) : Prop := Zs G "java/lang/Integer" "DigitOnes" "[B" (.ref (T 1)) ∧ Zs G "java/lang/Integer" "DigitTens" "[B" (.ref (T 2))
def M1c (T : X_T) (M : X_M) : Prop := M (T 1) = some (ba 0 100 fun k => nI (48 + k % 10)) ∧ M (T 2) = some (ba 0 100 fun k => nI (48 + k / 10))
theorem M1c.fr {P : Nat → Prop} {T : X_T} {M M' : X_M} (h : M1c T M) (hF : Fr P M M') (h0 : ¬ P 0) : M1c T M' := ⟨hF.z h0 h.1, hF.z h0 h.2⟩
section INT
variable {G : X_G} {M : X_M} {T : X_T} {g q cap : Nat} {w : List Nat}
theorem ct_strSize (hG : GOK G) {x : Int32} (hx : x.toInt.natAbs < 10 ^ 7) (M : X_M) : Ct G yJ21_stringSize cJ21_stringSize 4 (some .int) (xrm 1 0 0) [.int x] M (Pr (.int (nI (dgI x).length)) M) := by
  obtain ⟨v, hv⟩ : ∃ v, v = x.toInt.natAbs := ⟨_, rfl⟩
  have hv7 : v < 10 ^ 7 := by rw [hv]; exact hx
  have lp : ∀ {C : X_C} (hC : Cx G C yJ21_stringSize cJ21_stringSize 4 (some .int) (xrm 1 0 0)) (hk : Ck G C (Pr (.int (nI (dgI x).length)) M) (xrm 1 0 0)) (d : Nat), d = (if x < 0 then 1 else 0) → ∀ (f i p : Nat), f + i = 8 → 1 ≤ i → (i = 1 ∨ 10 ^ (i - 1) ≤ v) → p = 10 ^ i → Wg G C M 0 0 16 [some (.int (-nI v)), some (.int (nI d)), some (.int (-nI p)), some (.int (nI i))] [] := by
    intro C hC hk d hd f
    induction f with
    | zero =>
      intro i p hf h1 h2 hp
      have e : i = 8 := by omega
      subst e
      rcases h2 with h2 | h2
      · omega
      · exact absurd hv7 (by show ¬ v < 10 ^ 7; omega)
    | succ f ih =>
      intro i p hf h1 h2 hp
      have hp8 : p ≤ 10 ^ 7 := by rw [hp]; exact Nat.pow_le_pow_right (by decide) (by omega)
      refine x_iload_n hC dJ21_stringSize_16 rfl rfl ?_
      refine x_bipush (v := nI 10) hC dJ21_stringSize_17 (by decide) ?_
      refine x_icmp_geN (tgt := 42) hC (by omega) (by omega) dJ21_stringSize_19 (by decide) (fun c => ?_) (fun c => ?_)
      · omega
      · refine x_iload_n hC dJ21_stringSize_22 rfl rfl ?_
        refine x_iload_n hC dJ21_stringSize_23 rfl rfl ?_
        refine x_icmp_le (tgt := 31) hC dJ21_stringSize_24 (by decide) (fun e => ?_) (fun e => ?_)
        · have e2 : p ≤ v := (sb_nle (by omega) (by omega)).mp e
          refine x_bipush (v := 10) hC dJ21_stringSize_31 (by decide) ?_
          refine x_iload_n hC dJ21_stringSize_33 rfl rfl ?_
          refine x_imul hC dJ21_stringSize_34 ?_
          rw [neg_10 hp8]
          refine x_istore_n (lv' := [_, _, _, _]) hC dJ21_stringSize_35 rfl (by decide) rfl ?_
          refine x_iincN (lv' := [_, _, _, _]) (b := 1) hC dJ21_stringSize_36 rfl (by decide) (by decide) rfl ?_
          refine x_goto (tgt := 16) hC dJ21_stringSize_39 (by decide) ?_
          exact ih (i + 1) (p * 10) (by omega) (by omega) (Or.inr (by rw [Nat.add_sub_cancel, ← hp]; exact e2)) (by rw [hp, Nat.pow_succ])
        · have e2 : v < p := Nat.lt_of_not_le fun z => e ((sb_nle (by omega) (by omega)).mpr z)
          have hl := dgs_n h1 h2 (by rw [← hp]; exact e2)
          refine x_iload_n hC dJ21_stringSize_27 rfl rfl ?_
          refine x_iload_n hC dJ21_stringSize_28 rfl rfl ?_
          refine x_iaddN hC dJ21_stringSize_29 ?_
          exact x_iret hC hk dJ21_stringSize_30 (Nat.le_of_ble_eq_true rfl) (Nat.le_of_ble_eq_true rfl) ⟨by unfold dgI; rw [List.length_append, ← hv, hl, hd, Nat.add_comm]; split <;> rfl, rfl⟩
  refine ct_open (lv := [_, _, _, _]) hG (by decide +kernel) (Nat.le_of_ble_eq_true rfl) rfl (fun C hC hk => ?_)
  refine x_iconst (v := nI 1) hC dJ21_stringSize_0 (by decide) ?_
  refine x_istore_n (lv' := [_, _, _, _]) hC dJ21_stringSize_1 rfl (by decide) rfl ?_
  refine x_iload_n hC dJ21_stringSize_2 rfl rfl ?_
  refine x_if_lt (tgt := 11) hC dJ21_stringSize_3 (by decide) (fun c => ?_) (fun c => ?_)
  · refine x_bipush (v := -nI 10) hC dJ21_stringSize_11 (by decide) ?_
    refine x_istore_n (lv' := [_, _, _, _]) hC dJ21_stringSize_13 rfl (by decide) rfl ?_
    refine x_iconst (v := nI 1) hC dJ21_stringSize_14 (by decide) ?_
    refine x_istore_n (lv' := [_, _, _, _]) hC dJ21_stringSize_15 rfl (by decide) rfl ?_
    rw [neg_of c (by omega), ← hv]
    exact lp hC hk 1 (by rw [if_pos c]) 7 1 10 rfl (Nat.le_refl 1) (Or.inl rfl) rfl
  · refine x_iconst (v := nI 0) hC dJ21_stringSize_6 (by decide) ?_
    refine x_istore_n (lv' := [_, _, _, _]) hC dJ21_stringSize_7 rfl (by decide) rfl ?_
    refine x_iload_n hC dJ21_stringSize_8 rfl rfl ?_
    refine x_ineg hC dJ21_stringSize_9 ?_
    refine x_istore_n (lv' := [_, _, _, _]) hC dJ21_stringSize_10 rfl (by decide) rfl ?_
    refine x_bipush (v := -nI 10) hC dJ21_stringSize_11 (by decide) ?_
    refine x_istore_n (lv' := [_, _, _, _]) hC dJ21_stringSize_13 rfl (by decide) rfl ?_
    refine x_iconst (v := nI 1) hC dJ21_stringSize_14 (by decide) ?_
    refine x_istore_n (lv' := [_, _, _, _]) hC dJ21_stringSize_15 rfl (by decide) rfl ?_
    rw [pos_of c, ← hv]
    exact lp hC hk 0 (by rw [if_neg c]) 7 1 10 rfl (Nat.le_refl 1) (Or.inl rfl) rfl
end INT

