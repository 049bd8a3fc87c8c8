/-! ===== the formatted text of the reference ===== -/
/-- the decimal digits of a number -/
def dgs (v : Nat) : List Nat := if v < 10 then [48 + v] else dgs (v / 10) ++ [48 + v % 10]
termination_by v
decreasing_by omega
/-- the digits from the j-th place down -/
def dgU (v : Nat) : Nat → List Nat
  | 0 => [48 + v % 10]
  | j + 1 => (48 + v / 10 ^ (j + 1) % 10) :: dgU v j
theorem dgU_s (v : Nat) : ∀ j, dgU v (j + 1) = dgU (v / 10) j ++ [48 + v % 10]
  | 0 => by
    show [48 + v / 10 ^ 1 % 10, 48 + v % 10] = [48 + v / 10 % 10] ++ [48 + v % 10]
    rw [Nat.pow_one]; rfl
  | j + 1 => by
    have ih := dgU_s v j
    show (48 + v / 10 ^ (j + 1 + 1) % 10) :: dgU v (j + 1) = ((48 + v / 10 / 10 ^ (j + 1) % 10) :: dgU (v / 10) j) ++ [48 + v % 10]
    rw [ih, Nat.div_div_eq_div_mul, Nat.pow_succ 10 (j + 1), Nat.mul_comm]
    rfl
theorem dgU_dgs : ∀ (j v : Nat), v / 10 ^ j ≤ 9 → (j = 0 ∨ 1 ≤ v / 10 ^ j) → dgU v j = dgs v
  | 0, v, h1, _ => by
    have h2 : v ≤ 9 := by simpa using h1
    rw [dgs, if_pos (by omega)]
    show [48 + v % 10] = [48 + v]
    rw [Nat.mod_eq_of_lt (by omega)]
  | j + 1, v, h1, h2 => by
    have h3 : v / 10 / 10 ^ j = v / 10 ^ (j + 1) := by rw [Nat.div_div_eq_div_mul, Nat.pow_succ, Nat.mul_comm]
    have h4 : 1 ≤ v / 10 ^ (j + 1) := by
      rcases h2 with h2 | h2
      · omega
      · exact h2
    have h5 : 10 ≤ v := by
      rcases Nat.lt_or_ge v 10 with h6 | h6
      · rw [Nat.div_eq_of_lt (Nat.lt_of_lt_of_le h6 (by rw [Nat.pow_succ]; exact Nat.le_mul_of_pos_left 10 (Nat.pow_pos (by decide))))] at h4
        omega
      · exact h6
    rw [dgs, if_neg (by omega), dgU_s, dgU_dgs j (v / 10) (by rw [h3]; exact h1) (Or.inr (by rw [h3]; exact h4))]
theorem dgs_len : ∀ (k v : Nat), 1 ≤ k → v < 10 ^ k → (dgs v).length ≤ k
  | 0, _, h, _ => by omega
  | 1, v, _, h => by
    rw [dgs, if_pos (by simpa using h)]
    exact Nat.le_refl 1
  | k + 2, v, _, h => by
    rw [dgs]
    split
    · exact Nat.le_add_left 1 (k + 1)
    · rw [List.length_append, List.length_singleton]
      have := dgs_len (k + 1) (v / 10) (by omega) (by rw [Nat.div_lt_iff_lt_mul (by decide), ← Nat.pow_succ]; exact h)
      omega
/-- a number's text -/
def dgI (x : Int32) : List Nat := (if x < 0 then [45] else []) ++ dgs x.toInt.natAbs
theorem dgI_len {x : Int32} {k : Nat} (h1 : 1 ≤ k) (h : x.toInt.natAbs < 10 ^ k) : (dgI x).length ≤ k + 1 := by
  unfold dgI
  rw [List.length_append]
  have := dgs_len k _ h1 h
  split
  · rw [List.length_singleton]; omega
  · rw [List.length_nil]; omega
def TX (M : X_M) (m : Nat) (P : Nat → Nat) (V : Nat → Int32) (A : Nat → Nat → Int32) (T : List Nat) : Prop := ∃ f, Mdl M m P (upd V 3 (nI T.length)) (va_up A 5 f) ∧ ∀ i c, T[i]? = some c → c < 65536 ∧ f i = nI c
section M27
variable {G : X_G} {M : X_M} {m : Nat} {P : Nat → Nat} {V : Nat → Int32} {A : Nat → Nat → Int32} {S : X_S} {R : List Rcd} {i k j : Nat} {r s : Rcd} {T : List Nat}
theorem TX.mdl (h : TX M m P V A T) : ∃ f, Mdl M m P (upd V 3 (nI T.length)) (va_up A 5 f) := by
  obtain ⟨f, h1, -⟩ := h
  exact ⟨f, h1⟩
theorem ct_wr (hG : GOK G) (h : TX M m P V A T) {c : Nat} (hc : c < 65536) (hl : T.length < 1000) : Ct G yX3_write cX3_write 2 none (xrm 1 0 0) [.ref m, .int (nI c)] M (fun r M' => r = none ∧ TX M' m P V A (T ++ [c]) ∧ Fm M M') := by
  obtain ⟨f, hm, hf⟩ := h
  refine (ct_write hG hm (nI c) upd_s hl).mono fun r0 M' hp => ⟨hp.1, ⟨upd f T.length (nI c), hp.2.1.to (by rw [upd_upd, List.length_append]; rfl) (by rw [up_up, va_up_s]), fun i a hi => ?_⟩, hp.2.2⟩
  rcases Nat.lt_or_ge i T.length with h | h
  · rw [List.getElem?_append_left h] at hi
    rw [upd_n (by omega)]
    exact hf i a hi
  · rw [List.getElem?_append_right h] at hi
    have hc2 : i = T.length := by
      have := (List.getElem?_eq_some_iff.mp hi).1
      rw [List.length_singleton] at this
      omega
    subst hc2
    rw [Nat.sub_self] at hi
    cases hi
    exact ⟨hc, upd_s⟩
theorem ct_writeNumber (hG : GOK G) (h : TX M m P V A T) {x : Int32} (hx : x.toInt.natAbs < 10 ^ 9) (hl : T.length + 11 ≤ 1000) : Ct G yX3_writeNumber cX3_writeNumber 4 none (xrm 2 0 0) [.ref m, .int x] M (fun r M' => r = none ∧ TX M' m P V A (T ++ dgI x) ∧ Fm M M') := by
  obtain ⟨f, hm⟩ := h.mdl
  refine ct_open (lv := [_, _, _, _]) hG (by decide +kernel) (Nat.le_of_ble_eq_true rfl) rfl (fun C hC hk => ?_)
  obtain ⟨M0, hM0⟩ : ∃ M0, M0 = M := ⟨M, rfl⟩
  rw [← hM0] at hk
  have hF : Fm M0 M := by rw [hM0]; exact Fr.rf
  have hxt := x.toInt_lt
  have hxl := x.le_toInt
  have main : ∀ M1 T1, TX M1 m P V A T1 → Fm M0 M1 → T1.length ≤ T.length + 1 → T1 ++ dgs x.toInt.natAbs = T ++ dgI x → Wg G C M1 0 0 10 [some (.ref m), some (.int x), none, none] [] := by
    intro M T1 h hF hl1 hT
    obtain ⟨f, hm⟩ := h.mdl
    refine x_iload_n hC dX3_writeNumber_10 rfl rfl ?_
    refine x_callS0 (na := 1) hC (ct_abs hG _ _) (lw_S q2535 q1604 q103 q1605) (by decide +kernel) rfl ⟨Nat.le_of_ble_eq_true rfl, Nat.le_of_ble_eq_true rfl⟩ rfl (Nat.le_of_ble_eq_true rfl) ⟨rfl, rfl⟩ ⟨Nat.le_of_ble_eq_true rfl, Nat.le_of_ble_eq_true rfl⟩ dX3_writeNumber_11 ?_
    rintro _ M ⟨rfl, rfl⟩
    have habs : iabs x = nI x.toInt.natAbs := by
      refine Int32.toInt_inj.mp ?_
      rw [nI_toInt (by omega)]
      unfold iabs
      by_cases h0 : 0 ≤ x
      · have h2 := Int32.le_iff_toInt_le.mp h0
        rw [show (0 : Int32).toInt = 0 by decide] at h2
        rw [if_pos h0]
        omega
      · have h2 : ¬ (0 : Int32).toInt ≤ x.toInt := fun h => h0 (Int32.le_iff_toInt_le.mpr h)
        rw [show (0 : Int32).toInt = 0 by decide] at h2
        rw [if_neg h0, Int32.toInt_neg, Int.bmod_eq_of_le (by omega) (by omega)]
        omega
    rw [habs]
    generalize x.toInt.natAbs = v at *
    refine x_istore_n (lv' := [_, _, _, _]) hC dX3_writeNumber_14 rfl (by decide) rfl ?_
    refine x_iconst (v := nI 1) hC dX3_writeNumber_15 (by decide) ?_
    refine x_istore_n (lv' := [_, _, _, _]) hC dX3_writeNumber_16 rfl (by decide) rfl ?_
    -- the digits written
    have low : ∀ j, j ≤ 8 → ∀ M1 T2, TX M1 m P V A T2 → Fm M0 M1 → T2.length + j + 1 ≤ 1000 → T2 ++ dgU v j = T ++ dgI x → Wg G C M1 0 0 33 [some (.ref m), some (.int x), some (.int (nI v)), some (.int (nI (10 ^ j)))] [] := by
      intro j
      induction j with
      | zero =>
        intro _ M T2 h hF hl2 hT2
        obtain ⟨f, hm⟩ := h.mdl
        refine x_iload_n hC dX3_writeNumber_33 rfl rfl ?_
        refine x_if_le (tgt := 58) hC dX3_writeNumber_34 (by decide) (fun c1 => ?_) (fun c1 => ?_)
        · exact absurd c1 (by decide)
        · refine x_aload_n hC dX3_writeNumber_37 rfl rfl ?_
          refine x_bipush (v := nI 48) hC dX3_writeNumber_38 (by decide) ?_
          refine x_iload_n hC dX3_writeNumber_40 rfl rfl ?_
          refine x_iload_n hC dX3_writeNumber_41 rfl rfl ?_
          refine x_idivN hC dX3_writeNumber_42 (by omega) (by decide) (by decide) ?_
          refine x_bipush (v := nI 10) hC dX3_writeNumber_43 (by decide) ?_
          refine x_iremN hC dX3_writeNumber_45 (by omega) (by decide) (by decide) ?_
          refine x_iaddN hC dX3_writeNumber_46 ?_
          refine x_callV0 (na := 1) hC (ct_wr hG h (by omega) (by omega)) (lw_V q2859 q2861 qs78 q89 q2862) hm.1 rfl rfl (by decide +kernel) rfl ⟨Nat.le_of_ble_eq_true rfl, Nat.le_of_ble_eq_true rfl⟩ rfl (Nat.le_of_ble_eq_true rfl) ⟨rfl, rfl⟩ ⟨Nat.le_of_ble_eq_true rfl, Nat.le_of_ble_eq_true rfl⟩ dX3_writeNumber_47 ?_
          rintro _ M ⟨rfl, h, hF1⟩
          have hF := hF.tr hF1
          obtain ⟨f, hm⟩ := h.mdl
          refine x_iload_n hC dX3_writeNumber_50 rfl rfl ?_
          refine x_bipush (v := 10) hC dX3_writeNumber_51 (by decide) ?_
          refine x_idiv hC dX3_writeNumber_53 (show ¬ (10 : Int32) = 0 by decide) ?_
          refine x_istore_n (lv' := [_, _, _, _]) hC dX3_writeNumber_54 rfl (by decide) rfl ?_
          refine x_goto (tgt := 33) hC dX3_writeNumber_55 (by decide) ?_
          refine x_iload_n hC dX3_writeNumber_33 rfl rfl ?_
          refine x_if_le (tgt := 58) hC dX3_writeNumber_34 (by decide) (fun c2 => ?_) (fun c2 => ?_)
          · exact x_vret hC hk dX3_writeNumber_58 (Nat.le_of_ble_eq_true rfl) (Nat.le_of_ble_eq_true rfl) ⟨rfl, by rw [← hT2]; simpa [dgU] using h, hF⟩
          · exact absurd (show nI (10 ^ 0) / 10 ≤ 0 by decide) c2
      | succ j ih =>
        intro hj M T2 h hF hl2 hT2
        obtain ⟨f, hm⟩ := h.mdl
        have hp : 10 ^ (j + 1) ≤ 10 ^ 8 := Nat.pow_le_pow_right (by decide) hj
        have hp0 : 0 < 10 ^ (j + 1) := Nat.pow_pos (by decide)
        have hp1 : 10 ^ (j + 1) / 10 = 10 ^ j := by rw [Nat.pow_succ]; exact Nat.mul_div_cancel _ (by decide)
        have hvd := Nat.div_le_self v (10 ^ (j + 1))
        refine x_iload_n hC dX3_writeNumber_33 rfl rfl ?_
        refine x_if_le (tgt := 58) hC dX3_writeNumber_34 (by decide) (fun c1 => ?_) (fun c1 => ?_)
        · refine absurd c1 ?_
          rw [show (0 : Int32) = nI 0 from rfl, nI_leI (by omega) (by decide)]
          omega
        · refine x_aload_n hC dX3_writeNumber_37 rfl rfl ?_
          refine x_bipush (v := nI 48) hC dX3_writeNumber_38 (by decide) ?_
          refine x_iload_n hC dX3_writeNumber_40 rfl rfl ?_
          refine x_iload_n hC dX3_writeNumber_41 rfl rfl ?_
          refine x_idivN hC dX3_writeNumber_42 (by omega) hp0 (by omega) ?_
          refine x_bipush (v := nI 10) hC dX3_writeNumber_43 (by decide) ?_
          refine x_iremN hC dX3_writeNumber_45 (by omega) (by decide) (by decide) ?_
          refine x_iaddN hC dX3_writeNumber_46 ?_
          refine x_callV0 (na := 1) hC (ct_wr hG h (by omega) (by omega)) (lw_V q2859 q2861 qs78 q89 q2862) hm.1 rfl rfl (by decide +kernel) rfl ⟨Nat.le_of_ble_eq_true rfl, Nat.le_of_ble_eq_true rfl⟩ rfl (Nat.le_of_ble_eq_true rfl) ⟨rfl, rfl⟩ ⟨Nat.le_of_ble_eq_true rfl, Nat.le_of_ble_eq_true rfl⟩ dX3_writeNumber_47 ?_
          rintro _ M ⟨rfl, h, hF1⟩
          have hF := hF.tr hF1
          refine x_iload_n hC dX3_writeNumber_50 rfl rfl ?_
          refine x_bipush (v := nI 10) hC dX3_writeNumber_51 (by decide) ?_
          refine x_idivN hC dX3_writeNumber_53 (by omega) (by decide) (by decide) ?_
          refine x_istore_n (lv' := [_, _, _, _]) hC dX3_writeNumber_54 rfl (by decide) rfl ?_
          refine x_goto (tgt := 33) hC dX3_writeNumber_55 (by decide) ?_
          rw [hp1]
          refine ih (by omega) M _ h hF (by rw [List.length_append, List.length_singleton]; omega) ?_
          rw [← hT2, List.append_assoc]
          rfl
    suffices lp : ∀ d j, j + d = 8 → (j = 0 ∨ 1 ≤ v / 10 ^ j) → Wg G C M 0 0 17 [some (.ref m), some (.int x), some (.int (nI v)), some (.int (nI (10 ^ j)))] [] from lp 8 0 rfl (Or.inl rfl)
    have done : ∀ j, j ≤ 8 → v / 10 ^ j ≤ 9 → (j = 0 ∨ 1 ≤ v / 10 ^ j) → Wg G C M 0 0 33 [some (.ref m), some (.int x), some (.int (nI v)), some (.int (nI (10 ^ j)))] [] := by
      intro j hj h1 h2
      refine low j hj M T1 h hF (by omega) ?_
      rw [dgU_dgs j v h1 h2]
      exact hT
    intro d
    induction d with
    | zero =>
      intro j hd hj
      have hd : j = 8 := by omega
      subst hd
      have h9 : v / 10 ^ 8 ≤ 9 := by
        have : v < 10 * 10 ^ 8 := by omega
        have := (Nat.div_lt_iff_lt_mul (show 0 < 10 ^ 8 by decide)).mpr this
        omega
      refine x_iload_n hC dX3_writeNumber_17 rfl rfl ?_
      refine x_iload_n hC dX3_writeNumber_18 rfl rfl ?_
      refine x_idivN hC dX3_writeNumber_19 (by omega) (by decide) (by decide) ?_
      refine x_bipush (v := nI 9) hC dX3_writeNumber_20 (by decide) ?_
      refine x_icmp_leN (tgt := 33) hC (by omega) (by omega) dX3_writeNumber_22 (by decide) (fun c1 => ?_) (fun c1 => ?_)
      · exact done 8 (by omega) h9 hj
      · exact absurd c1 (by omega)
    | succ d ih =>
      intro j hd hj
      have hp : 10 ^ j ≤ 10 ^ 8 := Nat.pow_le_pow_right (by decide) (by omega)
      have hp0 : 0 < 10 ^ j := Nat.pow_pos (by decide)
      have hvd := Nat.div_le_self v (10 ^ j)
      refine x_iload_n hC dX3_writeNumber_17 rfl rfl ?_
      refine x_iload_n hC dX3_writeNumber_18 rfl rfl ?_
      refine x_idivN hC dX3_writeNumber_19 (by omega) hp0 (by omega) ?_
      refine x_bipush (v := nI 9) hC dX3_writeNumber_20 (by decide) ?_
      refine x_icmp_leN (tgt := 33) hC (by omega) (by omega) dX3_writeNumber_22 (by decide) (fun c1 => ?_) (fun c1 => ?_)
      · exact done j (by omega) (by omega) hj
      · refine x_iload_n hC dX3_writeNumber_25 rfl rfl ?_
        refine x_bipush (v := nI 10) hC dX3_writeNumber_26 (by decide) ?_
        refine x_imulN hC dX3_writeNumber_28 ?_
        refine x_istore_n (lv' := [_, _, _, _]) hC dX3_writeNumber_29 rfl (by decide) rfl ?_
        refine x_goto (tgt := 17) hC dX3_writeNumber_30 (by decide) ?_
        refine ih (j + 1) (by omega) (Or.inr ?_)
        rw [Nat.pow_succ, ← Nat.div_div_eq_div_mul]
        omega
  refine x_iload_n hC dX3_writeNumber_0 rfl rfl ?_
  refine x_if_ge (tgt := 10) hC dX3_writeNumber_1 (by decide) (fun c0 => ?_) (fun c0 => ?_)
  · refine main M T h hF (by omega) ?_
    unfold dgI
    rw [if_neg (Int32.not_lt.mpr c0)]
    rfl
  · have hneg := Int32.not_le.mp c0
    refine x_aload_n hC dX3_writeNumber_4 rfl rfl ?_
    refine x_bipush (v := nI 45) hC dX3_writeNumber_5 (by decide) ?_
    refine x_callV0 (na := 1) hC (ct_wr hG h (by decide) (by omega)) (lw_V q2859 q2861 qs78 q89 q2862) hm.1 rfl rfl (by decide +kernel) rfl ⟨Nat.le_of_ble_eq_true rfl, Nat.le_of_ble_eq_true rfl⟩ rfl (Nat.le_of_ble_eq_true rfl) ⟨rfl, rfl⟩ ⟨Nat.le_of_ble_eq_true rfl, Nat.le_of_ble_eq_true rfl⟩ dX3_writeNumber_7 ?_
    rintro _ M ⟨rfl, h, hF1⟩
    refine main M _ h (hF.tr hF1) (by rw [List.length_append, List.length_singleton]; omega) ?_
    unfold dgI
    rw [if_pos hneg, List.append_assoc]
end M27

