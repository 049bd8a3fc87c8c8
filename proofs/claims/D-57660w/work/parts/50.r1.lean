/-! ===== the component's recordings ===== -/
abbrev reF (na sa : Nat) (cv rv : Value) : List Value := [.ref na, .ref sa, cv, rv]
/-- that array holds the coefficients of the samples -/
def CV (M : X_M) (n : Nat) (f : Nat → Int32) (cv : Value) : Prop := ∃ a u, cv = .ref a ∧ M a = some (ia 0 n u) ∧ ∀ k, k < n → u k = cfN f n k
/-- that array holds the ranking -/
def RV (M : X_M) (n : Nat) (f : Nat → Int32) (rv : Value) : Prop := ∃ a u, rv = .ref a ∧ M a = some (ia 0 n u) ∧ ∀ k, k < n → u k = nI (pk (cfN f n) n k)
/-- a recording, but for its ranking -/
def RcC (M : X_M) (q na sa n : Nat) (f : Nat → Int32) (rv : Value) : Prop := ∃ cv, M q = some (ob 2 3 (reF na sa cv rv)) ∧ M sa = some (ia 0 n f) ∧ (cv = .null ∨ CV M n f cv)
/-- only coefficients were found -/
def Lc (M M' : X_M) : Prop := Fr (fun g => g = 2) M M' ∧ ∀ q na sa n f cv rv, M q = some (ob 2 3 (reF na sa cv rv)) → M sa = some (ia 0 n f) → ∃ cv', M' q = some (ob 2 3 (reF na sa cv' rv)) ∧ (cv' = cv ∨ CV M' n f cv')
theorem Fr.z {P : Nat → Prop} {M M' : X_M} (h : Fr P M M') {a : Nat} {x : (Nat × List Value) ⊕ ((Nat × vp_A) ⊕ Cell)} {g : Nat} (hg : ¬ P g) (ha : M a = some (g, x)) : M' a = some (g, x) := h a _ ha hg
theorem CV.fr {P : Nat → Prop} {M M' : X_M} {n : Nat} {f : Nat → Int32} {cv : Value} (h : CV M n f cv) (hF : Fr P M M') (h0 : ¬ P 0) : CV M' n f cv := by
  obtain ⟨a, u, h1, h2, h3⟩ := h
  exact ⟨a, u, h1, hF.z h0 h2, h3⟩
theorem RV.fr {P : Nat → Prop} {M M' : X_M} {n : Nat} {f : Nat → Int32} {cv : Value} (h : RV M n f cv) (hF : Fr P M M') (h0 : ¬ P 0) : RV M' n f cv := by
  obtain ⟨a, u, h1, h2, h3⟩ := h
  exact ⟨a, u, h1, hF.z h0 h2, h3⟩
theorem Lc.rf {M : X_M} : Lc M M := ⟨Fr.rf, fun q na sa n f cv rv h1 _ => ⟨cv, h1, Or.inl rfl⟩⟩
theorem Lc.tr {M M1 M2 : X_M} (h1 : Lc M M1) (h2 : Lc M1 M2) : Lc M M2 := by
  refine ⟨h1.1.tr h2.1, fun q na sa n f cv rv a1 a2 => ?_⟩
  obtain ⟨c1, b1, b2⟩ := h1.2 q na sa n f cv rv a1 a2
  obtain ⟨c2, d1, d2⟩ := h2.2 q na sa n f c1 rv b1 (h1.1.z (by decide) a2)
  refine ⟨c2, d1, ?_⟩
  rcases d2 with d2 | d2
  · subst d2
    rcases b2 with b2 | b2
    · exact Or.inl b2
    · exact Or.inr (b2.fr h2.1 (by decide))
  · exact Or.inr d2
theorem RcC.lc {M M' : X_M} {q na sa n : Nat} {f : Nat → Int32} {rv : Value} (h : RcC M q na sa n f rv) (hL : Lc M M') : RcC M' q na sa n f rv := by
  obtain ⟨cv, h1, h2, h3⟩ := h
  obtain ⟨c2, d1, d2⟩ := hL.2 q na sa n f cv rv h1 h2
  refine ⟨c2, d1, hL.1.z (by decide) h2, ?_⟩
  rcases d2 with d2 | d2
  · subst d2
    rcases h3 with h3 | h3
    · exact Or.inl h3
    · exact Or.inr (h3.fr hL.1 (by decide))
  · exact Or.inr d2
theorem cpy_at {f g : Nat → Int32} {n k : Nat} (h : k < n) : va_cpy f g 0 0 n k = f k := by
  unfold va_cpy
  rw [if_pos (by omega), Nat.zero_add, Nat.sub_zero]
theorem cfN_cong {f g : Nat → Int32} {n : Nat} (h : ∀ k, k < n → f k = g k) : cfN f n = cfN g n := funext fun i => iS_cong fun k hk => by rw [h k hk]
section R1
variable {G : X_G} {M : X_M} {q na sa n : Nat} {f : Nat → Int32} {cv rv : Value}
theorem ct_isBetween (hG : GOK G) (v lo hi : Int32) (M : X_M) : Ct G yX1_isBetween cX1_isBetween 3 (some .boolean) (xrm 1 0 0) [.int v, .int lo, .int hi] M (Pr (.int (xB (lo ≤ v ∧ v ≤ hi))) M) := by
  refine ct_open (lv := [_, _, _]) hG (by decide +kernel) (Nat.le_of_ble_eq_true rfl) rfl (fun C hC hk => ?_)
  refine x_iload_n hC dX1_isBetween_0 rfl rfl ?_
  refine x_iload_n hC dX1_isBetween_1 rfl rfl ?_
  refine x_icmp_lt (tgt := 14) hC dX1_isBetween_2 (by decide) (fun c1 => ?_) (fun c1 => ?_)
  · refine x_iconst (v := 0) hC dX1_isBetween_14 (by decide) ?_
    exact x_zret hC hk dX1_isBetween_15 (by first | rfl | exact xB_nar) (Nat.le_of_ble_eq_true rfl) (Nat.le_of_ble_eq_true rfl) ⟨by rw [xB_f fun h => Int32.not_lt.mpr h.1 c1], rfl⟩
  · refine x_iload_n hC dX1_isBetween_5 rfl rfl ?_
    refine x_iload_n hC dX1_isBetween_6 rfl rfl ?_
    refine x_icmp_gt (tgt := 14) hC dX1_isBetween_7 (by decide) (fun c2 => ?_) (fun c2 => ?_)
    · refine x_iconst (v := 0) hC dX1_isBetween_14 (by decide) ?_
      exact x_zret hC hk dX1_isBetween_15 (by first | rfl | exact xB_nar) (Nat.le_of_ble_eq_true rfl) (Nat.le_of_ble_eq_true rfl) ⟨by rw [xB_f fun h => Int32.not_lt.mpr h.2 c2], rfl⟩
    · refine x_iconst (v := 1) hC dX1_isBetween_10 (by decide) ?_
      refine x_goto (tgt := 15) hC dX1_isBetween_11 (by decide) ?_
      exact x_zret hC hk dX1_isBetween_15 (by first | rfl | exact xB_nar) (Nat.le_of_ble_eq_true rfl) (Nat.le_of_ble_eq_true rfl) ⟨by rw [xB_t ⟨Int32.not_lt.mp c1, Int32.not_lt.mp c2⟩], rfl⟩
theorem ct_cisLength (hG : GOK G) (x : Int32) (M : X_M) : Ct G yX1_isLength cX1_isLength 1 (some .boolean) (xrm 2 0 0) [.int x] M (Pr (.int (xB (isL x))) M) := by
  refine ct_open (lv := [_]) hG (by decide +kernel) (Nat.le_of_ble_eq_true rfl) rfl (fun C hC hk => ?_)
  refine x_iload_n hC dX1_isLength_0 rfl rfl ?_
  refine x_iconst (v := 2) hC dX1_isLength_1 (by decide) ?_
  refine x_bipush (v := 64) hC dX1_isLength_2 (by decide) ?_
  refine x_callS0 (na := 3) hC (ct_isBetween hG _ _ _ _) (lw_S q641 q642 q81 q643) (by decide +kernel) rfl ⟨Nat.le_of_ble_eq_true rfl, Nat.le_of_ble_eq_true rfl⟩ rfl (Nat.le_of_ble_eq_true rfl) ⟨rfl, rfl⟩ ⟨Nat.le_of_ble_eq_true rfl, Nat.le_of_ble_eq_true rfl⟩ dX1_isLength_4 ?_
  rintro _ M ⟨rfl, rfl⟩
  refine x_if_eqB (tgt := 22) hC dX1_isLength_7 (by decide) (fun c1 => ?_) (fun c1 => ?_)
  · refine x_iconst (v := 0) hC dX1_isLength_22 (by decide) ?_
    exact x_zret hC hk dX1_isLength_23 (by first | rfl | exact xB_nar) (Nat.le_of_ble_eq_true rfl) (Nat.le_of_ble_eq_true rfl) ⟨by rw [xB_f fun h => c1 h.1], rfl⟩
  · refine x_iload_n hC dX1_isLength_10 rfl rfl ?_
    refine x_iload_n hC dX1_isLength_11 rfl rfl ?_
    refine x_iconst (v := 1) hC dX1_isLength_12 (by decide) ?_
    refine x_isub hC dX1_isLength_13 ?_
    refine x_iand hC dX1_isLength_14 ?_
    refine x_if_ne (tgt := 22) hC dX1_isLength_15 (by decide) (fun c2 => ?_) (fun c2 => ?_)
    · refine x_iconst (v := 0) hC dX1_isLength_22 (by decide) ?_
      exact x_zret hC hk dX1_isLength_23 (by first | rfl | exact xB_nar) (Nat.le_of_ble_eq_true rfl) (Nat.le_of_ble_eq_true rfl) ⟨by rw [xB_f fun h => c2 h.2], rfl⟩
    · refine x_iconst (v := 1) hC dX1_isLength_18 (by decide) ?_
      refine x_goto (tgt := 23) hC dX1_isLength_19 (by decide) ?_
      exact x_zret hC hk dX1_isLength_23 (by first | rfl | exact xB_nar) (Nat.le_of_ble_eq_true rfl) (Nat.le_of_ble_eq_true rfl) ⟨by rw [xB_t ⟨c1, c2⟩], rfl⟩
theorem ct_limited (hG : GOK G) (x : Int32) (M : X_M) : Ct G yX1_limited cX1_limited 1 (some .int) (xrm 2 0 0) [.int x] M (Pr (.int (clip x)) M) := by
  refine ct_open (lv := [_]) hG (by decide +kernel) (Nat.le_of_ble_eq_true rfl) rfl (fun C hC hk => ?_)
  refine x_sipush (v := -9999) hC dX1_limited_0 (by decide) ?_
  refine x_sipush (v := 9999) hC dX1_limited_3 (by decide) ?_
  refine x_iload_n hC dX1_limited_6 rfl rfl ?_
  refine x_callS0 (na := 2) hC (ct_min hG _ _ _) (lw_S q1951 q346 q103 q347) (by decide +kernel) rfl ⟨Nat.le_of_ble_eq_true rfl, Nat.le_of_ble_eq_true rfl⟩ rfl (Nat.le_of_ble_eq_true rfl) ⟨rfl, rfl⟩ ⟨Nat.le_of_ble_eq_true rfl, Nat.le_of_ble_eq_true rfl⟩ dX1_limited_7 ?_
  rintro _ M ⟨rfl, rfl⟩
  refine x_callS0 (na := 2) hC (ct_max hG _ _ _) (lw_S q1952 q328 q103 q329) (by decide +kernel) rfl ⟨Nat.le_of_ble_eq_true rfl, Nat.le_of_ble_eq_true rfl⟩ rfl (Nat.le_of_ble_eq_true rfl) ⟨rfl, rfl⟩ ⟨Nat.le_of_ble_eq_true rfl, Nat.le_of_ble_eq_true rfl⟩ dX1_limited_10 ?_
  rintro _ M ⟨rfl, rfl⟩
  exact x_iret hC hk dX1_limited_13 (Nat.le_of_ble_eq_true rfl) (Nat.le_of_ble_eq_true rfl) ⟨rfl, rfl⟩
theorem ct_copyS (hG : GOK G) {g : Nat} (hg : g ≠ 0) (h : M q = some (ob 2 3 (reF na sa cv rv))) (hs : M sa = some (ia 0 n f)) (hn : n ≤ 64) : Ct G yX7_copyOfSamples cX7_copyOfSamples 2 (some (.array .int)) (xrm 2 1 64) [.ref q] M (fun r M' => ∃ a u, r = some (.ref a) ∧ M a = none ∧ M' = mu M a (ia g n u) ∧ ∀ k, k < n → u k = f k) := by
  refine ct_open (lv := [_, _]) hG (by decide +kernel) (Nat.le_of_ble_eq_true rfl) rfl (fun C hC hk => ?_)
  refine x_aload_n hC dX7_copyOfSamples_0 rfl rfl ?_
  refine x_get hC 1 h rfl (by decide) q1486 rfl rfl dX7_copyOfSamples_1 ?_
  refine x_alen hC hs dX7_copyOfSamples_4 ?_
  dsimp only
  refine x_newi hC n g q1328 hg rfl (by omega) (Nat.le_of_ble_eq_true rfl) (show 0 + n ≤ 64 by omega) dX7_copyOfSamples_5 (fun a ha => ?_)
  refine x_astore_n (lv' := [_, _]) hC dX7_copyOfSamples_7 rfl (by decide) rfl ?_
  refine x_aload_n hC dX7_copyOfSamples_8 rfl rfl ?_
  refine x_get hC 1 (mu_f ha h) rfl (by decide) q1486 rfl rfl dX7_copyOfSamples_9 ?_
  refine x_iconst (v := nI 0) hC dX7_copyOfSamples_12 (by decide) ?_
  refine x_aload_n hC dX7_copyOfSamples_13 rfl rfl ?_
  refine x_iconst (v := nI 0) hC dX7_copyOfSamples_14 (by decide) ?_
  refine x_aload_n hC dX7_copyOfSamples_15 rfl rfl ?_
  refine x_get hC 1 (mu_f ha h) rfl (by decide) q1486 rfl rfl dX7_copyOfSamples_16 ?_
  refine x_alen hC (mu_f ha hs) dX7_copyOfSamples_19 ?_
  dsimp only
  refine x_copyi hC (mu_f ha hs) mu_s hg rfl q1721 q350 q349 q105 (by omega) (by omega) (by omega) (by omega) (fun i hi => rfl) (Nat.le_of_ble_eq_true rfl) (Nat.le_of_ble_eq_true rfl) dX7_copyOfSamples_20 ?_
  rw [mu_mu]
  refine x_aload_n hC dX7_copyOfSamples_23 rfl rfl ?_
  exact x_aret hC hk dX7_copyOfSamples_24 (Or.inr ⟨_, rfl⟩) (Or.inr ⟨_, rfl⟩) (Nat.le_of_ble_eq_true rfl) (show 0 + n ≤ 64 by omega) ⟨a, _, rfl, ha, rfl, fun k hk => cpy_at hk⟩
end R1

