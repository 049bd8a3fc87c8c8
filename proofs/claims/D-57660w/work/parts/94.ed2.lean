/-! ===== the component's edits of samples ===== -/
theorem x_frz {G : X_G} {C : X_C} {M : X_M} {kc ks pc : Nat} {lv : List (Option Value)} {rest : List Value} {p n : Nat} {u : Nat → Int32} (nm : List Nat) (F : Nat → Int32) (hp : M p = none) (hu : ∀ k, k < n → u k = F k) (kk : ∀ M', M' p = some (ia 0 (mkR nm n F).2.length fun k => (mkR nm n F).2.getD k 0) → Fr (fun g => g = 3) M M' → Wg G C M' kc ks pc lv rest) : Wg G C (mu M p (ia 3 n u)) kc ks pc lv rest := by
  refine x_freeze 0 (fun k => (mkR nm n F).2.getD k 0) mu_s (by decide) (fun k hk => (mkR_g (nm := nm) hk).trans (hu k hk).symm) ?_
  rw [mu_mu]
  refine kk _ ?_ (Fr.new hp)
  rw [mu_s, show (mkR nm n F).2.length = n from mkR_z]
theorem chg_mk {r : Rcd} {nm : List Nat} {g : Nat → Int32} : (if rz r = (mkR nm (rz r) g).2.length then iS (fun k => xB (rg r k ≠ (mkR nm (rz r) g).2.getD k 0)) (rz r) else nI (mkR nm (rz r) g).2.length) = chgd r g := by
  rw [if_pos (show rz r = (mkR nm (rz r) g).2.length from mkR_z.symm)]
  exact iS_cong fun k hk => by rw [show (mkR nm (rz r) g).2.getD k 0 = g k from mkR_g (nm := nm) hk]
theorem chg_mk2 {r : Rcd} {nm : List Nat} {n : Nat} {g : Nat → Int32} (h : ¬ rz r = n) : (if rz r = (mkR nm n g).2.length then iS (fun k => xB (rg r k ≠ (mkR nm n g).2.getD k 0)) (rz r) else nI (mkR nm n g).2.length) = nI n := by
  have e : (mkR nm n g).2.length = n := mkR_z
  rw [e, if_neg h]
theorem pe3 {M M' : X_M} (h : Fr (fun g => g = 3) M M') : Fr PE M M' := h.wk (pe_eq (by decide))
theorem WfRow.dbl {r : Rcd} (h : WfRow r) (h4 : rz r < 64) : (∃ j, 1 ≤ j ∧ j ≤ 6 ∧ 2 * rz r = 2 ^ j) ∧ 2 * rz r ≤ 64 := by
  obtain ⟨j, h1, h2, h3⟩ := h.pw
  have h5 : j ≤ 5 := by
    rcases Nat.lt_or_ge j 6 with h6 | h6
    · omega
    · have : j = 6 := by omega
      subst this
      rw [h3] at h4
      omega
  have e : 2 * rz r = 2 ^ (j + 1) := by rw [h3, Nat.pow_succ]; omega
  refine ⟨⟨j + 1, by omega, by omega, e⟩, ?_⟩
  rw [e]
  exact Nat.pow_le_pow_right (by decide) (show j + 1 ≤ 6 by omega)
theorem WfRow.hlf {r : Rcd} (h : WfRow r) (h4 : 2 < rz r) : (∃ j, 1 ≤ j ∧ j ≤ 6 ∧ rz r / 2 = 2 ^ j) ∧ rz r = 2 * (rz r / 2) := by
  obtain ⟨j, h1, h2, h3⟩ := h.pw
  have h5 : 2 ≤ j := by
    rcases Nat.lt_or_ge j 2 with h6 | h6
    · have : j = 1 := by omega
      subst this
      rw [h3] at h4
      omega
    · exact h6
  obtain ⟨i, rfl⟩ : ∃ i, j = i + 1 := ⟨j - 1, by omega⟩
  have e : rz r / 2 = 2 ^ i := by rw [h3, Nat.pow_succ]; omega
  refine ⟨⟨i, by omega, by omega, e⟩, ?_⟩
  rw [e, h3, Nat.pow_succ]
  omega
section ED2
variable {G : X_G} {M : X_M} {T : X_T} {a : Nat} {S : X_S}
theorem cq_reverse (hG : GOK G) (hT : T0 G T) (hR : CRep S M T a) (x : Int32) : Cq G yX1_reverse cX1_reverse 3 (some .int) (xrm 14 27 291) [.ref a, .int x] M (CO T a (opReverse S x).2.2 (opReverse S x).1 (.int (opReverse S x).2.1) M) (CX T a S (opReverse S x).1 [xIOB] M) := by
  obtain ⟨vs, ha⟩ := hR.rec
  refine cq_open (lv := [_, _, _]) hG (by decide +kernel) (Nat.le_of_ble_eq_true rfl) rfl (fun C hC hk hx => ?_)
  refine x_aload_n hC dX1_reverse_0 rfl rfl ?_
  refine x_iload_n hC dX1_reverse_1 rfl rfl ?_
  refine x_qV (k := 1) (n := 6) (na := 1) hC (cq_get hG hR _) (lw_V q1534 q1536 qs13 q81 q1537) ha rfl rfl (by decide +kernel) rfl ⟨Nat.le_of_ble_eq_true rfl, Nat.le_of_ble_eq_true rfl⟩ rfl (Nat.le_of_ble_eq_true rfl) (Nat.le_of_ble_eq_true rfl) (Nat.le_of_ble_eq_true rfl) ⟨Nat.le_of_ble_eq_true rfl, Nat.le_of_ble_eq_true rfl⟩ dX1_reverse_2 ?_ (fun q9 E9 M9 h9 => x_out hC hx (Nat.le_of_ble_eq_true rfl) (Nat.le_of_ble_eq_true rfl) (by obtain ⟨rfl, rfl, h9⟩ := h9; exact CX.same (k := 0) hR (by unfold opReverse; rw [Decidable.not_not.mp h9]; rfl) rfl))
  rintro _ M1 ⟨hM1, q, r, hrc, rfl, hRA, hWf⟩
  subst hM1
  obtain ⟨c, rfl, hci, hcc⟩ := rc_at hrc
  have hop : opReverse S (nI c) = edit S (nI c) r (fun k => rg r (rz r - 1 - k)) := by unfold opReverse; rw [hrc]; rfl
  dsimp only [edit] at hop
  rw [hcc] at hop
  obtain ⟨na, sa, cv, rv, x1, x2, -⟩ := hRA.rec
  have h64 : rz r ≤ 64 := hWf.len.1
  refine x_astore_n (lv' := [_, _, _]) hC dX1_reverse_5 rfl (by decide) rfl ?_
  refine x_aload_n hC dX1_reverse_6 rfl rfl ?_
  refine x_iload_n hC dX1_reverse_7 rfl rfl ?_
  refine x_aload_n hC dX1_reverse_8 rfl rfl ?_
  refine x_callV (k := 2) (n := 70) (na := 0) hC (ct_rrev hG (g := 3) (by decide) x1 x2 h64) (lw_V q1642 q1643 q1644 q115 q1645) x1 rfl rfl (by decide +kernel) rfl ⟨Nat.le_of_ble_eq_true rfl, Nat.le_of_ble_eq_true rfl⟩ rfl (Nat.le_of_ble_eq_true rfl) (Nat.le_of_ble_eq_true rfl) (Nat.le_of_ble_eq_true rfl) ⟨Nat.le_of_ble_eq_true rfl, Nat.le_of_ble_eq_true rfl⟩ dX1_reverse_9 ?_
  rintro _ _ ⟨p, u, rfl, hp, rfl, hu⟩
  refine x_frz r.1 _ hp hu (fun M2 hb hF => ?_)
  refine x_callV (k := 27) (n := 291) (na := 2) hC (ct_replaceC hG hT (hR.f3 hF) hci hb (wf_mk hWf hWf.pw (fun k hk => hWf.lm _ (by omega)))) (lw_V q2098 q2100 qs26 q81 q2101) (hF.z (by decide) ha) rfl rfl (by decide +kernel) rfl ⟨Nat.le_of_ble_eq_true rfl, Nat.le_of_ble_eq_true rfl⟩ rfl (Nat.le_of_ble_eq_true rfl) (Nat.le_of_ble_eq_true rfl) (Nat.le_of_ble_eq_true rfl) ⟨Nat.le_of_ble_eq_true rfl, Nat.le_of_ble_eq_true rfl⟩ dX1_reverse_12 ?_
  rintro _ M3 ⟨rfl, hR3, hF3⟩
  exact x_iret hC hk dX1_reverse_15 (Nat.le_of_ble_eq_true rfl) (Nat.le_of_ble_eq_true rfl) ⟨by rw [hop], by rw [hop]; exact congrArg (fun z => some (Value.int z)) chg_mk, by rw [hop]; exact hR3, pe_pw ((pe3 hF).tr hF3)⟩
theorem cq_shift (hG : GOK G) (hT : T0 G T) (hR : CRep S M T a) (x z : Int32) : Cq G yX1_shift cX1_shift 4 (some .int) (xrm 14 28 297) [.ref a, .int x, .int z] M (CO T a (opShift S x z).2.2 (opShift S x z).1 (.int (opShift S x z).2.1) M) (CX T a S (opShift S x z).1 [xIOB, xIAE] M) := by
  obtain ⟨vs, ha⟩ := hR.rec
  refine cq_open (lv := [_, _, _, _]) hG (by decide +kernel) (Nat.le_of_ble_eq_true rfl) rfl (fun C hC hk hx => ?_)
  refine x_aload_n hC dX1_shift_0 rfl rfl ?_
  refine x_iload_n hC dX1_shift_1 rfl rfl ?_
  refine x_qV (k := 1) (n := 6) (na := 1) hC (cq_get hG hR _) (lw_V q1534 q1536 qs13 q81 q1537) ha rfl rfl (by decide +kernel) rfl ⟨Nat.le_of_ble_eq_true rfl, Nat.le_of_ble_eq_true rfl⟩ rfl (Nat.le_of_ble_eq_true rfl) (Nat.le_of_ble_eq_true rfl) (Nat.le_of_ble_eq_true rfl) ⟨Nat.le_of_ble_eq_true rfl, Nat.le_of_ble_eq_true rfl⟩ dX1_shift_2 ?_ (fun q9 E9 M9 h9 => x_out hC hx (Nat.le_of_ble_eq_true rfl) (Nat.le_of_ble_eq_true rfl) (by obtain ⟨rfl, rfl, h9⟩ := h9; exact CX.same (k := 0) hR (by unfold opShift; rw [Decidable.not_not.mp h9]; rfl) rfl))
  rintro _ M1 ⟨hM1, q, r, hrc, rfl, hRA, hWf⟩
  subst hM1
  obtain ⟨c, rfl, hci, hcc⟩ := rc_at hrc
  obtain ⟨na, sa, cv, rv, x1, x2, -⟩ := hRA.rec
  have h64 : rz r ≤ 64 := hWf.len.1
  obtain ⟨j, j1, j2, j3⟩ := hWf.pw
  refine x_astore_n (lv' := [_, _, _, _]) hC dX1_shift_5 rfl (by decide) rfl ?_
  refine x_aload_n hC dX1_shift_6 rfl rfl ?_
  refine x_iload_n hC dX1_shift_7 rfl rfl ?_
  refine x_callV0 (na := 1) hC (ct_rhas hG x1 x2 z) (lw_V q1580 q1581 q1582 q115 q1583) x1 rfl rfl (by decide +kernel) rfl ⟨Nat.le_of_ble_eq_true rfl, Nat.le_of_ble_eq_true rfl⟩ rfl (Nat.le_of_ble_eq_true rfl) ⟨rfl, rfl⟩ ⟨Nat.le_of_ble_eq_true rfl, Nat.le_of_ble_eq_true rfl⟩ dX1_shift_8 ?_
  rintro _ M ⟨rfl, rfl⟩
  refine x_qS (k := 2) (n := 12) (na := 1) hC (cq_reqIAE hG _ _) (lw_S q1337 q1338 q81 q1339) (by decide +kernel) rfl ⟨Nat.le_of_ble_eq_true rfl, Nat.le_of_ble_eq_true rfl⟩ rfl (Nat.le_of_ble_eq_true rfl) (Nat.le_of_ble_eq_true rfl) (Nat.le_of_ble_eq_true rfl) ⟨Nat.le_of_ble_eq_true rfl, Nat.le_of_ble_eq_true rfl⟩ dX1_shift_11 ?_ (fun q9 E9 M9 h9 => x_out hC hx (Nat.le_of_ble_eq_true rfl) (Nat.le_of_ble_eq_true rfl) (by obtain ⟨rfl, rfl, h9⟩ := h9; exact CX.same (k := 1) hR (by unfold opShift; rw [hrc]; dsimp only [Option.elim]; rw [if_neg h9]; rfl) rfl))
  rintro _ M ⟨rfl, hM1, h9⟩
  subst hM1
  have hop : opShift S (nI c) z = edit S (nI c) r (fun k => rg r (k ^^^ z.toNatClampNeg)) := by unfold opShift; rw [hrc]; dsimp only [Option.elim]; rw [if_pos h9]
  dsimp only [edit] at hop
  rw [hcc] at hop
  obtain ⟨k, hk1, rfl, hk3⟩ := inI_at (n := rz r) (by omega) h9
  rw [hk3] at hop
  have hxr : ∀ i, i < rz r → i ^^^ k < rz r := fun i hi => by rw [j3] at hi hk1 ⊢; exact Nat.xor_lt_two_pow hi hk1
  refine x_aload_n hC dX1_shift_14 rfl rfl ?_
  refine x_iload_n hC dX1_shift_15 rfl rfl ?_
  refine x_aload_n hC dX1_shift_16 rfl rfl ?_
  refine x_iload_n hC dX1_shift_17 rfl rfl ?_
  refine x_callV (k := 3) (n := 76) (na := 1) hC (ct_rshift hG (g := 3) (by decide) x1 x2 h64 hxr) (lw_V q2184 q2185 q2186 q115 q2187) x1 rfl rfl (by decide +kernel) rfl ⟨Nat.le_of_ble_eq_true rfl, Nat.le_of_ble_eq_true rfl⟩ rfl (Nat.le_of_ble_eq_true rfl) (Nat.le_of_ble_eq_true rfl) (Nat.le_of_ble_eq_true rfl) ⟨Nat.le_of_ble_eq_true rfl, Nat.le_of_ble_eq_true rfl⟩ dX1_shift_18 ?_
  rintro _ _ ⟨p, u, rfl, hp, rfl, hu⟩
  refine x_frz r.1 _ hp hu (fun M2 hb hF => ?_)
  refine x_callV (k := 28) (n := 297) (na := 2) hC (ct_replaceC hG hT (hR.f3 hF) hci hb (wf_mk hWf hWf.pw (fun k hk => hWf.lm _ (hxr k hk)))) (lw_V q2098 q2100 qs26 q81 q2101) (hF.z (by decide) ha) rfl rfl (by decide +kernel) rfl ⟨Nat.le_of_ble_eq_true rfl, Nat.le_of_ble_eq_true rfl⟩ rfl (Nat.le_of_ble_eq_true rfl) (Nat.le_of_ble_eq_true rfl) (Nat.le_of_ble_eq_true rfl) ⟨Nat.le_of_ble_eq_true rfl, Nat.le_of_ble_eq_true rfl⟩ dX1_shift_21 ?_
  rintro _ M3 ⟨rfl, hR3, hF3⟩
  exact x_iret hC hk dX1_shift_24 (Nat.le_of_ble_eq_true rfl) (Nat.le_of_ble_eq_true rfl) ⟨by rw [hop], by rw [hop]; exact congrArg (fun z => some (Value.int z)) chg_mk, by rw [hop]; exact hR3, pe_pw ((pe3 hF).tr hF3)⟩
theorem cq_quantize (hG : GOK G) (hT : T0 G T) (hR : CRep S M T a) (x z : Int32) : Cq G yX1_quantize cX1_quantize 4 (some .int) (xrm 14 28 297) [.ref a, .int x, .int z] M (CO T a (opQuant S x z).2.2 (opQuant S x z).1 (.int (opQuant S x z).2.1) M) (CX T a S (opQuant S x z).1 [xIOB, xIAE] M) := by
  obtain ⟨vs, ha⟩ := hR.rec
  refine cq_open (lv := [_, _, _, _]) hG (by decide +kernel) (Nat.le_of_ble_eq_true rfl) rfl (fun C hC hk hx => ?_)
  refine x_aload_n hC dX1_quantize_0 rfl rfl ?_
  refine x_iload_n hC dX1_quantize_1 rfl rfl ?_
  refine x_qV (k := 1) (n := 6) (na := 1) hC (cq_get hG hR _) (lw_V q1534 q1536 qs13 q81 q1537) ha rfl rfl (by decide +kernel) rfl ⟨Nat.le_of_ble_eq_true rfl, Nat.le_of_ble_eq_true rfl⟩ rfl (Nat.le_of_ble_eq_true rfl) (Nat.le_of_ble_eq_true rfl) (Nat.le_of_ble_eq_true rfl) ⟨Nat.le_of_ble_eq_true rfl, Nat.le_of_ble_eq_true rfl⟩ dX1_quantize_2 ?_ (fun q9 E9 M9 h9 => x_out hC hx (Nat.le_of_ble_eq_true rfl) (Nat.le_of_ble_eq_true rfl) (by obtain ⟨rfl, rfl, h9⟩ := h9; exact CX.same (k := 0) hR (by unfold opQuant; rw [Decidable.not_not.mp h9]; rfl) rfl))
  rintro _ M1 ⟨hM1, q, r, hrc, rfl, hRA, hWf⟩
  subst hM1
  obtain ⟨c, rfl, hci, hcc⟩ := rc_at hrc
  obtain ⟨na, sa, cv, rv, x1, x2, -⟩ := hRA.rec
  have h64 : rz r ≤ 64 := hWf.len.1
  refine x_astore_n (lv' := [_, _, _, _]) hC dX1_quantize_5 rfl (by decide) rfl ?_
  refine x_iload_n hC dX1_quantize_6 rfl rfl ?_
  refine x_iconst (v := 1) hC dX1_quantize_7 (by decide) ?_
  refine x_sipush (v := 999) hC dX1_quantize_8 (by decide) ?_
  refine x_callS0 (na := 3) hC (ct_isBetween hG _ _ _ _) (lw_S q641 q642 q81 q643) (by decide +kernel) rfl ⟨Nat.le_of_ble_eq_true rfl, Nat.le_of_ble_eq_true rfl⟩ rfl (Nat.le_of_ble_eq_true rfl) ⟨rfl, rfl⟩ ⟨Nat.le_of_ble_eq_true rfl, Nat.le_of_ble_eq_true rfl⟩ dX1_quantize_11 ?_
  rintro _ M ⟨rfl, rfl⟩
  refine x_qS (k := 2) (n := 12) (na := 1) hC (cq_reqIAE hG _ _) (lw_S q1337 q1338 q81 q1339) (by decide +kernel) rfl ⟨Nat.le_of_ble_eq_true rfl, Nat.le_of_ble_eq_true rfl⟩ rfl (Nat.le_of_ble_eq_true rfl) (Nat.le_of_ble_eq_true rfl) (Nat.le_of_ble_eq_true rfl) ⟨Nat.le_of_ble_eq_true rfl, Nat.le_of_ble_eq_true rfl⟩ dX1_quantize_14 ?_ (fun q9 E9 M9 h9 => x_out hC hx (Nat.le_of_ble_eq_true rfl) (Nat.le_of_ble_eq_true rfl) (by obtain ⟨rfl, rfl, h9⟩ := h9; exact CX.same (k := 1) hR (by unfold opQuant; rw [hrc]; dsimp only [Option.elim]; rw [if_neg h9]; rfl) rfl))
  rintro _ M ⟨rfl, hM1, h9⟩
  subst hM1
  have hop : opQuant S (nI c) z = edit S (nI c) r (fun k => clip (z * fdiv (rg r k) z)) := by unfold opQuant; rw [hrc]; dsimp only [Option.elim]; rw [if_pos h9]
  dsimp only [edit] at hop
  rw [hcc] at hop
  have hz0 : ¬ z = 0 := fun e => by rw [e] at h9; exact absurd h9.1 (by decide)
  refine x_aload_n hC dX1_quantize_17 rfl rfl ?_
  refine x_iload_n hC dX1_quantize_18 rfl rfl ?_
  refine x_aload_n hC dX1_quantize_19 rfl rfl ?_
  refine x_iload_n hC dX1_quantize_20 rfl rfl ?_
  refine x_callV (k := 3) (n := 76) (na := 1) hC (ct_rquant hG (g := 3) (by decide) x1 x2 h64 hz0) (lw_V q2202 q2203 q2204 q115 q2205) x1 rfl rfl (by decide +kernel) rfl ⟨Nat.le_of_ble_eq_true rfl, Nat.le_of_ble_eq_true rfl⟩ rfl (Nat.le_of_ble_eq_true rfl) (Nat.le_of_ble_eq_true rfl) (Nat.le_of_ble_eq_true rfl) ⟨Nat.le_of_ble_eq_true rfl, Nat.le_of_ble_eq_true rfl⟩ dX1_quantize_21 ?_
  rintro _ _ ⟨p, u, rfl, hp, rfl, hu⟩
  refine x_frz r.1 _ hp hu (fun M2 hb hF => ?_)
  refine x_callV (k := 28) (n := 297) (na := 2) hC (ct_replaceC hG hT (hR.f3 hF) hci hb (wf_mk hWf hWf.pw (fun k hk => clip_lim _))) (lw_V q2098 q2100 qs26 q81 q2101) (hF.z (by decide) ha) rfl rfl (by decide +kernel) rfl ⟨Nat.le_of_ble_eq_true rfl, Nat.le_of_ble_eq_true rfl⟩ rfl (Nat.le_of_ble_eq_true rfl) (Nat.le_of_ble_eq_true rfl) (Nat.le_of_ble_eq_true rfl) ⟨Nat.le_of_ble_eq_true rfl, Nat.le_of_ble_eq_true rfl⟩ dX1_quantize_24 ?_
  rintro _ M3 ⟨rfl, hR3, hF3⟩
  exact x_iret hC hk dX1_quantize_27 (Nat.le_of_ble_eq_true rfl) (Nat.le_of_ble_eq_true rfl) ⟨by rw [hop], by rw [hop]; exact congrArg (fun z => some (Value.int z)) chg_mk, by rw [hop]; exact hR3, pe_pw ((pe3 hF).tr hF3)⟩
theorem cq_setSample (hG : GOK G) (hT : T0 G T) (hR : CRep S M T a) (x z v : Int32) : Cq G yX1_setSample cX1_setSample 5 (some .int) (xrm 14 29 303) [.ref a, .int x, .int z, .int v] M (CO T a (opSetS S x z v).2.2 (opSetS S x z v).1 (.int (opSetS S x z v).2.1) M) (CX T a S (opSetS S x z v).1 [xIOB, xIAE] M) := by
  obtain ⟨vs, ha⟩ := hR.rec
  have no : ¬ (∃ r, rc (sR S) x = some r ∧ inI (rz r) z) → (opSetS S x z v).1 = 1 := by
    intro h
    unfold opSetS
    cases hrc : rc (sR S) x with
    | none => rfl
    | some r => dsimp only [Option.elim]; rw [if_neg (fun z => h ⟨r, hrc, z⟩)]
  refine cq_open (lv := [_, _, _, _, _]) hG (by decide +kernel) (Nat.le_of_ble_eq_true rfl) rfl (fun C hC hk hx => ?_)
  refine x_aload_n hC dX1_setSample_0 rfl rfl ?_
  refine x_iload_n hC dX1_setSample_1 rfl rfl ?_
  refine x_iload_n hC dX1_setSample_2 rfl rfl ?_
  refine x_qV (k := 2) (n := 12) (na := 2) hC (cq_get2 hG hR _ _) (lw_V q1576 q1578 qs14 q81 q1579) ha rfl rfl (by decide +kernel) rfl ⟨Nat.le_of_ble_eq_true rfl, Nat.le_of_ble_eq_true rfl⟩ rfl (Nat.le_of_ble_eq_true rfl) (Nat.le_of_ble_eq_true rfl) (Nat.le_of_ble_eq_true rfl) ⟨Nat.le_of_ble_eq_true rfl, Nat.le_of_ble_eq_true rfl⟩ dX1_setSample_3 ?_ (fun q9 E9 M9 h9 => x_out hC hx (Nat.le_of_ble_eq_true rfl) (Nat.le_of_ble_eq_true rfl) (by obtain ⟨rfl, rfl, h9⟩ := h9; exact CX.same (k := 0) hR (no h9) rfl))
  rintro _ M1 ⟨hM1, q, r, hrc, hin, rfl, hRA, hWf⟩
  subst hM1
  obtain ⟨c, rfl, hci, hcc⟩ := rc_at hrc
  obtain ⟨na, sa, cv, rv, x1, x2, -⟩ := hRA.rec
  have h64 : rz r ≤ 64 := hWf.len.1
  refine x_astore (lv' := [_, _, _, _, _]) hC dX1_setSample_6 (by decide) rfl ?_
  refine x_iload_n hC dX1_setSample_8 rfl rfl ?_
  refine x_sipush (v := -9999) hC dX1_setSample_9 (by decide) ?_
  refine x_sipush (v := 9999) hC dX1_setSample_12 (by decide) ?_
  refine x_callS0 (na := 3) hC (ct_isBetween hG _ _ _ _) (lw_S q641 q642 q81 q643) (by decide +kernel) rfl ⟨Nat.le_of_ble_eq_true rfl, Nat.le_of_ble_eq_true rfl⟩ rfl (Nat.le_of_ble_eq_true rfl) ⟨rfl, rfl⟩ ⟨Nat.le_of_ble_eq_true rfl, Nat.le_of_ble_eq_true rfl⟩ dX1_setSample_15 ?_
  rintro _ M ⟨rfl, rfl⟩
  refine x_qS (k := 3) (n := 18) (na := 1) hC (cq_reqIAE hG _ _) (lw_S q1337 q1338 q81 q1339) (by decide +kernel) rfl ⟨Nat.le_of_ble_eq_true rfl, Nat.le_of_ble_eq_true rfl⟩ rfl (Nat.le_of_ble_eq_true rfl) (Nat.le_of_ble_eq_true rfl) (Nat.le_of_ble_eq_true rfl) ⟨Nat.le_of_ble_eq_true rfl, Nat.le_of_ble_eq_true rfl⟩ dX1_setSample_18 ?_ (fun q9 E9 M9 h9 => x_out hC hx (Nat.le_of_ble_eq_true rfl) (Nat.le_of_ble_eq_true rfl) (by obtain ⟨rfl, rfl, h9⟩ := h9; exact CX.same (k := 1) hR (by unfold opSetS; rw [hrc]; dsimp only [Option.elim]; rw [if_pos hin, if_neg h9]; rfl) rfl))
  rintro _ M ⟨rfl, hM1, h9⟩
  subst hM1
  have hop : opSetS S (nI c) z v = (0, rg r z.toNatClampNeg, putR S (nI c) (mkR r.1 (rz r) (upd (rg r) z.toNatClampNeg v))) := by unfold opSetS; rw [hrc]; dsimp only [Option.elim]; rw [if_pos hin, if_pos h9]
  dsimp only [putR] at hop
  rw [hcc] at hop
  obtain ⟨k, hk1, rfl, hk3⟩ := inI_at (n := rz r) (by omega) hin
  rw [hk3] at hop
  refine x_aload_n hC dX1_setSample_21 rfl rfl ?_
  refine x_iload_n hC dX1_setSample_22 rfl rfl ?_
  refine x_aload hC dX1_setSample_23 rfl ?_
  refine x_iload_n hC dX1_setSample_25 rfl rfl ?_
  refine x_iload_n hC dX1_setSample_26 rfl rfl ?_
  refine x_callV (k := 4) (n := 82) (na := 2) hC (ct_rwith hG (g := 3) (by decide) x1 x2 h64 hk1 v) (lw_V q2094 q2095 q2096 q115 q2097) x1 rfl rfl (by decide +kernel) rfl ⟨Nat.le_of_ble_eq_true rfl, Nat.le_of_ble_eq_true rfl⟩ rfl (Nat.le_of_ble_eq_true rfl) (Nat.le_of_ble_eq_true rfl) (Nat.le_of_ble_eq_true rfl) ⟨Nat.le_of_ble_eq_true rfl, Nat.le_of_ble_eq_true rfl⟩ dX1_setSample_27 ?_
  rintro _ _ ⟨p, u, rfl, hp, rfl, hu⟩
  refine x_frz r.1 _ hp hu (fun M2 hb hF => ?_)
  have hlm : ∀ i, i < rz r → lim (upd (rg r) k v i) := fun i hi => by
    rcases Nat.decEq i k with e | e
    · rw [upd_n e]; exact hWf.lm i hi
    · rw [e, upd_s]; exact h9
  refine x_callV (k := 29) (n := 303) (na := 2) hC (ct_replaceC hG hT (hR.f3 hF) hci hb (wf_mk hWf hWf.pw hlm)) (lw_V q2098 q2100 qs26 q81 q2101) (hF.z (by decide) ha) rfl rfl (by decide +kernel) rfl ⟨Nat.le_of_ble_eq_true rfl, Nat.le_of_ble_eq_true rfl⟩ rfl (Nat.le_of_ble_eq_true rfl) (Nat.le_of_ble_eq_true rfl) (Nat.le_of_ble_eq_true rfl) ⟨Nat.le_of_ble_eq_true rfl, Nat.le_of_ble_eq_true rfl⟩ dX1_setSample_30 ?_
  rintro _ M3 ⟨rfl, hR3, hF3⟩
  have n2 : ¬ PE 2 := fun z => z.2.1 rfl
  have n0 : ¬ PE 0 := fun z => z.1 rfl
  refine x_pop hC dX1_setSample_33 rfl ?_
  refine x_aload hC dX1_setSample_34 rfl ?_
  refine x_getN hC 1 (hF3.z n2 (hF.z (by decide) x1)) rfl (by decide) q1488 rfl rfl dX1_setSample_36 ?_
  refine x_iload_n hC dX1_setSample_39 rfl rfl ?_
  refine x_ialdN hC (hF3.z n0 (hF.z (by decide) x2)) hk1 (by first | decide | omega) dX1_setSample_40 ?_
  exact x_iret hC hk dX1_setSample_41 (Nat.le_of_ble_eq_true rfl) (Nat.le_of_ble_eq_true rfl) ⟨by rw [hop], by rw [hop], by rw [hop]; exact hR3, pe_pw ((pe3 hF).tr hF3)⟩
theorem cq_normalize (hG : GOK G) (hT : T0 G T) (hR : CRep S M T a) (x z : Int32) : Cq G yX1_normalize cX1_normalize 4 (some .int) (xrm 14 29 303) [.ref a, .int x, .int z] M (CO T a (opNorm S x z).2.2 (opNorm S x z).1 (.int (opNorm S x z).2.1) M) (CX T a S (opNorm S x z).1 [xIOB, xIAE, xISE] M) := by
  obtain ⟨vs, ha⟩ := hR.rec
  refine cq_open (lv := [_, _, _, _]) hG (by decide +kernel) (Nat.le_of_ble_eq_true rfl) rfl (fun C hC hk hx => ?_)
  refine x_aload_n hC dX1_normalize_0 rfl rfl ?_
  refine x_iload_n hC dX1_normalize_1 rfl rfl ?_
  refine x_qV (k := 1) (n := 6) (na := 1) hC (cq_get hG hR _) (lw_V q1534 q1536 qs13 q81 q1537) ha rfl rfl (by decide +kernel) rfl ⟨Nat.le_of_ble_eq_true rfl, Nat.le_of_ble_eq_true rfl⟩ rfl (Nat.le_of_ble_eq_true rfl) (Nat.le_of_ble_eq_true rfl) (Nat.le_of_ble_eq_true rfl) ⟨Nat.le_of_ble_eq_true rfl, Nat.le_of_ble_eq_true rfl⟩ dX1_normalize_2 ?_ (fun q9 E9 M9 h9 => x_out hC hx (Nat.le_of_ble_eq_true rfl) (Nat.le_of_ble_eq_true rfl) (by obtain ⟨rfl, rfl, h9⟩ := h9; exact CX.same (k := 0) hR (by unfold opNorm; rw [Decidable.not_not.mp h9]; rfl) rfl))
  rintro _ M1 ⟨hM1, q, r, hrc, rfl, hRA, hWf⟩
  subst hM1
  obtain ⟨c, rfl, hci, hcc⟩ := rc_at hrc
  obtain ⟨na, sa, cv, rv, x1, x2, -⟩ := hRA.rec
  have h64 : rz r ≤ 64 := hWf.len.1
  refine x_astore_n (lv' := [_, _, _, _]) hC dX1_normalize_5 rfl (by decide) rfl ?_
  refine x_iload_n hC dX1_normalize_6 rfl rfl ?_
  refine x_iconst (v := 1) hC dX1_normalize_7 (by decide) ?_
  refine x_sipush (v := 9999) hC dX1_normalize_8 (by decide) ?_
  refine x_callS0 (na := 3) hC (ct_isBetween hG _ _ _ _) (lw_S q641 q642 q81 q643) (by decide +kernel) rfl ⟨Nat.le_of_ble_eq_true rfl, Nat.le_of_ble_eq_true rfl⟩ rfl (Nat.le_of_ble_eq_true rfl) ⟨rfl, rfl⟩ ⟨Nat.le_of_ble_eq_true rfl, Nat.le_of_ble_eq_true rfl⟩ dX1_normalize_11 ?_
  rintro _ M ⟨rfl, rfl⟩
  refine x_qS (k := 2) (n := 12) (na := 1) hC (cq_reqIAE hG _ _) (lw_S q1337 q1338 q81 q1339) (by decide +kernel) rfl ⟨Nat.le_of_ble_eq_true rfl, Nat.le_of_ble_eq_true rfl⟩ rfl (Nat.le_of_ble_eq_true rfl) (Nat.le_of_ble_eq_true rfl) (Nat.le_of_ble_eq_true rfl) ⟨Nat.le_of_ble_eq_true rfl, Nat.le_of_ble_eq_true rfl⟩ dX1_normalize_14 ?_ (fun q9 E9 M9 h9 => x_out hC hx (Nat.le_of_ble_eq_true rfl) (Nat.le_of_ble_eq_true rfl) (by obtain ⟨rfl, rfl, h9⟩ := h9; exact CX.same (k := 1) hR (by unfold opNorm; rw [hrc]; dsimp only [Option.elim]; rw [if_neg h9]; rfl) rfl))
  rintro _ M ⟨rfl, hM1, h9⟩
  subst hM1
  refine x_aload_n hC dX1_normalize_17 rfl rfl ?_
  refine x_callV0 (na := 0) hC (ct_rgreat hG x1 x2 h64) (lw_V q2213 q2214 q2215 q115 q2216) x1 rfl rfl (by decide +kernel) rfl ⟨Nat.le_of_ble_eq_true rfl, Nat.le_of_ble_eq_true rfl⟩ rfl (Nat.le_of_ble_eq_true rfl) ⟨rfl, rfl⟩ ⟨Nat.le_of_ble_eq_true rfl, Nat.le_of_ble_eq_true rfl⟩ dX1_normalize_18 ?_
  rintro _ M ⟨rfl, rfl⟩
  refine x_if_le (tgt := 28) hC dX1_normalize_21 (by decide) (fun d => ?_) (fun d => ?_)
  · have d2 : ¬ 0 < mxA (rg r) (rz r) := Int32.not_lt.mpr d
    refine x_iconst (v := 0) hC dX1_normalize_28 (by decide) ?_
    refine x_qS (k := 3) (n := 18) (na := 1) hC (cq_reqISE hG False _) (lw_S q1306 q1307 q81 q1308) (by decide +kernel) rfl ⟨Nat.le_of_ble_eq_true rfl, Nat.le_of_ble_eq_true rfl⟩ rfl (Nat.le_of_ble_eq_true rfl) (Nat.le_of_ble_eq_true rfl) (Nat.le_of_ble_eq_true rfl) ⟨Nat.le_of_ble_eq_true rfl, Nat.le_of_ble_eq_true rfl⟩ dX1_normalize_29 ?_ (fun q9 E9 M9 h9 => x_out hC hx (Nat.le_of_ble_eq_true rfl) (Nat.le_of_ble_eq_true rfl) (by obtain ⟨rfl, rfl, h8⟩ := h9; exact CX.same (k := 2) hR (by unfold opNorm; rw [hrc]; dsimp only [Option.elim]; rw [if_pos h9, if_neg d2]; rfl) rfl))
    rintro _ M ⟨rfl, rfl, h8⟩
    exact h8.elim
  · have d2 : 0 < mxA (rg r) (rz r) := Int32.not_le.mp d
    have hop : opNorm S (nI c) z = (0, mxA (rg r) (rz r), setS (pushS S) c (mkR r.1 (rz r) (fun k => fdiv (z * rg r k) (mxA (rg r) (rz r))))) := by unfold opNorm; rw [hrc, hcc]; dsimp only [Option.elim]; rw [if_pos h9, if_pos d2]
    have hmx := mxA_i (g := rg r) (n := rz r) hWf.lm
    have d3 : 0 < (mxA (rg r) (rz r)).toInt := by
      have := Int32.lt_iff_toInt_lt.mp d2
      rw [show (0 : Int32).toInt = 0 by decide] at this
      exact this
    have d4 : ¬ mxA (rg r) (rz r) = 0 := fun e => by rw [e] at d2; exact absurd d2 (by decide)
    refine x_iconst (v := 1) hC dX1_normalize_24 (by decide) ?_
    refine x_goto (tgt := 29) hC dX1_normalize_25 (by decide) ?_
    refine x_qS (k := 3) (n := 18) (na := 1) hC (cq_reqISE hG True _) (lw_S q1306 q1307 q81 q1308) (by decide +kernel) rfl ⟨Nat.le_of_ble_eq_true rfl, Nat.le_of_ble_eq_true rfl⟩ rfl (Nat.le_of_ble_eq_true rfl) (Nat.le_of_ble_eq_true rfl) (Nat.le_of_ble_eq_true rfl) ⟨Nat.le_of_ble_eq_true rfl, Nat.le_of_ble_eq_true rfl⟩ dX1_normalize_29 ?_ (fun q9 E9 M9 h9 => x_out hC hx (Nat.le_of_ble_eq_true rfl) (Nat.le_of_ble_eq_true rfl) (by obtain ⟨rfl, rfl, h8⟩ := h9; exact absurd trivial h8))
    rintro _ M ⟨rfl, rfl, h8⟩
    refine x_aload_n hC dX1_normalize_32 rfl rfl ?_
    refine x_iload_n hC dX1_normalize_33 rfl rfl ?_
    refine x_aload_n hC dX1_normalize_34 rfl rfl ?_
    refine x_iload_n hC dX1_normalize_35 rfl rfl ?_
    refine x_callV (k := 4) (n := 82) (na := 1) hC (ct_rnorm hG (g := 3) (by decide) x1 x2 h64 z d4) (lw_V q2218 q2219 q2220 q115 q2221) x1 rfl rfl (by decide +kernel) rfl ⟨Nat.le_of_ble_eq_true rfl, Nat.le_of_ble_eq_true rfl⟩ rfl (Nat.le_of_ble_eq_true rfl) (Nat.le_of_ble_eq_true rfl) (Nat.le_of_ble_eq_true rfl) ⟨Nat.le_of_ble_eq_true rfl, Nat.le_of_ble_eq_true rfl⟩ dX1_normalize_36 ?_
    rintro _ _ ⟨p, u, rfl, hp, rfl, hu⟩
    refine x_frz r.1 _ hp hu (fun M2 hb hF => ?_)
    refine x_callV (k := 29) (n := 303) (na := 2) hC (ct_replaceC hG hT (hR.f3 hF) hci hb (wf_mk hWf hWf.pw (fun k hk => norm_lim h9 d3 hmx.2.1 (hmx.2.2 k hk)))) (lw_V q2098 q2100 qs26 q81 q2101) (hF.z (by decide) ha) rfl rfl (by decide +kernel) rfl ⟨Nat.le_of_ble_eq_true rfl, Nat.le_of_ble_eq_true rfl⟩ rfl (Nat.le_of_ble_eq_true rfl) (Nat.le_of_ble_eq_true rfl) (Nat.le_of_ble_eq_true rfl) ⟨Nat.le_of_ble_eq_true rfl, Nat.le_of_ble_eq_true rfl⟩ dX1_normalize_39 ?_
    rintro _ M3 ⟨rfl, hR3, hF3⟩
    have n2 : ¬ PE 2 := fun z => z.2.1 rfl
    have n0 : ¬ PE 0 := fun z => z.1 rfl
    have x1' := hF3.z n2 (hF.z (by decide) x1)
    refine x_pop hC dX1_normalize_42 rfl ?_
    refine x_aload_n hC dX1_normalize_43 rfl rfl ?_
    refine x_callV0 (na := 0) hC (ct_rgreat hG x1' (hF3.z n0 (hF.z (by decide) x2)) h64) (lw_V q2213 q2214 q2215 q115 q2216) x1' rfl rfl (by decide +kernel) rfl ⟨Nat.le_of_ble_eq_true rfl, Nat.le_of_ble_eq_true rfl⟩ rfl (Nat.le_of_ble_eq_true rfl) ⟨rfl, rfl⟩ ⟨Nat.le_of_ble_eq_true rfl, Nat.le_of_ble_eq_true rfl⟩ dX1_normalize_44 ?_
    rintro _ M ⟨rfl, rfl⟩
    exact x_iret hC hk dX1_normalize_47 (Nat.le_of_ble_eq_true rfl) (Nat.le_of_ble_eq_true rfl) ⟨by rw [hop], by rw [hop], by rw [hop]; exact hR3, pe_pw ((pe3 hF).tr hF3)⟩
theorem cq_reqShort (hG : GOK G) {q n na sa : Nat} {f : Nat → Int32} {cv rv : Value} (h : M q = some (ob 2 3 (reF na sa cv rv))) (hs : M sa = some (ia 0 n f)) (hn : n ≤ 64) : Cq G yX1_requireShort cX1_requireShort 1 none (xrm 3 1 6) [.ref q] M (Pok (n < 64) M) (Pth xISE (n < 64) M) := by
  refine cq_open (lv := [_]) hG (by decide +kernel) (Nat.le_of_ble_eq_true rfl) rfl (fun C hC hk hx => ?_)
  refine x_aload_n hC dX1_requireShort_0 rfl rfl ?_
  refine x_callV0 (na := 0) hC (ct_rlen hG h hs) (lw_V q1558 q1559 q1560 q115 q1561) h rfl rfl (by decide +kernel) rfl ⟨Nat.le_of_ble_eq_true rfl, Nat.le_of_ble_eq_true rfl⟩ rfl (Nat.le_of_ble_eq_true rfl) ⟨rfl, rfl⟩ ⟨Nat.le_of_ble_eq_true rfl, Nat.le_of_ble_eq_true rfl⟩ dX1_requireShort_1 ?_
  rintro _ M ⟨rfl, rfl⟩
  refine x_bipush (v := nI 64) hC dX1_requireShort_4 (by decide) ?_
  refine x_icmp_geN (tgt := 13) hC (by omega) (by omega) dX1_requireShort_6 (by decide) (fun d => ?_) (fun d => ?_)
  · refine x_iconst (v := 0) hC dX1_requireShort_13 (by decide) ?_
    refine x_qS (k := 1) (n := 6) (na := 1) hC (cq_reqISE hG False _) (lw_S q1306 q1307 q81 q1308) (by decide +kernel) rfl ⟨Nat.le_of_ble_eq_true rfl, Nat.le_of_ble_eq_true rfl⟩ rfl (Nat.le_of_ble_eq_true rfl) (Nat.le_of_ble_eq_true rfl) (Nat.le_of_ble_eq_true rfl) ⟨Nat.le_of_ble_eq_true rfl, Nat.le_of_ble_eq_true rfl⟩ dX1_requireShort_14 ?_ (fun q9 E9 M9 h9 => x_out hC hx (Nat.le_of_ble_eq_true rfl) (Nat.le_of_ble_eq_true rfl) (by obtain ⟨rfl, rfl, h8⟩ := h9; exact ⟨rfl, rfl, fun z => by omega⟩))
    rintro _ M ⟨rfl, rfl, h8⟩
    exact h8.elim
  · refine x_iconst (v := 1) hC dX1_requireShort_9 (by decide) ?_
    refine x_goto (tgt := 14) hC dX1_requireShort_10 (by decide) ?_
    refine x_qS (k := 1) (n := 6) (na := 1) hC (cq_reqISE hG True _) (lw_S q1306 q1307 q81 q1308) (by decide +kernel) rfl ⟨Nat.le_of_ble_eq_true rfl, Nat.le_of_ble_eq_true rfl⟩ rfl (Nat.le_of_ble_eq_true rfl) (Nat.le_of_ble_eq_true rfl) (Nat.le_of_ble_eq_true rfl) ⟨Nat.le_of_ble_eq_true rfl, Nat.le_of_ble_eq_true rfl⟩ dX1_requireShort_14 ?_ (fun q9 E9 M9 h9 => x_out hC hx (Nat.le_of_ble_eq_true rfl) (Nat.le_of_ble_eq_true rfl) (by obtain ⟨rfl, rfl, h8⟩ := h9; exact absurd trivial h8))
    rintro _ M ⟨rfl, rfl, h8⟩
    exact x_vret hC hk dX1_requireShort_17 (Nat.le_of_ble_eq_true rfl) (Nat.le_of_ble_eq_true rfl) ⟨rfl, rfl, d⟩
theorem cq_stretch (hG : GOK G) (hT : T0 G T) (hR : CRep S M T a) (x : Int32) : Cq G yX1_stretch cX1_stretch 3 (some .int) (xrm 14 28 297) [.ref a, .int x] M (CO T a (opStretch S x).2.2 (opStretch S x).1 (.int (opStretch S x).2.1) M) (CX T a S (opStretch S x).1 [xIOB, xISE] M) := by
  obtain ⟨vs, ha⟩ := hR.rec
  refine cq_open (lv := [_, _, _]) hG (by decide +kernel) (Nat.le_of_ble_eq_true rfl) rfl (fun C hC hk hx => ?_)
  refine x_aload_n hC dX1_stretch_0 rfl rfl ?_
  refine x_iload_n hC dX1_stretch_1 rfl rfl ?_
  refine x_qV (k := 1) (n := 6) (na := 1) hC (cq_get hG hR _) (lw_V q1534 q1536 qs13 q81 q1537) ha rfl rfl (by decide +kernel) rfl ⟨Nat.le_of_ble_eq_true rfl, Nat.le_of_ble_eq_true rfl⟩ rfl (Nat.le_of_ble_eq_true rfl) (Nat.le_of_ble_eq_true rfl) (Nat.le_of_ble_eq_true rfl) ⟨Nat.le_of_ble_eq_true rfl, Nat.le_of_ble_eq_true rfl⟩ dX1_stretch_2 ?_ (fun q9 E9 M9 h9 => x_out hC hx (Nat.le_of_ble_eq_true rfl) (Nat.le_of_ble_eq_true rfl) (by obtain ⟨rfl, rfl, h9⟩ := h9; exact CX.same (k := 0) hR (by unfold opStretch; rw [Decidable.not_not.mp h9]; rfl) rfl))
  rintro _ M1 ⟨hM1, q, r, hrc, rfl, hRA, hWf⟩
  subst hM1
  obtain ⟨c, rfl, hci, hcc⟩ := rc_at hrc
  obtain ⟨na, sa, cv, rv, x1, x2, -⟩ := hRA.rec
  have h64 : rz r ≤ 64 := hWf.len.1
  have h02 : 2 ≤ rz r := hWf.len.2
  refine x_astore_n (lv' := [_, _, _]) hC dX1_stretch_5 rfl (by decide) rfl ?_
  refine x_aload_n hC dX1_stretch_6 rfl rfl ?_
  refine x_qS (k := 2) (n := 12) (na := 1) hC (cq_reqShort hG x1 x2 h64) (lw_S q2123 q2124 q81 q2125) (by decide +kernel) rfl ⟨Nat.le_of_ble_eq_true rfl, Nat.le_of_ble_eq_true rfl⟩ rfl (Nat.le_of_ble_eq_true rfl) (Nat.le_of_ble_eq_true rfl) (Nat.le_of_ble_eq_true rfl) ⟨Nat.le_of_ble_eq_true rfl, Nat.le_of_ble_eq_true rfl⟩ dX1_stretch_7 ?_ (fun q9 E9 M9 h9 => x_out hC hx (Nat.le_of_ble_eq_true rfl) (Nat.le_of_ble_eq_true rfl) (by obtain ⟨rfl, rfl, h9⟩ := h9; exact CX.same (k := 1) hR (by unfold opStretch; rw [hrc]; dsimp only [Option.elim]; rw [if_neg h9]; rfl) rfl))
  rintro _ M ⟨rfl, hM1, h9⟩
  subst hM1
  have hop : opStretch S (nI c) = (0, nI (2 * rz r), putR S (nI c) (mkR r.1 (2 * rz r) (fun k => rg r (k / 2)))) := by unfold opStretch; rw [hrc]; dsimp only [Option.elim]; rw [if_pos h9]
  dsimp only [putR] at hop
  rw [hcc] at hop
  refine x_aload_n hC dX1_stretch_10 rfl rfl ?_
  refine x_iload_n hC dX1_stretch_11 rfl rfl ?_
  refine x_aload_n hC dX1_stretch_12 rfl rfl ?_
  refine x_callV (k := 3) (n := 76) (na := 0) hC (ct_rstretch hG (g := 3) (by decide) x1 x2 (hWf.dbl h9).2) (lw_V q2241 q2242 q2243 q115 q2244) x1 rfl rfl (by decide +kernel) rfl ⟨Nat.le_of_ble_eq_true rfl, Nat.le_of_ble_eq_true rfl⟩ rfl (Nat.le_of_ble_eq_true rfl) (Nat.le_of_ble_eq_true rfl) (Nat.le_of_ble_eq_true rfl) ⟨Nat.le_of_ble_eq_true rfl, Nat.le_of_ble_eq_true rfl⟩ dX1_stretch_13 ?_
  rintro _ _ ⟨p, u, rfl, hp, rfl, hu⟩
  refine x_frz r.1 _ hp hu (fun M2 hb hF => ?_)
  refine x_callV (k := 28) (n := 297) (na := 2) hC (ct_replaceC hG hT (hR.f3 hF) hci hb (wf_mk hWf (hWf.dbl h9).1 (fun k hk => hWf.lm _ (by omega)))) (lw_V q2098 q2100 qs26 q81 q2101) (hF.z (by decide) ha) rfl rfl (by decide +kernel) rfl ⟨Nat.le_of_ble_eq_true rfl, Nat.le_of_ble_eq_true rfl⟩ rfl (Nat.le_of_ble_eq_true rfl) (Nat.le_of_ble_eq_true rfl) (Nat.le_of_ble_eq_true rfl) ⟨Nat.le_of_ble_eq_true rfl, Nat.le_of_ble_eq_true rfl⟩ dX1_stretch_16 ?_
  rintro _ M3 ⟨rfl, hR3, hF3⟩
  exact x_iret hC hk dX1_stretch_19 (Nat.le_of_ble_eq_true rfl) (Nat.le_of_ble_eq_true rfl) ⟨by rw [hop], by rw [hop]; exact congrArg (fun z => some (Value.int z)) (chg_mk2 (by omega)), by rw [hop]; exact hR3, pe_pw ((pe3 hF).tr hF3)⟩
theorem cq_fold (hG : GOK G) (hT : T0 G T) (hR : CRep S M T a) (x : Int32) : Cq G yX1_fold cX1_fold 3 (some .int) (xrm 14 28 297) [.ref a, .int x] M (CO T a (opFold S x).2.2 (opFold S x).1 (.int (opFold S x).2.1) M) (CX T a S (opFold S x).1 [xIOB, xISE] M) := by
  obtain ⟨vs, ha⟩ := hR.rec
  refine cq_open (lv := [_, _, _]) hG (by decide +kernel) (Nat.le_of_ble_eq_true rfl) rfl (fun C hC hk hx => ?_)
  refine x_aload_n hC dX1_fold_0 rfl rfl ?_
  refine x_iload_n hC dX1_fold_1 rfl rfl ?_
  refine x_qV (k := 1) (n := 6) (na := 1) hC (cq_get hG hR _) (lw_V q1534 q1536 qs13 q81 q1537) ha rfl rfl (by decide +kernel) rfl ⟨Nat.le_of_ble_eq_true rfl, Nat.le_of_ble_eq_true rfl⟩ rfl (Nat.le_of_ble_eq_true rfl) (Nat.le_of_ble_eq_true rfl) (Nat.le_of_ble_eq_true rfl) ⟨Nat.le_of_ble_eq_true rfl, Nat.le_of_ble_eq_true rfl⟩ dX1_fold_2 ?_ (fun q9 E9 M9 h9 => x_out hC hx (Nat.le_of_ble_eq_true rfl) (Nat.le_of_ble_eq_true rfl) (by obtain ⟨rfl, rfl, h9⟩ := h9; exact CX.same (k := 0) hR (by unfold opFold; rw [Decidable.not_not.mp h9]; rfl) rfl))
  rintro _ M1 ⟨hM1, q, r, hrc, rfl, hRA, hWf⟩
  subst hM1
  obtain ⟨c, rfl, hci, hcc⟩ := rc_at hrc
  obtain ⟨na, sa, cv, rv, x1, x2, -⟩ := hRA.rec
  have h64 : rz r ≤ 64 := hWf.len.1
  refine x_astore_n (lv' := [_, _, _]) hC dX1_fold_5 rfl (by decide) rfl ?_
  refine x_aload_n hC dX1_fold_6 rfl rfl ?_
  refine x_callV0 (na := 0) hC (ct_rlen hG x1 x2) (lw_V q1558 q1559 q1560 q115 q1561) x1 rfl rfl (by decide +kernel) rfl ⟨Nat.le_of_ble_eq_true rfl, Nat.le_of_ble_eq_true rfl⟩ rfl (Nat.le_of_ble_eq_true rfl) ⟨rfl, rfl⟩ ⟨Nat.le_of_ble_eq_true rfl, Nat.le_of_ble_eq_true rfl⟩ dX1_fold_7 ?_
  rintro _ M ⟨rfl, rfl⟩
  refine x_iconst (v := nI 2) hC dX1_fold_10 (by decide) ?_
  refine x_icmp_leN (tgt := 18) hC (by omega) (by omega) dX1_fold_11 (by decide) (fun d => ?_) (fun d => ?_)
  · refine x_iconst (v := 0) hC dX1_fold_18 (by decide) ?_
    refine x_qS (k := 2) (n := 12) (na := 1) hC (cq_reqISE hG False _) (lw_S q1306 q1307 q81 q1308) (by decide +kernel) rfl ⟨Nat.le_of_ble_eq_true rfl, Nat.le_of_ble_eq_true rfl⟩ rfl (Nat.le_of_ble_eq_true rfl) (Nat.le_of_ble_eq_true rfl) (Nat.le_of_ble_eq_true rfl) ⟨Nat.le_of_ble_eq_true rfl, Nat.le_of_ble_eq_true rfl⟩ dX1_fold_19 ?_ (fun q9 E9 M9 h9 => x_out hC hx (Nat.le_of_ble_eq_true rfl) (Nat.le_of_ble_eq_true rfl) (by obtain ⟨rfl, rfl, h8⟩ := h9; exact CX.same (k := 1) hR (by unfold opFold; rw [hrc]; dsimp only [Option.elim]; rw [if_neg (by omega)]; rfl) rfl))
    rintro _ M ⟨rfl, rfl, h8⟩
    exact h8.elim
  · have hop : opFold S (nI c) = (0, nI (rz r / 2), putR S (nI c) (mkR r.1 (rz r / 2) (fun k => fdiv (rg r k + rg r (rz r / 2 + k)) 2))) := by unfold opFold; rw [hrc]; dsimp only [Option.elim]; rw [if_pos d]
    dsimp only [putR] at hop
    rw [hcc] at hop
    have hh := hWf.hlf d
    refine x_iconst (v := 1) hC dX1_fold_14 (by decide) ?_
    refine x_goto (tgt := 19) hC dX1_fold_15 (by decide) ?_
    refine x_qS (k := 2) (n := 12) (na := 1) hC (cq_reqISE hG True _) (lw_S q1306 q1307 q81 q1308) (by decide +kernel) rfl ⟨Nat.le_of_ble_eq_true rfl, Nat.le_of_ble_eq_true rfl⟩ rfl (Nat.le_of_ble_eq_true rfl) (Nat.le_of_ble_eq_true rfl) (Nat.le_of_ble_eq_true rfl) ⟨Nat.le_of_ble_eq_true rfl, Nat.le_of_ble_eq_true rfl⟩ dX1_fold_19 ?_ (fun q9 E9 M9 h9 => x_out hC hx (Nat.le_of_ble_eq_true rfl) (Nat.le_of_ble_eq_true rfl) (by obtain ⟨rfl, rfl, h8⟩ := h9; exact absurd trivial h8))
    rintro _ M ⟨rfl, rfl, h8⟩
    refine x_aload_n hC dX1_fold_22 rfl rfl ?_
    refine x_iload_n hC dX1_fold_23 rfl rfl ?_
    refine x_aload_n hC dX1_fold_24 rfl rfl ?_
    refine x_callV (k := 3) (n := 76) (na := 0) hC (ct_rfold hG (g := 3) (by decide) x1 x2 h64) (lw_V q2253 q2254 q2255 q115 q2256) x1 rfl rfl (by decide +kernel) rfl ⟨Nat.le_of_ble_eq_true rfl, Nat.le_of_ble_eq_true rfl⟩ rfl (Nat.le_of_ble_eq_true rfl) (Nat.le_of_ble_eq_true rfl) (Nat.le_of_ble_eq_true rfl) ⟨Nat.le_of_ble_eq_true rfl, Nat.le_of_ble_eq_true rfl⟩ dX1_fold_25 ?_
    rintro _ _ ⟨p, u, rfl, hp, rfl, hu⟩
    refine x_frz r.1 _ hp hu (fun M2 hb hF => ?_)
    refine x_callV (k := 28) (n := 297) (na := 2) hC (ct_replaceC hG hT (hR.f3 hF) hci hb (wf_mk hWf hh.1 (fun k hk => half_lim (hWf.lm _ (by omega)) (hWf.lm _ (by omega))))) (lw_V q2098 q2100 qs26 q81 q2101) (hF.z (by decide) ha) rfl rfl (by decide +kernel) rfl ⟨Nat.le_of_ble_eq_true rfl, Nat.le_of_ble_eq_true rfl⟩ rfl (Nat.le_of_ble_eq_true rfl) (Nat.le_of_ble_eq_true rfl) (Nat.le_of_ble_eq_true rfl) ⟨Nat.le_of_ble_eq_true rfl, Nat.le_of_ble_eq_true rfl⟩ dX1_fold_28 ?_
    rintro _ M3 ⟨rfl, hR3, hF3⟩
    exact x_iret hC hk dX1_fold_31 (Nat.le_of_ble_eq_true rfl) (Nat.le_of_ble_eq_true rfl) ⟨by rw [hop], by rw [hop]; exact congrArg (fun z => some (Value.int z)) (chg_mk2 (by omega)), by rw [hop]; exact hR3, pe_pw ((pe3 hF).tr hF3)⟩
theorem cq_appendRecording (hG : GOK G) (hT : T0 G T) (hR : CRep S M T a) (x z : Int32) : Cq G yX1_appendRecording cX1_appendRecording 4 (some .int) (xrm 14 31 315) [.ref a, .int x, .int z] M (CO T a (opAppR S x z).2.2 (opAppR S x z).1 (.int (opAppR S x z).2.1) M) (CX T a S (opAppR S x z).1 [xIOB, xIAE, xISE] M) := by
  obtain ⟨vs, ha⟩ := hR.rec
  refine cq_open (lv := [_, _, _, _]) hG (by decide +kernel) (Nat.le_of_ble_eq_true rfl) rfl (fun C hC hk hx => ?_)
  refine x_aload_n hC dX1_appendRecording_0 rfl rfl ?_
  refine x_iload_n hC dX1_appendRecording_1 rfl rfl ?_
  refine x_iload_n hC dX1_appendRecording_2 rfl rfl ?_
  refine x_qV (k := 3) (n := 18) (na := 2) hC (cq_getSameLength hG hR _ _) (lw_V q1857 q1859 qs18 q81 q1860) ha rfl rfl (by decide +kernel) rfl ⟨Nat.le_of_ble_eq_true rfl, Nat.le_of_ble_eq_true rfl⟩ rfl (Nat.le_of_ble_eq_true rfl) (Nat.le_of_ble_eq_true rfl) (Nat.le_of_ble_eq_true rfl) ⟨Nat.le_of_ble_eq_true rfl, Nat.le_of_ble_eq_true rfl⟩ dX1_appendRecording_3 ?_ (fun q9 E9 M9 h9 => x_out hC hx (Nat.le_of_ble_eq_true rfl) (Nat.le_of_ble_eq_true rfl) (by obtain h9 := h9; exact CX.gs hR h9 (fun h => by unfold opAppR; rw [h]; rfl) (fun r s h h2 => by unfold opAppR; rw [h]; dsimp only [Option.elim]; rw [if_neg h2])))
  rintro _ M1 ⟨hM1, p, q0, r, s, hrc, hrs, hrz, rfl, hP0, hRA0, hWfr, hWfs⟩
  subst hM1
  obtain ⟨na', sa', cv', rv', y1, y2, -⟩ := hRA0.rec
  rw [← hrz] at y2
  have h64 : rz r ≤ 64 := hWfr.len.1
  have h02 : 2 ≤ rz r := hWfr.len.2
  refine x_astore_n (lv' := [_, _, _, _]) hC dX1_appendRecording_6 rfl (by decide) rfl ?_
  refine x_aload_n hC dX1_appendRecording_7 rfl rfl ?_
  refine x_qS (k := 4) (n := 24) (na := 1) hC (cq_reqShort hG y1 y2 h64) (lw_S q2123 q2124 q81 q2125) (by decide +kernel) rfl ⟨Nat.le_of_ble_eq_true rfl, Nat.le_of_ble_eq_true rfl⟩ rfl (Nat.le_of_ble_eq_true rfl) (Nat.le_of_ble_eq_true rfl) (Nat.le_of_ble_eq_true rfl) ⟨Nat.le_of_ble_eq_true rfl, Nat.le_of_ble_eq_true rfl⟩ dX1_appendRecording_8 ?_ (fun q9 E9 M9 h9 => x_out hC hx (Nat.le_of_ble_eq_true rfl) (Nat.le_of_ble_eq_true rfl) (by obtain ⟨rfl, rfl, h9⟩ := h9; exact CX.same (k := 2) hR (by unfold opAppR; rw [rc2_some hrc hrs]; dsimp only [Option.elim]; rw [if_pos hrz, if_neg h9]; rfl) rfl))
  rintro _ M ⟨rfl, hM1, h9⟩
  subst hM1
  have hop : opAppR S x z = (0, nI (2 * rz r), putR S x (mkR r.1 (2 * rz r) (fun k => if k < rz r then rg r k else rg s (k - rz r)))) := by unfold opAppR; rw [rc2_some hrc hrs]; dsimp only [Option.elim]; rw [if_pos hrz, if_pos h9]
  refine x_aload_n hC dX1_appendRecording_11 rfl rfl ?_
  refine x_iload_n hC dX1_appendRecording_12 rfl rfl ?_
  refine x_aload_n hC dX1_appendRecording_13 rfl rfl ?_
  refine x_iload_n hC dX1_appendRecording_14 rfl rfl ?_
  refine x_qV (k := 5) (n := 30) (na := 1) hC (cq_get hG hR _) (lw_V q1534 q1536 qs13 q81 q1537) ha rfl rfl (by decide +kernel) rfl ⟨Nat.le_of_ble_eq_true rfl, Nat.le_of_ble_eq_true rfl⟩ rfl (Nat.le_of_ble_eq_true rfl) (Nat.le_of_ble_eq_true rfl) (Nat.le_of_ble_eq_true rfl) ⟨Nat.le_of_ble_eq_true rfl, Nat.le_of_ble_eq_true rfl⟩ dX1_appendRecording_15 ?_ (fun q9 E9 M9 h9 => x_out hC hx (Nat.le_of_ble_eq_true rfl) (Nat.le_of_ble_eq_true rfl) (by obtain ⟨rfl, rfl, h9⟩ := h9; exact (h9 (by rw [hrc]; intro z; cases z)).elim))
  rintro _ M1 ⟨hM1, q, r1, hrc1, rfl, hRA, hWf1⟩
  subst hM1
  rw [hrc] at hrc1
  cases hrc1
  obtain ⟨na, sa, cv, rv, x1, x2, -⟩ := hRA.rec
  obtain ⟨c, rfl, hci, hcc⟩ := rc_at hrc
  dsimp only [putR] at hop
  rw [hcc] at hop
  refine x_aload_n hC dX1_appendRecording_18 rfl rfl ?_
  refine x_callV (k := 6) (n := 94) (na := 1) hC (ct_rfoll hG (g := 3) (by decide) x1 x2 y1 y2 (hWfr.dbl h9).2) (lw_V q2126 q2127 q2128 q115 q2129) x1 rfl rfl (by decide +kernel) rfl ⟨Nat.le_of_ble_eq_true rfl, Nat.le_of_ble_eq_true rfl⟩ rfl (Nat.le_of_ble_eq_true rfl) (Nat.le_of_ble_eq_true rfl) (Nat.le_of_ble_eq_true rfl) ⟨Nat.le_of_ble_eq_true rfl, Nat.le_of_ble_eq_true rfl⟩ dX1_appendRecording_19 ?_
  rintro _ _ ⟨p1, u, rfl, hp, rfl, hu⟩
  refine x_frz r.1 _ hp hu (fun M2 hb hF => ?_)
  have hlm : ∀ k, k < 2 * rz r → lim (if k < rz r then rg r k else rg s (k - rz r)) := fun k hk => by
    split
    · exact hWfr.lm _ (by assumption)
    · exact hWfs.lm _ (by omega)
  refine x_callV (k := 31) (n := 315) (na := 2) hC (ct_replaceC hG hT (hR.f3 hF) hci hb (wf_mk hWfr (hWfr.dbl h9).1 hlm)) (lw_V q2098 q2100 qs26 q81 q2101) (hF.z (by decide) ha) rfl rfl (by decide +kernel) rfl ⟨Nat.le_of_ble_eq_true rfl, Nat.le_of_ble_eq_true rfl⟩ rfl (Nat.le_of_ble_eq_true rfl) (Nat.le_of_ble_eq_true rfl) (Nat.le_of_ble_eq_true rfl) ⟨Nat.le_of_ble_eq_true rfl, Nat.le_of_ble_eq_true rfl⟩ dX1_appendRecording_22 ?_
  rintro _ M3 ⟨rfl, hR3, hF3⟩
  exact x_iret hC hk dX1_appendRecording_25 (Nat.le_of_ble_eq_true rfl) (Nat.le_of_ble_eq_true rfl) ⟨by rw [hop], by rw [hop]; exact congrArg (fun z => some (Value.int z)) (chg_mk2 (by omega)), by rw [hop]; exact hR3, pe_pw ((pe3 hF).tr hF3)⟩
theorem cq_interleave (hG : GOK G) (hT : T0 G T) (hR : CRep S M T a) (x z : Int32) : Cq G yX1_interleave cX1_interleave 4 (some .int) (xrm 14 31 315) [.ref a, .int x, .int z] M (CO T a (opInter S x z).2.2 (opInter S x z).1 (.int (opInter S x z).2.1) M) (CX T a S (opInter S x z).1 [xIOB, xIAE, xISE] M) := by
  obtain ⟨vs, ha⟩ := hR.rec
  refine cq_open (lv := [_, _, _, _]) hG (by decide +kernel) (Nat.le_of_ble_eq_true rfl) rfl (fun C hC hk hx => ?_)
  refine x_aload_n hC dX1_interleave_0 rfl rfl ?_
  refine x_iload_n hC dX1_interleave_1 rfl rfl ?_
  refine x_iload_n hC dX1_interleave_2 rfl rfl ?_
  refine x_qV (k := 3) (n := 18) (na := 2) hC (cq_getSameLength hG hR _ _) (lw_V q1857 q1859 qs18 q81 q1860) ha rfl rfl (by decide +kernel) rfl ⟨Nat.le_of_ble_eq_true rfl, Nat.le_of_ble_eq_true rfl⟩ rfl (Nat.le_of_ble_eq_true rfl) (Nat.le_of_ble_eq_true rfl) (Nat.le_of_ble_eq_true rfl) ⟨Nat.le_of_ble_eq_true rfl, Nat.le_of_ble_eq_true rfl⟩ dX1_interleave_3 ?_ (fun q9 E9 M9 h9 => x_out hC hx (Nat.le_of_ble_eq_true rfl) (Nat.le_of_ble_eq_true rfl) (by obtain h9 := h9; exact CX.gs hR h9 (fun h => by unfold opInter; rw [h]; rfl) (fun r s h h2 => by unfold opInter; rw [h]; dsimp only [Option.elim]; rw [if_neg h2])))
  rintro _ M1 ⟨hM1, p, q0, r, s, hrc, hrs, hrz, rfl, hP0, hRA0, hWfr, hWfs⟩
  subst hM1
  obtain ⟨na', sa', cv', rv', y1, y2, -⟩ := hRA0.rec
  rw [← hrz] at y2
  have h64 : rz r ≤ 64 := hWfr.len.1
  have h02 : 2 ≤ rz r := hWfr.len.2
  refine x_astore_n (lv' := [_, _, _, _]) hC dX1_interleave_6 rfl (by decide) rfl ?_
  refine x_aload_n hC dX1_interleave_7 rfl rfl ?_
  refine x_qS (k := 4) (n := 24) (na := 1) hC (cq_reqShort hG y1 y2 h64) (lw_S q2123 q2124 q81 q2125) (by decide +kernel) rfl ⟨Nat.le_of_ble_eq_true rfl, Nat.le_of_ble_eq_true rfl⟩ rfl (Nat.le_of_ble_eq_true rfl) (Nat.le_of_ble_eq_true rfl) (Nat.le_of_ble_eq_true rfl) ⟨Nat.le_of_ble_eq_true rfl, Nat.le_of_ble_eq_true rfl⟩ dX1_interleave_8 ?_ (fun q9 E9 M9 h9 => x_out hC hx (Nat.le_of_ble_eq_true rfl) (Nat.le_of_ble_eq_true rfl) (by obtain ⟨rfl, rfl, h9⟩ := h9; exact CX.same (k := 2) hR (by unfold opInter; rw [rc2_some hrc hrs]; dsimp only [Option.elim]; rw [if_pos hrz, if_neg h9]; rfl) rfl))
  rintro _ M ⟨rfl, hM1, h9⟩
  subst hM1
  have hop : opInter S x z = (0, nI (2 * rz r), putR S x (mkR r.1 (2 * rz r) (fun k => if k % 2 = 0 then rg r (k / 2) else rg s (k / 2)))) := by unfold opInter; rw [rc2_some hrc hrs]; dsimp only [Option.elim]; rw [if_pos hrz, if_pos h9]
  refine x_aload_n hC dX1_interleave_11 rfl rfl ?_
  refine x_iload_n hC dX1_interleave_12 rfl rfl ?_
  refine x_aload_n hC dX1_interleave_13 rfl rfl ?_
  refine x_iload_n hC dX1_interleave_14 rfl rfl ?_
  refine x_qV (k := 5) (n := 30) (na := 1) hC (cq_get hG hR _) (lw_V q1534 q1536 qs13 q81 q1537) ha rfl rfl (by decide +kernel) rfl ⟨Nat.le_of_ble_eq_true rfl, Nat.le_of_ble_eq_true rfl⟩ rfl (Nat.le_of_ble_eq_true rfl) (Nat.le_of_ble_eq_true rfl) (Nat.le_of_ble_eq_true rfl) ⟨Nat.le_of_ble_eq_true rfl, Nat.le_of_ble_eq_true rfl⟩ dX1_interleave_15 ?_ (fun q9 E9 M9 h9 => x_out hC hx (Nat.le_of_ble_eq_true rfl) (Nat.le_of_ble_eq_true rfl) (by obtain ⟨rfl, rfl, h9⟩ := h9; exact (h9 (by rw [hrc]; intro z; cases z)).elim))
  rintro _ M1 ⟨hM1, q, r1, hrc1, rfl, hRA, hWf1⟩
  subst hM1
  rw [hrc] at hrc1
  cases hrc1
  obtain ⟨na, sa, cv, rv, x1, x2, -⟩ := hRA.rec
  obtain ⟨c, rfl, hci, hcc⟩ := rc_at hrc
  dsimp only [putR] at hop
  rw [hcc] at hop
  refine x_aload_n hC dX1_interleave_18 rfl rfl ?_
  refine x_callV (k := 6) (n := 94) (na := 1) hC (ct_rinter hG (g := 3) (by decide) x1 x2 y1 y2 (hWfr.dbl h9).2) (lw_V q2230 q2231 q2232 q115 q2233) x1 rfl rfl (by decide +kernel) rfl ⟨Nat.le_of_ble_eq_true rfl, Nat.le_of_ble_eq_true rfl⟩ rfl (Nat.le_of_ble_eq_true rfl) (Nat.le_of_ble_eq_true rfl) (Nat.le_of_ble_eq_true rfl) ⟨Nat.le_of_ble_eq_true rfl, Nat.le_of_ble_eq_true rfl⟩ dX1_interleave_19 ?_
  rintro _ _ ⟨p1, u, rfl, hp, rfl, hu⟩
  refine x_frz r.1 _ hp hu (fun M2 hb hF => ?_)
  have hlm : ∀ k, k < 2 * rz r → lim (if k % 2 = 0 then rg r (k / 2) else rg s (k / 2)) := fun k hk => by
    split
    · exact hWfr.lm _ (by omega)
    · exact hWfs.lm _ (by omega)
  refine x_callV (k := 31) (n := 315) (na := 2) hC (ct_replaceC hG hT (hR.f3 hF) hci hb (wf_mk hWfr (hWfr.dbl h9).1 hlm)) (lw_V q2098 q2100 qs26 q81 q2101) (hF.z (by decide) ha) rfl rfl (by decide +kernel) rfl ⟨Nat.le_of_ble_eq_true rfl, Nat.le_of_ble_eq_true rfl⟩ rfl (Nat.le_of_ble_eq_true rfl) (Nat.le_of_ble_eq_true rfl) (Nat.le_of_ble_eq_true rfl) ⟨Nat.le_of_ble_eq_true rfl, Nat.le_of_ble_eq_true rfl⟩ dX1_interleave_22 ?_
  rintro _ M3 ⟨rfl, hR3, hF3⟩
  exact x_iret hC hk dX1_interleave_25 (Nat.le_of_ble_eq_true rfl) (Nat.le_of_ble_eq_true rfl) ⟨by rw [hop], by rw [hop]; exact congrArg (fun z => some (Value.int z)) (chg_mk2 (by omega)), by rw [hop]; exact hR3, pe_pw ((pe3 hF).tr hF3)⟩
theorem cq_addRecording (hG : GOK G) (hT : T0 G T) (hR : CRep S M T a) (x z w : Int32) : Cq G yX1_addRecording cX1_addRecording 9 (some .int) (xrm 14 31 315) [.ref a, .int x, .int z, .int w] M (CO T a (opAdd S x z w).2.2 (opAdd S x z w).1 (.int (opAdd S x z w).2.1) M) (CX T a S (opAdd S x z w).1 [xIOB, xIAE] M) := by
  obtain ⟨vs, ha⟩ := hR.rec
  refine cq_open (lv := [_, _, _, _, _, _, _, _, _]) hG (by decide +kernel) (Nat.le_of_ble_eq_true rfl) rfl (fun C hC hk hx => ?_)
  refine x_aload_n hC dX1_addRecording_0 rfl rfl ?_
  refine x_iload_n hC dX1_addRecording_1 rfl rfl ?_
  refine x_iload_n hC dX1_addRecording_2 rfl rfl ?_
  refine x_qV (k := 3) (n := 18) (na := 2) hC (cq_getSameLength hG hR _ _) (lw_V q1857 q1859 qs18 q81 q1860) ha rfl rfl (by decide +kernel) rfl ⟨Nat.le_of_ble_eq_true rfl, Nat.le_of_ble_eq_true rfl⟩ rfl (Nat.le_of_ble_eq_true rfl) (Nat.le_of_ble_eq_true rfl) (Nat.le_of_ble_eq_true rfl) ⟨Nat.le_of_ble_eq_true rfl, Nat.le_of_ble_eq_true rfl⟩ dX1_addRecording_3 ?_ (fun q9 E9 M9 h9 => x_out hC hx (Nat.le_of_ble_eq_true rfl) (Nat.le_of_ble_eq_true rfl) (by obtain h9 := h9; exact CX.gs hR h9 (fun h => by unfold opAdd; rw [h]; rfl) (fun r s h h2 => by unfold opAdd; rw [h]; dsimp only [Option.elim]; rw [if_neg (fun u => h2 u.1)])))
  rintro _ M1 ⟨hM1, p, q0, r, s, hrc, hrs, hrz, rfl, hP0, hRA0, hWfr, hWfs⟩
  subst hM1
  obtain ⟨na', sa', cv', rv', y1, y2, -⟩ := hRA0.rec
  have h64 : rz r ≤ 64 := hWfr.len.1
  refine x_astore (lv' := [_, _, _, _, _, _, _, _, _]) hC dX1_addRecording_6 (by decide) rfl ?_
  refine x_iload_n hC dX1_addRecording_8 rfl rfl ?_
  refine x_bipush (v := -9) hC dX1_addRecording_9 (by decide) ?_
  refine x_bipush (v := 9) hC dX1_addRecording_11 (by decide) ?_
  refine x_callS0 (na := 3) hC (ct_isBetween hG _ _ _ _) (lw_S q641 q642 q81 q643) (by decide +kernel) rfl ⟨Nat.le_of_ble_eq_true rfl, Nat.le_of_ble_eq_true rfl⟩ rfl (Nat.le_of_ble_eq_true rfl) ⟨rfl, rfl⟩ ⟨Nat.le_of_ble_eq_true rfl, Nat.le_of_ble_eq_true rfl⟩ dX1_addRecording_13 ?_
  rintro _ M ⟨rfl, rfl⟩
  refine x_qS (k := 4) (n := 24) (na := 1) hC (cq_reqIAE hG _ _) (lw_S q1337 q1338 q81 q1339) (by decide +kernel) rfl ⟨Nat.le_of_ble_eq_true rfl, Nat.le_of_ble_eq_true rfl⟩ rfl (Nat.le_of_ble_eq_true rfl) (Nat.le_of_ble_eq_true rfl) (Nat.le_of_ble_eq_true rfl) ⟨Nat.le_of_ble_eq_true rfl, Nat.le_of_ble_eq_true rfl⟩ dX1_addRecording_16 ?_ (fun q9 E9 M9 h9 => x_out hC hx (Nat.le_of_ble_eq_true rfl) (Nat.le_of_ble_eq_true rfl) (by obtain ⟨rfl, rfl, h9⟩ := h9; exact CX.same (k := 1) hR (by unfold opAdd; rw [rc2_some hrc hrs]; dsimp only [Option.elim]; rw [if_neg (fun u => h9 u.2)]; rfl) rfl))
  rintro _ M ⟨rfl, hM1, h9⟩
  subst hM1
  have hop : opAdd S x z w = (0, iS (fun k => xB (¬ rg r k + w * rg s k = clip (rg r k + w * rg s k))) (rz r), putR S x (mkR r.1 (rz r) (fun k => clip (rg r k + w * rg s k)))) := by unfold opAdd; rw [rc2_some hrc hrs]; dsimp only [Option.elim]; rw [if_pos ⟨hrz, h9⟩]
  refine x_aload_n hC dX1_addRecording_19 rfl rfl ?_
  refine x_iload_n hC dX1_addRecording_20 rfl rfl ?_
  refine x_qV (k := 5) (n := 30) (na := 1) hC (cq_get hG hR _) (lw_V q1534 q1536 qs13 q81 q1537) ha rfl rfl (by decide +kernel) rfl ⟨Nat.le_of_ble_eq_true rfl, Nat.le_of_ble_eq_true rfl⟩ rfl (Nat.le_of_ble_eq_true rfl) (Nat.le_of_ble_eq_true rfl) (Nat.le_of_ble_eq_true rfl) ⟨Nat.le_of_ble_eq_true rfl, Nat.le_of_ble_eq_true rfl⟩ dX1_addRecording_21 ?_ (fun q9 E9 M9 h9 => x_out hC hx (Nat.le_of_ble_eq_true rfl) (Nat.le_of_ble_eq_true rfl) (by obtain ⟨rfl, rfl, h9⟩ := h9; exact (h9 (by rw [hrc]; intro z; cases z)).elim))
  rintro _ M1 ⟨hM1, q, r1, hrc1, rfl, hRA, hWf1⟩
  subst hM1
  rw [hrc] at hrc1
  cases hrc1
  obtain ⟨na, sa, cv, rv, x1, x2, -⟩ := hRA.rec
  obtain ⟨c, rfl, hci, hcc⟩ := rc_at hrc
  dsimp only [putR] at hop
  rw [hcc] at hop
  refine x_callVN (k := 6) (n := 94) (na := 0) hC (ct_copyS hG (g := 3) (by decide) x1 x2 h64) q1720 q1719 qs15 q115 q2031 (x1) rfl rfl (by decide +kernel) rfl ⟨Nat.le_of_ble_eq_true rfl, Nat.le_of_ble_eq_true rfl⟩ rfl (Nat.le_of_ble_eq_true rfl) (Nat.le_of_ble_eq_true rfl) (Nat.le_of_ble_eq_true rfl) ⟨Nat.le_of_ble_eq_true rfl, Nat.le_of_ble_eq_true rfl⟩ dX1_addRecording_24 ?_
  rintro _ _ ⟨p1, u0, rfl, hp, rfl, hu0⟩
  refine x_astore (lv' := [_, _, _, _, _, _, _, _, _]) hC dX1_addRecording_27 (by decide) rfl ?_
  refine x_iconst (v := 0) hC dX1_addRecording_29 (by decide) ?_
  refine x_istore (lv' := [_, _, _, _, _, _, _, _, _]) hC dX1_addRecording_30 (by decide) rfl ?_
  refine x_iconst (v := nI 0) hC dX1_addRecording_32 (by decide) ?_
  refine x_istore (lv' := [_, _, _, _, _, _, _, _, _]) hC dX1_addRecording_33 (by decide) rfl ?_
  refine x_up (n := rz r) (I := fun k => ∀ u w8, (∀ l, l < rz r → u l = if l < k then clip (rg r l + w * rg s l) else rg r l) → Wg G C (mu M1 p1 (ia 3 (rz r) u)) 6 94 35 [some (.ref a), some (.int (nI c)), some (.int z), some (.int w), some (.ref q0), some (.ref p1), some (.int (iS (fun k => xB (¬ rg r k + w * rg s k = clip (rg r k + w * rg s k))) k)), some (.int (nI k)), w8] []) (fun k hk2 ih u w8 hu => ?_) 0 (Nat.zero_le _) u0 none (fun l hl => by rw [if_neg (Nat.not_lt_zero _)]; exact hu0 l hl)
  refine x_iload hC dX1_addRecording_35 rfl ?_
  refine x_aload hC dX1_addRecording_37 rfl ?_
  refine x_alen hC mu_s dX1_addRecording_39 ?_
  dsimp only
  refine x_icmp_geN (tgt := 90) hC (by omega) (by omega) dX1_addRecording_40 (by decide) (fun d => ?_) (fun d => ?_)
  · have hu2 : ∀ l, l < rz r → u l = clip (rg r l + w * rg s l) := fun l hl => by rw [hu l hl, if_pos (by omega)]
    refine x_frz r.1 _ hp hu2 (fun M2 hb hF => ?_)
    refine x_aload_n hC dX1_addRecording_90 rfl rfl ?_
    refine x_iload_n hC dX1_addRecording_91 rfl rfl ?_
    refine x_aload hC dX1_addRecording_92 rfl ?_
    refine x_callV (k := 31) (n := 315) (na := 2) hC (ct_replaceC hG hT (hR.f3 hF) hci hb (wf_mk hWfr hWfr.pw (fun k hk => clip_lim _))) (lw_V q2098 q2100 qs26 q81 q2101) (hF.z (by decide) ha) rfl rfl (by decide +kernel) rfl ⟨Nat.le_of_ble_eq_true rfl, Nat.le_of_ble_eq_true rfl⟩ rfl (Nat.le_of_ble_eq_true rfl) (Nat.le_of_ble_eq_true rfl) (Nat.le_of_ble_eq_true rfl) ⟨Nat.le_of_ble_eq_true rfl, Nat.le_of_ble_eq_true rfl⟩ dX1_addRecording_94 ?_
    rintro _ M3 ⟨rfl, hR3, hF3⟩
    refine x_pop hC dX1_addRecording_97 rfl ?_
    refine x_iload hC dX1_addRecording_98 rfl ?_
    exact x_iret hC hk dX1_addRecording_100 (Nat.le_of_ble_eq_true rfl) (Nat.le_of_ble_eq_true rfl) ⟨by rw [hop], by rw [hop, show k = rz r by omega], by rw [hop]; exact hR3, pe_pw ((pe3 hF).tr hF3)⟩
  · have y1' := mu_f (e := ia 3 (rz r) u) hp y1
    have y2' := mu_f (e := ia 3 (rz r) u) hp y2
    have ih2 := ih d
    rw [show iS (fun k => xB (¬ rg r k + w * rg s k = clip (rg r k + w * rg s k))) (k + 1) = iS (fun k => xB (¬ rg r k + w * rg s k = clip (rg r k + w * rg s k))) k + xB (¬ rg r k + w * rg s k = clip (rg r k + w * rg s k)) from rfl] at ih2
    have huk : u k = rg r k := by rw [hu k d, if_neg (Nat.lt_irrefl k)]
    have hu3 : ∀ l, l < rz r → upd u k (clip (rg r k + w * rg s k)) l = if l < k + 1 then clip (rg r l + w * rg s l) else rg r l := fun l hl => by
      rcases Nat.decEq l k with e | e
      · rw [upd_n e, hu l hl]
        by_cases h : l < k
        · rw [if_pos h, if_pos (by omega)]
        · rw [if_neg h, if_neg (by omega)]
      · rw [e, upd_s, if_pos (Nat.lt_succ_self k)]
    refine x_aload hC dX1_addRecording_43 rfl ?_
    refine x_iload hC dX1_addRecording_45 rfl ?_
    refine x_ialdN hC mu_s d (by first | decide | omega) dX1_addRecording_47 ?_
    rw [huk]
    refine x_iload_n hC dX1_addRecording_48 rfl rfl ?_
    refine x_aload hC dX1_addRecording_49 rfl ?_
    refine x_getN hC 1 y1' rfl (by decide) q1488 rfl rfl dX1_addRecording_51 ?_
    refine x_iload hC dX1_addRecording_54 rfl ?_
    refine x_ialdN hC y2' (by omega) (by first | decide | omega) dX1_addRecording_56 ?_
    refine x_imul hC dX1_addRecording_57 ?_
    refine x_iadd hC dX1_addRecording_58 ?_
    refine x_istore (lv' := [_, _, _, _, _, _, _, _, _]) hC dX1_addRecording_59 (by decide) rfl ?_
    refine x_aload hC dX1_addRecording_61 rfl ?_
    refine x_iload hC dX1_addRecording_63 rfl ?_
    refine x_iload hC dX1_addRecording_65 rfl ?_
    refine x_callS0 (na := 1) hC (ct_limited hG _ _) (lw_S q2115 q1949 q81 q1950) (by decide +kernel) rfl ⟨Nat.le_of_ble_eq_true rfl, Nat.le_of_ble_eq_true rfl⟩ rfl (Nat.le_of_ble_eq_true rfl) ⟨rfl, rfl⟩ ⟨Nat.le_of_ble_eq_true rfl, Nat.le_of_ble_eq_true rfl⟩ dX1_addRecording_67 ?_
    rintro _ M ⟨rfl, rfl⟩
    refine x_iastN hC mu_s (by first | decide | assumption) d (by first | decide | omega) dX1_addRecording_70 ?_
    rw [mu_mu]
    refine x_aload hC dX1_addRecording_71 rfl ?_
    refine x_iload hC dX1_addRecording_73 rfl ?_
    refine x_ialdN hC mu_s d (by first | decide | omega) dX1_addRecording_75 ?_
    rw [upd_s]
    refine x_iload hC dX1_addRecording_76 rfl ?_
    refine x_icmp_eq (tgt := 84) hC dX1_addRecording_78 (by decide) (fun e => ?_) (fun e => ?_)
    · rw [xB_f (fun z => z e.symm), Int32.add_zero] at ih2
      refine x_iincN (lv' := [_, _, _, _, _, _, _, _, _]) (b := 1) hC dX1_addRecording_84 rfl (by decide) (by decide) rfl ?_
      refine x_goto (tgt := 35) hC dX1_addRecording_87 (by decide) ?_
      exact ih2 _ _ hu3
    · have e2 : ¬ rg r k + w * rg s k = clip (rg r k + w * rg s k) := fun z => e z.symm
      rw [xB_t e2] at ih2
      refine x_iinc (lv' := [_, _, _, _, _, _, _, _, _]) (v := 1) hC dX1_addRecording_81 rfl (by decide) (by decide) rfl ?_
      refine x_iincN (lv' := [_, _, _, _, _, _, _, _, _]) (b := 1) hC dX1_addRecording_84 rfl (by decide) (by decide) rfl ?_
      refine x_goto (tgt := 35) hC dX1_addRecording_87 (by decide) ?_
      exact ih2 _ _ hu3
end ED2

