/-! ===== the component's public methods that only read, second part ===== -/
section PB2
variable {G : X_G} {M : X_M} {T : X_T} {a : Nat} {S : X_S}
theorem cq_reqFun (hG : GOK G) (n x : Int32) (M : X_M) : Cq G yX1_requireFunction cX1_requireFunction 2 none (xrm 3 1 6) [.int n, .int x] M (Pok (isL n ∧ (0 ≤ x ∧ x ≤ n - 1)) M) (Pth xIAE (isL n ∧ (0 ≤ x ∧ x ≤ n - 1)) M) := by
  refine cq_open (lv := [_, _]) hG (by decide +kernel) (Nat.le_of_ble_eq_true rfl) rfl (fun C hC hk hx => ?_)
  refine x_iload_n hC dX1_requireFunction_0 rfl rfl ?_
  refine x_callS0 (na := 1) hC (ct_cisLength hG _ _) (lw_S q1673 q1474 q81 q1475) (by decide +kernel) rfl ⟨Nat.le_of_ble_eq_true rfl, Nat.le_of_ble_eq_true rfl⟩ rfl (Nat.le_of_ble_eq_true rfl) ⟨rfl, rfl⟩ ⟨Nat.le_of_ble_eq_true rfl, Nat.le_of_ble_eq_true rfl⟩ dX1_requireFunction_1 ?_
  rintro _ M ⟨rfl, rfl⟩
  refine x_if_eqB (tgt := 22) hC dX1_requireFunction_4 (by decide) (fun c1 => ?_) (fun c1 => ?_)
  · refine x_iconst (v := 0) hC dX1_requireFunction_22 (by decide) ?_
    refine x_qS (k := 1) (n := 6) (na := 1) hC (cq_reqIAE hG False _) (lw_S q1337 q1338 q81 q1339) (by decide +kernel) rfl ⟨Nat.le_of_ble_eq_true rfl, Nat.le_of_ble_eq_true rfl⟩ rfl (Nat.le_of_ble_eq_true rfl) (Nat.le_of_ble_eq_true rfl) (Nat.le_of_ble_eq_true rfl) ⟨Nat.le_of_ble_eq_true rfl, Nat.le_of_ble_eq_true rfl⟩ dX1_requireFunction_23 ?_ (fun q9 E9 M9 h9 => x_out hC hx (Nat.le_of_ble_eq_true rfl) (Nat.le_of_ble_eq_true rfl) (by obtain ⟨rfl, rfl, h9⟩ := h9; exact ⟨rfl, rfl, fun z => c1 z.1⟩))
    rintro _ M ⟨rfl, rfl, h9⟩
    exact h9.elim
  · refine x_iload_n hC dX1_requireFunction_7 rfl rfl ?_
    refine x_iconst (v := 0) hC dX1_requireFunction_8 (by decide) ?_
    refine x_iload_n hC dX1_requireFunction_9 rfl rfl ?_
    refine x_iconst (v := 1) hC dX1_requireFunction_10 (by decide) ?_
    refine x_isub hC dX1_requireFunction_11 ?_
    refine x_callS0 (na := 3) hC (ct_isBetween hG _ _ _ _) (lw_S q641 q642 q81 q643) (by decide +kernel) rfl ⟨Nat.le_of_ble_eq_true rfl, Nat.le_of_ble_eq_true rfl⟩ rfl (Nat.le_of_ble_eq_true rfl) ⟨rfl, rfl⟩ ⟨Nat.le_of_ble_eq_true rfl, Nat.le_of_ble_eq_true rfl⟩ dX1_requireFunction_12 ?_
    rintro _ M ⟨rfl, rfl⟩
    refine x_if_eqB (tgt := 22) hC dX1_requireFunction_15 (by decide) (fun c2 => ?_) (fun c2 => ?_)
    · refine x_iconst (v := 0) hC dX1_requireFunction_22 (by decide) ?_
      refine x_qS (k := 1) (n := 6) (na := 1) hC (cq_reqIAE hG False _) (lw_S q1337 q1338 q81 q1339) (by decide +kernel) rfl ⟨Nat.le_of_ble_eq_true rfl, Nat.le_of_ble_eq_true rfl⟩ rfl (Nat.le_of_ble_eq_true rfl) (Nat.le_of_ble_eq_true rfl) (Nat.le_of_ble_eq_true rfl) ⟨Nat.le_of_ble_eq_true rfl, Nat.le_of_ble_eq_true rfl⟩ dX1_requireFunction_23 ?_ (fun q9 E9 M9 h9 => x_out hC hx (Nat.le_of_ble_eq_true rfl) (Nat.le_of_ble_eq_true rfl) (by obtain ⟨rfl, rfl, h9⟩ := h9; exact ⟨rfl, rfl, fun z => c2 z.2⟩))
      rintro _ M ⟨rfl, rfl, h9⟩
      exact h9.elim
    · refine x_iconst (v := 1) hC dX1_requireFunction_18 (by decide) ?_
      refine x_goto (tgt := 23) hC dX1_requireFunction_19 (by decide) ?_
      refine x_qS (k := 1) (n := 6) (na := 1) hC (cq_reqIAE hG True _) (lw_S q1337 q1338 q81 q1339) (by decide +kernel) rfl ⟨Nat.le_of_ble_eq_true rfl, Nat.le_of_ble_eq_true rfl⟩ rfl (Nat.le_of_ble_eq_true rfl) (Nat.le_of_ble_eq_true rfl) (Nat.le_of_ble_eq_true rfl) ⟨Nat.le_of_ble_eq_true rfl, Nat.le_of_ble_eq_true rfl⟩ dX1_requireFunction_23 ?_ (fun q9 E9 M9 h9 => x_out hC hx (Nat.le_of_ble_eq_true rfl) (Nat.le_of_ble_eq_true rfl) (by obtain ⟨rfl, rfl, h9⟩ := h9; exact absurd trivial h9))
      rintro _ M ⟨rfl, rfl, h9⟩
      exact x_vret hC hk dX1_requireFunction_26 (Nat.le_of_ble_eq_true rfl) (Nat.le_of_ble_eq_true rfl) ⟨rfl, rfl, c1, c2⟩
theorem cq_walsh (hG : GOK G) (hR : CRep S M T a) (n x z : Int32) : Cq G yX1_walsh cX1_walsh 4 (some .int) (xrm 8 2 12) [.ref a, .int n, .int x, .int z] M (CO T a S (opWalsh n x z).1 (.int (opWalsh n x z).2) M) (CX T a S (opWalsh n x z).1 [xIAE] M) := by
  refine cq_open (lv := [_, _, _, _]) hG (by decide +kernel) (Nat.le_of_ble_eq_true rfl) rfl (fun C hC hk hx => ?_)
  refine x_iload_n hC dX1_walsh_0 rfl rfl ?_
  refine x_iload_n hC dX1_walsh_1 rfl rfl ?_
  refine x_qS (k := 1) (n := 6) (na := 2) hC (cq_reqFun hG n x _) (lw_S q1670 q1671 q81 q1672) (by decide +kernel) rfl ⟨Nat.le_of_ble_eq_true rfl, Nat.le_of_ble_eq_true rfl⟩ rfl (Nat.le_of_ble_eq_true rfl) (Nat.le_of_ble_eq_true rfl) (Nat.le_of_ble_eq_true rfl) ⟨Nat.le_of_ble_eq_true rfl, Nat.le_of_ble_eq_true rfl⟩ dX1_walsh_2 ?_ (fun q9 E9 M9 h9 => x_out hC hx (Nat.le_of_ble_eq_true rfl) (Nat.le_of_ble_eq_true rfl) (by obtain ⟨rfl, rfl, h9⟩ := h9; exact CX.same (k := 0) hR (by unfold opWalsh; rw [if_neg (fun u => h9 ⟨u.1, u.2.1⟩)]; rfl) rfl))
  rintro _ M ⟨rfl, rfl, h1⟩
  refine x_iload_n hC dX1_walsh_5 rfl rfl ?_
  refine x_iload_n hC dX1_walsh_6 rfl rfl ?_
  refine x_qS (k := 2) (n := 12) (na := 2) hC (cq_reqFun hG n z _) (lw_S q1670 q1671 q81 q1672) (by decide +kernel) rfl ⟨Nat.le_of_ble_eq_true rfl, Nat.le_of_ble_eq_true rfl⟩ rfl (Nat.le_of_ble_eq_true rfl) (Nat.le_of_ble_eq_true rfl) (Nat.le_of_ble_eq_true rfl) ⟨Nat.le_of_ble_eq_true rfl, Nat.le_of_ble_eq_true rfl⟩ dX1_walsh_7 ?_ (fun q9 E9 M9 h9 => x_out hC hx (Nat.le_of_ble_eq_true rfl) (Nat.le_of_ble_eq_true rfl) (by obtain ⟨rfl, rfl, h9⟩ := h9; exact CX.same (k := 0) hR (by unfold opWalsh; rw [if_neg (fun u => h9 ⟨u.1, u.2.2⟩)]; rfl) rfl))
  rintro _ M ⟨rfl, rfl, h2⟩
  have hop : opWalsh n x z = (0, sg x z) := by unfold opWalsh; rw [if_pos ⟨h1.1, h1.2, h2.2⟩]
  refine x_iload_n hC dX1_walsh_10 rfl rfl ?_
  refine x_iload_n hC dX1_walsh_11 rfl rfl ?_
  refine x_callS0 (na := 2) hC (ct_value hG _ _ _) (lw_S q1674 q1675 q123 q1676) (by decide +kernel) rfl ⟨Nat.le_of_ble_eq_true rfl, Nat.le_of_ble_eq_true rfl⟩ rfl (Nat.le_of_ble_eq_true rfl) ⟨rfl, rfl⟩ ⟨Nat.le_of_ble_eq_true rfl, Nat.le_of_ble_eq_true rfl⟩ dX1_walsh_12 ?_
  rintro _ M ⟨rfl, rfl⟩
  exact x_iret hC hk dX1_walsh_15 (Nat.le_of_ble_eq_true rfl) (Nat.le_of_ble_eq_true rfl) ⟨by rw [hop], by rw [hop], hR, Fr.rf⟩
theorem isL_at {n x : Int32} (h : isL n ∧ (0 ≤ x ∧ x ≤ n - 1)) : ∃ j k, (j < 7 ∧ 1 ≤ j) ∧ n = nI (2 ^ j) ∧ n.toNatClampNeg = 2 ^ j ∧ x = nI k ∧ k < 2 ^ j := by
  obtain ⟨j, h1, h2, h3⟩ := isL_pw h.1
  have hp := (pw_le (j := j) (by omega)).2
  have h4 := h.2
  rw [h2] at h4
  obtain ⟨k, k1, k2, -⟩ := inI_at (n := 2 ^ j) (by omega) h4
  exact ⟨j, k, h1, h2, h3, k2, k1⟩
theorem cq_sequency (hG : GOK G) (hR : CRep S M T a) (n x : Int32) : Cq G yX1_sequency cX1_sequency 3 (some .int) (xrm 8 1 6) [.ref a, .int n, .int x] M (CO T a S (opSeq n x).1 (.int (opSeq n x).2) M) (CX T a S (opSeq n x).1 [xIAE] M) := by
  refine cq_open (lv := [_, _, _]) hG (by decide +kernel) (Nat.le_of_ble_eq_true rfl) rfl (fun C hC hk hx => ?_)
  refine x_iload_n hC dX1_sequency_0 rfl rfl ?_
  refine x_iload_n hC dX1_sequency_1 rfl rfl ?_
  refine x_qS (k := 1) (n := 6) (na := 2) hC (cq_reqFun hG n x _) (lw_S q1670 q1671 q81 q1672) (by decide +kernel) rfl ⟨Nat.le_of_ble_eq_true rfl, Nat.le_of_ble_eq_true rfl⟩ rfl (Nat.le_of_ble_eq_true rfl) (Nat.le_of_ble_eq_true rfl) (Nat.le_of_ble_eq_true rfl) ⟨Nat.le_of_ble_eq_true rfl, Nat.le_of_ble_eq_true rfl⟩ dX1_sequency_2 ?_ (fun q9 E9 M9 h9 => x_out hC hx (Nat.le_of_ble_eq_true rfl) (Nat.le_of_ble_eq_true rfl) (by obtain ⟨rfl, rfl, h9⟩ := h9; exact CX.same (k := 0) hR (by unfold opSeq; rw [if_neg h9]; rfl) rfl))
  rintro _ M ⟨rfl, rfl, h1⟩
  have hop : opSeq n x = (0, chg x n.toNatClampNeg) := by unfold opSeq; rw [if_pos h1]
  obtain ⟨j, k, hj, h2, h3, rfl, hk1⟩ := isL_at h1
  rw [h3] at hop
  subst h2
  refine x_iload_n hC dX1_sequency_5 rfl rfl ?_
  refine x_iload_n hC dX1_sequency_6 rfl rfl ?_
  refine x_callS0 (na := 2) hC (ct_wseq hG hj.1 hj.2 hk1 _) (lw_S q1690 q1691 q123 q1692) (by decide +kernel) rfl ⟨Nat.le_of_ble_eq_true rfl, Nat.le_of_ble_eq_true rfl⟩ rfl (Nat.le_of_ble_eq_true rfl) ⟨rfl, rfl⟩ ⟨Nat.le_of_ble_eq_true rfl, Nat.le_of_ble_eq_true rfl⟩ dX1_sequency_7 ?_
  rintro _ M ⟨rfl, rfl⟩
  exact x_iret hC hk dX1_sequency_10 (Nat.le_of_ble_eq_true rfl) (Nat.le_of_ble_eq_true rfl) ⟨by rw [hop], by rw [hop], hR, Fr.rf⟩
theorem cq_indexOfSequency (hG : GOK G) (hR : CRep S M T a) (n x : Int32) : Cq G yX1_indexOfSequency cX1_indexOfSequency 3 (some .int) (xrm 8 1 6) [.ref a, .int n, .int x] M (CO T a S (opIdxSeq n x).1 (.int (opIdxSeq n x).2) M) (CX T a S (opIdxSeq n x).1 [xIAE] M) := by
  refine cq_open (lv := [_, _, _]) hG (by decide +kernel) (Nat.le_of_ble_eq_true rfl) rfl (fun C hC hk hx => ?_)
  refine x_iload_n hC dX1_indexOfSequency_0 rfl rfl ?_
  refine x_iload_n hC dX1_indexOfSequency_1 rfl rfl ?_
  refine x_qS (k := 1) (n := 6) (na := 2) hC (cq_reqFun hG n x _) (lw_S q1670 q1671 q81 q1672) (by decide +kernel) rfl ⟨Nat.le_of_ble_eq_true rfl, Nat.le_of_ble_eq_true rfl⟩ rfl (Nat.le_of_ble_eq_true rfl) (Nat.le_of_ble_eq_true rfl) (Nat.le_of_ble_eq_true rfl) ⟨Nat.le_of_ble_eq_true rfl, Nat.le_of_ble_eq_true rfl⟩ dX1_indexOfSequency_2 ?_ (fun q9 E9 M9 h9 => x_out hC hx (Nat.le_of_ble_eq_true rfl) (Nat.le_of_ble_eq_true rfl) (by obtain ⟨rfl, rfl, h9⟩ := h9; exact CX.same (k := 0) hR (by unfold opIdxSeq; rw [if_neg h9]; rfl) rfl))
  rintro _ M ⟨rfl, rfl, h1⟩
  have hop : opIdxSeq n x = (0, optI (fstI (fun i => chg (nI i) n.toNatClampNeg = x) n.toNatClampNeg 0)) := by unfold opIdxSeq; rw [if_pos h1]
  obtain ⟨j, k, hj, h2, h3, rfl, hk1⟩ := isL_at h1
  rw [h3] at hop
  subst h2
  obtain ⟨s1, s2⟩ := sqI_ok j hj.1 hj.2 k hk1
  rw [fstI_at (p := fun i => chg (nI i) (2 ^ j) = nI k) (b := sqI j k) (Nat.zero_le _) (by omega) s2 (fun l _ hl e => by have := (chg_sqI hj.1 hj.2 hk1 (by omega)).mp e; omega)] at hop
  refine x_iload_n hC dX1_indexOfSequency_5 rfl rfl ?_
  refine x_iload_n hC dX1_indexOfSequency_6 rfl rfl ?_
  refine x_callS0 (na := 2) hC (ct_indexOf hG hj.1 hk1 _) (lw_S q1703 q1704 q123 q1705) (by decide +kernel) rfl ⟨Nat.le_of_ble_eq_true rfl, Nat.le_of_ble_eq_true rfl⟩ rfl (Nat.le_of_ble_eq_true rfl) ⟨rfl, rfl⟩ ⟨Nat.le_of_ble_eq_true rfl, Nat.le_of_ble_eq_true rfl⟩ dX1_indexOfSequency_7 ?_
  rintro _ M ⟨rfl, rfl⟩
  exact x_iret hC hk dX1_indexOfSequency_10 (Nat.le_of_ble_eq_true rfl) (Nat.le_of_ble_eq_true rfl) ⟨by rw [hop], by rw [hop]; rfl, hR, Fr.rf⟩
theorem cq_coefficient (hG : GOK G) (hR : CRep S M T a) (x z : Int32) : Cq G yX1_coefficient cX1_coefficient 3 (some .int) (xrm 8 3 76) [.ref a, .int x, .int z] M (CO T a S (opCoef S x z).1 (.int (opCoef S x z).2) M) (CX T a S (opCoef S x z).1 [xIOB] M) := by
  obtain ⟨vs, ha⟩ := hR.rec
  have no : ¬ (∃ r, rc (sR S) x = some r ∧ inI (rz r) z) → (opCoef S x z).1 = 1 := by
    intro h
    unfold opCoef
    cases hrc : rc (sR S) x with
    | none => rfl
    | some r => dsimp only [Option.elim]; rw [if_neg (fun z => h ⟨r, hrc, z⟩)]
  refine cq_open (lv := [_, _, _]) hG (by decide +kernel) (Nat.le_of_ble_eq_true rfl) rfl (fun C hC hk hx => ?_)
  refine x_aload_n hC dX1_coefficient_0 rfl rfl ?_
  refine x_iload_n hC dX1_coefficient_1 rfl rfl ?_
  refine x_iload_n hC dX1_coefficient_2 rfl rfl ?_
  refine x_qV (k := 2) (n := 12) (na := 2) hC (cq_get2 hG hR _ _) (lw_V q1576 q1578 qs14 q81 q1579) ha rfl rfl (by decide +kernel) rfl ⟨Nat.le_of_ble_eq_true rfl, Nat.le_of_ble_eq_true rfl⟩ rfl (Nat.le_of_ble_eq_true rfl) (Nat.le_of_ble_eq_true rfl) (Nat.le_of_ble_eq_true rfl) ⟨Nat.le_of_ble_eq_true rfl, Nat.le_of_ble_eq_true rfl⟩ dX1_coefficient_3 ?_ (fun q9 E9 M9 h9 => x_out hC hx (Nat.le_of_ble_eq_true rfl) (Nat.le_of_ble_eq_true rfl) (by obtain ⟨rfl, rfl, h9⟩ := h9; exact CX.same (k := 0) hR (no h9) rfl))
  rintro _ M1 ⟨hM1, q, r, hrc, hin, rfl, hRA, hWf⟩
  subst hM1
  obtain ⟨na, sa, b, c, n1, n2⟩ := hRA
  obtain ⟨rv, hb⟩ := n2.rb
  obtain ⟨cv, x1⟩ := hb.rec
  have h64 : rz r ≤ 64 := hWf.len.1
  obtain ⟨j, j1, j2, j3⟩ := hWf.pw
  obtain ⟨k, hk1, rfl, hk3⟩ := inI_at (n := rz r) (by omega) hin
  have hop : opCoef S x (nI k) = (0, cfN (rg r) (rz r) k) := by unfold opCoef; rw [hrc]; dsimp only [Option.elim]; rw [if_pos hin, hk3]
  refine x_callV (k := 3) (n := 76) (na := 0) hC (ct_coefs hG hb ⟨j2, j3⟩) (lw_V q1713 q1714 q1715 q115 q1716) x1 rfl rfl (by decide +kernel) rfl ⟨Nat.le_of_ble_eq_true rfl, Nat.le_of_ble_eq_true rfl⟩ rfl (Nat.le_of_ble_eq_true rfl) (Nat.add_le_add_left bC_le.1 _) (Nat.add_le_add_left bC_le.2 _) ⟨Nat.le_of_ble_eq_true rfl, Nat.le_of_ble_eq_true rfl⟩ dX1_coefficient_6 ?_
  rintro _ M2 ⟨p, u, rfl, hp, hu, hL, hb2⟩
  refine x_iload_n hC dX1_coefficient_9 rfl rfl ?_
  refine x_ialdN hC hp hk1 (by first | decide | omega) dX1_coefficient_10 ?_
  rw [hu k hk1]
  exact x_iret hC hk dX1_coefficient_11 (Nat.le_of_ble_eq_true rfl) (Nat.le_of_ble_eq_true rfl) ⟨by rw [hop], by rw [hop], hR.lr hL.lr, hL.lr.pw⟩
theorem cq_tones (hG : GOK G) (hR : CRep S M T a) (x : Int32) : Cq G yX1_tones cX1_tones 7 (some .int) (xrm 8 2 70) [.ref a, .int x] M (CO T a S (opTones S x).1 (.int (opTones S x).2) M) (CX T a S (opTones S x).1 [xIOB] M) := by
  obtain ⟨vs, ha⟩ := hR.rec
  refine cq_open (lv := [_, _, _, _, _, _, _]) hG (by decide +kernel) (Nat.le_of_ble_eq_true rfl) rfl (fun C hC hk hx => ?_)
  refine x_iconst (v := 0) hC dX1_tones_0 (by decide) ?_
  refine x_istore_n (lv' := [_, _, _, _, _, _, _]) hC dX1_tones_1 rfl (by decide) rfl ?_
  refine x_aload_n hC dX1_tones_2 rfl rfl ?_
  refine x_iload_n hC dX1_tones_3 rfl rfl ?_
  refine x_qV (k := 1) (n := 6) (na := 1) hC (cq_get hG hR _) (lw_V q1534 q1536 qs13 q81 q1537) ha rfl rfl (by decide +kernel) rfl ⟨Nat.le_of_ble_eq_true rfl, Nat.le_of_ble_eq_true rfl⟩ rfl (Nat.le_of_ble_eq_true rfl) (Nat.le_of_ble_eq_true rfl) (Nat.le_of_ble_eq_true rfl) ⟨Nat.le_of_ble_eq_true rfl, Nat.le_of_ble_eq_true rfl⟩ dX1_tones_4 ?_ (fun q9 E9 M9 h9 => x_out hC hx (Nat.le_of_ble_eq_true rfl) (Nat.le_of_ble_eq_true rfl) (by obtain ⟨rfl, rfl, h9⟩ := h9; exact CX.same (k := 0) hR (by unfold opTones; rw [Decidable.not_not.mp h9]; rfl) rfl))
  rintro _ M1 ⟨hM1, q, r, hrc, rfl, hRA, hWf⟩
  subst hM1
  have hop : opTones S x = (0, iS (fun i => xB (cfN (rg r) (rz r) i ≠ 0)) (rz r)) := by unfold opTones; rw [hrc]; rfl
  obtain ⟨na, sa, b, c, n1, n2⟩ := hRA
  obtain ⟨rv, hb⟩ := n2.rb
  obtain ⟨cv, x1⟩ := hb.rec
  have h64 : rz r ≤ 64 := hWf.len.1
  obtain ⟨j, j1, j2, j3⟩ := hWf.pw
  refine x_callV (k := 2) (n := 70) (na := 0) hC (ct_coefs hG hb ⟨j2, j3⟩) (lw_V q1713 q1714 q1715 q115 q1716) x1 rfl rfl (by decide +kernel) rfl ⟨Nat.le_of_ble_eq_true rfl, Nat.le_of_ble_eq_true rfl⟩ rfl (Nat.le_of_ble_eq_true rfl) (Nat.add_le_add_left bC_le.1 _) (Nat.add_le_add_left bC_le.2 _) ⟨Nat.le_of_ble_eq_true rfl, Nat.le_of_ble_eq_true rfl⟩ dX1_tones_7 ?_
  rintro _ M2 ⟨p, u, rfl, hp, hu, hL, hb2⟩
  refine x_astore_n (lv' := [_, _, _, _, _, _, _]) hC dX1_tones_10 rfl (by decide) rfl ?_
  refine x_aload_n hC dX1_tones_11 rfl rfl ?_
  refine x_alen hC hp dX1_tones_12 ?_
  dsimp only
  refine x_istore (lv' := [_, _, _, _, _, _, _]) hC dX1_tones_13 (by decide) rfl ?_
  refine x_iconst (v := nI 0) hC dX1_tones_15 (by decide) ?_
  refine x_istore (lv' := [_, _, _, _, _, _, _]) hC dX1_tones_16 (by decide) rfl ?_
  refine x_up (n := rz r) (I := fun k => ∀ w6, Wg G C M2 2 70 18 [some (.ref a), some (.int x), some (.int (iS (fun i => xB (cfN (rg r) (rz r) i ≠ 0)) k)), some (.ref p), some (.int (nI (rz r))), some (.int (nI k)), w6] []) (fun k hk2 ih w6 => ?_) 0 (Nat.zero_le _) none
  refine x_iload hC dX1_tones_18 rfl ?_
  refine x_iload hC dX1_tones_20 rfl ?_
  refine x_icmp_geN (tgt := 45) hC (by omega) (by omega) dX1_tones_22 (by decide) (fun c1 => ?_) (fun c1 => ?_)
  · refine x_iload_n hC dX1_tones_45 rfl rfl ?_
    exact x_iret hC hk dX1_tones_46 (Nat.le_of_ble_eq_true rfl) (Nat.le_of_ble_eq_true rfl) ⟨by rw [hop], by rw [hop, show k = rz r by omega], hR.lr hL.lr, hL.lr.pw⟩
  · have hst : iS (fun i => xB (cfN (rg r) (rz r) i ≠ 0)) (k + 1) = iS (fun i => xB (cfN (rg r) (rz r) i ≠ 0)) k + xB (cfN (rg r) (rz r) k ≠ 0) := rfl
    have ih2 := ih c1
    rw [hst] at ih2
    refine x_aload_n hC dX1_tones_25 rfl rfl ?_
    refine x_iload hC dX1_tones_26 rfl ?_
    refine x_ialdN hC hp c1 (by first | decide | omega) dX1_tones_28 ?_
    rw [hu k c1]
    refine x_istore (lv' := [_, _, _, _, _, _, _]) hC dX1_tones_29 (by decide) rfl ?_
    refine x_iload hC dX1_tones_31 rfl ?_
    refine x_if_eq (tgt := 39) hC dX1_tones_33 (by decide) (fun c2 => ?_) (fun c2 => ?_)
    · rw [xB_f (fun z => z c2), Int32.add_zero] at ih2
      refine x_iincN (lv' := [_, _, _, _, _, _, _]) (b := 1) hC dX1_tones_39 rfl (by decide) (by decide) rfl ?_
      refine x_goto (tgt := 18) hC dX1_tones_42 (by decide) ?_
      exact ih2 _
    · rw [xB_t c2] at ih2
      refine x_iinc (lv' := [_, _, _, _, _, _, _]) (v := 1) hC dX1_tones_36 rfl (by decide) (by decide) rfl ?_
      refine x_iincN (lv' := [_, _, _, _, _, _, _]) (b := 1) hC dX1_tones_39 rfl (by decide) (by decide) rfl ?_
      refine x_goto (tgt := 18) hC dX1_tones_42 (by decide) ?_
      exact ih2 _
theorem cq_bandEnergy (hG : GOK G) (hR : CRep S M T a) (x lo hi : Int32) : Cq G yX1_bandEnergy cX1_bandEnergy 5 (some .long) (xrm 8 3 76) [.ref a, .int x, .int lo, .int hi] M (CO T a S (opBand S x lo hi).1 (.long (opBand S x lo hi).2) M) (CX T a S (opBand S x lo hi).1 [xIOB, xIAE] M) := by
  obtain ⟨vs, ha⟩ := hR.rec
  refine cq_open (lv := [_, _, _, _, _]) hG (by decide +kernel) (Nat.le_of_ble_eq_true rfl) rfl (fun C hC hk hx => ?_)
  refine x_aload_n hC dX1_bandEnergy_0 rfl rfl ?_
  refine x_iload_n hC dX1_bandEnergy_1 rfl rfl ?_
  refine x_qV (k := 1) (n := 6) (na := 1) hC (cq_get hG hR _) (lw_V q1534 q1536 qs13 q81 q1537) ha rfl rfl (by decide +kernel) rfl ⟨Nat.le_of_ble_eq_true rfl, Nat.le_of_ble_eq_true rfl⟩ rfl (Nat.le_of_ble_eq_true rfl) (Nat.le_of_ble_eq_true rfl) (Nat.le_of_ble_eq_true rfl) ⟨Nat.le_of_ble_eq_true rfl, Nat.le_of_ble_eq_true rfl⟩ dX1_bandEnergy_2 ?_ (fun q9 E9 M9 h9 => x_out hC hx (Nat.le_of_ble_eq_true rfl) (Nat.le_of_ble_eq_true rfl) (by obtain ⟨rfl, rfl, h9⟩ := h9; exact CX.same (k := 0) hR (by unfold opBand; rw [Decidable.not_not.mp h9]; rfl) rfl))
  rintro _ M1 ⟨hM1, q, r, hrc, rfl, hRA, hWf⟩
  subst hM1
  obtain ⟨na, sa, b, c, n1, n2⟩ := hRA
  obtain ⟨rv, hb⟩ := n2.rb
  have hb0 := hb
  obtain ⟨cv, x1, x2, -⟩ := hb0
  obtain ⟨j, j1, j2, j3⟩ := hWf.pw
  refine x_astore (lv' := [_, _, _, _, _]) hC dX1_bandEnergy_5 (by decide) rfl ?_
  refine x_aload hC dX1_bandEnergy_7 rfl ?_
  refine x_iload_n hC dX1_bandEnergy_9 rfl rfl ?_
  refine x_iload_n hC dX1_bandEnergy_10 rfl rfl ?_
  refine x_callV0 (na := 2) hC (ct_risBand hG x1 x2 lo hi) (lw_V q1739 q1740 q1741 q115 q1742) x1 rfl rfl (by decide +kernel) rfl ⟨Nat.le_of_ble_eq_true rfl, Nat.le_of_ble_eq_true rfl⟩ rfl (Nat.le_of_ble_eq_true rfl) ⟨rfl, rfl⟩ ⟨Nat.le_of_ble_eq_true rfl, Nat.le_of_ble_eq_true rfl⟩ dX1_bandEnergy_11 ?_
  rintro _ M ⟨rfl, rfl⟩
  refine x_qS (k := 2) (n := 12) (na := 1) hC (cq_reqIAE hG _ _) (lw_S q1337 q1338 q81 q1339) (by decide +kernel) rfl ⟨Nat.le_of_ble_eq_true rfl, Nat.le_of_ble_eq_true rfl⟩ rfl (Nat.le_of_ble_eq_true rfl) (Nat.le_of_ble_eq_true rfl) (Nat.le_of_ble_eq_true rfl) ⟨Nat.le_of_ble_eq_true rfl, Nat.le_of_ble_eq_true rfl⟩ dX1_bandEnergy_14 ?_ (fun q9 E9 M9 h9 => x_out hC hx (Nat.le_of_ble_eq_true rfl) (Nat.le_of_ble_eq_true rfl) (by obtain ⟨rfl, rfl, h9⟩ := h9; exact CX.same (k := 1) hR (by unfold opBand; rw [hrc]; dsimp only [Option.elim]; rw [if_neg h9]; rfl) rfl))
  rintro _ M1 ⟨rfl, hM1, h9⟩
  subst hM1
  have hop : opBand S x lo hi = (0, bnd (rg r) (rz r) lo hi) := by unfold opBand; rw [hrc]; dsimp only [Option.elim]; rw [if_pos h9]
  refine x_aload hC dX1_bandEnergy_17 rfl ?_
  refine x_iload_n hC dX1_bandEnergy_19 rfl rfl ?_
  refine x_iload_n hC dX1_bandEnergy_20 rfl rfl ?_
  refine x_callV (k := 3) (n := 76) (na := 2) hC (ct_rband2 hG hb j1 ⟨j2, j3⟩ lo hi) (lw_V q1743 q1744 q1745 q115 q1746) x1 rfl rfl (by decide +kernel) rfl ⟨Nat.le_of_ble_eq_true rfl, Nat.le_of_ble_eq_true rfl⟩ rfl (Nat.le_of_ble_eq_true rfl) (Nat.add_le_add_left bC_le.1 _) (Nat.add_le_add_left bC_le.2 _) ⟨Nat.le_of_ble_eq_true rfl, Nat.le_of_ble_eq_true rfl⟩ dX1_bandEnergy_21 ?_
  rintro _ M2 ⟨rfl, hL, -⟩
  exact x_lret hC hk dX1_bandEnergy_24 (Nat.le_of_ble_eq_true rfl) (Nat.le_of_ble_eq_true rfl) ⟨by rw [hop], by rw [hop], hR.lr hL.lr, hL.lr.pw⟩
theorem cq_strongestBand (hG : GOK G) (hR : CRep S M T a) (x w : Int32) : Cq G yX1_strongestBand cX1_strongestBand 4 (some .int) (xrm 8 3 76) [.ref a, .int x, .int w] M (CO T a S (opStrong S x w).1 (.int (opStrong S x w).2) M) (CX T a S (opStrong S x w).1 [xIOB, xIAE] M) := by
  obtain ⟨vs, ha⟩ := hR.rec
  refine cq_open (lv := [_, _, _, _]) hG (by decide +kernel) (Nat.le_of_ble_eq_true rfl) rfl (fun C hC hk hx => ?_)
  refine x_aload_n hC dX1_strongestBand_0 rfl rfl ?_
  refine x_iload_n hC dX1_strongestBand_1 rfl rfl ?_
  refine x_qV (k := 1) (n := 6) (na := 1) hC (cq_get hG hR _) (lw_V q1534 q1536 qs13 q81 q1537) ha rfl rfl (by decide +kernel) rfl ⟨Nat.le_of_ble_eq_true rfl, Nat.le_of_ble_eq_true rfl⟩ rfl (Nat.le_of_ble_eq_true rfl) (Nat.le_of_ble_eq_true rfl) (Nat.le_of_ble_eq_true rfl) ⟨Nat.le_of_ble_eq_true rfl, Nat.le_of_ble_eq_true rfl⟩ dX1_strongestBand_2 ?_ (fun q9 E9 M9 h9 => x_out hC hx (Nat.le_of_ble_eq_true rfl) (Nat.le_of_ble_eq_true rfl) (by obtain ⟨rfl, rfl, h9⟩ := h9; exact CX.same (k := 0) hR (by unfold opStrong; rw [Decidable.not_not.mp h9]; rfl) rfl))
  rintro _ M1 ⟨hM1, q, r, hrc, rfl, hRA, hWf⟩
  subst hM1
  obtain ⟨na, sa, b, c, n1, n2⟩ := hRA
  obtain ⟨rv, hb⟩ := n2.rb
  have hb0 := hb
  obtain ⟨cv, x1, x2, -⟩ := hb0
  obtain ⟨j, j1, j2, j3⟩ := hWf.pw
  have h64 : rz r ≤ 64 := hWf.len.1
  refine x_astore_n (lv' := [_, _, _, _]) hC dX1_strongestBand_5 rfl (by decide) rfl ?_
  refine x_iload_n hC dX1_strongestBand_6 rfl rfl ?_
  refine x_iconst (v := 1) hC dX1_strongestBand_7 (by decide) ?_
  refine x_aload_n hC dX1_strongestBand_8 rfl rfl ?_
  refine x_callV0 (na := 0) hC (ct_rlen hG x1 x2) (lw_V q1558 q1559 q1560 q115 q1561) x1 rfl rfl (by decide +kernel) rfl ⟨Nat.le_of_ble_eq_true rfl, Nat.le_of_ble_eq_true rfl⟩ rfl (Nat.le_of_ble_eq_true rfl) ⟨rfl, rfl⟩ ⟨Nat.le_of_ble_eq_true rfl, Nat.le_of_ble_eq_true rfl⟩ dX1_strongestBand_9 ?_
  rintro _ M ⟨rfl, rfl⟩
  refine x_callS0 (na := 3) hC (ct_isBetween hG _ _ _ _) (lw_S q641 q642 q81 q643) (by decide +kernel) rfl ⟨Nat.le_of_ble_eq_true rfl, Nat.le_of_ble_eq_true rfl⟩ rfl (Nat.le_of_ble_eq_true rfl) ⟨rfl, rfl⟩ ⟨Nat.le_of_ble_eq_true rfl, Nat.le_of_ble_eq_true rfl⟩ dX1_strongestBand_12 ?_
  rintro _ M ⟨rfl, rfl⟩
  refine x_qS (k := 2) (n := 12) (na := 1) hC (cq_reqIAE hG _ _) (lw_S q1337 q1338 q81 q1339) (by decide +kernel) rfl ⟨Nat.le_of_ble_eq_true rfl, Nat.le_of_ble_eq_true rfl⟩ rfl (Nat.le_of_ble_eq_true rfl) (Nat.le_of_ble_eq_true rfl) (Nat.le_of_ble_eq_true rfl) ⟨Nat.le_of_ble_eq_true rfl, Nat.le_of_ble_eq_true rfl⟩ dX1_strongestBand_15 ?_ (fun q9 E9 M9 h9 => x_out hC hx (Nat.le_of_ble_eq_true rfl) (Nat.le_of_ble_eq_true rfl) (by obtain ⟨rfl, rfl, h9⟩ := h9; exact CX.same (k := 1) hR (by unfold opStrong; rw [hrc]; dsimp only [Option.elim]; rw [if_neg h9]; rfl) rfl))
  rintro _ M1 ⟨rfl, hM1, h9⟩
  subst hM1
  have hop : opStrong S x w = (0, nI (amx (fun a b => decide (bdw (rg r) (rz r) w.toNatClampNeg a < bdw (rg r) (rz r) w.toNatClampNeg b)) (rz r + 1 - w.toNatClampNeg))) := by unfold opStrong; rw [hrc]; dsimp only [Option.elim]; rw [if_pos h9]
  have h10 : 0 ≤ w ∧ w ≤ nI (rz r) := ⟨Int32.le_trans (by decide) h9.1, h9.2⟩
  obtain ⟨v, rfl, v2, v3⟩ := nIz (by omega) h10
  rw [v2] at hop
  have hv1 : 1 ≤ v := by
    have := h9.1
    rw [show (1 : Int32) = nI 1 from rfl, nI_leI (by decide) (by omega)] at this
    exact this
  refine x_aload_n hC dX1_strongestBand_18 rfl rfl ?_
  refine x_iload_n hC dX1_strongestBand_19 rfl rfl ?_
  refine x_callV (k := 3) (n := 76) (na := 1) hC (ct_rstrong hG hb j1 ⟨j2, j3⟩ hv1 v3) (lw_V q1764 q1765 q1766 q115 q1767) x1 rfl rfl (by decide +kernel) rfl ⟨Nat.le_of_ble_eq_true rfl, Nat.le_of_ble_eq_true rfl⟩ rfl (Nat.le_of_ble_eq_true rfl) (Nat.add_le_add_left bC_le.1 _) (Nat.add_le_add_left bC_le.2 _) ⟨Nat.le_of_ble_eq_true rfl, Nat.le_of_ble_eq_true rfl⟩ dX1_strongestBand_20 ?_
  rintro _ M2 ⟨rfl, hL, -⟩
  exact x_iret hC hk dX1_strongestBand_23 (Nat.le_of_ble_eq_true rfl) (Nat.le_of_ble_eq_true rfl) ⟨by rw [hop], by rw [hop], hR.lr hL.lr, hL.lr.pw⟩
theorem cq_reqT (hG : GOK G) (x : Int32) (M : X_M) : Cq G yX1_requireThreshold cX1_requireThreshold 1 none (xrm 3 1 6) [.int x] M (Pok (isT x) M) (Pth xIAE (isT x) M) := by
  refine cq_open (lv := [_]) hG (by decide +kernel) (Nat.le_of_ble_eq_true rfl) rfl (fun C hC hk hx => ?_)
  refine x_iload_n hC dX1_requireThreshold_0 rfl rfl ?_
  refine x_iconst (v := 0) hC dX1_requireThreshold_1 (by decide) ?_
  refine x_ldc hC q1779 dX1_requireThreshold_2 ?_
  refine x_callS0 (na := 3) hC (ct_isBetween hG _ _ _ _) (lw_S q641 q642 q81 q643) (by decide +kernel) rfl ⟨Nat.le_of_ble_eq_true rfl, Nat.le_of_ble_eq_true rfl⟩ rfl (Nat.le_of_ble_eq_true rfl) ⟨rfl, rfl⟩ ⟨Nat.le_of_ble_eq_true rfl, Nat.le_of_ble_eq_true rfl⟩ dX1_requireThreshold_4 ?_
  rintro _ M ⟨rfl, rfl⟩
  refine x_qS (k := 1) (n := 6) (na := 1) hC (cq_reqIAE hG _ _) (lw_S q1337 q1338 q81 q1339) (by decide +kernel) rfl ⟨Nat.le_of_ble_eq_true rfl, Nat.le_of_ble_eq_true rfl⟩ rfl (Nat.le_of_ble_eq_true rfl) (Nat.le_of_ble_eq_true rfl) (Nat.le_of_ble_eq_true rfl) ⟨Nat.le_of_ble_eq_true rfl, Nat.le_of_ble_eq_true rfl⟩ dX1_requireThreshold_7 ?_ (fun q9 E9 M9 h9 => x_out hC hx (Nat.le_of_ble_eq_true rfl) (Nat.le_of_ble_eq_true rfl) (by obtain ⟨rfl, rfl, h9⟩ := h9; exact ⟨rfl, rfl, h9⟩))
  rintro _ M ⟨rfl, rfl, h9⟩
  exact x_vret hC hk dX1_requireThreshold_10 (Nat.le_of_ble_eq_true rfl) (Nat.le_of_ble_eq_true rfl) ⟨rfl, rfl, h9⟩
theorem cq_tonesAbove (hG : GOK G) (hR : CRep S M T a) (x t : Int32) : Cq G yX1_tonesAbove cX1_tonesAbove 4 (some .int) (xrm 8 3 76) [.ref a, .int x, .int t] M (CO T a S (opAbove S x t).1 (.int (opAbove S x t).2) M) (CX T a S (opAbove S x t).1 [xIOB, xIAE] M) := by
  obtain ⟨vs, ha⟩ := hR.rec
  refine cq_open (lv := [_, _, _, _]) hG (by decide +kernel) (Nat.le_of_ble_eq_true rfl) rfl (fun C hC hk hx => ?_)
  refine x_aload_n hC dX1_tonesAbove_0 rfl rfl ?_
  refine x_iload_n hC dX1_tonesAbove_1 rfl rfl ?_
  refine x_qV (k := 1) (n := 6) (na := 1) hC (cq_get hG hR _) (lw_V q1534 q1536 qs13 q81 q1537) ha rfl rfl (by decide +kernel) rfl ⟨Nat.le_of_ble_eq_true rfl, Nat.le_of_ble_eq_true rfl⟩ rfl (Nat.le_of_ble_eq_true rfl) (Nat.le_of_ble_eq_true rfl) (Nat.le_of_ble_eq_true rfl) ⟨Nat.le_of_ble_eq_true rfl, Nat.le_of_ble_eq_true rfl⟩ dX1_tonesAbove_2 ?_ (fun q9 E9 M9 h9 => x_out hC hx (Nat.le_of_ble_eq_true rfl) (Nat.le_of_ble_eq_true rfl) (by obtain ⟨rfl, rfl, h9⟩ := h9; exact CX.same (k := 0) hR (by unfold opAbove; rw [Decidable.not_not.mp h9]; rfl) rfl))
  rintro _ M1 ⟨hM1, q, r, hrc, rfl, hRA, hWf⟩
  subst hM1
  obtain ⟨na, sa, b, c, n1, n2⟩ := hRA
  obtain ⟨rv, hb⟩ := n2.rb
  have hb0 := hb
  obtain ⟨cv, x1, x2, -⟩ := hb0
  obtain ⟨j, j1, j2, j3⟩ := hWf.pw
  refine x_astore_n (lv' := [_, _, _, _]) hC dX1_tonesAbove_5 rfl (by decide) rfl ?_
  refine x_iload_n hC dX1_tonesAbove_6 rfl rfl ?_
  refine x_qS (k := 2) (n := 12) (na := 1) hC (cq_reqT hG _ _) (lw_S q1776 q1777 q81 q1778) (by decide +kernel) rfl ⟨Nat.le_of_ble_eq_true rfl, Nat.le_of_ble_eq_true rfl⟩ rfl (Nat.le_of_ble_eq_true rfl) (Nat.le_of_ble_eq_true rfl) (Nat.le_of_ble_eq_true rfl) ⟨Nat.le_of_ble_eq_true rfl, Nat.le_of_ble_eq_true rfl⟩ dX1_tonesAbove_7 ?_ (fun q9 E9 M9 h9 => x_out hC hx (Nat.le_of_ble_eq_true rfl) (Nat.le_of_ble_eq_true rfl) (by obtain ⟨rfl, rfl, h9⟩ := h9; exact CX.same (k := 1) hR (by unfold opAbove; rw [hrc]; dsimp only [Option.elim]; rw [if_neg h9]; rfl) rfl))
  rintro _ M ⟨rfl, hM1, h9⟩
  subst hM1
  have hop : opAbove S x t = (0, iS (fun i => xB (t ≤ iabs (cfN (rg r) (rz r) i))) (rz r)) := by unfold opAbove; rw [hrc]; dsimp only [Option.elim]; rw [if_pos h9]
  refine x_aload_n hC dX1_tonesAbove_10 rfl rfl ?_
  refine x_iload_n hC dX1_tonesAbove_11 rfl rfl ?_
  refine x_callV (k := 3) (n := 76) (na := 1) hC (ct_rabove hG hb ⟨j2, j3⟩ t) (lw_V q1780 q1781 q1782 q115 q1783) x1 rfl rfl (by decide +kernel) rfl ⟨Nat.le_of_ble_eq_true rfl, Nat.le_of_ble_eq_true rfl⟩ rfl (Nat.le_of_ble_eq_true rfl) (Nat.add_le_add_left bC_le.1 _) (Nat.add_le_add_left bC_le.2 _) ⟨Nat.le_of_ble_eq_true rfl, Nat.le_of_ble_eq_true rfl⟩ dX1_tonesAbove_12 ?_
  rintro _ M2 ⟨rfl, hL, -⟩
  exact x_iret hC hk dX1_tonesAbove_15 (Nat.le_of_ble_eq_true rfl) (Nat.le_of_ble_eq_true rfl) ⟨by rw [hop], by rw [hop], hR.lr hL.lr, hL.lr.pw⟩
theorem cq_peak (hG : GOK G) (hR : CRep S M T a) (x z : Int32) : Cq G yX1_peak cX1_peak 3 (some .int) (xrm 10 4 140) [.ref a, .int x, .int z] M (CO T a S (opPeak S x z).1 (.int (opPeak S x z).2) M) (CX T a S (opPeak S x z).1 [xIOB] M) := by
  obtain ⟨vs, ha⟩ := hR.rec
  have no : ¬ (∃ r, rc (sR S) x = some r ∧ inI (rz r) z) → (opPeak S x z).1 = 1 := by
    intro h
    unfold opPeak
    cases hrc : rc (sR S) x with
    | none => rfl
    | some r => dsimp only [Option.elim]; rw [if_neg (fun z => h ⟨r, hrc, z⟩)]
  refine cq_open (lv := [_, _, _]) hG (by decide +kernel) (Nat.le_of_ble_eq_true rfl) rfl (fun C hC hk hx => ?_)
  refine x_aload_n hC dX1_peak_0 rfl rfl ?_
  refine x_iload_n hC dX1_peak_1 rfl rfl ?_
  refine x_iload_n hC dX1_peak_2 rfl rfl ?_
  refine x_qV (k := 2) (n := 12) (na := 2) hC (cq_get2 hG hR _ _) (lw_V q1576 q1578 qs14 q81 q1579) ha rfl rfl (by decide +kernel) rfl ⟨Nat.le_of_ble_eq_true rfl, Nat.le_of_ble_eq_true rfl⟩ rfl (Nat.le_of_ble_eq_true rfl) (Nat.le_of_ble_eq_true rfl) (Nat.le_of_ble_eq_true rfl) ⟨Nat.le_of_ble_eq_true rfl, Nat.le_of_ble_eq_true rfl⟩ dX1_peak_3 ?_ (fun q9 E9 M9 h9 => x_out hC hx (Nat.le_of_ble_eq_true rfl) (Nat.le_of_ble_eq_true rfl) (by obtain ⟨rfl, rfl, h9⟩ := h9; exact CX.same (k := 0) hR (no h9) rfl))
  rintro _ M1 ⟨hM1, q, r, hrc, hin, rfl, hRA, hWf⟩
  subst hM1
  obtain ⟨na, sa, b, c, n1, n2⟩ := hRA
  obtain ⟨cv, rv, x1, -⟩ := n2.rec
  have h64 : rz r ≤ 64 := hWf.len.1
  obtain ⟨j, j1, j2, j3⟩ := hWf.pw
  obtain ⟨k, hk1, rfl, hk3⟩ := inI_at (n := rz r) (by omega) hin
  have hop : opPeak S x (nI k) = (0, nI (pkN r k)) := by unfold opPeak; rw [hrc]; dsimp only [Option.elim]; rw [if_pos hin, hk3]
  refine x_callV (k := 4) (n := 140) (na := 0) hC (ct_ranking hG n2 j1 ⟨j2, j3⟩) (lw_V q1810 q1811 q1812 q115 q1813) x1 rfl rfl (by decide +kernel) rfl ⟨Nat.le_of_ble_eq_true rfl, Nat.le_of_ble_eq_true rfl⟩ rfl (Nat.le_of_ble_eq_true rfl) (Nat.add_le_add_left rC_le.1 _) (Nat.add_le_add_left rC_le.2 _) ⟨Nat.le_of_ble_eq_true rfl, Nat.le_of_ble_eq_true rfl⟩ dX1_peak_6 ?_
  rintro _ M2 ⟨p, u, rfl, hp, hu, hL, hb2⟩
  refine x_iload_n hC dX1_peak_9 rfl rfl ?_
  refine x_ialdN hC hp hk1 (by first | decide | omega) dX1_peak_10 ?_
  rw [hu k hk1]
  exact x_iret hC hk dX1_peak_11 (Nat.le_of_ble_eq_true rfl) (Nat.le_of_ble_eq_true rfl) ⟨by rw [hop], by rw [hop], hR.lr hL, hL.pw⟩
theorem cq_rank (hG : GOK G) (hR : CRep S M T a) (x z : Int32) : Cq G yX1_rank cX1_rank 3 (some .int) (xrm 10 4 140) [.ref a, .int x, .int z] M (CO T a S (opRank S x z).1 (.int (opRank S x z).2) M) (CX T a S (opRank S x z).1 [xIOB] M) := by
  obtain ⟨vs, ha⟩ := hR.rec
  have no : ¬ (∃ r, rc (sR S) x = some r ∧ inI (rz r) z) → (opRank S x z).1 = 1 := by
    intro h
    unfold opRank
    cases hrc : rc (sR S) x with
    | none => rfl
    | some r => dsimp only [Option.elim]; rw [if_neg (fun z => h ⟨r, hrc, z⟩)]
  refine cq_open (lv := [_, _, _]) hG (by decide +kernel) (Nat.le_of_ble_eq_true rfl) rfl (fun C hC hk hx => ?_)
  refine x_aload_n hC dX1_rank_0 rfl rfl ?_
  refine x_iload_n hC dX1_rank_1 rfl rfl ?_
  refine x_iload_n hC dX1_rank_2 rfl rfl ?_
  refine x_qV (k := 2) (n := 12) (na := 2) hC (cq_get2 hG hR _ _) (lw_V q1576 q1578 qs14 q81 q1579) ha rfl rfl (by decide +kernel) rfl ⟨Nat.le_of_ble_eq_true rfl, Nat.le_of_ble_eq_true rfl⟩ rfl (Nat.le_of_ble_eq_true rfl) (Nat.le_of_ble_eq_true rfl) (Nat.le_of_ble_eq_true rfl) ⟨Nat.le_of_ble_eq_true rfl, Nat.le_of_ble_eq_true rfl⟩ dX1_rank_3 ?_ (fun q9 E9 M9 h9 => x_out hC hx (Nat.le_of_ble_eq_true rfl) (Nat.le_of_ble_eq_true rfl) (by obtain ⟨rfl, rfl, h9⟩ := h9; exact CX.same (k := 0) hR (no h9) rfl))
  rintro _ M1 ⟨hM1, q, r, hrc, hin, rfl, hRA, hWf⟩
  subst hM1
  obtain ⟨na, sa, b, c, n1, n2⟩ := hRA
  obtain ⟨cv, rv, x1, -⟩ := n2.rec
  have h64 : rz r ≤ 64 := hWf.len.1
  obtain ⟨j, j1, j2, j3⟩ := hWf.pw
  obtain ⟨k, hk1, rfl, hk3⟩ := inI_at (n := rz r) (by omega) hin
  have hop : opRank S x (nI k) = (0, rkN (rg r) (rz r) k) := by unfold opRank; rw [hrc]; dsimp only [Option.elim]; rw [if_pos hin, hk3]
  refine x_iload_n hC dX1_rank_6 rfl rfl ?_
  refine x_callV (k := 4) (n := 140) (na := 1) hC (ct_rrank hG n2 j1 ⟨j2, j3⟩ hk1) (lw_V q1825 q1826 q1827 q115 q1828) x1 rfl rfl (by decide +kernel) rfl ⟨Nat.le_of_ble_eq_true rfl, Nat.le_of_ble_eq_true rfl⟩ rfl (Nat.le_of_ble_eq_true rfl) (Nat.add_le_add_left rC_le.1 _) (Nat.add_le_add_left rC_le.2 _) ⟨Nat.le_of_ble_eq_true rfl, Nat.le_of_ble_eq_true rfl⟩ dX1_rank_7 ?_
  rintro _ M2 ⟨rfl, hL, -⟩
  exact x_iret hC hk dX1_rank_10 (Nat.le_of_ble_eq_true rfl) (Nat.le_of_ble_eq_true rfl) ⟨by rw [hop], by rw [hop], hR.lr hL, hL.pw⟩
theorem cq_peaksFor (hG : GOK G) (hR : CRep S M T a) (x p : Int32) : Cq G yX1_peaksFor cX1_peaksFor 4 (some .int) (xrm 10 4 140) [.ref a, .int x, .int p] M (CO T a S (opNeed S x p).1 (.int (opNeed S x p).2) M) (CX T a S (opNeed S x p).1 [xIOB, xIAE] M) := by
  obtain ⟨vs, ha⟩ := hR.rec
  refine cq_open (lv := [_, _, _, _]) hG (by decide +kernel) (Nat.le_of_ble_eq_true rfl) rfl (fun C hC hk hx => ?_)
  refine x_aload_n hC dX1_peaksFor_0 rfl rfl ?_
  refine x_iload_n hC dX1_peaksFor_1 rfl rfl ?_
  refine x_qV (k := 1) (n := 6) (na := 1) hC (cq_get hG hR _) (lw_V q1534 q1536 qs13 q81 q1537) ha rfl rfl (by decide +kernel) rfl ⟨Nat.le_of_ble_eq_true rfl, Nat.le_of_ble_eq_true rfl⟩ rfl (Nat.le_of_ble_eq_true rfl) (Nat.le_of_ble_eq_true rfl) (Nat.le_of_ble_eq_true rfl) ⟨Nat.le_of_ble_eq_true rfl, Nat.le_of_ble_eq_true rfl⟩ dX1_peaksFor_2 ?_ (fun q9 E9 M9 h9 => x_out hC hx (Nat.le_of_ble_eq_true rfl) (Nat.le_of_ble_eq_true rfl) (by obtain ⟨rfl, rfl, h9⟩ := h9; exact CX.same (k := 0) hR (by unfold opNeed; rw [Decidable.not_not.mp h9]; rfl) rfl))
  rintro _ M1 ⟨hM1, q, r, hrc, rfl, hRA, hWf⟩
  subst hM1
  obtain ⟨na, sa, b, c, n1, n2⟩ := hRA
  obtain ⟨cv, rv, x1, -⟩ := n2.rec
  obtain ⟨j, j1, j2, j3⟩ := hWf.pw
  refine x_astore_n (lv' := [_, _, _, _]) hC dX1_peaksFor_5 rfl (by decide) rfl ?_
  refine x_iload_n hC dX1_peaksFor_6 rfl rfl ?_
  refine x_iconst (v := 0) hC dX1_peaksFor_7 (by decide) ?_
  refine x_bipush (v := 100) hC dX1_peaksFor_8 (by decide) ?_
  refine x_callS0 (na := 3) hC (ct_isBetween hG _ _ _ _) (lw_S q641 q642 q81 q643) (by decide +kernel) rfl ⟨Nat.le_of_ble_eq_true rfl, Nat.le_of_ble_eq_true rfl⟩ rfl (Nat.le_of_ble_eq_true rfl) ⟨rfl, rfl⟩ ⟨Nat.le_of_ble_eq_true rfl, Nat.le_of_ble_eq_true rfl⟩ dX1_peaksFor_10 ?_
  rintro _ M ⟨rfl, rfl⟩
  refine x_qS (k := 2) (n := 12) (na := 1) hC (cq_reqIAE hG _ _) (lw_S q1337 q1338 q81 q1339) (by decide +kernel) rfl ⟨Nat.le_of_ble_eq_true rfl, Nat.le_of_ble_eq_true rfl⟩ rfl (Nat.le_of_ble_eq_true rfl) (Nat.le_of_ble_eq_true rfl) (Nat.le_of_ble_eq_true rfl) ⟨Nat.le_of_ble_eq_true rfl, Nat.le_of_ble_eq_true rfl⟩ dX1_peaksFor_13 ?_ (fun q9 E9 M9 h9 => x_out hC hx (Nat.le_of_ble_eq_true rfl) (Nat.le_of_ble_eq_true rfl) (by obtain ⟨rfl, rfl, h9⟩ := h9; exact CX.same (k := 1) hR (by unfold opNeed; rw [hrc]; dsimp only [Option.elim]; rw [if_neg h9]; rfl) rfl))
  rintro _ M1 ⟨rfl, hM1, h9⟩
  subst hM1
  have hop : opNeed S x p = (0, ndN (rg r) (rz r) p) := by unfold opNeed; rw [hrc]; dsimp only [Option.elim]; rw [if_pos h9]
  refine x_aload_n hC dX1_peaksFor_16 rfl rfl ?_
  refine x_iload_n hC dX1_peaksFor_17 rfl rfl ?_
  refine x_callV (k := 4) (n := 140) (na := 1) hC (ct_rpeaks hG n2 j1 ⟨j2, j3⟩ hWf.lm h9) (lw_V q1837 q1838 q1839 q115 q1840) x1 rfl rfl (by decide +kernel) rfl ⟨Nat.le_of_ble_eq_true rfl, Nat.le_of_ble_eq_true rfl⟩ rfl (Nat.le_of_ble_eq_true rfl) (Nat.add_le_add_left dC_le2.1 _) (Nat.add_le_add_left dC_le2.2 _) ⟨Nat.le_of_ble_eq_true rfl, Nat.le_of_ble_eq_true rfl⟩ dX1_peaksFor_18 ?_
  rintro _ M2 ⟨rfl, hL⟩
  exact x_iret hC hk dX1_peaksFor_21 (Nat.le_of_ble_eq_true rfl) (Nat.le_of_ble_eq_true rfl) ⟨by rw [hop], by rw [hop], hR.lr hL, hL.pw⟩
theorem cq_purity (hG : GOK G) (hR : CRep S M T a) (x : Int32) : Cq G yX1_purity cX1_purity 5 (some .float) (xrm 10 4 198) [.ref a, .int x] M (CO T a S (opPurity S x).1 (.float (opPurity S x).2) M) (CX T a S (opPurity S x).1 [xIOB] M) := by
  obtain ⟨vs, ha⟩ := hR.rec
  refine cq_open (lv := [_, _, _, _, _]) hG (by decide +kernel) (Nat.le_of_ble_eq_true rfl) rfl (fun C hC hk hx => ?_)
  refine x_aload_n hC dX1_purity_0 rfl rfl ?_
  refine x_iload_n hC dX1_purity_1 rfl rfl ?_
  refine x_qV (k := 1) (n := 6) (na := 1) hC (cq_get hG hR _) (lw_V q1534 q1536 qs13 q81 q1537) ha rfl rfl (by decide +kernel) rfl ⟨Nat.le_of_ble_eq_true rfl, Nat.le_of_ble_eq_true rfl⟩ rfl (Nat.le_of_ble_eq_true rfl) (Nat.le_of_ble_eq_true rfl) (Nat.le_of_ble_eq_true rfl) ⟨Nat.le_of_ble_eq_true rfl, Nat.le_of_ble_eq_true rfl⟩ dX1_purity_2 ?_ (fun q9 E9 M9 h9 => x_out hC hx (Nat.le_of_ble_eq_true rfl) (Nat.le_of_ble_eq_true rfl) (by obtain ⟨rfl, rfl, h9⟩ := h9; exact CX.same (k := 0) hR (by unfold opPurity; rw [Decidable.not_not.mp h9]; rfl) rfl))
  rintro _ M1 ⟨hM1, q, r, hrc, rfl, hRA, hWf⟩
  subst hM1
  have hop : opPurity S x = (0, if coE r = 0 then FP.fconst0 else FP.fdiv (FP.l2f (sq (cfN (rg r) (rz r) (pkN r 0)))) (FP.l2f (coE r))) := by unfold opPurity; rw [hrc]; rfl
  obtain ⟨na, sa, b, c, n1, n2⟩ := hRA
  obtain ⟨cv, rv, x1, x2⟩ := n2.rec
  obtain ⟨j, j1, j2, j3⟩ := hWf.pw
  have h2 : 2 ≤ rz r := hWf.len.2
  refine x_astore_n (lv' := [_, _, _, _, _]) hC dX1_purity_5 rfl (by decide) rfl ?_
  refine x_aload_n hC dX1_purity_6 rfl rfl ?_
  refine x_callV0 (na := 0) hC (ct_rcoE hG x1 x2 ⟨j2, j3⟩ hWf.lm) (lw_V q1798 q1799 q1800 q115 q1801) x1 rfl rfl (by decide +kernel) rfl ⟨Nat.le_of_ble_eq_true rfl, Nat.le_of_ble_eq_true rfl⟩ rfl (Nat.le_of_ble_eq_true rfl) ⟨rfl, rfl⟩ ⟨Nat.le_of_ble_eq_true rfl, Nat.le_of_ble_eq_true rfl⟩ dX1_purity_7 ?_
  rintro _ M ⟨rfl, rfl⟩
  refine x_lstore_n (lv' := [_, _, _, _, _]) hC dX1_purity_10 rfl (by decide) rfl ?_
  refine x_lload_n hC dX1_purity_11 rfl rfl ?_
  refine x_lconst (v := 0) hC dX1_purity_12 (by decide) ?_
  refine x_lcmp hC dX1_purity_13 ?_
  refine x_if_ne (tgt := 21) hC dX1_purity_14 (by decide) (fun d => ?_) (fun d => ?_)
  · have d2 : ¬ coE r = 0 := fun h => d ((lg_cmp_eq _ _).mpr h)
    rw [if_neg d2] at hop
    refine x_aload_n hC dX1_purity_21 rfl rfl ?_
    refine x_aload_n hC dX1_purity_22 rfl rfl ?_
    refine x_callV (k := 3) (n := 134) (na := 0) hC (ct_ranking hG n2 j1 ⟨j2, j3⟩) (lw_V q1810 q1811 q1812 q115 q1813) x1 rfl rfl (by decide +kernel) rfl ⟨Nat.le_of_ble_eq_true rfl, Nat.le_of_ble_eq_true rfl⟩ rfl (Nat.le_of_ble_eq_true rfl) (Nat.add_le_add_left rC_le.1 _) (Nat.add_le_add_left rC_le.2 _) ⟨Nat.le_of_ble_eq_true rfl, Nat.le_of_ble_eq_true rfl⟩ dX1_purity_23 ?_
    rintro _ M2 ⟨p, u, rfl, hp, hu, hL, hb2⟩
    obtain ⟨cv2, x3⟩ := hb2.rec
    have h64 : rz r ≤ 64 := hWf.len.1
    refine x_iconst (v := nI 0) hC dX1_purity_26 (by decide) ?_
    refine x_ialdN hC hp (by omega) (by first | decide | omega) dX1_purity_27 ?_
    rw [hu 0 (by omega)]
    refine x_callV (k := 4) (n := 198) (na := 1) hC (ct_rsquare hG hb2 ⟨j2, j3⟩ (pkr_lt (cfN (rg r) (rz r)) (rz r) (by omega))) (lw_V q1797 q1753 q1754 q115 q1755) x3 rfl rfl (by decide +kernel) rfl ⟨Nat.le_of_ble_eq_true rfl, Nat.le_of_ble_eq_true rfl⟩ rfl (Nat.le_of_ble_eq_true rfl) (Nat.add_le_add_left bC_le.1 _) (Nat.add_le_add_left bC_le.2 _) ⟨Nat.le_of_ble_eq_true rfl, Nat.le_of_ble_eq_true rfl⟩ dX1_purity_28 ?_
    rintro _ M3 ⟨rfl, hL2, hb3⟩
    refine x_l2f hC dX1_purity_31 ?_
    refine x_lload_n hC dX1_purity_32 rfl rfl ?_
    refine x_l2f hC dX1_purity_33 ?_
    refine x_fdiv hC dX1_purity_34 (l2f_n32 _ _ d2) ?_
    exact x_fret hC hk dX1_purity_35 (Nat.le_of_ble_eq_true rfl) (Nat.le_of_ble_eq_true rfl) ⟨by rw [hop], by rw [hop], hR.lr (hL.tr hL2.lr), (hL.tr hL2.lr).pw⟩
  · have d2 : coE r = 0 := (lg_cmp_eq _ _).mp d
    rw [if_pos d2] at hop
    refine x_fconst0 hC dX1_purity_17 ?_
    refine x_goto (tgt := 35) hC dX1_purity_18 (by decide) ?_
    exact x_fret hC hk dX1_purity_35 (Nat.le_of_ble_eq_true rfl) (Nat.le_of_ble_eq_true rfl) ⟨by rw [hop], by rw [hop], hR, Fr.rf⟩
theorem cq_meanSequency (hG : GOK G) (hR : CRep S M T a) (x : Int32) : Cq G yX1_meanSequency cX1_meanSequency 7 (some .double) (xrm 10 2 70) [.ref a, .int x] M (CO T a S (opMeanSeq S x).1 (.double (opMeanSeq S x).2) M) (CX T a S (opMeanSeq S x).1 [xIOB] M) := by
  obtain ⟨vs, ha⟩ := hR.rec
  refine cq_open (lv := [_, _, _, _, _, _, _]) hG (by decide +kernel) (Nat.le_of_ble_eq_true rfl) rfl (fun C hC hk hx => ?_)
  refine x_aload_n hC dX1_meanSequency_0 rfl rfl ?_
  refine x_iload_n hC dX1_meanSequency_1 rfl rfl ?_
  refine x_qV (k := 1) (n := 6) (na := 1) hC (cq_get hG hR _) (lw_V q1534 q1536 qs13 q81 q1537) ha rfl rfl (by decide +kernel) rfl ⟨Nat.le_of_ble_eq_true rfl, Nat.le_of_ble_eq_true rfl⟩ rfl (Nat.le_of_ble_eq_true rfl) (Nat.le_of_ble_eq_true rfl) (Nat.le_of_ble_eq_true rfl) ⟨Nat.le_of_ble_eq_true rfl, Nat.le_of_ble_eq_true rfl⟩ dX1_meanSequency_2 ?_ (fun q9 E9 M9 h9 => x_out hC hx (Nat.le_of_ble_eq_true rfl) (Nat.le_of_ble_eq_true rfl) (by obtain ⟨rfl, rfl, h9⟩ := h9; exact CX.same (k := 0) hR (by unfold opMeanSeq; rw [Decidable.not_not.mp h9]; rfl) rfl))
  rintro _ M1 ⟨hM1, q, r, hrc, rfl, hRA, hWf⟩
  subst hM1
  have hop : opMeanSeq S x = (0, if coS (rg r) (rz r) = 0 then FP.dconst0 else FP.ddiv (FP.l2d (jS (fun i => (chg (nI i) (rz r)).toInt64 * sq (cfN (rg r) (rz r) i)) (rz r))) (FP.l2d (coS (rg r) (rz r)))) := by unfold opMeanSeq; rw [hrc]; rfl
  obtain ⟨na, sa, b, c, n1, n2⟩ := hRA
  obtain ⟨rv, hb⟩ := n2.rb
  obtain ⟨j, j1, j2, j3⟩ := hWf.pw
  have h64 : rz r ≤ 64 := hWf.len.1
  have h2 : 2 ≤ rz r := hWf.len.2
  refine x_astore_n (lv' := [_, _, _, _, _, _, _]) hC dX1_meanSequency_5 rfl (by decide) rfl ?_
  refine x_lconst (v := 0) hC dX1_meanSequency_6 (by decide) ?_
  refine x_lstore_n (lv' := [_, _, _, _, _, _, _]) hC dX1_meanSequency_7 rfl (by decide) rfl ?_
  refine x_iconst (v := nI 0) hC dX1_meanSequency_8 (by decide) ?_
  refine x_istore (lv' := [_, _, _, _, _, _, _]) hC dX1_meanSequency_9 (by decide) rfl ?_
  refine x_up (n := rz r) (I := fun k => ∀ M2 b1 kc ks, kc + bC b1 ≤ 1 + bC b → ks + bS b1 ≤ 6 + bS b → RcB M2 q na sa (rz r) (rg r) rv b1 → Lc M1 M2 → Wg G C M2 kc ks 11 [some (.ref a), some (.int x), some (.ref q), some (.long (jS (fun i => (chg (nI i) (rz r)).toInt64 * sq (cfN (rg r) (rz r) i)) k)), none, some (.int (nI k)), none] []) (fun k hk2 ih M2 b1 kc ks hkc hks hb2 hL => ?_) 0 (Nat.zero_le _) M1 b 1 6 (Nat.le_refl _) (Nat.le_refl _) hb Lc.rf
  have hb3 := hb2
  obtain ⟨cv2, x1, x2, -⟩ := hb3
  have z1 : bC b ≤ 1 ∧ bS b ≤ 64 := bC_le
  have q1 : kc ≤ 2 := by omega
  have q2 : ks ≤ 70 := by omega
  refine x_iload hC dX1_meanSequency_11 rfl ?_
  refine x_aload_n hC dX1_meanSequency_13 rfl rfl ?_
  refine x_callV0 (na := 0) hC (ct_rlen hG x1 x2) (lw_V q1558 q1559 q1560 q115 q1561) x1 rfl rfl (by decide +kernel) rfl ⟨Nat.le_of_ble_eq_true rfl, Nat.le_of_ble_eq_true rfl⟩ rfl (Nat.le_of_ble_eq_true rfl) ⟨rfl, rfl⟩ ⟨q1, q2⟩ dX1_meanSequency_14 ?_
  rintro _ M ⟨rfl, rfl⟩
  refine x_icmp_geN (tgt := 43) hC (by omega) (by omega) dX1_meanSequency_17 (by decide) (fun d => ?_) (fun d => ?_)
  · refine x_aload_n hC dX1_meanSequency_43 rfl rfl ?_
    refine x_callV0 (na := 0) hC (ct_rcoE hG x1 x2 ⟨j2, j3⟩ hWf.lm) (lw_V q1798 q1799 q1800 q115 q1801) x1 rfl rfl (by decide +kernel) rfl ⟨Nat.le_of_ble_eq_true rfl, Nat.le_of_ble_eq_true rfl⟩ rfl (Nat.le_of_ble_eq_true rfl) ⟨rfl, rfl⟩ ⟨q1, q2⟩ dX1_meanSequency_44 ?_
    rintro _ M ⟨rfl, rfl⟩
    refine x_lstore (lv' := [some (.ref a), some (.int x), some (.ref q), some (.long (jS (fun i => (chg (nI i) (rz r)).toInt64 * sq (cfN (rg r) (rz r) i)) k)), none, some (.long (coS (rg r) (rz r))), none]) hC dX1_meanSequency_47 (by decide) rfl ?_
    refine x_lload hC dX1_meanSequency_49 rfl ?_
    refine x_lconst (v := 0) hC dX1_meanSequency_51 (by decide) ?_
    refine x_lcmp hC dX1_meanSequency_52 ?_
    refine x_if_ne (tgt := 60) hC dX1_meanSequency_53 (by decide) (fun d3 => ?_) (fun d3 => ?_)
    · have d2 : ¬ coS (rg r) (rz r) = 0 := fun h => d3 ((lg_cmp_eq _ _).mpr h)
      rw [if_neg d2] at hop
      refine x_lload_n hC dX1_meanSequency_60 rfl rfl ?_
      refine x_l2d hC dX1_meanSequency_61 ?_
      refine x_lload hC dX1_meanSequency_62 rfl ?_
      refine x_l2d hC dX1_meanSequency_64 ?_
      refine x_ddiv hC dX1_meanSequency_65 (l2d_n64 _ _ d2) ?_
      exact x_dret hC hk dX1_meanSequency_66 q1 q2 ⟨by rw [hop], by rw [hop, show k = rz r by omega], hR.lr hL.lr, hL.lr.pw⟩
    · have d2 : coS (rg r) (rz r) = 0 := (lg_cmp_eq _ _).mp d3
      rw [if_pos d2] at hop
      refine x_dconst0 hC dX1_meanSequency_56 ?_
      refine x_goto (tgt := 66) hC dX1_meanSequency_57 (by decide) ?_
      exact x_dret hC hk dX1_meanSequency_66 q1 q2 ⟨by rw [hop], by rw [hop], hR.lr hL.lr, hL.lr.pw⟩
  · refine x_lload_n hC dX1_meanSequency_20 rfl rfl ?_
    refine x_aload_n hC dX1_meanSequency_21 rfl rfl ?_
    refine x_iload hC dX1_meanSequency_22 rfl ?_
    refine x_callV0 (na := 1) hC (ct_rseq (j := j) hG x1 (by rw [← j3]; exact x2) (by omega) j1 (by rw [← j3]; exact d)) (lw_V q1796 q1748 q1749 q115 q1750) x1 rfl rfl (by decide +kernel) rfl ⟨Nat.le_of_ble_eq_true rfl, Nat.le_of_ble_eq_true rfl⟩ rfl (Nat.le_of_ble_eq_true rfl) ⟨rfl, rfl⟩ ⟨q1, q2⟩ dX1_meanSequency_24 ?_
    rintro _ M ⟨rfl, rfl⟩
    refine x_i2l hC dX1_meanSequency_27 rfl ?_
    refine x_aload_n hC dX1_meanSequency_28 rfl rfl ?_
    refine x_iload hC dX1_meanSequency_29 rfl ?_
    refine x_callV (k := kc + bC b1) (n := ks + bS b1) (na := 1) hC (ct_rsquare hG hb2 ⟨j2, j3⟩ d) (lw_V q1797 q1753 q1754 q115 q1755) x1 rfl rfl (by decide +kernel) rfl ⟨Nat.le_of_ble_eq_true rfl, Nat.le_of_ble_eq_true rfl⟩ rfl (Nat.le_of_ble_eq_true rfl) (Nat.le_refl _) (Nat.le_refl _) ⟨(show kc + bC b1 ≤ 2 by omega), (show ks + bS b1 ≤ 70 by omega)⟩ dX1_meanSequency_31 ?_
    rintro _ M3 ⟨rfl, hL2, hb3⟩
    refine x_lmul hC dX1_meanSequency_34 ?_
    refine x_ladd hC dX1_meanSequency_35 ?_
    refine x_lstore_n (lv' := [_, _, _, _, _, _, _]) hC dX1_meanSequency_36 rfl (by decide) rfl ?_
    refine x_iincN (lv' := [_, _, _, _, _, _, _]) (b := 1) hC dX1_meanSequency_37 rfl (by decide) (by decide) rfl ?_
    refine x_goto (tgt := 11) hC dX1_meanSequency_40 (by decide) ?_
    rw [← j3]
    have w0 : bC true = 0 := rfl
    have w1 : bS true = 0 := rfl
    exact ih d M3 true _ _ (by omega) (by omega) hb3 (hL.tr hL2)
end PB2

