/-! ===== the component's public methods that only read, two recordings ===== -/
theorem rc2_some {R : List Rcd} {x z : Int32} {r s : Rcd} (h : rc R x = some r) (h2 : rc R z = some s) : rc2 R x z = some (r, s) := by unfold rc2; rw [h, h2]; rfl
theorem rc2_n1 {R : List Rcd} {x z : Int32} (h : rc R x = none) : rc2 R x z = none := by unfold rc2; rw [h]; rfl
theorem rc2_n2 {R : List Rcd} {x z : Int32} (h : rc R z = none) : rc2 R x z = none := by
  unfold rc2
  rw [h]
  cases rc R x <;> rfl
def PthS (S : X_S) (x z : Int32) (M : X_M) : Nat → String → X_M → Prop := fun _ E M' => M' = M ∧ ((E = xIOB ∧ rc2 (sR S) x z = none) ∨ (E = xIAE ∧ ∃ r s, rc2 (sR S) x z = some (r, s) ∧ ¬ rz r = rz s))
theorem CX.gs {T : X_T} {a : Nat} {S : X_S} {code : Int32} {M M' : X_M} {q : Nat} {E : String} {x z : Int32} {es : List String} (hR : CRep S M T a) (h : PthS S x z M q E M') (h1 : rc2 (sR S) x z = none → code = 1) (h2 : ∀ r s, rc2 (sR S) x z = some (r, s) → ¬ rz r = rz s → code = 2) : CX T a S code (xIOB :: xIAE :: es) M q E M' := by
  obtain ⟨rfl, ⟨rfl, h3⟩ | ⟨rfl, r, s, h3, h4⟩⟩ := h
  · exact CX.same (k := 0) hR (h1 h3) rfl
  · exact CX.same (k := 1) hR (h2 r s h3 h4) rfl
section PB3
variable {G : X_G} {M : X_M} {T : X_T} {a : Nat} {S : X_S}
theorem cq_getSameLength (hG : GOK G) (hR : CRep S M T a) (x z : Int32) : Cq G yX1_getSameLength cX1_getSameLength 5 (some (.object "WalshAnalyzer$Recording")) (xrm 5 3 18) [.ref a, .int x, .int z] M (fun u M' => M' = M ∧ ∃ p q r s, rc (sR S) x = some r ∧ rc (sR S) z = some s ∧ rz r = rz s ∧ u = some (.ref q) ∧ RA M p r ∧ RA M q s ∧ WfRow r ∧ WfRow s) (PthS S x z M) := by
  obtain ⟨vs, ha⟩ := hR.rec
  refine cq_open (lv := [_, _, _, _, _]) hG (by decide +kernel) (Nat.le_of_ble_eq_true rfl) rfl (fun C hC hk hx => ?_)
  refine x_aload_n hC dX1_getSameLength_0 rfl rfl ?_
  refine x_iload_n hC dX1_getSameLength_1 rfl rfl ?_
  refine x_qV (k := 1) (n := 6) (na := 1) hC (cq_get hG hR _) (lw_V q1534 q1536 qs13 q81 q1537) ha rfl rfl (by decide +kernel) rfl ⟨Nat.le_of_ble_eq_true rfl, Nat.le_of_ble_eq_true rfl⟩ rfl (Nat.le_of_ble_eq_true rfl) (Nat.le_of_ble_eq_true rfl) (Nat.le_of_ble_eq_true rfl) ⟨Nat.le_of_ble_eq_true rfl, Nat.le_of_ble_eq_true rfl⟩ dX1_getSameLength_2 ?_ (fun q9 E9 M9 h9 => x_out hC hx (Nat.le_of_ble_eq_true rfl) (Nat.le_of_ble_eq_true rfl) (by obtain ⟨rfl, rfl, h9⟩ := h9; exact ⟨rfl, Or.inl ⟨rfl, rc2_n1 (Decidable.not_not.mp h9)⟩⟩))
  rintro _ M1 ⟨hM1, p, r, hrc, rfl, hP, hWr⟩
  subst hM1
  refine x_astore_n (lv' := [_, _, _, _, _]) hC dX1_getSameLength_5 rfl (by decide) rfl ?_
  refine x_aload_n hC dX1_getSameLength_6 rfl rfl ?_
  refine x_iload_n hC dX1_getSameLength_7 rfl rfl ?_
  refine x_qV (k := 2) (n := 12) (na := 1) hC (cq_get hG hR _) (lw_V q1534 q1536 qs13 q81 q1537) ha rfl rfl (by decide +kernel) rfl ⟨Nat.le_of_ble_eq_true rfl, Nat.le_of_ble_eq_true rfl⟩ rfl (Nat.le_of_ble_eq_true rfl) (Nat.le_of_ble_eq_true rfl) (Nat.le_of_ble_eq_true rfl) ⟨Nat.le_of_ble_eq_true rfl, Nat.le_of_ble_eq_true rfl⟩ dX1_getSameLength_8 ?_ (fun q9 E9 M9 h9 => x_out hC hx (Nat.le_of_ble_eq_true rfl) (Nat.le_of_ble_eq_true rfl) (by obtain ⟨rfl, rfl, h9⟩ := h9; exact ⟨rfl, Or.inl ⟨rfl, rc2_n2 (Decidable.not_not.mp h9)⟩⟩))
  rintro _ M1 ⟨hM1, q, s, hrs, rfl, hQ, hWs⟩
  subst hM1
  obtain ⟨na, sa, cv, rv, x1, x2, -⟩ := hP.rec
  obtain ⟨na', sa', cv', rv', y1, y2, -⟩ := hQ.rec
  have h64 : rz r ≤ 64 := hWr.len.1
  have h65 : rz s ≤ 64 := hWs.len.1
  refine x_astore (lv' := [_, _, _, _, _]) hC dX1_getSameLength_11 (by decide) rfl ?_
  refine x_aload_n hC dX1_getSameLength_13 rfl rfl ?_
  refine x_callV0 (na := 0) hC (ct_rlen hG x1 x2) (lw_V q1558 q1559 q1560 q115 q1561) x1 rfl rfl (by decide +kernel) rfl ⟨Nat.le_of_ble_eq_true rfl, Nat.le_of_ble_eq_true rfl⟩ rfl (Nat.le_of_ble_eq_true rfl) ⟨rfl, rfl⟩ ⟨Nat.le_of_ble_eq_true rfl, Nat.le_of_ble_eq_true rfl⟩ dX1_getSameLength_14 ?_
  rintro _ M ⟨rfl, rfl⟩
  refine x_aload hC dX1_getSameLength_17 rfl ?_
  refine x_callV0 (na := 0) hC (ct_rlen hG y1 y2) (lw_V q1558 q1559 q1560 q115 q1561) y1 rfl rfl (by decide +kernel) rfl ⟨Nat.le_of_ble_eq_true rfl, Nat.le_of_ble_eq_true rfl⟩ rfl (Nat.le_of_ble_eq_true rfl) ⟨rfl, rfl⟩ ⟨Nat.le_of_ble_eq_true rfl, Nat.le_of_ble_eq_true rfl⟩ dX1_getSameLength_19 ?_
  rintro _ M ⟨rfl, rfl⟩
  refine x_icmp_neN (tgt := 29) hC (by omega) (by omega) dX1_getSameLength_22 (by decide) (fun c1 => ?_) (fun c1 => ?_)
  · refine x_iconst (v := 0) hC dX1_getSameLength_29 (by decide) ?_
    refine x_qS (k := 3) (n := 18) (na := 1) hC (cq_reqIAE hG False _) (lw_S q1337 q1338 q81 q1339) (by decide +kernel) rfl ⟨Nat.le_of_ble_eq_true rfl, Nat.le_of_ble_eq_true rfl⟩ rfl (Nat.le_of_ble_eq_true rfl) (Nat.le_of_ble_eq_true rfl) (Nat.le_of_ble_eq_true rfl) ⟨Nat.le_of_ble_eq_true rfl, Nat.le_of_ble_eq_true rfl⟩ dX1_getSameLength_30 ?_ (fun q9 E9 M9 h9 => x_out hC hx (Nat.le_of_ble_eq_true rfl) (Nat.le_of_ble_eq_true rfl) (by obtain ⟨rfl, rfl, h9⟩ := h9; exact ⟨rfl, Or.inr ⟨rfl, r, s, rc2_some hrc hrs, c1⟩⟩))
    rintro _ M ⟨rfl, rfl, h9⟩
    exact h9.elim
  · refine x_iconst (v := 1) hC dX1_getSameLength_25 (by decide) ?_
    refine x_goto (tgt := 30) hC dX1_getSameLength_26 (by decide) ?_
    refine x_qS (k := 3) (n := 18) (na := 1) hC (cq_reqIAE hG True _) (lw_S q1337 q1338 q81 q1339) (by decide +kernel) rfl ⟨Nat.le_of_ble_eq_true rfl, Nat.le_of_ble_eq_true rfl⟩ rfl (Nat.le_of_ble_eq_true rfl) (Nat.le_of_ble_eq_true rfl) (Nat.le_of_ble_eq_true rfl) ⟨Nat.le_of_ble_eq_true rfl, Nat.le_of_ble_eq_true rfl⟩ dX1_getSameLength_30 ?_ (fun q9 E9 M9 h9 => x_out hC hx (Nat.le_of_ble_eq_true rfl) (Nat.le_of_ble_eq_true rfl) (by obtain ⟨rfl, rfl, h9⟩ := h9; exact absurd trivial h9))
    rintro _ M ⟨rfl, rfl, h9⟩
    refine x_aload hC dX1_getSameLength_33 rfl ?_
    exact x_aret hC hk dX1_getSameLength_35 (Or.inl ⟨_, rfl⟩) (Or.inr ⟨_, rfl⟩) (Nat.le_of_ble_eq_true rfl) (Nat.le_of_ble_eq_true rfl) ⟨rfl, p, q, r, s, hrc, hrs, c1, rfl, hP, hQ, hWr, hWs⟩
theorem cq_distance (hG : GOK G) (hR : CRep S M T a) (x z : Int32) : Cq G yX1_distance cX1_distance 4 (some .int) (xrm 8 6 152) [.ref a, .int x, .int z] M (CO T a S (opDist S x z).1 (.int (opDist S x z).2) M) (CX T a S (opDist S x z).1 [xIOB, xIAE] M) := by
  obtain ⟨vs, ha⟩ := hR.rec
  refine cq_open (lv := [_, _, _, _]) hG (by decide +kernel) (Nat.le_of_ble_eq_true rfl) rfl (fun C hC hk hx => ?_)
  refine x_aload_n hC dX1_distance_0 rfl rfl ?_
  refine x_iload_n hC dX1_distance_1 rfl rfl ?_
  refine x_iload_n hC dX1_distance_2 rfl rfl ?_
  refine x_qV (k := 3) (n := 18) (na := 2) hC (cq_getSameLength hG hR _ _) (lw_V q1857 q1859 qs18 q81 q1860) ha rfl rfl (by decide +kernel) rfl ⟨Nat.le_of_ble_eq_true rfl, Nat.le_of_ble_eq_true rfl⟩ rfl (Nat.le_of_ble_eq_true rfl) (Nat.le_of_ble_eq_true rfl) (Nat.le_of_ble_eq_true rfl) ⟨Nat.le_of_ble_eq_true rfl, Nat.le_of_ble_eq_true rfl⟩ dX1_distance_3 ?_ (fun q9 E9 M9 h9 => x_out hC hx (Nat.le_of_ble_eq_true rfl) (Nat.le_of_ble_eq_true rfl) (by obtain h9 := h9; exact CX.gs hR h9 (fun h => by unfold opDist; rw [h]; rfl) (fun r s h h2 => by unfold opDist; rw [h]; dsimp only [Option.elim]; rw [if_neg h2])))
  rintro _ M1 ⟨hM1, p, q0, r, s, hrc, hrs, hrz, rfl, hP0, hRA0, hWfr, hWfs⟩
  subst hM1
  refine x_astore_n (lv' := [_, _, _, _]) hC dX1_distance_6 rfl (by decide) rfl ?_
  refine x_aload_n hC dX1_distance_7 rfl rfl ?_
  refine x_iload_n hC dX1_distance_8 rfl rfl ?_
  refine x_qV (k := 4) (n := 24) (na := 1) hC (cq_get hG hR _) (lw_V q1534 q1536 qs13 q81 q1537) ha rfl rfl (by decide +kernel) rfl ⟨Nat.le_of_ble_eq_true rfl, Nat.le_of_ble_eq_true rfl⟩ rfl (Nat.le_of_ble_eq_true rfl) (Nat.le_of_ble_eq_true rfl) (Nat.le_of_ble_eq_true rfl) ⟨Nat.le_of_ble_eq_true rfl, Nat.le_of_ble_eq_true rfl⟩ dX1_distance_9 ?_ (fun q9 E9 M9 h9 => x_out hC hx (Nat.le_of_ble_eq_true rfl) (Nat.le_of_ble_eq_true rfl) (by obtain ⟨rfl, rfl, h9⟩ := h9; exact (h9 (by rw [hrc]; intro z; cases z)).elim))
  rintro _ M1 ⟨hM1, q, r1, hrc1, rfl, hRA, hWf1⟩
  subst hM1
  rw [hrc] at hrc1
  cases hrc1
  have hop : opDist S x z = (0, apN r s) := by unfold opDist; rw [rc2_some hrc hrs]; dsimp only [Option.elim]; rw [if_pos hrz]
  obtain ⟨na, sa, b, c, n1, n2⟩ := hRA
  obtain ⟨na', sa', b', c', n1', n2'⟩ := hRA0
  obtain ⟨rv, hb⟩ := n2.rb
  obtain ⟨rv', hb'⟩ := n2'.rb
  obtain ⟨cv, x1⟩ := hb.rec
  obtain ⟨j, j1, j2, j3⟩ := hWfr.pw
  rw [← hrz] at hb'
  refine x_aload_n hC dX1_distance_12 rfl rfl ?_
  refine x_callV (k := 6) (n := 152) (na := 1) hC (ct_rdist hG hb hb' ⟨j2, j3⟩) (lw_V q1861 q1862 q1863 q115 q1864) x1 rfl rfl (by decide +kernel) rfl ⟨Nat.le_of_ble_eq_true rfl, Nat.le_of_ble_eq_true rfl⟩ rfl (Nat.le_of_ble_eq_true rfl) (show 4 + (bC b + bC b') ≤ 6 by have h1 := bC_le (b := b); have h2 := bC_le (b := b'); omega) (show 24 + (bS b + bS b') ≤ 152 by have h1 := bC_le (b := b); have h2 := bC_le (b := b'); omega) ⟨Nat.le_of_ble_eq_true rfl, Nat.le_of_ble_eq_true rfl⟩ dX1_distance_13 ?_
  rintro _ M2 ⟨rfl, hL⟩
  exact x_iret hC hk dX1_distance_16 (Nat.le_of_ble_eq_true rfl) (Nat.le_of_ble_eq_true rfl) ⟨by rw [hop], by rw [hop]; show some (Value.int _) = some (Value.int (iS (fun i => iabs (cfN (rg r) (rz r) i - cfN (rg s) (rz s) i)) (rz r))); rw [← hrz], hR.lr hL.lr, hL.lr.pw⟩
theorem cq_correlation (hG : GOK G) (hR : CRep S M T a) (x z sh : Int32) : Cq G yX1_correlation cX1_correlation 5 (some .long) (xrm 8 5 30) [.ref a, .int x, .int z, .int sh] M (CO T a S (opCorr S x z sh).1 (.long (opCorr S x z sh).2) M) (CX T a S (opCorr S x z sh).1 [xIOB, xIAE] M) := by
  obtain ⟨vs, ha⟩ := hR.rec
  refine cq_open (lv := [_, _, _, _, _]) hG (by decide +kernel) (Nat.le_of_ble_eq_true rfl) rfl (fun C hC hk hx => ?_)
  refine x_aload_n hC dX1_correlation_0 rfl rfl ?_
  refine x_iload_n hC dX1_correlation_1 rfl rfl ?_
  refine x_iload_n hC dX1_correlation_2 rfl rfl ?_
  refine x_qV (k := 3) (n := 18) (na := 2) hC (cq_getSameLength hG hR _ _) (lw_V q1857 q1859 qs18 q81 q1860) ha rfl rfl (by decide +kernel) rfl ⟨Nat.le_of_ble_eq_true rfl, Nat.le_of_ble_eq_true rfl⟩ rfl (Nat.le_of_ble_eq_true rfl) (Nat.le_of_ble_eq_true rfl) (Nat.le_of_ble_eq_true rfl) ⟨Nat.le_of_ble_eq_true rfl, Nat.le_of_ble_eq_true rfl⟩ dX1_correlation_3 ?_ (fun q9 E9 M9 h9 => x_out hC hx (Nat.le_of_ble_eq_true rfl) (Nat.le_of_ble_eq_true rfl) (by obtain h9 := h9; exact CX.gs hR h9 (fun h => by unfold opCorr; rw [h]; rfl) (fun r s h h2 => by unfold opCorr; rw [h]; dsimp only [Option.elim]; rw [if_neg (fun u => h2 u.1)])))
  rintro _ M1 ⟨hM1, p, q0, r, s, hrc, hrs, hrz, rfl, hP0, hRA0, hWfr, hWfs⟩
  subst hM1
  obtain ⟨na', sa', cv', rv', y1, y2, -⟩ := hRA0.rec
  refine x_astore (lv' := [_, _, _, _, _]) hC dX1_correlation_6 (by decide) rfl ?_
  refine x_aload hC dX1_correlation_8 rfl ?_
  refine x_iload_n hC dX1_correlation_10 rfl rfl ?_
  refine x_callV0 (na := 1) hC (ct_rhas hG y1 y2 sh) (lw_V q1580 q1581 q1582 q115 q1583) y1 rfl rfl (by decide +kernel) rfl ⟨Nat.le_of_ble_eq_true rfl, Nat.le_of_ble_eq_true rfl⟩ rfl (Nat.le_of_ble_eq_true rfl) ⟨rfl, rfl⟩ ⟨Nat.le_of_ble_eq_true rfl, Nat.le_of_ble_eq_true rfl⟩ dX1_correlation_11 ?_
  rintro _ M ⟨rfl, rfl⟩
  refine x_qS (k := 4) (n := 24) (na := 1) hC (cq_reqIAE hG _ _) (lw_S q1337 q1338 q81 q1339) (by decide +kernel) rfl ⟨Nat.le_of_ble_eq_true rfl, Nat.le_of_ble_eq_true rfl⟩ rfl (Nat.le_of_ble_eq_true rfl) (Nat.le_of_ble_eq_true rfl) (Nat.le_of_ble_eq_true rfl) ⟨Nat.le_of_ble_eq_true rfl, Nat.le_of_ble_eq_true rfl⟩ dX1_correlation_14 ?_ (fun q9 E9 M9 h9 => x_out hC hx (Nat.le_of_ble_eq_true rfl) (Nat.le_of_ble_eq_true rfl) (by obtain ⟨rfl, rfl, h9⟩ := h9; exact CX.same (k := 1) hR (by unfold opCorr; rw [rc2_some hrc hrs]; dsimp only [Option.elim]; rw [if_neg (fun u => h9 (by rw [← hrz]; exact u.2))]; rfl) rfl))
  rintro _ M ⟨rfl, hM1, h9⟩
  subst hM1
  rw [← hrz] at h9 y2
  have hop : opCorr S x z sh = (0, crN r s sh.toNatClampNeg) := by unfold opCorr; rw [rc2_some hrc hrs]; dsimp only [Option.elim]; rw [if_pos ⟨hrz, h9⟩]
  refine x_aload_n hC dX1_correlation_17 rfl rfl ?_
  refine x_iload_n hC dX1_correlation_18 rfl rfl ?_
  refine x_qV (k := 5) (n := 30) (na := 1) hC (cq_get hG hR _) (lw_V q1534 q1536 qs13 q81 q1537) ha rfl rfl (by decide +kernel) rfl ⟨Nat.le_of_ble_eq_true rfl, Nat.le_of_ble_eq_true rfl⟩ rfl (Nat.le_of_ble_eq_true rfl) (Nat.le_of_ble_eq_true rfl) (Nat.le_of_ble_eq_true rfl) ⟨Nat.le_of_ble_eq_true rfl, Nat.le_of_ble_eq_true rfl⟩ dX1_correlation_19 ?_ (fun q9 E9 M9 h9 => x_out hC hx (Nat.le_of_ble_eq_true rfl) (Nat.le_of_ble_eq_true rfl) (by obtain ⟨rfl, rfl, h9⟩ := h9; exact (h9 (by rw [hrc]; intro z; cases z)).elim))
  rintro _ M1 ⟨hM1, q, r1, hrc1, rfl, hRA, hWf1⟩
  subst hM1
  rw [hrc] at hrc1
  cases hrc1
  obtain ⟨na, sa, cv, rv, x1, x2, -⟩ := hRA.rec
  have h64 : rz r ≤ 64 := hWfr.len.1
  obtain ⟨j, j1, j2, j3⟩ := hWfr.pw
  obtain ⟨k, hk1, rfl, hk3⟩ := inI_at (n := rz r) (by omega) h9
  rw [hk3] at hop
  refine x_aload hC dX1_correlation_22 rfl ?_
  refine x_iload_n hC dX1_correlation_24 rfl rfl ?_
  refine x_callV0 (na := 2) hC (ct_rcorr hG x1 x2 y1 y2 h64 (s := k) (fun i hi => by rw [j3] at hi hk1 ⊢; exact Nat.xor_lt_two_pow hi hk1)) (lw_V q1875 q1876 q1877 q115 q1878) x1 rfl rfl (by decide +kernel) rfl ⟨Nat.le_of_ble_eq_true rfl, Nat.le_of_ble_eq_true rfl⟩ rfl (Nat.le_of_ble_eq_true rfl) ⟨rfl, rfl⟩ ⟨Nat.le_of_ble_eq_true rfl, Nat.le_of_ble_eq_true rfl⟩ dX1_correlation_25 ?_
  rintro _ M ⟨rfl, rfl⟩
  exact x_lret hC hk dX1_correlation_28 (Nat.le_of_ble_eq_true rfl) (Nat.le_of_ble_eq_true rfl) ⟨by rw [hop], by rw [hop], hR, Fr.rf⟩
theorem cq_bestShift (hG : GOK G) (hR : CRep S M T a) (x z : Int32) : Cq G yX1_bestShift cX1_bestShift 4 (some .int) (xrm 8 4 24) [.ref a, .int x, .int z] M (CO T a S (opShiftB S x z).1 (.int (opShiftB S x z).2) M) (CX T a S (opShiftB S x z).1 [xIOB, xIAE] M) := by
  obtain ⟨vs, ha⟩ := hR.rec
  refine cq_open (lv := [_, _, _, _]) hG (by decide +kernel) (Nat.le_of_ble_eq_true rfl) rfl (fun C hC hk hx => ?_)
  refine x_aload_n hC dX1_bestShift_0 rfl rfl ?_
  refine x_iload_n hC dX1_bestShift_1 rfl rfl ?_
  refine x_iload_n hC dX1_bestShift_2 rfl rfl ?_
  refine x_qV (k := 3) (n := 18) (na := 2) hC (cq_getSameLength hG hR _ _) (lw_V q1857 q1859 qs18 q81 q1860) ha rfl rfl (by decide +kernel) rfl ⟨Nat.le_of_ble_eq_true rfl, Nat.le_of_ble_eq_true rfl⟩ rfl (Nat.le_of_ble_eq_true rfl) (Nat.le_of_ble_eq_true rfl) (Nat.le_of_ble_eq_true rfl) ⟨Nat.le_of_ble_eq_true rfl, Nat.le_of_ble_eq_true rfl⟩ dX1_bestShift_3 ?_ (fun q9 E9 M9 h9 => x_out hC hx (Nat.le_of_ble_eq_true rfl) (Nat.le_of_ble_eq_true rfl) (by obtain h9 := h9; exact CX.gs hR h9 (fun h => by unfold opShiftB; rw [h]; rfl) (fun r s h h2 => by unfold opShiftB; rw [h]; dsimp only [Option.elim]; rw [if_neg h2])))
  rintro _ M1 ⟨hM1, p, q0, r, s, hrc, hrs, hrz, rfl, hP0, hRA0, hWfr, hWfs⟩
  subst hM1
  refine x_astore_n (lv' := [_, _, _, _]) hC dX1_bestShift_6 rfl (by decide) rfl ?_
  refine x_aload_n hC dX1_bestShift_7 rfl rfl ?_
  refine x_iload_n hC dX1_bestShift_8 rfl rfl ?_
  refine x_qV (k := 4) (n := 24) (na := 1) hC (cq_get hG hR _) (lw_V q1534 q1536 qs13 q81 q1537) ha rfl rfl (by decide +kernel) rfl ⟨Nat.le_of_ble_eq_true rfl, Nat.le_of_ble_eq_true rfl⟩ rfl (Nat.le_of_ble_eq_true rfl) (Nat.le_of_ble_eq_true rfl) (Nat.le_of_ble_eq_true rfl) ⟨Nat.le_of_ble_eq_true rfl, Nat.le_of_ble_eq_true rfl⟩ dX1_bestShift_9 ?_ (fun q9 E9 M9 h9 => x_out hC hx (Nat.le_of_ble_eq_true rfl) (Nat.le_of_ble_eq_true rfl) (by obtain ⟨rfl, rfl, h9⟩ := h9; exact (h9 (by rw [hrc]; intro z; cases z)).elim))
  rintro _ M1 ⟨hM1, q, r1, hrc1, rfl, hRA, hWf1⟩
  subst hM1
  rw [hrc] at hrc1
  cases hrc1
  have hop : opShiftB S x z = (0, nI (amx (fun a b => decide (crN r s a < crN r s b)) (rz r))) := by unfold opShiftB; rw [rc2_some hrc hrs]; dsimp only [Option.elim]; rw [if_pos hrz]
  obtain ⟨na, sa, cv, rv, x1, x2, -⟩ := hRA.rec
  obtain ⟨na', sa', cv', rv', y1, y2, -⟩ := hRA0.rec
  obtain ⟨j, j1, j2, j3⟩ := hWfr.pw
  have h64 : rz r ≤ 64 := hWfr.len.1
  have h02 : 2 ≤ rz r := hWfr.len.2
  rw [← hrz] at y2
  refine x_aload_n hC dX1_bestShift_12 rfl rfl ?_
  refine x_callV0 (na := 1) hC (ct_rbest hG x1 x2 y1 y2 h64 (by omega) (fun s hs i hi => by rw [j3] at hi hs ⊢; exact Nat.xor_lt_two_pow hi hs)) (lw_V q1900 q1901 q1902 q115 q1903) x1 rfl rfl (by decide +kernel) rfl ⟨Nat.le_of_ble_eq_true rfl, Nat.le_of_ble_eq_true rfl⟩ rfl (Nat.le_of_ble_eq_true rfl) ⟨rfl, rfl⟩ ⟨Nat.le_of_ble_eq_true rfl, Nat.le_of_ble_eq_true rfl⟩ dX1_bestShift_13 ?_
  rintro _ M ⟨rfl, rfl⟩
  exact x_iret hC hk dX1_bestShift_16 (Nat.le_of_ble_eq_true rfl) (Nat.le_of_ble_eq_true rfl) ⟨by rw [hop], by rw [hop], hR, Fr.rf⟩
theorem cq_similarity (hG : GOK G) (hR : CRep S M T a) (x z : Int32) : Cq G yX1_similarity cX1_similarity 7 (some .double) (xrm 8 4 24) [.ref a, .int x, .int z] M (CO T a S (opSimil S x z).1 (.double (opSimil S x z).2) M) (CX T a S (opSimil S x z).1 [xIOB, xIAE] M) := by
  obtain ⟨vs, ha⟩ := hR.rec
  refine cq_open (lv := [_, _, _, _, _, _, _]) hG (by decide +kernel) (Nat.le_of_ble_eq_true rfl) rfl (fun C hC hk hx => ?_)
  refine x_aload_n hC dX1_similarity_0 rfl rfl ?_
  refine x_iload_n hC dX1_similarity_1 rfl rfl ?_
  refine x_iload_n hC dX1_similarity_2 rfl rfl ?_
  refine x_qV (k := 3) (n := 18) (na := 2) hC (cq_getSameLength hG hR _ _) (lw_V q1857 q1859 qs18 q81 q1860) ha rfl rfl (by decide +kernel) rfl ⟨Nat.le_of_ble_eq_true rfl, Nat.le_of_ble_eq_true rfl⟩ rfl (Nat.le_of_ble_eq_true rfl) (Nat.le_of_ble_eq_true rfl) (Nat.le_of_ble_eq_true rfl) ⟨Nat.le_of_ble_eq_true rfl, Nat.le_of_ble_eq_true rfl⟩ dX1_similarity_3 ?_ (fun q9 E9 M9 h9 => x_out hC hx (Nat.le_of_ble_eq_true rfl) (Nat.le_of_ble_eq_true rfl) (by obtain h9 := h9; exact CX.gs hR h9 (fun h => by unfold opSimil; rw [h]; rfl) (fun r s h h2 => by unfold opSimil; rw [h]; dsimp only [Option.elim]; rw [if_neg h2])))
  rintro _ M1 ⟨hM1, p, q0, r, s, hrc, hrs, hrz, rfl, hP0, hRA0, hWfr, hWfs⟩
  subst hM1
  refine x_astore_n (lv' := [_, _, _, _, _, _, _]) hC dX1_similarity_6 rfl (by decide) rfl ?_
  refine x_aload_n hC dX1_similarity_7 rfl rfl ?_
  refine x_iload_n hC dX1_similarity_8 rfl rfl ?_
  refine x_qV (k := 4) (n := 24) (na := 1) hC (cq_get hG hR _) (lw_V q1534 q1536 qs13 q81 q1537) ha rfl rfl (by decide +kernel) rfl ⟨Nat.le_of_ble_eq_true rfl, Nat.le_of_ble_eq_true rfl⟩ rfl (Nat.le_of_ble_eq_true rfl) (Nat.le_of_ble_eq_true rfl) (Nat.le_of_ble_eq_true rfl) ⟨Nat.le_of_ble_eq_true rfl, Nat.le_of_ble_eq_true rfl⟩ dX1_similarity_9 ?_ (fun q9 E9 M9 h9 => x_out hC hx (Nat.le_of_ble_eq_true rfl) (Nat.le_of_ble_eq_true rfl) (by obtain ⟨rfl, rfl, h9⟩ := h9; exact (h9 (by rw [hrc]; intro z; cases z)).elim))
  rintro _ M1 ⟨hM1, q, r1, hrc1, rfl, hRA, hWf1⟩
  subst hM1
  rw [hrc] at hrc1
  cases hrc1
  have hop : opSimil S x z = (0, if jmax (eN r) (eN s) = 0 then FP.dconst0 else FP.ddiv (FP.l2d (crN r s 0)) (FP.l2d (jmax (eN r) (eN s)))) := by unfold opSimil; rw [rc2_some hrc hrs]; dsimp only [Option.elim]; rw [if_pos hrz]
  obtain ⟨na, sa, cv, rv, x1, x2, -⟩ := hRA.rec
  obtain ⟨na', sa', cv', rv', y1, y2, -⟩ := hRA0.rec
  obtain ⟨j, j1, j2, j3⟩ := hWfr.pw
  have h64 : rz r ≤ 64 := hWfr.len.1
  have y3 := y2
  rw [← hrz] at y3
  refine x_astore (lv' := [_, _, _, _, _, _, _]) hC dX1_similarity_12 (by decide) rfl ?_
  refine x_aload hC dX1_similarity_14 rfl ?_
  refine x_callV0 (na := 0) hC (ct_renergy hG x1 x2 h64) (lw_V q1592 q1593 q1594 q115 q1595) x1 rfl rfl (by decide +kernel) rfl ⟨Nat.le_of_ble_eq_true rfl, Nat.le_of_ble_eq_true rfl⟩ rfl (Nat.le_of_ble_eq_true rfl) ⟨rfl, rfl⟩ ⟨Nat.le_of_ble_eq_true rfl, Nat.le_of_ble_eq_true rfl⟩ dX1_similarity_16 ?_
  rintro _ M ⟨rfl, rfl⟩
  refine x_aload_n hC dX1_similarity_19 rfl rfl ?_
  refine x_callV0 (na := 0) hC (ct_renergy hG y1 y2 (by omega)) (lw_V q1592 q1593 q1594 q115 q1595) y1 rfl rfl (by decide +kernel) rfl ⟨Nat.le_of_ble_eq_true rfl, Nat.le_of_ble_eq_true rfl⟩ rfl (Nat.le_of_ble_eq_true rfl) ⟨rfl, rfl⟩ ⟨Nat.le_of_ble_eq_true rfl, Nat.le_of_ble_eq_true rfl⟩ dX1_similarity_20 ?_
  rintro _ M ⟨rfl, rfl⟩
  refine x_callS0 (na := 2) hC (ct_jmax hG _ _ _) (lw_S q1872 q1873 q103 q1874) (by decide +kernel) rfl ⟨Nat.le_of_ble_eq_true rfl, Nat.le_of_ble_eq_true rfl⟩ rfl (Nat.le_of_ble_eq_true rfl) ⟨rfl, rfl⟩ ⟨Nat.le_of_ble_eq_true rfl, Nat.le_of_ble_eq_true rfl⟩ dX1_similarity_23 ?_
  rintro _ M ⟨rfl, rfl⟩
  refine x_lstore (lv' := [_, _, _, _, _, _, _]) hC dX1_similarity_26 (by decide) rfl ?_
  refine x_lload hC dX1_similarity_28 rfl ?_
  refine x_lconst (v := 0) hC dX1_similarity_30 (by decide) ?_
  refine x_lcmp hC dX1_similarity_31 ?_
  refine x_if_ne (tgt := 39) hC dX1_similarity_32 (by decide) (fun d => ?_) (fun d => ?_)
  · have d2 : ¬ jmax (eN r) (eN s) = 0 := fun h => d ((lg_cmp_eq _ _).mpr h)
    rw [if_neg d2] at hop
    refine x_aload hC dX1_similarity_39 rfl ?_
    refine x_aload_n hC dX1_similarity_41 rfl rfl ?_
    refine x_iconst (v := nI 0) hC dX1_similarity_42 (by decide) ?_
    refine x_callV0 (na := 2) hC (ct_rcorr hG x1 x2 y1 y3 h64 (s := 0) (fun i hi => by rw [Nat.xor_zero]; exact hi)) (lw_V q1875 q1876 q1877 q115 q1878) x1 rfl rfl (by decide +kernel) rfl ⟨Nat.le_of_ble_eq_true rfl, Nat.le_of_ble_eq_true rfl⟩ rfl (Nat.le_of_ble_eq_true rfl) ⟨rfl, rfl⟩ ⟨Nat.le_of_ble_eq_true rfl, Nat.le_of_ble_eq_true rfl⟩ dX1_similarity_43 ?_
    rintro _ M ⟨rfl, rfl⟩
    refine x_l2d hC dX1_similarity_46 ?_
    refine x_lload hC dX1_similarity_47 rfl ?_
    refine x_l2d hC dX1_similarity_49 ?_
    refine x_ddiv hC dX1_similarity_50 (l2d_n64 _ _ d2) ?_
    exact x_dret hC hk dX1_similarity_51 (Nat.le_of_ble_eq_true rfl) (Nat.le_of_ble_eq_true rfl) ⟨by rw [hop], by rw [hop], hR, Fr.rf⟩
  · have d2 : jmax (eN r) (eN s) = 0 := (lg_cmp_eq _ _).mp d
    rw [if_pos d2] at hop
    refine x_dconst0 hC dX1_similarity_35 ?_
    refine x_goto (tgt := 51) hC dX1_similarity_36 (by decide) ?_
    exact x_dret hC hk dX1_similarity_51 (Nat.le_of_ble_eq_true rfl) (Nat.le_of_ble_eq_true rfl) ⟨by rw [hop], by rw [hop], hR, Fr.rf⟩
theorem cq_reqCount (hG : GOK G) {q n na sa : Nat} {f : Nat → Int32} {cv rv : Value} (h : M q = some (ob 2 3 (reF na sa cv rv))) (hs : M sa = some (ia 0 n f)) (x : Int32) : Cq G yX1_requireCount cX1_requireCount 2 none (xrm 3 1 6) [.ref q, .int x] M (Pok (0 ≤ x ∧ x ≤ nI n) M) (Pth xIAE (0 ≤ x ∧ x ≤ nI n) M) := by
  refine cq_open (lv := [_, _]) hG (by decide +kernel) (Nat.le_of_ble_eq_true rfl) rfl (fun C hC hk hx => ?_)
  refine x_iload_n hC dX1_requireCount_0 rfl rfl ?_
  refine x_iconst (v := 0) hC dX1_requireCount_1 (by decide) ?_
  refine x_aload_n hC dX1_requireCount_2 rfl rfl ?_
  refine x_callV0 (na := 0) hC (ct_rlen hG h hs) (lw_V q1558 q1559 q1560 q115 q1561) h rfl rfl (by decide +kernel) rfl ⟨Nat.le_of_ble_eq_true rfl, Nat.le_of_ble_eq_true rfl⟩ rfl (Nat.le_of_ble_eq_true rfl) ⟨rfl, rfl⟩ ⟨Nat.le_of_ble_eq_true rfl, Nat.le_of_ble_eq_true rfl⟩ dX1_requireCount_3 ?_
  rintro _ M ⟨rfl, rfl⟩
  refine x_callS0 (na := 3) hC (ct_isBetween hG _ _ _ _) (lw_S q641 q642 q81 q643) (by decide +kernel) rfl ⟨Nat.le_of_ble_eq_true rfl, Nat.le_of_ble_eq_true rfl⟩ rfl (Nat.le_of_ble_eq_true rfl) ⟨rfl, rfl⟩ ⟨Nat.le_of_ble_eq_true rfl, Nat.le_of_ble_eq_true rfl⟩ dX1_requireCount_6 ?_
  rintro _ M ⟨rfl, rfl⟩
  refine x_qS (k := 1) (n := 6) (na := 1) hC (cq_reqIAE hG _ _) (lw_S q1337 q1338 q81 q1339) (by decide +kernel) rfl ⟨Nat.le_of_ble_eq_true rfl, Nat.le_of_ble_eq_true rfl⟩ rfl (Nat.le_of_ble_eq_true rfl) (Nat.le_of_ble_eq_true rfl) (Nat.le_of_ble_eq_true rfl) ⟨Nat.le_of_ble_eq_true rfl, Nat.le_of_ble_eq_true rfl⟩ dX1_requireCount_9 ?_ (fun q9 E9 M9 h9 => x_out hC hx (Nat.le_of_ble_eq_true rfl) (Nat.le_of_ble_eq_true rfl) (by obtain ⟨rfl, rfl, h9⟩ := h9; exact ⟨rfl, rfl, h9⟩))
  rintro _ M ⟨rfl, rfl, h9⟩
  exact x_vret hC hk dX1_requireCount_12 (Nat.le_of_ble_eq_true rfl) (Nat.le_of_ble_eq_true rfl) ⟨rfl, rfl, h9⟩
theorem cq_commonPeaks (hG : GOK G) (hR : CRep S M T a) (x z m : Int32) : Cq G yX1_commonPeaks cX1_commonPeaks 5 (some .int) (xrm 10 9 286) [.ref a, .int x, .int z, .int m] M (CO T a S (opCommon S x z m).1 (.int (opCommon S x z m).2) M) (CX T a S (opCommon S x z m).1 [xIOB, xIAE] M) := by
  obtain ⟨vs, ha⟩ := hR.rec
  refine cq_open (lv := [_, _, _, _, _]) hG (by decide +kernel) (Nat.le_of_ble_eq_true rfl) rfl (fun C hC hk hx => ?_)
  refine x_aload_n hC dX1_commonPeaks_0 rfl rfl ?_
  refine x_iload_n hC dX1_commonPeaks_1 rfl rfl ?_
  refine x_iload_n hC dX1_commonPeaks_2 rfl rfl ?_
  refine x_qV (k := 3) (n := 18) (na := 2) hC (cq_getSameLength hG hR _ _) (lw_V q1857 q1859 qs18 q81 q1860) ha rfl rfl (by decide +kernel) rfl ⟨Nat.le_of_ble_eq_true rfl, Nat.le_of_ble_eq_true rfl⟩ rfl (Nat.le_of_ble_eq_true rfl) (Nat.le_of_ble_eq_true rfl) (Nat.le_of_ble_eq_true rfl) ⟨Nat.le_of_ble_eq_true rfl, Nat.le_of_ble_eq_true rfl⟩ dX1_commonPeaks_3 ?_ (fun q9 E9 M9 h9 => x_out hC hx (Nat.le_of_ble_eq_true rfl) (Nat.le_of_ble_eq_true rfl) (by obtain h9 := h9; exact CX.gs hR h9 (fun h => by unfold opCommon; rw [h]; rfl) (fun r s h h2 => by unfold opCommon; rw [h]; dsimp only [Option.elim]; rw [if_neg (fun u => h2 u.1)])))
  rintro _ M1 ⟨hM1, p, q0, r, s, hrc, hrs, hrz, rfl, hP0, hRA0, hWfr, hWfs⟩
  subst hM1
  obtain ⟨na', sa', b', c', n1', n2'⟩ := hRA0
  obtain ⟨cv', rv', y1, y2⟩ := n2'.rec
  refine x_astore (lv' := [_, _, _, _, _]) hC dX1_commonPeaks_6 (by decide) rfl ?_
  refine x_aload hC dX1_commonPeaks_8 rfl ?_
  refine x_iload_n hC dX1_commonPeaks_10 rfl rfl ?_
  refine x_qS (k := 4) (n := 24) (na := 2) hC (cq_reqCount hG y1 y2 _) (lw_S q1912 q1913 q81 q1914) (by decide +kernel) rfl ⟨Nat.le_of_ble_eq_true rfl, Nat.le_of_ble_eq_true rfl⟩ rfl (Nat.le_of_ble_eq_true rfl) (Nat.le_of_ble_eq_true rfl) (Nat.le_of_ble_eq_true rfl) ⟨Nat.le_of_ble_eq_true rfl, Nat.le_of_ble_eq_true rfl⟩ dX1_commonPeaks_11 ?_ (fun q9 E9 M9 h9 => x_out hC hx (Nat.le_of_ble_eq_true rfl) (Nat.le_of_ble_eq_true rfl) (by obtain ⟨rfl, rfl, h9⟩ := h9; exact CX.same (k := 1) hR (by unfold opCommon; rw [rc2_some hrc hrs]; dsimp only [Option.elim]; rw [if_neg (fun u => h9 (by rw [← hrz]; exact u.2))]; rfl) rfl))
  rintro _ M ⟨rfl, hM1, h9⟩
  subst hM1
  rw [← hrz] at h9 n2'
  refine x_aload_n hC dX1_commonPeaks_14 rfl rfl ?_
  refine x_iload_n hC dX1_commonPeaks_15 rfl rfl ?_
  refine x_qV (k := 5) (n := 30) (na := 1) hC (cq_get hG hR _) (lw_V q1534 q1536 qs13 q81 q1537) ha rfl rfl (by decide +kernel) rfl ⟨Nat.le_of_ble_eq_true rfl, Nat.le_of_ble_eq_true rfl⟩ rfl (Nat.le_of_ble_eq_true rfl) (Nat.le_of_ble_eq_true rfl) (Nat.le_of_ble_eq_true rfl) ⟨Nat.le_of_ble_eq_true rfl, Nat.le_of_ble_eq_true rfl⟩ dX1_commonPeaks_16 ?_ (fun q9 E9 M9 h9 => x_out hC hx (Nat.le_of_ble_eq_true rfl) (Nat.le_of_ble_eq_true rfl) (by obtain ⟨rfl, rfl, h9⟩ := h9; exact (h9 (by rw [hrc]; intro z; cases z)).elim))
  rintro _ M1 ⟨hM1, q, r1, hrc1, rfl, hRA, hWf1⟩
  subst hM1
  rw [hrc] at hrc1
  cases hrc1
  obtain ⟨j, j1, j2, j3⟩ := hWfr.pw
  have h64 : rz r ≤ 64 := hWfr.len.1
  obtain ⟨v, rfl, v2, v3⟩ := nIz (by omega) h9
  have hop : opCommon S x z (nI v) = (0, iS (fun k => xB (∃ j, j < v ∧ pkN r j = pkN s k)) v) := by unfold opCommon; rw [rc2_some hrc hrs]; dsimp only [Option.elim]; rw [if_pos ⟨hrz, h9⟩, v2]
  obtain ⟨na, sa, b, c, n1, n2⟩ := hRA
  obtain ⟨cv, rv, x1, x2⟩ := n2.rec
  refine x_aload hC dX1_commonPeaks_19 rfl ?_
  refine x_iload_n hC dX1_commonPeaks_21 rfl rfl ?_
  refine x_callV (k := 9) (n := 286) (na := 2) hC (ct_rcommon hG n2 n2' j1 ⟨j2, j3⟩ v3) (lw_V q1915 q1916 q1917 q115 q1918) x1 rfl rfl (by decide +kernel) rfl ⟨Nat.le_of_ble_eq_true rfl, Nat.le_of_ble_eq_true rfl⟩ rfl (Nat.le_of_ble_eq_true rfl) (show 5 + (rC b c + rC b' c') ≤ 9 by have h1 := rC_le (b := b) (c := c); have h2 := rC_le (b := b') (c := c'); omega) (show 30 + (rS b c + rS b' c') ≤ 286 by have h1 := rC_le (b := b) (c := c); have h2 := rC_le (b := b') (c := c'); omega) ⟨Nat.le_of_ble_eq_true rfl, Nat.le_of_ble_eq_true rfl⟩ dX1_commonPeaks_22 ?_
  rintro _ M2 ⟨rfl, hL⟩
  exact x_iret hC hk dX1_commonPeaks_25 (Nat.le_of_ble_eq_true rfl) (Nat.le_of_ble_eq_true rfl) ⟨by rw [hop], by rw [hop]; show some (Value.int _) = some (Value.int (iS (fun k => xB (∃ j, j < v ∧ pk (cfN (rg r) (rz r)) (rz r) j = pk (cfN (rg s) (rz s)) (rz s) k)) v)); rw [← hrz], hR.lr hL, hL.pw⟩
theorem rd_at {R : List Rcd} {i : Nat} {r : Rcd} (h : R[i]? = some r) : rd R i = r := by unfold rd; rw [List.getD_eq_getElem?_getD, h]; rfl
theorem cq_nearest (hG : GOK G) (hR : CRep S M T a) (x : Int32) : Cq G yX1_nearest cX1_nearest 8 (some .int) (xrm 8 14 800) [.ref a, .int x] M (CO T a S (opNear S x).1 (.int (opNear S x).2) M) (CX T a S (opNear S x).1 [xIOB, xNSE] M) := by
  obtain ⟨vs, ha⟩ := hR.rec
  refine cq_open (lv := [_, _, _, _, _, _, _, _]) hG (by decide +kernel) (Nat.le_of_ble_eq_true rfl) rfl (fun C hC hk hx => ?_)
  refine x_aload_n hC dX1_nearest_0 rfl rfl ?_
  refine x_iload_n hC dX1_nearest_1 rfl rfl ?_
  refine x_qV (k := 1) (n := 6) (na := 1) hC (cq_get hG hR _) (lw_V q1534 q1536 qs13 q81 q1537) ha rfl rfl (by decide +kernel) rfl ⟨Nat.le_of_ble_eq_true rfl, Nat.le_of_ble_eq_true rfl⟩ rfl (Nat.le_of_ble_eq_true rfl) (Nat.le_of_ble_eq_true rfl) (Nat.le_of_ble_eq_true rfl) ⟨Nat.le_of_ble_eq_true rfl, Nat.le_of_ble_eq_true rfl⟩ dX1_nearest_2 ?_ (fun q9 E9 M9 h9 => x_out hC hx (Nat.le_of_ble_eq_true rfl) (Nat.le_of_ble_eq_true rfl) (by obtain ⟨rfl, rfl, h9⟩ := h9; exact CX.same (k := 0) hR (by unfold opNear; rw [Decidable.not_not.mp h9]; rfl) rfl))
  rintro _ M1 ⟨hM1, q, r, hrc, rfl, hRA, hWf⟩
  subst hM1
  obtain ⟨c, rfl, hci, hcc⟩ := rc_at hrc
  have hrd : rd (sR S) c = r := rd_at hci
  have hcl : c < (sR S).length := (List.getElem?_eq_some_iff.mp hci).1
  have hop : opNear S (nI c) = (nrs (fun d => d ≠ c ∧ rz (rd (sR S) d) = rz r) (fun d => apN r (rd (sR S) d)) (sR S).length).elim (2, 0) fun d => (0, nI d) := by unfold opNear nearN; rw [hrc, hcc, hrd]; rfl
  obtain ⟨bu, ar, dq, sv, fm, bf, H, h1, h2, ⟨⟨L, h3⟩, h3w⟩, -⟩ := id hR
  have hn6 : (sR S).length ≤ 6 := h3w.1
  have h64 : rz r ≤ 64 := hWf.len.1
  obtain ⟨j, j1, j2, j3⟩ := hWf.pw
  refine x_astore_n (lv' := [_, _, _, _, _, _, _, _]) hC dX1_nearest_5 rfl (by decide) rfl ?_
  refine x_iconst (v := -1) hC dX1_nearest_6 (by decide) ?_
  refine x_istore_n (lv' := [_, _, _, _, _, _, _, _]) hC dX1_nearest_7 rfl (by decide) rfl ?_
  refine x_iconst (v := 0) hC dX1_nearest_8 (by decide) ?_
  refine x_istore (lv' := [_, _, _, _, _, _, _, _]) hC dX1_nearest_9 (by decide) rfl ?_
  refine x_iconst (v := nI 0) hC dX1_nearest_11 (by decide) ?_
  refine x_istore (lv' := [_, _, _, _, _, _, _, _]) hC dX1_nearest_12 (by decide) rfl ?_
  refine x_up (n := (sR S).length) (I := fun k => ∀ M2 kc ks, kc ≤ 1 + 2 * k → ks ≤ 6 + 128 * k → Lr M1 M2 → ∀ e w6 w7, (∀ b, nrs (fun d => d ≠ c ∧ rz (rd (sR S) d) = rz r) (fun d => apN r (rd (sR S) d)) k = some b → e = apN r (rd (sR S) b)) → Wg G C M2 kc ks 14 [some (.ref a), some (.int (nI c)), some (.ref q), some (.int (optI (nrs (fun d => d ≠ c ∧ rz (rd (sR S) d) = rz r) (fun d => apN r (rd (sR S) d)) k))), some (.int e), some (.int (nI k)), w6, w7] []) (fun k hk2 ih M2 kc ks hkc hks hL e w6 w7 he => ?_) 0 (Nat.zero_le _) M1 1 6 (Nat.le_refl _) (Nat.le_refl _) Lr.rf 0 none none (fun b h => by cases h)
  have q1 : kc ≤ 13 := by omega
  have q2 : ks ≤ 780 := by omega
  have h1' := hL.1.z (by decide) h1
  have h3' := h3.lr hL
  obtain ⟨l, m, a1, a2, a4⟩ := h3'.rec
  obtain ⟨vl, hl⟩ := a2.rec
  refine x_iload hC dX1_nearest_14 rfl ?_
  refine x_aload_n hC dX1_nearest_16 rfl rfl ?_
  refine x_get hC 4 h1' rfl (by decide) q233 rfl rfl dX1_nearest_17 ?_
  refine x_getN hC 0 a1 rfl (by decide) q203 rfl rfl dX1_nearest_20 ?_
  refine x_callV0 (na := 0) hC (ct_alSize hG a2) (lw_V q266 q267 q268 q85 q269) hl rfl rfl (by decide +kernel) rfl ⟨Nat.le_of_ble_eq_true rfl, Nat.le_of_ble_eq_true rfl⟩ rfl (Nat.le_of_ble_eq_true rfl) ⟨rfl, rfl⟩ ⟨(show kc ≤ 14 by omega), (show ks ≤ 800 by omega)⟩ dX1_nearest_23 ?_
  rintro _ M ⟨rfl, rfl⟩
  rw [a4]
  refine x_icmp_geN (tgt := 103) hC (by omega) (by omega) dX1_nearest_26 (by decide) (fun c1 => ?_) (fun c1 => ?_)
  · have hkk : k = (sR S).length := by omega
    subst hkk
    have hl2 := @nrs_lt (fun d => d ≠ c ∧ rz (rd (sR S) d) = rz r) _ (fun d => apN r (rd (sR S) d)) (sR S).length
    cases hn : nrs (fun d => d ≠ c ∧ rz (rd (sR S) d) = rz r) (fun d => apN r (rd (sR S) d)) (sR S).length with
    | none =>
      rw [hn] at hop
      refine x_iload_n hC dX1_nearest_103 rfl rfl ?_
      refine x_iconst (v := -1) hC dX1_nearest_104 (by decide) ?_
      refine x_icmp_eq (tgt := 112) hC dX1_nearest_105 (by decide) (fun c5 => ?_) (fun c5 => ?_)
      · refine x_iconst (v := 0) hC dX1_nearest_112 (by decide) ?_
        refine x_qS (k := kc + 1) (n := ks + 6) (na := 1) hC (cq_reqNSE hG False _) (lw_S q1658 q1659 q81 q1660) (by decide +kernel) rfl ⟨Nat.le_of_ble_eq_true rfl, Nat.le_of_ble_eq_true rfl⟩ rfl (Nat.le_of_ble_eq_true rfl) (Nat.le_refl _) (Nat.le_refl _) ⟨(show kc + 1 ≤ 14 by omega), (show ks + 6 ≤ 800 by omega)⟩ dX1_nearest_113 ?_ (fun q9 E9 M9 h9 => x_out hC hx ((show kc + 1 ≤ 14 by omega)) ((show ks + 6 ≤ 800 by omega)) (by obtain ⟨rfl, rfl, h9⟩ := h9; exact ⟨⟨1, by rw [hop]; rfl, rfl⟩, hR.lr hL, hL.pw⟩))
        rintro _ M ⟨rfl, rfl, h9⟩
        exact h9.elim
      · exact absurd rfl c5
    | some b =>
      rw [hn] at hop hl2
      obtain ⟨hb, hb2, hb3⟩ := hl2 rfl
      refine x_iload_n hC dX1_nearest_103 rfl rfl ?_
      refine x_iconst (v := -1) hC dX1_nearest_104 (by decide) ?_
      refine x_icmp_eq (tgt := 112) hC dX1_nearest_105 (by decide) (fun c5 => ?_) (fun c5 => ?_)
      · exact absurd c5 (nI_m1 (by omega))
      · refine x_iconst (v := 1) hC dX1_nearest_108 (by decide) ?_
        refine x_goto (tgt := 113) hC dX1_nearest_109 (by decide) ?_
        refine x_qS (k := kc + 1) (n := ks + 6) (na := 1) hC (cq_reqNSE hG True _) (lw_S q1658 q1659 q81 q1660) (by decide +kernel) rfl ⟨Nat.le_of_ble_eq_true rfl, Nat.le_of_ble_eq_true rfl⟩ rfl (Nat.le_of_ble_eq_true rfl) (Nat.le_refl _) (Nat.le_refl _) ⟨(show kc + 1 ≤ 14 by omega), (show ks + 6 ≤ 800 by omega)⟩ dX1_nearest_113 ?_ (fun q9 E9 M9 h9 => x_out hC hx ((show kc + 1 ≤ 14 by omega)) ((show ks + 6 ≤ 800 by omega)) (by obtain ⟨rfl, rfl, h9⟩ := h9; exact absurd trivial h9))
        rintro _ M ⟨rfl, rfl, h9⟩
        refine x_iload_n hC dX1_nearest_116 rfl rfl ?_
        exact x_iret hC hk dX1_nearest_117 (show kc + 1 ≤ 14 by omega) (show ks + 6 ≤ 800 by omega) ⟨by rw [hop]; rfl, by rw [hop]; rfl, hR.lr hL, hL.pw⟩
  · have ih2 := ih c1
    unfold nrs at ih2
    have hl2 := @nrs_lt (fun d => d ≠ c ∧ rz (rd (sR S) d) = rz r) _ (fun d => apN r (rd (sR S) d)) k
    generalize nrs (fun d => d ≠ c ∧ rz (rd (sR S) d) = rz r) (fun d => apN r (rd (sR S) d)) k = o at ih2 hl2 he ⊢
    have hki : (sR S)[k]? = some (sR S)[k] := List.getElem?_eq_getElem c1
    have hkr : rd (sR S) k = (sR S)[k] := rd_at hki
    have hWk : WfRow (sR S)[k] := h3w.2.1 _ (List.getElem_mem c1)
    obtain ⟨p, hp, hP⟩ := h3'.at hki
    obtain ⟨pna, psa, pcv, prv, x1, x2, -⟩ := hP.rec
    have hQ := hRA.lr hL
    obtain ⟨qna, qsa, qcv, qrv, y1, y2, -⟩ := hQ.rec
    have h65 : rz (sR S)[k] ≤ 64 := hWk.len.1
    refine x_aload_n hC dX1_nearest_29 rfl rfl ?_
    refine x_get hC 4 h1' rfl (by decide) q233 rfl rfl dX1_nearest_30 ?_
    refine x_getN hC 0 a1 rfl (by decide) q203 rfl rfl dX1_nearest_33 ?_
    refine x_iload hC dX1_nearest_36 rfl ?_
    refine x_callV0 (na := 1) hC (ct_alGet hG a2 hp) (lw_V q1556 q1038 q1039 q85 q1040) hl rfl rfl (by decide +kernel) rfl ⟨Nat.le_of_ble_eq_true rfl, Nat.le_of_ble_eq_true rfl⟩ rfl (Nat.le_of_ble_eq_true rfl) ⟨rfl, rfl⟩ ⟨(show kc ≤ 14 by omega), (show ks ≤ 800 by omega)⟩ dX1_nearest_38 ?_
    rintro _ M ⟨rfl, rfl⟩
    refine x_castS hC x1 rfl rfl q1557 dX1_nearest_41 ?_
    refine x_astore (lv' := [_, _, _, _, _, _, _, _]) hC dX1_nearest_44 (by decide) rfl ?_
    refine x_iload hC dX1_nearest_46 rfl ?_
    refine x_iload_n hC dX1_nearest_48 rfl rfl ?_
    refine x_icmp_eqN (tgt := 97) hC (by omega) (by omega) dX1_nearest_49 (by decide) (fun c2 => ?_) (fun c2 => ?_)
    · rw [if_neg (fun h => h.1 c2)] at ih2
      refine x_iincN (lv' := [_, _, _, _, _, _, _, _]) (b := 1) hC dX1_nearest_97 rfl (by decide) (by decide) rfl ?_
      refine x_goto (tgt := 14) hC dX1_nearest_100 (by decide) ?_
      exact ih2 _ kc ks (by omega) (by omega) hL e _ _ he
    · refine x_aload hC dX1_nearest_52 rfl ?_
      refine x_callV0 (na := 0) hC (ct_rlen hG x1 x2) (lw_V q1558 q1559 q1560 q115 q1561) x1 rfl rfl (by decide +kernel) rfl ⟨Nat.le_of_ble_eq_true rfl, Nat.le_of_ble_eq_true rfl⟩ rfl (Nat.le_of_ble_eq_true rfl) ⟨rfl, rfl⟩ ⟨(show kc ≤ 14 by omega), (show ks ≤ 800 by omega)⟩ dX1_nearest_54 ?_
      rintro _ M ⟨rfl, rfl⟩
      refine x_aload_n hC dX1_nearest_57 rfl rfl ?_
      refine x_callV0 (na := 0) hC (ct_rlen hG y1 y2) (lw_V q1558 q1559 q1560 q115 q1561) y1 rfl rfl (by decide +kernel) rfl ⟨Nat.le_of_ble_eq_true rfl, Nat.le_of_ble_eq_true rfl⟩ rfl (Nat.le_of_ble_eq_true rfl) ⟨rfl, rfl⟩ ⟨(show kc ≤ 14 by omega), (show ks ≤ 800 by omega)⟩ dX1_nearest_58 ?_
      rintro _ M ⟨rfl, rfl⟩
      refine x_icmp_eqN (tgt := 67) hC (by omega) (by omega) dX1_nearest_61 (by decide) (fun c3 => ?_) (fun c3 => ?_)
      · rw [if_pos ⟨c2, by rw [hkr]; exact c3⟩] at ih2
        obtain ⟨na, sa, b1, d1, n1, n2⟩ := hQ
        obtain ⟨na', sa', b1', d1', n1', n2'⟩ := hP
        obtain ⟨rv, hb⟩ := n2.rb
        obtain ⟨rv', hb'⟩ := n2'.rb
        rw [c3] at hb'
        have hkap : apN r (rd (sR S) k) = iS (fun i => iabs (cfN (rg r) (rz r) i - cfN (rg (sR S)[k]) (rz r) i)) (rz r) := by rw [hkr]; show iS (fun i => iabs (cfN (rg r) (rz r) i - cfN (rg (sR S)[k]) (rz (sR S)[k]) i)) (rz r) = _; rw [c3]
        refine x_aload_n hC dX1_nearest_67 rfl rfl ?_
        refine x_aload hC dX1_nearest_68 rfl ?_
        refine x_callV (k := kc + 2) (n := ks + 128) (na := 1) hC (ct_rdist hG hb hb' ⟨j2, j3⟩) (lw_V q1861 q1862 q1863 q115 q1864) y1 rfl rfl (by decide +kernel) rfl ⟨Nat.le_of_ble_eq_true rfl, Nat.le_of_ble_eq_true rfl⟩ rfl (Nat.le_of_ble_eq_true rfl) (show kc + (bC b1 + bC b1') ≤ kc + 2 by have h1 := bC_le (b := b1); have h2 := bC_le (b := b1'); omega) (show ks + (bS b1 + bS b1') ≤ ks + 128 by have h1 := bC_le (b := b1); have h2 := bC_le (b := b1'); omega) ⟨(show kc + 2 ≤ 14 by omega), (show ks + 128 ≤ 800 by omega)⟩ dX1_nearest_70 ?_
        rintro _ M3 ⟨rfl, hL2⟩
        have ih3 := ih2 M3 (kc + 2) (ks + 128) (by omega) (by omega) (hL.tr hL2.lr)
        rw [← hkap]
        refine x_istore (lv' := [_, _, _, _, _, _, _, _]) hC dX1_nearest_73 (by decide) rfl ?_
        refine x_iload_n hC dX1_nearest_75 rfl rfl ?_
        refine x_iconst (v := -1) hC dX1_nearest_76 (by decide) ?_
        cases o with
        | none =>
          refine x_icmp_eq (tgt := 90) hC dX1_nearest_77 (by decide) (fun c5 => ?_) (fun c5 => ?_)
          · refine x_iload hC dX1_nearest_90 rfl ?_
            refine x_istore_n (lv' := [_, _, _, _, _, _, _, _]) hC dX1_nearest_92 rfl (by decide) rfl ?_
            refine x_iload hC dX1_nearest_93 rfl ?_
            refine x_istore (lv' := [_, _, _, _, _, _, _, _]) hC dX1_nearest_95 (by decide) rfl ?_
            refine x_iincN (lv' := [_, _, _, _, _, _, _, _]) (b := 1) hC dX1_nearest_97 rfl (by decide) (by decide) rfl ?_
            refine x_goto (tgt := 14) hC dX1_nearest_100 (by decide) ?_
            exact ih3 _ _ _ (fun b h => by cases h; rfl)
          · exact absurd rfl c5
        | some b =>
          obtain ⟨hb, hb2, hb3⟩ := hl2 rfl
          have heb := he b rfl
          subst heb
          dsimp only at ih3
          refine x_icmp_eq (tgt := 90) hC dX1_nearest_77 (by decide) (fun c5 => ?_) (fun c5 => ?_)
          · exact absurd c5 (nI_m1 (by omega))
          · refine x_iload hC dX1_nearest_80 rfl ?_
            refine x_iload hC dX1_nearest_82 rfl ?_
            refine x_icmp_lt (tgt := 90) hC dX1_nearest_84 (by decide) (fun c6 => ?_) (fun c6 => ?_)
            · rw [if_pos c6] at ih3
              refine x_iload hC dX1_nearest_90 rfl ?_
              refine x_istore_n (lv' := [_, _, _, _, _, _, _, _]) hC dX1_nearest_92 rfl (by decide) rfl ?_
              refine x_iload hC dX1_nearest_93 rfl ?_
              refine x_istore (lv' := [_, _, _, _, _, _, _, _]) hC dX1_nearest_95 (by decide) rfl ?_
              refine x_iincN (lv' := [_, _, _, _, _, _, _, _]) (b := 1) hC dX1_nearest_97 rfl (by decide) (by decide) rfl ?_
              refine x_goto (tgt := 14) hC dX1_nearest_100 (by decide) ?_
              exact ih3 _ _ _ (fun b h => by cases h; rfl)
            · rw [if_neg c6] at ih3
              refine x_goto (tgt := 97) hC dX1_nearest_87 (by decide) ?_
              refine x_iincN (lv' := [_, _, _, _, _, _, _, _]) (b := 1) hC dX1_nearest_97 rfl (by decide) (by decide) rfl ?_
              refine x_goto (tgt := 14) hC dX1_nearest_100 (by decide) ?_
              exact ih3 _ _ _ (fun b h => by cases h; rfl)
      · rw [if_neg (fun h => c3 (by rw [← hkr]; exact h.2))] at ih2
        refine x_goto (tgt := 97) hC dX1_nearest_64 (by decide) ?_
        refine x_iincN (lv' := [_, _, _, _, _, _, _, _]) (b := 1) hC dX1_nearest_97 rfl (by decide) (by decide) rfl ?_
        refine x_goto (tgt := 14) hC dX1_nearest_100 (by decide) ?_
        exact ih2 _ kc ks (by omega) (by omega) hL e _ _ he
abbrev louL (S : X_S) : Nat → Nat → Bool := fun a b => decide (jS (fun k => sq (rg ((sR S).getD a ([], [])) k)) (rz ((sR S).getD a ([], []))) < jS (fun k => sq (rg ((sR S).getD b ([], [])) k)) (rz ((sR S).getD b ([], []))))
theorem cq_loudestRecording (hG : GOK G) (hR : CRep S M T a) : Cq G yX1_loudestRecording cX1_loudestRecording 3 (some .int) (xrm 8 1 6) [.ref a] M (CO T a S (opLoudRec S).1 (.int (opLoudRec S).2) M) (CX T a S (opLoudRec S).1 [xNSE] M) := by
  obtain ⟨bu, ar, dq, sv, fm, bf, H, h1, h2, ⟨⟨L, h3⟩, h3w⟩, -⟩ := id hR
  have hn6 : (sR S).length ≤ 6 := h3w.1
  obtain ⟨l, m, a1, a2, a4⟩ := h3.rec
  obtain ⟨vl, hl⟩ := a2.rec
  refine cq_open (lv := [_, _, _]) hG (by decide +kernel) (Nat.le_of_ble_eq_true rfl) rfl (fun C hC hk hx => ?_)
  refine x_iconst (v := -1) hC dX1_loudestRecording_0 (by decide) ?_
  refine x_istore_n (lv' := [_, _, _]) hC dX1_loudestRecording_1 rfl (by decide) rfl ?_
  refine x_iconst (v := nI 0) hC dX1_loudestRecording_2 (by decide) ?_
  refine x_istore_n (lv' := [_, _, _]) hC dX1_loudestRecording_3 rfl (by decide) rfl ?_
  refine x_up (n := (sR S).length) (I := fun k => Wg G C M 0 0 4 [some (.ref a), some (.int (if k = 0 then -1 else nI (amx (louL S) k))), some (.int (nI k))] []) (fun k hk2 ih => ?_) 0 (Nat.zero_le _)
  refine x_iload_n hC dX1_loudestRecording_4 rfl rfl ?_
  refine x_aload_n hC dX1_loudestRecording_5 rfl rfl ?_
  refine x_get hC 4 h1 rfl (by decide) q233 rfl rfl dX1_loudestRecording_6 ?_
  refine x_getN hC 0 a1 rfl (by decide) q203 rfl rfl dX1_loudestRecording_9 ?_
  refine x_callV0 (na := 0) hC (ct_alSize hG a2) (lw_V q266 q267 q268 q85 q269) hl rfl rfl (by decide +kernel) rfl ⟨Nat.le_of_ble_eq_true rfl, Nat.le_of_ble_eq_true rfl⟩ rfl (Nat.le_of_ble_eq_true rfl) ⟨rfl, rfl⟩ ⟨Nat.le_of_ble_eq_true rfl, Nat.le_of_ble_eq_true rfl⟩ dX1_loudestRecording_12 ?_
  rintro _ M ⟨rfl, rfl⟩
  rw [a4]
  refine x_icmp_geN (tgt := 69) hC (by omega) (by omega) dX1_loudestRecording_15 (by decide) (fun c1 => ?_) (fun c1 => ?_)
  · have hkk : k = (sR S).length := by omega
    subst hkk
    by_cases h0 : (sR S).length = 0
    · have hop : opLoudRec S = (1, 0) := by unfold opLoudRec; rw [if_pos h0]
      rw [if_pos h0]
      refine x_iload_n hC dX1_loudestRecording_69 rfl rfl ?_
      refine x_iconst (v := -1) hC dX1_loudestRecording_70 (by decide) ?_
      refine x_icmp_eq (tgt := 78) hC dX1_loudestRecording_71 (by decide) (fun c5 => ?_) (fun c5 => ?_)
      · refine x_iconst (v := 0) hC dX1_loudestRecording_78 (by decide) ?_
        refine x_qS (k := 1) (n := 6) (na := 1) hC (cq_reqNSE hG False _) (lw_S q1658 q1659 q81 q1660) (by decide +kernel) rfl ⟨Nat.le_of_ble_eq_true rfl, Nat.le_of_ble_eq_true rfl⟩ rfl (Nat.le_of_ble_eq_true rfl) (Nat.le_of_ble_eq_true rfl) (Nat.le_of_ble_eq_true rfl) ⟨Nat.le_of_ble_eq_true rfl, Nat.le_of_ble_eq_true rfl⟩ dX1_loudestRecording_79 ?_ (fun q9 E9 M9 h9 => x_out hC hx (Nat.le_of_ble_eq_true rfl) (Nat.le_of_ble_eq_true rfl) (by obtain ⟨rfl, rfl, h9⟩ := h9; exact CX.same (k := 0) hR (by rw [hop]; rfl) rfl))
        rintro _ M ⟨rfl, rfl, h9⟩
        exact h9.elim
      · exact absurd rfl c5
    · have hop : opLoudRec S = (0, nI (amx (louL S) (sR S).length)) := by unfold opLoudRec; rw [if_neg h0]
      have := amx_lt (lt := louL S) (k := (sR S).length) (by omega)
      rw [if_neg h0]
      refine x_iload_n hC dX1_loudestRecording_69 rfl rfl ?_
      refine x_iconst (v := -1) hC dX1_loudestRecording_70 (by decide) ?_
      refine x_icmp_eq (tgt := 78) hC dX1_loudestRecording_71 (by decide) (fun c5 => ?_) (fun c5 => ?_)
      · exact absurd c5 (nI_m1 (by omega))
      · refine x_iconst (v := 1) hC dX1_loudestRecording_74 (by decide) ?_
        refine x_goto (tgt := 79) hC dX1_loudestRecording_75 (by decide) ?_
        refine x_qS (k := 1) (n := 6) (na := 1) hC (cq_reqNSE hG True _) (lw_S q1658 q1659 q81 q1660) (by decide +kernel) rfl ⟨Nat.le_of_ble_eq_true rfl, Nat.le_of_ble_eq_true rfl⟩ rfl (Nat.le_of_ble_eq_true rfl) (Nat.le_of_ble_eq_true rfl) (Nat.le_of_ble_eq_true rfl) ⟨Nat.le_of_ble_eq_true rfl, Nat.le_of_ble_eq_true rfl⟩ dX1_loudestRecording_79 ?_ (fun q9 E9 M9 h9 => x_out hC hx (Nat.le_of_ble_eq_true rfl) (Nat.le_of_ble_eq_true rfl) (by obtain ⟨rfl, rfl, h9⟩ := h9; exact absurd trivial h9))
        rintro _ M ⟨rfl, rfl, h9⟩
        refine x_iload_n hC dX1_loudestRecording_82 rfl rfl ?_
        exact x_iret hC hk dX1_loudestRecording_83 (Nat.le_of_ble_eq_true rfl) (Nat.le_of_ble_eq_true rfl) ⟨by rw [hop], by rw [hop], hR, Fr.rf⟩
  · have ih2 := ih c1
    rw [if_neg (Nat.succ_ne_zero _)] at ih2
    by_cases h0 : k = 0
    · subst h0
      rw [show amx (louL S) (0 + 1) = 0 by unfold amx; split <;> rfl] at ih2
      refine x_iload_n hC dX1_loudestRecording_18 rfl rfl ?_
      refine x_iconst (v := -1) hC dX1_loudestRecording_19 (by decide) ?_
      refine x_icmp_eq (tgt := 61) hC dX1_loudestRecording_20 (by decide) (fun c5 => ?_) (fun c5 => ?_)
      · refine x_iload_n hC dX1_loudestRecording_61 rfl rfl ?_
        refine x_istore_n (lv' := [_, _, _]) hC dX1_loudestRecording_62 rfl (by decide) rfl ?_
        refine x_iincN (lv' := [_, _, _]) (b := 1) hC dX1_loudestRecording_63 rfl (by decide) (by decide) rfl ?_
        refine x_goto (tgt := 4) hC dX1_loudestRecording_66 (by decide) ?_
        exact ih2
      · exact absurd rfl c5
    · have hal := amx_lt (lt := louL S) (k := k) (by omega)
      have hst : amx (louL S) (k + 1) = if louL S (amx (louL S) k) k = true then k else amx (louL S) k := rfl
      rw [hst] at ih2
      rw [if_neg h0]
      generalize amx (louL S) k = u at hal ih2 ⊢
      have hki : (sR S)[k]? = some (sR S)[k] := List.getElem?_eq_getElem c1
      have hui : (sR S)[u]? = some ((sR S)[u]'(by omega)) := List.getElem?_eq_getElem (by omega)
      have hkr : (sR S).getD k ([], []) = (sR S)[k] := rd_at hki
      have hur : (sR S).getD u ([], []) = (sR S)[u]'(by omega) := rd_at hui
      obtain ⟨p, hp, hP⟩ := h3.at hki
      obtain ⟨pna, psa, pcv, prv, x1, x2, -⟩ := hP.rec
      obtain ⟨q, hq, hQ⟩ := h3.at hui
      obtain ⟨qna, qsa, qcv, qrv, y1, y2, -⟩ := hQ.rec
      refine x_iload_n hC dX1_loudestRecording_18 rfl rfl ?_
      refine x_iconst (v := -1) hC dX1_loudestRecording_19 (by decide) ?_
      refine x_icmp_eq (tgt := 61) hC dX1_loudestRecording_20 (by decide) (fun c5 => ?_) (fun c5 => ?_)
      · exact absurd c5 (nI_m1 (by omega))
      · refine x_aload_n hC dX1_loudestRecording_23 rfl rfl ?_
        refine x_get hC 4 h1 rfl (by decide) q233 rfl rfl dX1_loudestRecording_24 ?_
        refine x_getN hC 0 a1 rfl (by decide) q203 rfl rfl dX1_loudestRecording_27 ?_
        refine x_iload_n hC dX1_loudestRecording_30 rfl rfl ?_
        refine x_callV0 (na := 1) hC (ct_alGet hG a2 hp) (lw_V q1556 q1038 q1039 q85 q1040) hl rfl rfl (by decide +kernel) rfl ⟨Nat.le_of_ble_eq_true rfl, Nat.le_of_ble_eq_true rfl⟩ rfl (Nat.le_of_ble_eq_true rfl) ⟨rfl, rfl⟩ ⟨Nat.le_of_ble_eq_true rfl, Nat.le_of_ble_eq_true rfl⟩ dX1_loudestRecording_31 ?_
        rintro _ M ⟨rfl, rfl⟩
        refine x_castS hC x1 rfl rfl q1557 dX1_loudestRecording_34 ?_
        refine x_callV0 (na := 0) hC (ct_renergy hG x1 x2 (h3w.2.1 _ (List.getElem_mem c1)).len.1) (lw_V q1592 q1593 q1594 q115 q1595) x1 rfl rfl (by decide +kernel) rfl ⟨Nat.le_of_ble_eq_true rfl, Nat.le_of_ble_eq_true rfl⟩ rfl (Nat.le_of_ble_eq_true rfl) ⟨rfl, rfl⟩ ⟨Nat.le_of_ble_eq_true rfl, Nat.le_of_ble_eq_true rfl⟩ dX1_loudestRecording_37 ?_
        rintro _ M ⟨rfl, rfl⟩
        refine x_aload_n hC dX1_loudestRecording_40 rfl rfl ?_
        refine x_get hC 4 h1 rfl (by decide) q233 rfl rfl dX1_loudestRecording_41 ?_
        refine x_getN hC 0 a1 rfl (by decide) q203 rfl rfl dX1_loudestRecording_44 ?_
        refine x_iload_n hC dX1_loudestRecording_47 rfl rfl ?_
        refine x_callV0 (na := 1) hC (ct_alGet hG a2 hq) (lw_V q1556 q1038 q1039 q85 q1040) hl rfl rfl (by decide +kernel) rfl ⟨Nat.le_of_ble_eq_true rfl, Nat.le_of_ble_eq_true rfl⟩ rfl (Nat.le_of_ble_eq_true rfl) ⟨rfl, rfl⟩ ⟨Nat.le_of_ble_eq_true rfl, Nat.le_of_ble_eq_true rfl⟩ dX1_loudestRecording_48 ?_
        rintro _ M ⟨rfl, rfl⟩
        refine x_castS hC y1 rfl rfl q1557 dX1_loudestRecording_51 ?_
        refine x_callV0 (na := 0) hC (ct_renergy hG y1 y2 (h3w.2.1 _ (List.getElem_mem _)).len.1) (lw_V q1592 q1593 q1594 q115 q1595) y1 rfl rfl (by decide +kernel) rfl ⟨Nat.le_of_ble_eq_true rfl, Nat.le_of_ble_eq_true rfl⟩ rfl (Nat.le_of_ble_eq_true rfl) ⟨rfl, rfl⟩ ⟨Nat.le_of_ble_eq_true rfl, Nat.le_of_ble_eq_true rfl⟩ dX1_loudestRecording_54 ?_
        rintro _ M ⟨rfl, rfl⟩
        refine x_lcmp hC dX1_loudestRecording_57 ?_
        refine x_if_le (tgt := 63) hC dX1_loudestRecording_58 (by decide) (fun c6 => ?_) (fun c6 => ?_)
        · rw [lg_cmp_le] at c6
          rw [if_neg (by simp only [decide_eq_true_eq]; rw [hkr, hur]; exact Int64.not_lt.mpr c6)] at ih2
          refine x_iincN (lv' := [_, _, _]) (b := 1) hC dX1_loudestRecording_63 rfl (by decide) (by decide) rfl ?_
          refine x_goto (tgt := 4) hC dX1_loudestRecording_66 (by decide) ?_
          exact ih2
        · rw [lg_cmp_le] at c6
          rw [if_pos (by simp only [decide_eq_true_eq]; rw [hkr, hur]; exact Int64.not_le.mp c6)] at ih2
          refine x_iload_n hC dX1_loudestRecording_61 rfl rfl ?_
          refine x_istore_n (lv' := [_, _, _]) hC dX1_loudestRecording_62 rfl (by decide) rfl ?_
          refine x_iincN (lv' := [_, _, _]) (b := 1) hC dX1_loudestRecording_63 rfl (by decide) (by decide) rfl ?_
          refine x_goto (tgt := 4) hC dX1_loudestRecording_66 (by decide) ?_
          exact ih2
end PB3

