/-! ===== the component's edits by synthesis; errorOfPeaks ===== -/
theorem x_frz2 {G : X_G} {C : X_C} {M : X_M} {kc ks pc : Nat} {lv : List (Option Value)} {rest : List Value} {p n : Nat} {u : Nat → Int32} (nm : List Nat) (F : Nat → Int32) (hp : M p = some (ia 3 n u)) (hu : ∀ k, k < n → u k = F k) (kk : ∀ M', M' p = some (ia 0 (mkR nm n F).2.length fun k => (mkR nm n F).2.getD k 0) → Fr (fun g => g = 3) M M' → Wg G C M' kc ks pc lv rest) : Wg G C M kc ks pc lv rest := by
  refine x_freeze 0 (fun k => (mkR nm n F).2.getD k 0) hp (by decide) (fun k hk => (mkR_g (nm := nm) hk).trans (hu k hk).symm) ?_
  refine kk _ ?_ (Fr.set hp rfl)
  rw [mu_s, show (mkR nm n F).2.length = n from mkR_z]
theorem co_P {r : Rcd} (hn : rz r ≤ 64) {v i : Nat} (hv : v ≤ rz r) (hi : i < rz r) : xB (rkN (rg r) (rz r) i < nI v) * cfN (rg r) (rz r) i = coP r v i := by
  unfold coP
  have hl := rk_lt (f := rg r) hn hi hv
  by_cases h : rkN (rg r) (rz r) i < nI v
  · obtain ⟨k, k1, k2⟩ := hl.mp h
    rw [xB_t h, Int32.one_mul, if_neg]
    rintro ⟨k', h1, h2, h3⟩
    have := pk_inj (by omega) h1 (k2.trans h3.symm)
    omega
  · obtain ⟨t, t1, t2⟩ := pk_sur (cfN (rg r) (rz r)) (rz r) hi
    rw [xB_f h, Int32.zero_mul, if_pos]
    refine ⟨t, t1, ?_, t2⟩
    rcases Nat.lt_or_ge t v with h9 | h9
    · exact absurd (hl.mpr ⟨t, h9, t2⟩) h
    · exact h9
theorem co_A {x t : Int32} : xB (t ≤ iabs x) * x = if iabs x < t then 0 else x := by
  by_cases h : t ≤ iabs x
  · rw [xB_t h, Int32.one_mul, if_neg (Int32.not_lt.mpr h)]
  · rw [xB_f h, Int32.zero_mul, if_pos (Int32.not_le.mp h)]
theorem co_W {x : Int32} {p : Prop} [Decidable p] : (if p then (0 : Int32) else 1) * x = if p then 0 else x := by
  by_cases h : p
  · rw [if_pos h, if_pos h, Int32.zero_mul]
  · rw [if_neg h, if_neg h, Int32.one_mul]
section ED5
variable {G : X_G} {M : X_M} {T : X_T} {a : Nat} {S : X_S}
theorem cq_keepPeaks (hG : GOK G) (hT : T0 G T) (hR : CRep S M T a) (x z : Int32) : Cq G yX1_keepPeaks cX1_keepPeaks 4 (some .int) (xrm 14 31 427) [.ref a, .int x, .int z] M (CO T a (opKeepP S x z).2.2 (opKeepP S x z).1 (.int (opKeepP S x z).2.1) M) (CX T a S (opKeepP S x z).1 [xIOB, xIAE] M) := by
  obtain ⟨vs, ha⟩ := hR.rec
  refine cq_open (lv := [_, _, _, _]) hG (by decide +kernel) (Nat.le_of_ble_eq_true rfl) rfl (fun C hC hk hx => ?_)
  refine x_aload_n hC dX1_keepPeaks_0 rfl rfl ?_
  refine x_iload_n hC dX1_keepPeaks_1 rfl rfl ?_
  refine x_qV (k := 1) (n := 6) (na := 1) hC (cq_get hG hR _) (lw_V q1534 q1536 qs13 q81 q1537) ha rfl rfl (by decide +kernel) rfl ⟨Nat.le_of_ble_eq_true rfl, Nat.le_of_ble_eq_true rfl⟩ rfl (Nat.le_of_ble_eq_true rfl) (Nat.le_of_ble_eq_true rfl) (Nat.le_of_ble_eq_true rfl) ⟨Nat.le_of_ble_eq_true rfl, Nat.le_of_ble_eq_true rfl⟩ dX1_keepPeaks_2 ?_ (fun q9 E9 M9 h9 => x_out hC hx (Nat.le_of_ble_eq_true rfl) (Nat.le_of_ble_eq_true rfl) (by obtain ⟨rfl, rfl, h9⟩ := h9; exact CX.same (k := 0) hR (by unfold opKeepP; rw [Decidable.not_not.mp h9]; rfl) rfl))
  rintro _ M1 ⟨hM1, q, r, hrc, rfl, hRA, hWf⟩
  subst hM1
  obtain ⟨i, rfl, hci, hcc⟩ := rc_at hrc
  obtain ⟨na, sa, b, d, n1, n2⟩ := hRA
  obtain ⟨cv, rv, x1, x2⟩ := n2.rec
  have h64 : rz r ≤ 64 := hWf.len.1
  obtain ⟨j, j1, j2, j3⟩ := hWf.pw
  refine x_astore_n (lv' := [_, _, _, _]) hC dX1_keepPeaks_5 rfl (by decide) rfl ?_
  refine x_aload_n hC dX1_keepPeaks_6 rfl rfl ?_
  refine x_iload_n hC dX1_keepPeaks_7 rfl rfl ?_
  refine x_qS (k := 2) (n := 12) (na := 2) hC (cq_reqCount hG x1 x2 _) (lw_S q1912 q1913 q81 q1914) (by decide +kernel) rfl ⟨Nat.le_of_ble_eq_true rfl, Nat.le_of_ble_eq_true rfl⟩ rfl (Nat.le_of_ble_eq_true rfl) (Nat.le_of_ble_eq_true rfl) (Nat.le_of_ble_eq_true rfl) ⟨Nat.le_of_ble_eq_true rfl, Nat.le_of_ble_eq_true rfl⟩ dX1_keepPeaks_8 ?_ (fun q9 E9 M9 h9 => x_out hC hx (Nat.le_of_ble_eq_true rfl) (Nat.le_of_ble_eq_true rfl) (by obtain ⟨rfl, rfl, h9⟩ := h9; exact CX.same (k := 1) hR (by unfold opKeepP; rw [hrc]; dsimp only [Option.elim]; rw [if_neg h9]; rfl) rfl))
  rintro _ M1 ⟨rfl, hM2, h9⟩
  subst hM2
  obtain ⟨v, rfl, v2, v3⟩ := nIz (by omega) h9
  have hop : opKeepP S (nI i) (nI v) = edit S (nI i) r (syS (coP r v) (rz r)) := by unfold opKeepP; rw [hrc]; dsimp only [Option.elim]; rw [if_pos h9, v2]
  dsimp only [edit] at hop
  rw [hcc] at hop
  have hfl := f_le (b := b) (c := d)
  refine x_aload_n hC dX1_keepPeaks_11 rfl rfl ?_
  refine x_iload_n hC dX1_keepPeaks_12 rfl rfl ?_
  refine x_aload_n hC dX1_keepPeaks_13 rfl rfl ?_
  refine x_iload_n hC dX1_keepPeaks_14 rfl rfl ?_
  refine x_callV (k := 6) (n := 206) (na := 1) hC (ct_rsyP hG n2 j1 ⟨j2, j3⟩ (nI v)) (lw_V q1927 q1928 q1929 q115 q1930) x1 rfl rfl (by decide +kernel) rfl ⟨Nat.le_of_ble_eq_true rfl, Nat.le_of_ble_eq_true rfl⟩ rfl (Nat.le_of_ble_eq_true rfl) (show 2 + (2 + fC b d) ≤ 6 by omega) (show 12 + (66 + fS b d) ≤ 206 by omega) ⟨Nat.le_of_ble_eq_true rfl, Nat.le_of_ble_eq_true rfl⟩ dX1_keepPeaks_15 ?_
  rintro _ M2 ⟨p, u, rfl, hp, hpp, hu, hL⟩
  refine x_frz2 r.1 (syS (coP r v) (rz r)) hpp (fun k hk => (hu k hk).trans (syS_cong fun l hl => co_P h64 v3 hl)) (fun M3 hb hF => ?_)
  refine x_callV (k := 31) (n := 427) (na := 2) hC (ct_replaceC hG hT ((hR.lr hL).f3 hF) hci hb (wf_mk hWf hWf.pw (fun k hk => syS_lim))) (lw_V q2098 q2100 qs26 q81 q2101) (hF.z (by decide) (hL.1.z (by decide) ha)) rfl rfl (by decide +kernel) rfl ⟨Nat.le_of_ble_eq_true rfl, Nat.le_of_ble_eq_true rfl⟩ rfl (Nat.le_of_ble_eq_true rfl) (Nat.le_of_ble_eq_true rfl) (Nat.le_of_ble_eq_true rfl) ⟨Nat.le_of_ble_eq_true rfl, Nat.le_of_ble_eq_true rfl⟩ dX1_keepPeaks_18 ?_
  rintro _ M4 ⟨rfl, hR3, hF3⟩
  exact x_iret hC hk dX1_keepPeaks_21 (Nat.le_of_ble_eq_true rfl) (Nat.le_of_ble_eq_true rfl) ⟨by rw [hop], by rw [hop]; exact congrArg (fun z => some (Value.int z)) chg_mk, by rw [hop]; exact hR3, hL.pw.tr (pe_pw ((pe3 hF).tr hF3))⟩
theorem cq_keepAbove (hG : GOK G) (hT : T0 G T) (hR : CRep S M T a) (x t : Int32) : Cq G yX1_keepAbove cX1_keepAbove 4 (some .int) (xrm 14 31 427) [.ref a, .int x, .int t] M (CO T a (opKeepA S x t).2.2 (opKeepA S x t).1 (.int (opKeepA S x t).2.1) M) (CX T a S (opKeepA S x t).1 [xIOB, xIAE] M) := by
  obtain ⟨vs, ha⟩ := hR.rec
  refine cq_open (lv := [_, _, _, _]) hG (by decide +kernel) (Nat.le_of_ble_eq_true rfl) rfl (fun C hC hk hx => ?_)
  refine x_aload_n hC dX1_keepAbove_0 rfl rfl ?_
  refine x_iload_n hC dX1_keepAbove_1 rfl rfl ?_
  refine x_qV (k := 1) (n := 6) (na := 1) hC (cq_get hG hR _) (lw_V q1534 q1536 qs13 q81 q1537) ha rfl rfl (by decide +kernel) rfl ⟨Nat.le_of_ble_eq_true rfl, Nat.le_of_ble_eq_true rfl⟩ rfl (Nat.le_of_ble_eq_true rfl) (Nat.le_of_ble_eq_true rfl) (Nat.le_of_ble_eq_true rfl) ⟨Nat.le_of_ble_eq_true rfl, Nat.le_of_ble_eq_true rfl⟩ dX1_keepAbove_2 ?_ (fun q9 E9 M9 h9 => x_out hC hx (Nat.le_of_ble_eq_true rfl) (Nat.le_of_ble_eq_true rfl) (by obtain ⟨rfl, rfl, h9⟩ := h9; exact CX.same (k := 0) hR (by unfold opKeepA; rw [Decidable.not_not.mp h9]; rfl) rfl))
  rintro _ M1 ⟨hM1, q, r, hrc, rfl, hRA, hWf⟩
  subst hM1
  obtain ⟨i, rfl, hci, hcc⟩ := rc_at hrc
  obtain ⟨na, sa, b, d, n1, n2⟩ := hRA
  obtain ⟨cv, rv, x1, x2⟩ := n2.rec
  have h64 : rz r ≤ 64 := hWf.len.1
  obtain ⟨j, j1, j2, j3⟩ := hWf.pw
  refine x_astore_n (lv' := [_, _, _, _]) hC dX1_keepAbove_5 rfl (by decide) rfl ?_
  refine x_iload_n hC dX1_keepAbove_6 rfl rfl ?_
  refine x_qS (k := 2) (n := 12) (na := 1) hC (cq_reqT hG t _) (lw_S q1776 q1777 q81 q1778) (by decide +kernel) rfl ⟨Nat.le_of_ble_eq_true rfl, Nat.le_of_ble_eq_true rfl⟩ rfl (Nat.le_of_ble_eq_true rfl) (Nat.le_of_ble_eq_true rfl) (Nat.le_of_ble_eq_true rfl) ⟨Nat.le_of_ble_eq_true rfl, Nat.le_of_ble_eq_true rfl⟩ dX1_keepAbove_7 ?_ (fun q9 E9 M9 h9 => x_out hC hx (Nat.le_of_ble_eq_true rfl) (Nat.le_of_ble_eq_true rfl) (by obtain ⟨rfl, rfl, h9⟩ := h9; exact CX.same (k := 1) hR (by unfold opKeepA; rw [hrc]; dsimp only [Option.elim]; rw [if_neg h9]; rfl) rfl))
  rintro _ M1 ⟨rfl, hM2, h9⟩
  subst hM2
  have hop : opKeepA S (nI i) t = edit S (nI i) r (syS (fun i => if iabs (cfN (rg r) (rz r) i) < t then 0 else cfN (rg r) (rz r) i) (rz r)) := by unfold opKeepA; rw [hrc]; dsimp only [Option.elim]; rw [if_pos h9]
  dsimp only [edit] at hop
  rw [hcc] at hop
  have hfl := f_le (b := b) (c := d)
  refine x_aload_n hC dX1_keepAbove_10 rfl rfl ?_
  refine x_iload_n hC dX1_keepAbove_11 rfl rfl ?_
  refine x_aload_n hC dX1_keepAbove_12 rfl rfl ?_
  refine x_iload_n hC dX1_keepAbove_13 rfl rfl ?_
  refine x_callV (k := 6) (n := 206) (na := 1) hC (ct_rsyA hG n2 ⟨j2, j3⟩ t) (lw_V q2137 q2138 q2139 q115 q2140) x1 rfl rfl (by decide +kernel) rfl ⟨Nat.le_of_ble_eq_true rfl, Nat.le_of_ble_eq_true rfl⟩ rfl (Nat.le_of_ble_eq_true rfl) (show 2 + (2 + fC b d) ≤ 6 by omega) (show 12 + (66 + fS b d) ≤ 206 by omega) ⟨Nat.le_of_ble_eq_true rfl, Nat.le_of_ble_eq_true rfl⟩ dX1_keepAbove_14 ?_
  rintro _ M2 ⟨p, u, rfl, hp, hpp, hu, hL⟩
  refine x_frz2 r.1 (syS (fun i => if iabs (cfN (rg r) (rz r) i) < t then 0 else cfN (rg r) (rz r) i) (rz r)) hpp (fun k hk => (hu k hk).trans (syS_cong fun l hl => co_A)) (fun M3 hb hF => ?_)
  refine x_callV (k := 31) (n := 427) (na := 2) hC (ct_replaceC hG hT ((hR.lr hL).f3 hF) hci hb (wf_mk hWf hWf.pw (fun k hk => syS_lim))) (lw_V q2098 q2100 qs26 q81 q2101) (hF.z (by decide) (hL.1.z (by decide) ha)) rfl rfl (by decide +kernel) rfl ⟨Nat.le_of_ble_eq_true rfl, Nat.le_of_ble_eq_true rfl⟩ rfl (Nat.le_of_ble_eq_true rfl) (Nat.le_of_ble_eq_true rfl) (Nat.le_of_ble_eq_true rfl) ⟨Nat.le_of_ble_eq_true rfl, Nat.le_of_ble_eq_true rfl⟩ dX1_keepAbove_17 ?_
  rintro _ M4 ⟨rfl, hR3, hF3⟩
  exact x_iret hC hk dX1_keepAbove_20 (Nat.le_of_ble_eq_true rfl) (Nat.le_of_ble_eq_true rfl) ⟨by rw [hop], by rw [hop]; exact congrArg (fun z => some (Value.int z)) chg_mk, by rw [hop]; exact hR3, hL.pw.tr (pe_pw ((pe3 hF).tr hF3))⟩
theorem cq_scaleBand (hG : GOK G) (hT : T0 G T) (hR : CRep S M T a) (x lo hi fc : Int32) : Cq G yX1_scaleBand cX1_scaleBand 6 (some .int) (xrm 14 31 429) [.ref a, .int x, .int lo, .int hi, .int fc] M (CO T a (opScale S x lo hi fc).2.2 (opScale S x lo hi fc).1 (.int (opScale S x lo hi fc).2.1) M) (CX T a S (opScale S x lo hi fc).1 [xIOB, xIAE] M) := by
  obtain ⟨vs, ha⟩ := hR.rec
  refine cq_open (lv := [_, _, _, _, _, _]) hG (by decide +kernel) (Nat.le_of_ble_eq_true rfl) rfl (fun C hC hk hx => ?_)
  refine x_aload_n hC dX1_scaleBand_0 rfl rfl ?_
  refine x_iload_n hC dX1_scaleBand_1 rfl rfl ?_
  refine x_qV (k := 1) (n := 6) (na := 1) hC (cq_get hG hR _) (lw_V q1534 q1536 qs13 q81 q1537) ha rfl rfl (by decide +kernel) rfl ⟨Nat.le_of_ble_eq_true rfl, Nat.le_of_ble_eq_true rfl⟩ rfl (Nat.le_of_ble_eq_true rfl) (Nat.le_of_ble_eq_true rfl) (Nat.le_of_ble_eq_true rfl) ⟨Nat.le_of_ble_eq_true rfl, Nat.le_of_ble_eq_true rfl⟩ dX1_scaleBand_2 ?_ (fun q9 E9 M9 h9 => x_out hC hx (Nat.le_of_ble_eq_true rfl) (Nat.le_of_ble_eq_true rfl) (by obtain ⟨rfl, rfl, h9⟩ := h9; exact CX.same (k := 0) hR (by unfold opScale; rw [Decidable.not_not.mp h9]; rfl) rfl))
  rintro _ M1 ⟨hM1, q, r, hrc, rfl, hRA, hWf⟩
  subst hM1
  obtain ⟨i, rfl, hci, hcc⟩ := rc_at hrc
  obtain ⟨na, sa, b, d, n1, n2⟩ := hRA
  obtain ⟨cv, rv, x1, x2⟩ := n2.rec
  have h64 : rz r ≤ 64 := hWf.len.1
  obtain ⟨j, j1, j2, j3⟩ := hWf.pw
  refine x_astore (lv' := [_, _, _, _, _, _]) hC dX1_scaleBand_5 (by decide) rfl ?_
  refine x_aload hC dX1_scaleBand_7 rfl ?_
  refine x_iload_n hC dX1_scaleBand_9 rfl rfl ?_
  refine x_iload_n hC dX1_scaleBand_10 rfl rfl ?_
  refine x_callV0 (na := 2) hC (ct_risBand hG x1 x2 lo hi) (lw_V q1739 q1740 q1741 q115 q1742) x1 rfl rfl (by decide +kernel) rfl ⟨Nat.le_of_ble_eq_true rfl, Nat.le_of_ble_eq_true rfl⟩ rfl (Nat.le_of_ble_eq_true rfl) ⟨rfl, rfl⟩ ⟨Nat.le_of_ble_eq_true rfl, Nat.le_of_ble_eq_true rfl⟩ dX1_scaleBand_11 ?_
  rintro _ M ⟨rfl, rfl⟩
  have key : ∀ v, v = xB ((0 ≤ lo ∧ hi < nI (rz r) ∧ lo ≤ hi) ∧ (-9 ≤ fc ∧ fc ≤ 9)) → Wg G C M 1 6 34 [some (.ref a), some (.int (nI i)), some (.int lo), some (.int hi), some (.int fc), some (.ref q)] [.int v] := by
    rintro _ rfl
    refine x_qS (k := 2) (n := 12) (na := 1) hC (cq_reqIAE hG _ _) (lw_S q1337 q1338 q81 q1339) (by decide +kernel) rfl ⟨Nat.le_of_ble_eq_true rfl, Nat.le_of_ble_eq_true rfl⟩ rfl (Nat.le_of_ble_eq_true rfl) (Nat.le_of_ble_eq_true rfl) (Nat.le_of_ble_eq_true rfl) ⟨Nat.le_of_ble_eq_true rfl, Nat.le_of_ble_eq_true rfl⟩ dX1_scaleBand_34 ?_ (fun q9 E9 M9 h9 => x_out hC hx (Nat.le_of_ble_eq_true rfl) (Nat.le_of_ble_eq_true rfl) (by obtain ⟨rfl, rfl, h9⟩ := h9; exact CX.same (k := 1) hR (by unfold opScale; rw [hrc]; dsimp only [Option.elim]; rw [if_neg h9]; rfl) rfl))
    rintro _ M ⟨rfl, hM2, h9⟩
    subst hM2
    have hop : opScale S (nI i) lo hi fc = edit S (nI i) r (syS (fun i => cfN (rg r) (rz r) i * (if lo ≤ chg (nI i) (rz r) ∧ chg (nI i) (rz r) ≤ hi then fc else 1)) (rz r)) := by unfold opScale; rw [hrc]; dsimp only [Option.elim]; rw [if_pos h9]
    dsimp only [edit] at hop
    rw [hcc] at hop
    have hfl := f_le (b := b) (c := d)
    refine x_aload_n hC dX1_scaleBand_37 rfl rfl ?_
    refine x_iload_n hC dX1_scaleBand_38 rfl rfl ?_
    refine x_aload hC dX1_scaleBand_39 rfl ?_
    refine x_iload_n hC dX1_scaleBand_41 rfl rfl ?_
    refine x_iload_n hC dX1_scaleBand_42 rfl rfl ?_
    refine x_iload hC dX1_scaleBand_43 rfl ?_
    refine x_callV (k := 6) (n := 208) (na := 3) hC (ct_rsyB hG n2 j1 ⟨j2, j3⟩ lo hi fc) (lw_V q2151 q2152 q2153 q115 q2154) x1 rfl rfl (by decide +kernel) rfl ⟨Nat.le_of_ble_eq_true rfl, Nat.le_of_ble_eq_true rfl⟩ rfl (Nat.le_of_ble_eq_true rfl) (show 2 + (2 + fC b d) ≤ 6 by omega) (show 12 + (68 + fS b d) ≤ 208 by omega) ⟨Nat.le_of_ble_eq_true rfl, Nat.le_of_ble_eq_true rfl⟩ dX1_scaleBand_45 ?_
    rintro _ M2 ⟨p, u, rfl, hp, hpp, hu, hL⟩
    refine x_frz2 r.1 (syS (fun i => cfN (rg r) (rz r) i * (if lo ≤ chg (nI i) (rz r) ∧ chg (nI i) (rz r) ≤ hi then fc else 1)) (rz r)) hpp (fun k hk => (hu k hk).trans (syS_cong fun l hl => Int32.mul_comm _ _)) (fun M3 hb hF => ?_)
    refine x_callV (k := 31) (n := 429) (na := 2) hC (ct_replaceC hG hT ((hR.lr hL).f3 hF) hci hb (wf_mk hWf hWf.pw (fun k hk => syS_lim))) (lw_V q2098 q2100 qs26 q81 q2101) (hF.z (by decide) (hL.1.z (by decide) ha)) rfl rfl (by decide +kernel) rfl ⟨Nat.le_of_ble_eq_true rfl, Nat.le_of_ble_eq_true rfl⟩ rfl (Nat.le_of_ble_eq_true rfl) (Nat.le_of_ble_eq_true rfl) (Nat.le_of_ble_eq_true rfl) ⟨Nat.le_of_ble_eq_true rfl, Nat.le_of_ble_eq_true rfl⟩ dX1_scaleBand_48 ?_
    rintro _ M4 ⟨rfl, hR3, hF3⟩
    exact x_iret hC hk dX1_scaleBand_51 (Nat.le_of_ble_eq_true rfl) (Nat.le_of_ble_eq_true rfl) ⟨by rw [hop], by rw [hop]; exact congrArg (fun z => some (Value.int z)) chg_mk, by rw [hop]; exact hR3, hL.pw.tr (pe_pw ((pe3 hF).tr hF3))⟩
  refine x_if_eqB (tgt := 33) hC dX1_scaleBand_14 (by decide) (fun c1 => ?_) (fun c1 => ?_)
  · refine x_iconst (v := 0) hC dX1_scaleBand_33 (by decide) ?_
    exact key _ (xB_f (fun h => c1 h.1)).symm
  · refine x_iload hC dX1_scaleBand_17 rfl ?_
    refine x_bipush (v := -9) hC dX1_scaleBand_19 (by decide) ?_
    refine x_bipush (v := 9) hC dX1_scaleBand_21 (by decide) ?_
    refine x_callS0 (na := 3) hC (ct_isBetween hG _ _ _ _) (lw_S q641 q642 q81 q643) (by decide +kernel) rfl ⟨Nat.le_of_ble_eq_true rfl, Nat.le_of_ble_eq_true rfl⟩ rfl (Nat.le_of_ble_eq_true rfl) ⟨rfl, rfl⟩ ⟨Nat.le_of_ble_eq_true rfl, Nat.le_of_ble_eq_true rfl⟩ dX1_scaleBand_23 ?_
    rintro _ M ⟨rfl, rfl⟩
    refine x_if_eqB (tgt := 33) hC dX1_scaleBand_26 (by decide) (fun c2 => ?_) (fun c2 => ?_)
    · refine x_iconst (v := 0) hC dX1_scaleBand_33 (by decide) ?_
      exact key _ (xB_f (fun h => c2 h.2)).symm
    · refine x_iconst (v := 1) hC dX1_scaleBand_29 (by decide) ?_
      refine x_goto (tgt := 34) hC dX1_scaleBand_30 (by decide) ?_
      exact key _ (xB_t ⟨c1, c2⟩).symm
theorem cq_removeBand (hG : GOK G) (hT : T0 G T) (hR : CRep S M T a) (x lo hi : Int32) : Cq G yX1_removeBand cX1_removeBand 5 (some .int) (xrm 14 31 429) [.ref a, .int x, .int lo, .int hi] M (CO T a (opRemB S x lo hi).2.2 (opRemB S x lo hi).1 (.int (opRemB S x lo hi).2.1) M) (CX T a S (opRemB S x lo hi).1 [xIOB, xIAE] M) := by
  obtain ⟨vs, ha⟩ := hR.rec
  refine cq_open (lv := [_, _, _, _, _]) hG (by decide +kernel) (Nat.le_of_ble_eq_true rfl) rfl (fun C hC hk hx => ?_)
  refine x_aload_n hC dX1_removeBand_0 rfl rfl ?_
  refine x_iload_n hC dX1_removeBand_1 rfl rfl ?_
  refine x_qV (k := 1) (n := 6) (na := 1) hC (cq_get hG hR _) (lw_V q1534 q1536 qs13 q81 q1537) ha rfl rfl (by decide +kernel) rfl ⟨Nat.le_of_ble_eq_true rfl, Nat.le_of_ble_eq_true rfl⟩ rfl (Nat.le_of_ble_eq_true rfl) (Nat.le_of_ble_eq_true rfl) (Nat.le_of_ble_eq_true rfl) ⟨Nat.le_of_ble_eq_true rfl, Nat.le_of_ble_eq_true rfl⟩ dX1_removeBand_2 ?_ (fun q9 E9 M9 h9 => x_out hC hx (Nat.le_of_ble_eq_true rfl) (Nat.le_of_ble_eq_true rfl) (by obtain ⟨rfl, rfl, h9⟩ := h9; exact CX.same (k := 0) hR (by unfold opRemB; rw [Decidable.not_not.mp h9]; rfl) rfl))
  rintro _ M1 ⟨hM1, q, r, hrc, rfl, hRA, hWf⟩
  subst hM1
  obtain ⟨i, rfl, hci, hcc⟩ := rc_at hrc
  obtain ⟨na, sa, b, d, n1, n2⟩ := hRA
  obtain ⟨cv, rv, x1, x2⟩ := n2.rec
  have h64 : rz r ≤ 64 := hWf.len.1
  obtain ⟨j, j1, j2, j3⟩ := hWf.pw
  refine x_astore (lv' := [_, _, _, _, _]) hC dX1_removeBand_5 (by decide) rfl ?_
  refine x_aload hC dX1_removeBand_7 rfl ?_
  refine x_iload_n hC dX1_removeBand_9 rfl rfl ?_
  refine x_iload_n hC dX1_removeBand_10 rfl rfl ?_
  refine x_callV0 (na := 2) hC (ct_risBand hG x1 x2 lo hi) (lw_V q1739 q1740 q1741 q115 q1742) x1 rfl rfl (by decide +kernel) rfl ⟨Nat.le_of_ble_eq_true rfl, Nat.le_of_ble_eq_true rfl⟩ rfl (Nat.le_of_ble_eq_true rfl) ⟨rfl, rfl⟩ ⟨Nat.le_of_ble_eq_true rfl, Nat.le_of_ble_eq_true rfl⟩ dX1_removeBand_11 ?_
  rintro _ M ⟨rfl, rfl⟩
  refine x_qS (k := 2) (n := 12) (na := 1) hC (cq_reqIAE hG _ _) (lw_S q1337 q1338 q81 q1339) (by decide +kernel) rfl ⟨Nat.le_of_ble_eq_true rfl, Nat.le_of_ble_eq_true rfl⟩ rfl (Nat.le_of_ble_eq_true rfl) (Nat.le_of_ble_eq_true rfl) (Nat.le_of_ble_eq_true rfl) ⟨Nat.le_of_ble_eq_true rfl, Nat.le_of_ble_eq_true rfl⟩ dX1_removeBand_14 ?_ (fun q9 E9 M9 h9 => x_out hC hx (Nat.le_of_ble_eq_true rfl) (Nat.le_of_ble_eq_true rfl) (by obtain ⟨rfl, rfl, h9⟩ := h9; exact CX.same (k := 1) hR (by unfold opRemB; rw [hrc]; dsimp only [Option.elim]; rw [if_neg h9]; rfl) rfl))
  rintro _ M ⟨rfl, hM2, h9⟩
  subst hM2
  have hop : opRemB S (nI i) lo hi = edit S (nI i) r (syS (fun i => if lo ≤ chg (nI i) (rz r) ∧ chg (nI i) (rz r) ≤ hi then 0 else cfN (rg r) (rz r) i) (rz r)) := by unfold opRemB; rw [hrc]; dsimp only [Option.elim]; rw [if_pos h9]
  dsimp only [edit] at hop
  rw [hcc] at hop
  have hfl := f_le (b := b) (c := d)
  refine x_aload_n hC dX1_removeBand_17 rfl rfl ?_
  refine x_iload_n hC dX1_removeBand_18 rfl rfl ?_
  refine x_aload hC dX1_removeBand_19 rfl ?_
  refine x_iload_n hC dX1_removeBand_21 rfl rfl ?_
  refine x_iload_n hC dX1_removeBand_22 rfl rfl ?_
  refine x_callV (k := 6) (n := 208) (na := 2) hC (ct_rsyW hG n2 j1 ⟨j2, j3⟩ lo hi) (lw_V q2172 q2173 q2174 q115 q2175) x1 rfl rfl (by decide +kernel) rfl ⟨Nat.le_of_ble_eq_true rfl, Nat.le_of_ble_eq_true rfl⟩ rfl (Nat.le_of_ble_eq_true rfl) (show 2 + (2 + fC b d) ≤ 6 by omega) (show 12 + (68 + fS b d) ≤ 208 by omega) ⟨Nat.le_of_ble_eq_true rfl, Nat.le_of_ble_eq_true rfl⟩ dX1_removeBand_23 ?_
  rintro _ M2 ⟨p, u, rfl, hp, hpp, hu, hL⟩
  refine x_frz2 r.1 (syS (fun i => if lo ≤ chg (nI i) (rz r) ∧ chg (nI i) (rz r) ≤ hi then 0 else cfN (rg r) (rz r) i) (rz r)) hpp (fun k hk => (hu k hk).trans (syS_cong fun l hl => co_W)) (fun M3 hb hF => ?_)
  refine x_callV (k := 31) (n := 429) (na := 2) hC (ct_replaceC hG hT ((hR.lr hL).f3 hF) hci hb (wf_mk hWf hWf.pw (fun k hk => syS_lim))) (lw_V q2098 q2100 qs26 q81 q2101) (hF.z (by decide) (hL.1.z (by decide) ha)) rfl rfl (by decide +kernel) rfl ⟨Nat.le_of_ble_eq_true rfl, Nat.le_of_ble_eq_true rfl⟩ rfl (Nat.le_of_ble_eq_true rfl) (Nat.le_of_ble_eq_true rfl) (Nat.le_of_ble_eq_true rfl) ⟨Nat.le_of_ble_eq_true rfl, Nat.le_of_ble_eq_true rfl⟩ dX1_removeBand_26 ?_
  rintro _ M4 ⟨rfl, hR3, hF3⟩
  exact x_iret hC hk dX1_removeBand_29 (Nat.le_of_ble_eq_true rfl) (Nat.le_of_ble_eq_true rfl) ⟨by rw [hop], by rw [hop]; exact congrArg (fun z => some (Value.int z)) chg_mk, by rw [hop]; exact hR3, hL.pw.tr (pe_pw ((pe3 hF).tr hF3))⟩
theorem cq_errorOfPeaks (hG : GOK G) (hR : CRep S M T a) (x z : Int32) : Cq G yX1_errorOfPeaks cX1_errorOfPeaks 4 (some .long) (xrm 14 6 206) [.ref a, .int x, .int z] M (CO T a S (opErrP S x z).1 (.long (opErrP S x z).2) M) (CX T a S (opErrP S x z).1 [xIOB, xIAE] M) := by
  obtain ⟨vs, ha⟩ := hR.rec
  refine cq_open (lv := [_, _, _, _]) hG (by decide +kernel) (Nat.le_of_ble_eq_true rfl) rfl (fun C hC hk hx => ?_)
  refine x_aload_n hC dX1_errorOfPeaks_0 rfl rfl ?_
  refine x_iload_n hC dX1_errorOfPeaks_1 rfl rfl ?_
  refine x_qV (k := 1) (n := 6) (na := 1) hC (cq_get hG hR _) (lw_V q1534 q1536 qs13 q81 q1537) ha rfl rfl (by decide +kernel) rfl ⟨Nat.le_of_ble_eq_true rfl, Nat.le_of_ble_eq_true rfl⟩ rfl (Nat.le_of_ble_eq_true rfl) (Nat.le_of_ble_eq_true rfl) (Nat.le_of_ble_eq_true rfl) ⟨Nat.le_of_ble_eq_true rfl, Nat.le_of_ble_eq_true rfl⟩ dX1_errorOfPeaks_2 ?_ (fun q9 E9 M9 h9 => x_out hC hx (Nat.le_of_ble_eq_true rfl) (Nat.le_of_ble_eq_true rfl) (by obtain ⟨rfl, rfl, h9⟩ := h9; exact CX.same (k := 0) hR (by unfold opErrP; rw [Decidable.not_not.mp h9]; rfl) rfl))
  rintro _ M1 ⟨hM1, q, r, hrc, rfl, hRA, hWf⟩
  subst hM1
  obtain ⟨i, rfl, hci, hcc⟩ := rc_at hrc
  obtain ⟨na, sa, b, d, n1, n2⟩ := hRA
  obtain ⟨cv, rv, x1, x2⟩ := n2.rec
  have h64 : rz r ≤ 64 := hWf.len.1
  obtain ⟨j, j1, j2, j3⟩ := hWf.pw
  refine x_astore_n (lv' := [_, _, _, _]) hC dX1_errorOfPeaks_5 rfl (by decide) rfl ?_
  refine x_aload_n hC dX1_errorOfPeaks_6 rfl rfl ?_
  refine x_iload_n hC dX1_errorOfPeaks_7 rfl rfl ?_
  refine x_qS (k := 2) (n := 12) (na := 2) hC (cq_reqCount hG x1 x2 _) (lw_S q1912 q1913 q81 q1914) (by decide +kernel) rfl ⟨Nat.le_of_ble_eq_true rfl, Nat.le_of_ble_eq_true rfl⟩ rfl (Nat.le_of_ble_eq_true rfl) (Nat.le_of_ble_eq_true rfl) (Nat.le_of_ble_eq_true rfl) ⟨Nat.le_of_ble_eq_true rfl, Nat.le_of_ble_eq_true rfl⟩ dX1_errorOfPeaks_8 ?_ (fun q9 E9 M9 h9 => x_out hC hx (Nat.le_of_ble_eq_true rfl) (Nat.le_of_ble_eq_true rfl) (by obtain ⟨rfl, rfl, h9⟩ := h9; exact CX.same (k := 1) hR (by unfold opErrP; rw [hrc]; dsimp only [Option.elim]; rw [if_neg h9]; rfl) rfl))
  rintro _ M1 ⟨rfl, hM2, h9⟩
  subst hM2
  obtain ⟨v, rfl, v2, v3⟩ := nIz (by omega) h9
  have hop : opErrP S (nI i) (nI v) = (0, jS (fun k => sq (rg r k - syS (coP r v) (rz r) k)) (rz r)) := by unfold opErrP; rw [hrc]; dsimp only [Option.elim]; rw [if_pos h9, v2]
  have hfl := f_le (b := b) (c := d)
  refine x_aload_n hC dX1_errorOfPeaks_11 rfl rfl ?_
  refine x_aload_n hC dX1_errorOfPeaks_12 rfl rfl ?_
  refine x_iload_n hC dX1_errorOfPeaks_13 rfl rfl ?_
  refine x_callV (k := 6) (n := 206) (na := 1) hC (ct_rsyP hG n2 j1 ⟨j2, j3⟩ (nI v)) (lw_V q1927 q1928 q1929 q115 q1930) x1 rfl rfl (by decide +kernel) rfl ⟨Nat.le_of_ble_eq_true rfl, Nat.le_of_ble_eq_true rfl⟩ rfl (Nat.le_of_ble_eq_true rfl) (show 2 + (2 + fC b d) ≤ 6 by omega) (show 12 + (66 + fS b d) ≤ 206 by omega) ⟨Nat.le_of_ble_eq_true rfl, Nat.le_of_ble_eq_true rfl⟩ dX1_errorOfPeaks_14 ?_
  rintro _ M2 ⟨p, u, rfl, hp, hpp, hu, hL⟩
  obtain ⟨b', d', n3, -, -⟩ := n2.lr hL
  obtain ⟨cv', rv', y1, y2⟩ := n3.rec
  refine x_callV0 (na := 1) hC (ct_rsqE hG y1 y2 hpp h64) (lw_V q1953 q1954 q1955 q115 q1956) y1 rfl rfl (by decide +kernel) rfl ⟨Nat.le_of_ble_eq_true rfl, Nat.le_of_ble_eq_true rfl⟩ rfl (Nat.le_of_ble_eq_true rfl) ⟨rfl, rfl⟩ ⟨Nat.le_of_ble_eq_true rfl, Nat.le_of_ble_eq_true rfl⟩ dX1_errorOfPeaks_17 ?_
  rintro _ M3 ⟨rfl, rfl⟩
  exact x_lret hC hk dX1_errorOfPeaks_20 (Nat.le_of_ble_eq_true rfl) (Nat.le_of_ble_eq_true rfl) ⟨by rw [hop], by rw [hop]; exact congrArg (fun z => some (Value.long z)) (jS_cong fun k hk => by rw [hu k hk]; exact congrArg (fun z => sq (rg r k - z)) (syS_cong fun l hl => co_P h64 v3 hl)), hR.lr hL, hL.pw⟩
end ED5

