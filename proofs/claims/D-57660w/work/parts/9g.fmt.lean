/-! ===== formatSamples, formatPeaks ===== -/
/-- what asking for the ranking and then for the coefficients costs -/
abbrev fC (b c : Bool) : Nat := (if c then 0 else 1) + bC b
abbrev fS (b c : Bool) : Nat := (if c then 0 else 64) + bS b
theorem f_le {b c : Bool} : rC b c + bC (b || !c) ≤ fC b c ∧ rS b c + bS (b || !c) ≤ fS b c ∧ rC b c ≤ fC b c ∧ rS b c ≤ fS b c ∧ fC b c ≤ 2 ∧ fS b c ≤ 128 := by
  cases b <;> cases c <;> decide
/-- behind a rank without a coefficient there is none -/
theorem cf_dead {r : Rcd} (hW : WfRow r) {k l : Nat} (h : cfN (rg r) (rz r) (pkN r k) = 0) (hkl : k ≤ l) (hl : l < rz r) : cfN (rg r) (rz r) (pkN r l) = 0 := by
  rcases Nat.eq_or_lt_of_le hkl with e | hlt
  · rw [← e]; exact h
  · have hb := (pk_rk (cfN (rg r) (rz r)) (rz r)).2 k l hlt hl
    have hcb : (cfN (rg r) (rz r) (pkN r l)).toInt.natAbs ≤ 639936 := cf_b hW.len.1 hW.lm
    unfold befo at hb
    rw [h] at hb
    have h0 : iabs (0 : Int32) = 0 := by decide
    rw [h0] at hb
    have key : ∀ x : Int32, x.toInt.natAbs ≤ 639936 → iabs x < 0 ∨ (0 = iabs x ∧ pk (cfN (rg r) (rz r)) (rz r) k < pk (cfN (rg r) (rz r)) (rz r) l) → x = 0 := by
      intro x hx hz
      unfold iabs at hz
      have t0 : (0 : Int32).toInt = 0 := by decide
      by_cases hp : (0 : Int32) ≤ x
      · rw [if_pos hp] at hz
        rcases hz with hz | hz
        · exact absurd hz (Int32.not_lt.mpr hp)
        · exact hz.1.symm
      · rw [if_neg hp] at hz
        have h1 := Int32.lt_iff_toInt_lt.mp (Int32.not_le.mp hp)
        have h2 : (-x).toInt = -x.toInt := by rw [Int32.toInt_neg]; exact Int.bmod_eq_of_le (by omega) (by omega)
        rcases hz with hz | hz
        · have h3 := Int32.lt_iff_toInt_lt.mp hz
          omega
        · have h3 := congrArg Int32.toInt hz.1
          omega
    exact key _ hcb hb
section FMT
variable {G : X_G} {M : X_M} {T : X_T} {a : Nat} {S : X_S} {w : List Nat}
theorem ct_format (hG : GOK G) (hR : CRep S M T a) {q cap : Nat} (h : SBM M 5 q cap w) (hcap : cap ≤ 65536) (hw : w.length ≤ 1000) : Ct G yX1_format cX1_format 2 (some .int) (xrm 7 2 (4 + w.length)) [.ref a, .ref q] M (fun z M' => z = some (.int (nI w.length)) ∧ CRep (txtS S w) M' T a ∧ Fr PE M M') := by
  obtain ⟨bu, ar, dq, sv, fm, bf, H, hR2⟩ := hR
  obtain ⟨vq, hq⟩ := h.rec
  refine ct_open (lv := [_, _]) hG (by decide +kernel) (Nat.le_of_ble_eq_true rfl) rfl (fun C hC hk => ?_)
  refine x_aload_n hC dX1_format_0 rfl rfl ?_
  refine x_aload_n hC dX1_format_1 rfl rfl ?_
  refine x_callV (k := 2) (n := 4 + w.length) (na := 0) hC (ct_sbStr hG (by decide) h hcap hw) (lw_V q404 q405 q406 q99 q407) hq rfl rfl (by decide +kernel) rfl ⟨Nat.le_of_ble_eq_true rfl, Nat.le_of_ble_eq_true rfl⟩ rfl (Nat.le_of_ble_eq_true rfl) (Nat.le_refl 2) (show 0 + (4 + w.length) ≤ 4 + w.length by omega) ⟨Nat.le_refl _, Nat.le_refl _⟩ dX1_format_2 ?_
  rintro _ M1 ⟨s, rfl, hs, hSM, hF1⟩
  have hR3 := hR2.pt (pt3 hF1)
  obtain ⟨hR4, hF4⟩ := hR3.put (ar' := ar) (fm' := s) (sv' := sv) (R' := sR S) (V' := sV S) (B' := sB S) (E' := sE S) (t' := w) hR3.2.1.2 hR3.2.2.1 hR3.2.2.2.2.1 hSM hR3.2.2.2.2.2.2.1
  refine x_put hC 7 hR3.1 (by decide) rfl (by decide) q236 rfl rfl rfl rfl rfl (show 7 < 8 by decide) (fs' := aF bu (nI (sB S).length) (sE S).1 (sE S).2 ar dq sv s) rfl dX1_format_5 ?_
  have hS4 := hSM.fr hF4 (by decide)
  obtain ⟨vs, hs4⟩ := hS4.rec
  refine x_aload_n hC dX1_format_8 rfl rfl ?_
  refine x_get hC 7 hR4.1 rfl (by decide) q236 rfl rfl dX1_format_9 ?_
  refine x_callV0 (na := 0) hC (ct_sLen hG hS4) (lw_V q625 q536 q537 q100 q538) hs4 rfl rfl (by decide +kernel) rfl ⟨Nat.le_of_ble_eq_true rfl, Nat.le_of_ble_eq_true rfl⟩ rfl (Nat.le_of_ble_eq_true rfl) ⟨rfl, rfl⟩ ⟨Nat.le_refl _, Nat.le_refl _⟩ dX1_format_12 ?_
  rintro _ M5 ⟨rfl, rfl⟩
  exact x_iret hC hk dX1_format_15 (Nat.le_refl _) (Nat.le_refl _) ⟨rfl, ⟨bu, ar, dq, sv, s, bf, H, hR4⟩, (pt_pe (pt3 hF1)).tr (pe1 hF4)⟩
theorem cq_formatSamples (hG : GOK G) (hT : T1 G T) (hM : M1c T M) (hR : CRep S M T a) (x : Int32) : Cq G yX1_formatSamples cX1_formatSamples 8 (some .int) (xrm 12 1000 2800) [.ref a, .int x] M (CO T a (opFmtS S x).2.2 (opFmtS S x).1 (.int (opFmtS S x).2.1) M) (CX T a S (opFmtS S x).1 [xIOB] M) := by
  obtain ⟨vs, ha⟩ := hR.rec
  refine cq_open (lv := [_, _, _, _, _, _, _, _]) hG (by decide +kernel) (Nat.le_of_ble_eq_true rfl) rfl (fun C hC hk hx => ?_)
  refine x_aload_n hC dX1_formatSamples_0 rfl rfl ?_
  refine x_iload_n hC dX1_formatSamples_1 rfl rfl ?_
  refine x_qV (k := 1) (n := 6) (na := 1) hC (cq_get hG hR _) (lw_V q1534 q1536 qs13 q81 q1537) ha rfl rfl (by decide +kernel) rfl ⟨Nat.le_of_ble_eq_true rfl, Nat.le_of_ble_eq_true rfl⟩ rfl (Nat.le_of_ble_eq_true rfl) (Nat.le_of_ble_eq_true rfl) (Nat.le_of_ble_eq_true rfl) ⟨Nat.le_of_ble_eq_true rfl, Nat.le_of_ble_eq_true rfl⟩ dX1_formatSamples_2 ?_ (fun q9 E9 M9 h9 => x_out hC hx (Nat.le_of_ble_eq_true rfl) (Nat.le_of_ble_eq_true rfl) (by obtain ⟨rfl, rfl, h9⟩ := h9; exact CX.same (k := 0) hR (by unfold opFmtS; rw [Decidable.not_not.mp h9]; rfl) rfl))
  rintro _ M1 ⟨hM1, q, r, hrc, rfl, hRA, hWf⟩
  subst hM1
  have hop : opFmtS S x = (0, nI (fmS r).length, txtS S (fmS r)) := by unfold opFmtS; rw [hrc]; rfl
  obtain ⟨na, sa, cv, rv, x1, x2, x3⟩ := hRA.rec
  obtain ⟨s, s1, s2⟩ := x3
  have h64 : rz r ≤ 64 := hWf.len.1
  have h6 : r.1.length ≤ 6 := hWf.1.2
  refine x_astore_n (lv' := [_, _, _, _, _, _, _, _]) hC dX1_formatSamples_5 rfl (by decide) rfl ?_
  refine x_new (ci := 12) (T := TJ13) (N := 4) hC 5 [.null, .int 0, .int 0, .int 0] rfl q278 q279 q99 tyJ13 tyJ13_ok (by decide) (by decide +kernel) (Nat.le_of_ble_eq_true rfl) (Nat.le_of_ble_eq_true rfl) dX1_formatSamples_6 (fun q0 hq0 => ?_)
  have hF0 : Fr PT M1 (mu M1 q0 (ob 5 12 [.null, .int 0, .int 0, .int 0])) := Fr.new hq0
  have y1 := mu_f (e := ob 5 12 [.null, .int 0, .int 0, .int 0]) hq0 x1
  have y2 := mu_f (e := ob 5 12 [.null, .int 0, .int 0, .int 0]) hq0 s1
  refine x_dup hC dX1_formatSamples_9 rfl ?_
  refine x_aload_n hC dX1_formatSamples_10 rfl rfl ?_
  refine x_getN hC 0 y1 rfl (by decide) q1485 rfl rfl dX1_formatSamples_11 ?_
  refine x_getN hC 0 y2 rfl (by decide) q618 rfl rfl dX1_formatSamples_14 ?_
  refine x_callI (k := 3) (n := 10 + (r.1.length + 16)) (na := 1) hC (ct_sbInitS hG (by decide) mu_s (s2.fr hF0 (by decide))) q2295 q99 q2293 q2294 rfl (by decide +kernel) rfl ⟨Nat.le_of_ble_eq_true rfl, Nat.le_of_ble_eq_true rfl⟩ rfl (Nat.le_of_ble_eq_true rfl) (Nat.le_of_ble_eq_true rfl) (Nat.le_refl _) ⟨Nat.le_of_ble_eq_true rfl, (show 10 + (r.1.length + 16) ≤ 2800 by omega)⟩ dX1_formatSamples_17 ?_
  rintro _ M2 ⟨rfl, hS, hF1⟩
  have hF2 := hF0.tr (pt5 hF1)
  have z1 := hF2.z (by decide) x1
  have z2 := hF2.z (by decide) x2
  refine x_astore_n (lv' := [_, _, _, _, _, _, _, _]) hC dX1_formatSamples_20 rfl (by decide) rfl ?_
  refine x_aload_n hC dX1_formatSamples_21 rfl rfl ?_
  refine x_getN hC 1 z1 rfl (by decide) q1488 rfl rfl dX1_formatSamples_22 ?_
  refine x_astore (lv' := [_, _, _, _, _, _, _, _]) hC dX1_formatSamples_25 (by decide) rfl ?_
  refine x_aload hC dX1_formatSamples_27 rfl ?_
  refine x_alen hC z2 dX1_formatSamples_29 ?_
  dsimp only
  refine x_istore (lv' := [_, _, _, _, _, _, _, _]) hC dX1_formatSamples_30 (by decide) rfl ?_
  refine x_iconst (v := nI 0) hC dX1_formatSamples_32 (by decide) ?_
  refine x_istore (lv' := [_, _, _, _, _, _, _, _]) hC dX1_formatSamples_33 (by decide) rfl ?_
  refine x_up (n := rz r) (I := fun k => ∀ M3 kc ks cap tk, kc ≤ 3 + cap → ks ≤ 10 + 2 * cap → cap ≤ 22 + 12 * k → tk = r.1 ++ (r.2.take k).flatMap (fun x => 32 :: dgI x) → tk.length ≤ 6 + 6 * k → SBM M3 5 q0 cap tk → Fr PT M1 M3 → ∀ w7, Wg G C M3 kc ks 35 [some (.ref a), some (.int x), some (.ref q), some (.ref q0), some (.ref sa), some (.int (nI (rz r))), some (.int (nI k)), w7] []) (fun k hk2 ih M3 kc ks cap tk hkc hks hcap htk htl hS hF w7 => ?_) 0 (Nat.zero_le _) M2 3 (10 + (r.1.length + 16)) (r.1.length + 16) r.1 (by omega) (by omega) (by omega) (by rw [List.take_zero]; exact (List.append_nil _).symm) (by omega) hS hF2 none
  obtain ⟨vq, hq3⟩ := hS.rec
  refine x_iload hC dX1_formatSamples_35 rfl ?_
  refine x_iload hC dX1_formatSamples_37 rfl ?_
  refine x_icmp_geN (tgt := 67) hC (by omega) (by omega) dX1_formatSamples_39 (by decide) (fun c => ?_) (fun c => ?_)
  · have e : k = rz r := by omega
    subst e
    rw [List.take_length] at htk
    have hft : tk = fmS r := htk
    subst hft
    have hR3 := hR.pt hF
    obtain ⟨va, ha3⟩ := hR3.rec
    refine x_aload_n hC dX1_formatSamples_67 rfl rfl ?_
    refine x_aload_n hC dX1_formatSamples_68 rfl rfl ?_
    refine x_callV (k := kc + 2) (n := ks + (4 + (fmS r).length)) (na := 1) hC (ct_format hG hR3 hS (by omega) (by omega)) (lw_V q2305 q2307 qs29 q81 q2308) ha3 rfl rfl (by decide +kernel) rfl ⟨Nat.le_of_ble_eq_true rfl, Nat.le_of_ble_eq_true rfl⟩ rfl (Nat.le_of_ble_eq_true rfl) (Nat.le_refl _) (Nat.le_refl _) ⟨(show kc + 2 ≤ 1000 by omega), (show ks + (4 + (fmS r).length) ≤ 2800 by omega)⟩ dX1_formatSamples_69 ?_
    rintro _ M4 ⟨rfl, hR4, hF4⟩
    exact x_iret hC hk dX1_formatSamples_72 (show kc + 2 ≤ 1000 by omega) (show ks + (4 + (fmS r).length) ≤ 2800 by omega) ⟨by rw [hop], by rw [hop], by rw [hop]; exact hR4, pe_pw ((pt_pe hF).tr hF4)⟩
  · have hck : r.2[k]? = some r.2[k] := List.getElem?_eq_getElem c
    have hrg : rg r k = r.2[k] := by show r.2.getD k 0 = _; rw [List.getD_eq_getElem?_getD, hck]; rfl
    have hlm := lim_i.mp (hWf.lm k c)
    have hdl := dgI_len (x := rg r k) (k := 4) (by decide) (by omega)
    have gi1 := g_inv (cap := cap) (n := tk.length + 1)
    have gi2 := g_inv (cap := gQ cap (tk.length + 1)) (n := tk.length + 1 + (dgI (rg r k)).length)
    refine x_aload hC dX1_formatSamples_42 rfl ?_
    refine x_iload hC dX1_formatSamples_44 rfl ?_
    refine x_ialdN hC (hF.z (by decide) x2) c (by first | decide | omega) dX1_formatSamples_46 ?_
    refine x_istore (lv' := [_, _, _, _, _, _, _, _]) hC dX1_formatSamples_47 (by decide) rfl ?_
    refine x_aload_n hC dX1_formatSamples_49 rfl rfl ?_
    refine x_bipush (v := nI 32) hC dX1_formatSamples_50 (by decide) ?_
    refine x_callV (k := kc + gC cap (tk.length + 1)) (n := ks + gS cap (tk.length + 1)) (na := 1) hC (ct_sbApp hG (by decide) (c := 32) (by decide) hS (by omega)) (lw_V q309 q310 q311 q99 q312) hq3 rfl rfl (by decide +kernel) rfl ⟨Nat.le_of_ble_eq_true rfl, Nat.le_of_ble_eq_true rfl⟩ rfl (Nat.le_of_ble_eq_true rfl) (Nat.le_refl _) (Nat.le_refl _) ⟨(show kc + gC cap (tk.length + 1) ≤ 1000 by omega), (show ks + gS cap (tk.length + 1) ≤ 2800 by omega)⟩ dX1_formatSamples_52 ?_
    rintro _ M4 ⟨rfl, hS4, hF4⟩
    obtain ⟨vq4, hq4⟩ := hS4.rec
    have hl4 : (tk ++ [32]).length = tk.length + 1 := by rw [List.length_append]; rfl
    have hct := ct_sbAppI hG hT (hM.fr (hF.tr (pt5 hF4)) (by decide)) (show 5 ≠ 0 by decide) (x := rg r k) (by omega) hS4 (by rw [hl4]; omega)
    rw [hl4] at hct
    refine x_iload hC dX1_formatSamples_55 rfl ?_
    refine x_callV (k := kc + gC cap (tk.length + 1) + gC (gQ cap (tk.length + 1)) (tk.length + 1 + (dgI (rg r k)).length)) (n := ks + gS cap (tk.length + 1) + gS (gQ cap (tk.length + 1)) (tk.length + 1 + (dgI (rg r k)).length)) (na := 1) hC (hct) (lw_V q2304 q487 q488 q99 q489) hq4 rfl rfl (by decide +kernel) rfl ⟨Nat.le_of_ble_eq_true rfl, Nat.le_of_ble_eq_true rfl⟩ rfl (Nat.le_of_ble_eq_true rfl) (Nat.le_refl _) (Nat.le_refl _) ⟨(show kc + gC cap (tk.length + 1) + gC (gQ cap (tk.length + 1)) (tk.length + 1 + (dgI (rg r k)).length) ≤ 1000 by omega), (show ks + gS cap (tk.length + 1) + gS (gQ cap (tk.length + 1)) (tk.length + 1 + (dgI (rg r k)).length) ≤ 2800 by omega)⟩ dX1_formatSamples_57 ?_
    rintro _ M5 ⟨rfl, hS5, hF5⟩
    refine x_pop hC dX1_formatSamples_60 rfl ?_
    refine x_iincN (lv' := [_, _, _, _, _, _, _, _]) (b := 1) hC dX1_formatSamples_61 rfl (by decide) (by decide) rfl ?_
    refine x_goto (tgt := 35) hC dX1_formatSamples_64 (by decide) ?_
    refine ih c M5 _ _ _ _ (by omega) (by omega) (by omega) ?_ ?_ hS5 (hF.tr ((pt5 hF4).tr (pt5 hF5))) _
    · rw [htk, List.take_add_one, hck, List.flatMap_append, List.append_assoc, List.append_assoc, hrg]
      show r.1 ++ ((r.2.take k).flatMap (fun x => 32 :: dgI x) ++ ([32] ++ dgI r.2[k])) = r.1 ++ ((r.2.take k).flatMap (fun x => 32 :: dgI x) ++ ([r.2[k]].flatMap fun x => 32 :: dgI x))
      rw [List.flatMap_singleton]
      rfl
    · rw [List.length_append, hl4]
      omega
/-- what a look at the ranking and at the coefficients leaves -/
theorem RcR.mk2 {M : X_M} {q na sa n p : Nat} {f u : Nat → Int32} {b : Bool} (h : RcB M q na sa n f (.ref p) b) (hp : M p = some (ia 0 n u)) (hu : ∀ k, k < n → u k = nI (pk (cfN f n) n k)) : RcR M q na sa n f b true := ⟨_, h, fun h => (by cases h), fun _ => ⟨p, u, rfl, hp, hu⟩⟩
theorem cq_formatPeaks (hG : GOK G) (hT : T1 G T) (hM : M1c T M) (hR : CRep S M T a) (x c : Int32) : Cq G yX1_formatPeaks cX1_formatPeaks 7 (some .int) (xrm 12 1600 4200) [.ref a, .int x, .int c] M (CO T a (opFmtP S x c).2.2 (opFmtP S x c).1 (.int (opFmtP S x c).2.1) M) (CX T a S (opFmtP S x c).1 [xIOB, xIAE] M) := by
  obtain ⟨vs, ha⟩ := hR.rec
  refine cq_open (lv := [_, _, _, _, _, _, _]) hG (by decide +kernel) (Nat.le_of_ble_eq_true rfl) rfl (fun C hC hk hx => ?_)
  refine x_aload_n hC dX1_formatPeaks_0 rfl rfl ?_
  refine x_iload_n hC dX1_formatPeaks_1 rfl rfl ?_
  refine x_qV (k := 1) (n := 6) (na := 1) hC (cq_get hG hR _) (lw_V q1534 q1536 qs13 q81 q1537) ha rfl rfl (by decide +kernel) rfl ⟨Nat.le_of_ble_eq_true rfl, Nat.le_of_ble_eq_true rfl⟩ rfl (Nat.le_of_ble_eq_true rfl) (Nat.le_of_ble_eq_true rfl) (Nat.le_of_ble_eq_true rfl) ⟨Nat.le_of_ble_eq_true rfl, Nat.le_of_ble_eq_true rfl⟩ dX1_formatPeaks_2 ?_ (fun q9 E9 M9 h9 => x_out hC hx (Nat.le_of_ble_eq_true rfl) (Nat.le_of_ble_eq_true rfl) (by obtain ⟨rfl, rfl, h9⟩ := h9; exact CX.same (k := 0) hR (by unfold opFmtP; rw [Decidable.not_not.mp h9]; rfl) rfl))
  rintro _ M1 ⟨hM1, q, r, hrc, rfl, hRA, hWf⟩
  subst hM1
  obtain ⟨na, sa, b, d, n1, n2⟩ := hRA
  obtain ⟨cv, rv, x1, x2⟩ := n2.rec
  have h64 : rz r ≤ 64 := hWf.len.1
  obtain ⟨j, j1, j2, j3⟩ := hWf.pw
  refine x_astore_n (lv' := [_, _, _, _, _, _, _]) hC dX1_formatPeaks_5 rfl (by decide) rfl ?_
  refine x_aload_n hC dX1_formatPeaks_6 rfl rfl ?_
  refine x_iload_n hC dX1_formatPeaks_7 rfl rfl ?_
  refine x_qS (k := 2) (n := 12) (na := 2) hC (cq_reqCount hG x1 x2 _) (lw_S q1912 q1913 q81 q1914) (by decide +kernel) rfl ⟨Nat.le_of_ble_eq_true rfl, Nat.le_of_ble_eq_true rfl⟩ rfl (Nat.le_of_ble_eq_true rfl) (Nat.le_of_ble_eq_true rfl) (Nat.le_of_ble_eq_true rfl) ⟨Nat.le_of_ble_eq_true rfl, Nat.le_of_ble_eq_true rfl⟩ dX1_formatPeaks_8 ?_ (fun q9 E9 M9 h9 => x_out hC hx (Nat.le_of_ble_eq_true rfl) (Nat.le_of_ble_eq_true rfl) (by obtain ⟨rfl, rfl, h9⟩ := h9; exact CX.same (k := 1) hR (by unfold opFmtP; rw [hrc]; dsimp only [Option.elim]; rw [if_neg h9]; rfl) rfl))
  rintro _ M1 ⟨rfl, hM2, h9⟩
  subst hM2
  obtain ⟨v, rfl, v2, v3⟩ := nIz (by omega) h9
  have hop : opFmtP S x (nI v) = (0, nI (fmPk r v).length, txtS S (fmPk r v)) := by unfold opFmtP; rw [hrc]; dsimp only [Option.elim]; rw [if_pos h9, v2]
  refine x_new (ci := 12) (T := TJ13) (N := 4) hC 5 [.null, .int 0, .int 0, .int 0] rfl q278 q279 q99 tyJ13 tyJ13_ok (by decide) (by decide +kernel) (Nat.le_of_ble_eq_true rfl) (Nat.le_of_ble_eq_true rfl) dX1_formatPeaks_11 (fun q0 hq0 => ?_)
  have hF0 : Fr PT M1 (mu M1 q0 (ob 5 12 [.null, .int 0, .int 0, .int 0])) := Fr.new hq0
  refine x_dup hC dX1_formatPeaks_14 rfl ?_
  refine x_callI (k := 4) (n := 32) (na := 0) hC (ct_sbInit hG (by decide) mu_s) q282 q99 q280 q281 rfl (by decide +kernel) rfl ⟨Nat.le_of_ble_eq_true rfl, Nat.le_of_ble_eq_true rfl⟩ rfl (Nat.le_of_ble_eq_true rfl) (Nat.le_of_ble_eq_true rfl) (Nat.le_of_ble_eq_true rfl) ⟨Nat.le_of_ble_eq_true rfl, Nat.le_of_ble_eq_true rfl⟩ dX1_formatPeaks_15 ?_
  rintro _ M2 ⟨rfl, hS, hF1⟩
  refine x_astore (lv' := [_, _, _, _, _, _, _]) hC dX1_formatPeaks_18 (by decide) rfl ?_
  refine x_iconst (v := nI 0) hC dX1_formatPeaks_20 (by decide) ?_
  refine x_istore (lv' := [_, _, _, _, _, _, _]) hC dX1_formatPeaks_21 (by decide) rfl ?_
  have hF2 := hF0.tr (pt5 hF1)
  have hR2 := hR.pt hF2
  have n3 := n2.fr hF2 (by decide) (by decide)
  have hM2 := hM.fr hF2 (by decide)
  have hP2 := pe_pw (pt_pe hF2)
  clear hF2 hF1 hF0 n2 x1 x2
  -- the end
  have fin : ∀ M3 kc ks cap T1, CRep S M3 T a → Fr PW M1 M3 → SBM M3 5 q0 cap T1 → kc ≤ 6 + cap → ks ≤ 160 + 2 * cap → cap ≤ 16 + 24 * 64 → T1.length ≤ 12 * 64 → T1 = fmP r v 0 → ∀ w5 w6, Wg G C M3 kc ks 100 [some (.ref a), some (.int x), some (.int (nI v)), some (.ref q), some (.ref q0), w5, w6] [] := by
    intro M3 kc ks cap T1 hR3 hP3 hS3 hkc hks hcap htl hT1 w5 w6
    obtain ⟨vq, hq3⟩ := hS3.rec
    refine x_aload hC dX1_formatPeaks_100 rfl ?_
    refine x_callV0 (na := 0) hC (ct_sbLen hG hS3) (lw_V q2316 q426 q2888 q99 q427) hq3 rfl rfl (by decide +kernel) rfl ⟨Nat.le_of_ble_eq_true rfl, Nat.le_of_ble_eq_true rfl⟩ rfl (Nat.le_of_ble_eq_true rfl) ⟨rfl, rfl⟩ ⟨(show kc ≤ 1600 by omega), (show ks ≤ 4200 by omega)⟩ dX1_formatPeaks_102 ?_
    rintro _ M3 ⟨rfl, rfl⟩
    have fin2 : ∀ M4 kc ks cap, CRep S M4 T a → Fr PW M1 M4 → SBM M4 5 q0 cap (fmPk r v) → kc ≤ 6 + cap → ks ≤ 160 + 2 * cap → cap ≤ 16 + 24 * 64 → (fmPk r v).length ≤ 12 * 64 → Wg G C M4 kc ks 116 [some (.ref a), some (.int x), some (.int (nI v)), some (.ref q), some (.ref q0), w5, w6] [] := by
      intro M4 kc ks cap hR4 hP4 hS4 hkc hks hcap htl
      obtain ⟨va, ha4⟩ := hR4.rec
      refine x_aload_n hC dX1_formatPeaks_116 rfl rfl ?_
      refine x_aload hC dX1_formatPeaks_117 rfl ?_
      refine x_callV (k := kc + 2) (n := ks + (4 + (fmPk r v).length)) (na := 1) hC (ct_format hG hR4 hS4 (by omega) (by omega)) (lw_V q2305 q2307 qs29 q81 q2308) ha4 rfl rfl (by decide +kernel) rfl ⟨Nat.le_of_ble_eq_true rfl, Nat.le_of_ble_eq_true rfl⟩ rfl (Nat.le_of_ble_eq_true rfl) (Nat.le_refl _) (Nat.le_refl _) ⟨(show kc + 2 ≤ 1600 by omega), (show ks + (4 + (fmPk r v).length) ≤ 4200 by omega)⟩ dX1_formatPeaks_119 ?_
      rintro _ M5 ⟨rfl, hR5, hF5⟩
      exact x_iret hC hk dX1_formatPeaks_122 (show kc + 2 ≤ 1600 by omega) (show ks + (4 + (fmPk r v).length) ≤ 4200 by omega) ⟨by rw [hop], by rw [hop], by rw [hop]; exact hR5, hP4.tr (pe_pw hF5)⟩
    refine x_if_neN (tgt := 116) hC (by omega) dX1_formatPeaks_105 (by decide) (fun e => ?_) (fun e => ?_)
    · have hne : ¬ T1 = [] := fun z => e (by rw [z]; rfl)
      have hpk : fmPk r v = T1 := by unfold fmPk; rw [← hT1, if_neg hne]
      rw [← hpk] at hS3 htl
      exact fin2 _ _ _ _ hR3 hP3 hS3 hkc hks hcap htl
    · have hn : T1 = [] := List.eq_nil_of_length_eq_zero e
      subst hn
      have hpk : fmPk r v = [] ++ [45] := by unfold fmPk; rw [← hT1, if_pos rfl]; rfl
      have gi := g_inv (cap := cap) (n := ([] : List Nat).length + 1)
      have hl0 : ([] : List Nat).length = 0 := rfl
      refine x_aload hC dX1_formatPeaks_108 rfl ?_
      refine x_bipush (v := nI 45) hC dX1_formatPeaks_110 (by decide) ?_
      refine x_callV (k := kc + gC cap (([] : List Nat).length + 1)) (n := ks + gS cap (([] : List Nat).length + 1)) (na := 1) hC (ct_sbApp hG (by decide) (c := 45) (by decide) hS3 (by omega)) (lw_V q309 q310 q311 q99 q312) hq3 rfl rfl (by decide +kernel) rfl ⟨Nat.le_of_ble_eq_true rfl, Nat.le_of_ble_eq_true rfl⟩ rfl (Nat.le_of_ble_eq_true rfl) (Nat.le_refl _) (Nat.le_refl _) ⟨(show kc + gC cap (([] : List Nat).length + 1) ≤ 1600 by omega), (show ks + gS cap (([] : List Nat).length + 1) ≤ 4200 by omega)⟩ dX1_formatPeaks_112 ?_
      rintro _ M4 ⟨rfl, hS4, hF4⟩
      refine x_pop hC dX1_formatPeaks_115 rfl ?_
      rw [← hpk] at hS4
      exact fin2 _ _ _ _ (hR3.pt (pt5 hF4)) (hP3.tr (pe_pw (pt_pe (pt5 hF4)))) hS4 (by omega) (by omega) (by omega) (by rw [hpk]; decide)
  -- nothing more to write
  have dead : ∀ e k, k + e = v → ∀ M3 b1 d1 kc ks cap T1, CRep S M3 T a → Fr PW M1 M3 → RcR M3 q na sa (rz r) (rg r) b1 d1 → SBM M3 5 q0 cap T1 → kc + fC b1 d1 ≤ 6 + cap → ks + fS b1 d1 ≤ 160 + 2 * cap → cap ≤ 16 + 24 * 64 → T1.length ≤ 12 * 64 → T1 = fmP r v 0 → (∀ l, k ≤ l → l < rz r → cfN (rg r) (rz r) (pkN r l) = 0) → ∀ w6, Wg G C M3 kc ks 23 [some (.ref a), some (.int x), some (.int (nI v)), some (.ref q), some (.ref q0), some (.int (nI k)), w6] [] := by
    intro e
    induction e with
    | zero =>
      intro k hkv M3 b1 d1 kc ks cap T1 hR3 hP3 n3 hS3 hkc hks hcap htl hT1 hz w6
      have hkk : k = v := by omega
      subst hkk
      refine x_iload hC dX1_formatPeaks_23 rfl ?_
      refine x_iload_n hC dX1_formatPeaks_25 rfl rfl ?_
      refine x_icmp_geN (tgt := 100) hC (by omega) (by omega) dX1_formatPeaks_26 (by decide) (fun c1 => ?_) (fun c1 => ?_)
      · exact fin _ _ _ _ _ hR3 hP3 hS3 (by omega) (by omega) hcap htl hT1 _ _
      · omega
    | succ e ih =>
      intro k hkv M3 b1 d1 kc ks cap T1 hR3 hP3 n3 hS3 hkc hks hcap htl hT1 hz w6
      have hkr : k < rz r := by omega
      have fl := f_le (b := b1) (c := d1)
      obtain ⟨cv, rv, x1, x2⟩ := n3.rec
      refine x_iload hC dX1_formatPeaks_23 rfl ?_
      refine x_iload_n hC dX1_formatPeaks_25 rfl rfl ?_
      refine x_icmp_geN (tgt := 100) hC (by omega) (by omega) dX1_formatPeaks_26 (by decide) (fun c1 => ?_) (fun c1 => ?_)
      · omega
      · refine x_aload_n hC dX1_formatPeaks_29 rfl rfl ?_
        refine x_callV (k := kc + rC b1 d1) (n := ks + rS b1 d1) (na := 0) hC (ct_ranking hG n3 j1 ⟨j2, j3⟩) (lw_V q1810 q1811 q1812 q115 q1813) x1 rfl rfl (by decide +kernel) rfl ⟨Nat.le_of_ble_eq_true rfl, Nat.le_of_ble_eq_true rfl⟩ rfl (Nat.le_of_ble_eq_true rfl) (Nat.le_refl _) (Nat.le_refl _) ⟨(show kc + rC b1 d1 ≤ 1600 by omega), (show ks + rS b1 d1 ≤ 4200 by omega)⟩ dX1_formatPeaks_30 ?_
        rintro _ M4 ⟨p, u, rfl, hp, hu, hL, hb⟩
        obtain ⟨cv4, x4⟩ := hb.rec
        refine x_iload hC dX1_formatPeaks_33 rfl ?_
        refine x_ialdN hC hp hkr (by first | decide | omega) dX1_formatPeaks_35 ?_
        rw [hu k hkr]
        refine x_istore (lv' := [_, _, _, _, _, _, _]) hC dX1_formatPeaks_36 (by decide) rfl ?_
        refine x_aload_n hC dX1_formatPeaks_38 rfl rfl ?_
        refine x_callV (k := kc + rC b1 d1 + bC (or b1 !d1)) (n := ks + rS b1 d1 + bS (or b1 !d1)) (na := 0) hC (ct_coefs hG hb ⟨j2, j3⟩) (lw_V q1713 q1714 q1715 q115 q1716) x4 rfl rfl (by decide +kernel) rfl ⟨Nat.le_of_ble_eq_true rfl, Nat.le_of_ble_eq_true rfl⟩ rfl (Nat.le_of_ble_eq_true rfl) (Nat.le_refl _) (Nat.le_refl _) ⟨(show kc + rC b1 d1 + bC (or b1 !d1) ≤ 1600 by omega), (show ks + rS b1 d1 + bS (or b1 !d1) ≤ 4200 by omega)⟩ dX1_formatPeaks_39 ?_
        rintro _ M5 ⟨p2, u2, rfl, hp2, hu2, hL2, hb2⟩
        have hpl : pkN r k < rz r := pkr_lt _ _ hkr
        refine x_iload hC dX1_formatPeaks_42 rfl ?_
        refine x_ialdN hC hp2 hpl (by first | decide | omega) dX1_formatPeaks_44 ?_
        rw [hu2 _ hpl, hz k (Nat.le_refl k) hkr]
        refine x_if_ne (tgt := 51) hC dX1_formatPeaks_45 (by decide) (fun c2 => ?_) (fun c2 => ?_)
        · exact absurd rfl c2
        · have hL3 := hL.tr hL2.lr
          refine x_goto (tgt := 94) hC dX1_formatPeaks_48 (by decide) ?_
          refine x_iincN (lv' := [_, _, _, _, _, _, _]) (b := 1) hC dX1_formatPeaks_94 rfl (by decide) (by decide) rfl ?_
          refine x_goto (tgt := 23) hC dX1_formatPeaks_97 (by decide) ?_
          exact ih (k + 1) (by omega) M5 true true _ _ cap T1 (hR3.lr hL3) (hP3.tr hL3.pw) (RcR.mk2 hb2 (hL2.1.z (by decide) hp) hu) (hS3.fr hL3.1 (by decide)) (show _ + 0 ≤ _ by omega) (show _ + 0 ≤ _ by omega) hcap htl hT1 (fun l h1 h2 => hz l (by omega) h2) _
  suffices lp : ∀ e k, k + e = v → ∀ M3 b1 d1 kc ks cap T1, CRep S M3 T a → M1c T M3 → Fr PW M1 M3 → RcR M3 q na sa (rz r) (rg r) b1 d1 → SBM M3 5 q0 cap T1 → kc + fC b1 d1 ≤ 6 + cap → ks + fS b1 d1 ≤ 160 + 2 * cap → cap ≤ 16 + 24 * k → T1.length ≤ 12 * k → fmP r v 0 = T1 ++ fmP r e k → (0 < k → 0 < T1.length) → ∀ w6, Wg G C M3 kc ks 23 [some (.ref a), some (.int x), some (.int (nI v)), some (.ref q), some (.ref q0), some (.int (nI k)), w6] [] by
    have fl := f_le (b := b) (c := d)
    exact lp v 0 (Nat.zero_add v) M2 b d 4 32 16 [] hR2 hM2 hP2 n3 hS (by omega) (by omega) (by decide) (Nat.zero_le _) rfl (fun h => absurd h (Nat.lt_irrefl 0)) _
  intro e
  induction e with
  | zero =>
    intro k hkv M3 b1 d1 kc ks cap T1 hR3 hM3 hP3 n3 hS3 hkc hks hcap htl hT1 hz w6
    have hkk : k = v := by omega
    subst hkk
    refine x_iload hC dX1_formatPeaks_23 rfl ?_
    refine x_iload_n hC dX1_formatPeaks_25 rfl rfl ?_
    refine x_icmp_geN (tgt := 100) hC (by omega) (by omega) dX1_formatPeaks_26 (by decide) (fun c1 => ?_) (fun c1 => ?_)
    · exact fin _ _ _ _ _ hR3 hP3 hS3 (by omega) (by omega) (by omega) (by omega) (by rw [hT1]; exact (List.append_nil _).symm) _ _
    · omega
  | succ e ih =>
    intro k hkv M3 b1 d1 kc ks cap T1 hR3 hM3 hP3 n3 hS3 hkc hks hcap htl hT1 hz w6
    have hkr : k < rz r := by omega
    have fl := f_le (b := b1) (c := d1)
    obtain ⟨cv, rv, x1, x2⟩ := n3.rec
    have hfm : fmP r (e + 1) k = if cfN (rg r) (rz r) (pkN r k) = 0 then [] else (if k = 0 then [] else [32]) ++ dgI (chg (nI (pkN r k)) (rz r)) ++ [58] ++ dgI (cfN (rg r) (rz r) (pkN r k)) ++ fmP r e (k + 1) := rfl
    refine x_iload hC dX1_formatPeaks_23 rfl ?_
    refine x_iload_n hC dX1_formatPeaks_25 rfl rfl ?_
    refine x_icmp_geN (tgt := 100) hC (by omega) (by omega) dX1_formatPeaks_26 (by decide) (fun c1 => ?_) (fun c1 => ?_)
    · omega
    · refine x_aload_n hC dX1_formatPeaks_29 rfl rfl ?_
      refine x_callV (k := kc + rC b1 d1) (n := ks + rS b1 d1) (na := 0) hC (ct_ranking hG n3 j1 ⟨j2, j3⟩) (lw_V q1810 q1811 q1812 q115 q1813) x1 rfl rfl (by decide +kernel) rfl ⟨Nat.le_of_ble_eq_true rfl, Nat.le_of_ble_eq_true rfl⟩ rfl (Nat.le_of_ble_eq_true rfl) (Nat.le_refl _) (Nat.le_refl _) ⟨(show kc + rC b1 d1 ≤ 1600 by omega), (show ks + rS b1 d1 ≤ 4200 by omega)⟩ dX1_formatPeaks_30 ?_
      rintro _ M4 ⟨p, u, rfl, hp, hu, hL, hb⟩
      obtain ⟨cv4, x4⟩ := hb.rec
      refine x_iload hC dX1_formatPeaks_33 rfl ?_
      refine x_ialdN hC hp hkr (by first | decide | omega) dX1_formatPeaks_35 ?_
      rw [hu k hkr]
      refine x_istore (lv' := [_, _, _, _, _, _, _]) hC dX1_formatPeaks_36 (by decide) rfl ?_
      refine x_aload_n hC dX1_formatPeaks_38 rfl rfl ?_
      refine x_callV (k := kc + rC b1 d1 + bC (or b1 !d1)) (n := ks + rS b1 d1 + bS (or b1 !d1)) (na := 0) hC (ct_coefs hG hb ⟨j2, j3⟩) (lw_V q1713 q1714 q1715 q115 q1716) x4 rfl rfl (by decide +kernel) rfl ⟨Nat.le_of_ble_eq_true rfl, Nat.le_of_ble_eq_true rfl⟩ rfl (Nat.le_of_ble_eq_true rfl) (Nat.le_refl _) (Nat.le_refl _) ⟨(show kc + rC b1 d1 + bC (or b1 !d1) ≤ 1600 by omega), (show ks + rS b1 d1 + bS (or b1 !d1) ≤ 4200 by omega)⟩ dX1_formatPeaks_39 ?_
      rintro _ M5 ⟨p2, u2, rfl, hp2, hu2, hL2, hb2⟩
      have hpl : pkN r k < rz r := pkr_lt _ _ hkr
      have hL3 := hL.tr hL2.lr
      have hR5 := hR3.lr hL3
      have hM5 := hM3.fr hL3.1 (by decide)
      have hP5 := hP3.tr hL3.pw
      have n5 := RcR.mk2 hb2 (hL2.1.z (by decide) hp) hu
      have hS5 := hS3.fr hL3.1 (by decide)
      obtain ⟨kc1, hkc1⟩ : ∃ kc1, kc1 = kc + rC b1 d1 + bC (or b1 !d1) := ⟨_, rfl⟩
      obtain ⟨ks1, hks1⟩ : ∃ ks1, ks1 = ks + rS b1 d1 + bS (or b1 !d1) := ⟨_, rfl⟩
      rw [← hkc1, ← hks1]
      have hkc2 : kc1 ≤ 6 + cap := by omega
      have hks2 : ks1 ≤ 160 + 2 * cap := by omega
      clear hkc hks hkc1 hks1 fl n3 hb hb2 hR3 hM3 hP3 hS3
      refine x_iload hC dX1_formatPeaks_42 rfl ?_
      refine x_ialdN hC hp2 hpl (by first | decide | omega) dX1_formatPeaks_44 ?_
      rw [hu2 _ hpl]
      refine x_if_ne (tgt := 51) hC dX1_formatPeaks_45 (by decide) (fun c2 => ?_) (fun c2 => ?_)
      · rw [hfm, if_neg c2] at hT1
        obtain ⟨vq, hq5⟩ := hS5.rec
        -- the number's text
        have rest : ∀ M6 kc ks cap1 T2, CRep S M6 T a → M1c T M6 → Fr PW M1 M6 → RcR M6 q na sa (rz r) (rg r) true true → SBM M6 5 q0 cap1 T2 → kc ≤ 6 + cap1 → ks ≤ 160 + 2 * cap1 → cap1 ≤ 16 + 24 * (k + 1) → T2.length ≤ 12 * k + 1 → T2 = T1 ++ (if k = 0 then [] else [32]) → Wg G C M6 kc ks 67 [some (.ref a), some (.int x), some (.int (nI v)), some (.ref q), some (.ref q0), some (.int (nI k)), some (.int (nI (pkN r k)))] [] := by
          intro M6 kc ks cap1 T2 hR6 hM6 hP6 n6 hS6 hkc hks hcap1 htl2 hT2
          obtain ⟨vq6, hq6⟩ := hS6.rec
          obtain ⟨cv6, rv6, x6, x7⟩ := n6.rec
          obtain ⟨y, y1, y2⟩ := chg_b (x := nI (pkN r k)) (n := rz r) (by omega)
          have hy : (chg (nI (pkN r k)) (rz r)).toInt.natAbs < 10 ^ 2 := by rw [y2, nI_toInt (by omega)]; omega
          have hyl := dgI_len (k := 2) (by decide) hy
          have hcb : (cfN (rg r) (rz r) (pkN r k)).toInt.natAbs ≤ 639936 := cf_b h64 hWf.lm
          have hcl := dgI_len (x := cfN (rg r) (rz r) (pkN r k)) (k := 6) (by decide) (by omega)
          obtain ⟨ds, hds⟩ : ∃ ds, ds = dgI (chg (nI (pkN r k)) (rz r)) := ⟨_, rfl⟩
          obtain ⟨dc, hdc⟩ : ∃ dc, dc = dgI (cfN (rg r) (rz r) (pkN r k)) := ⟨_, rfl⟩
          rw [← hds] at hyl
          rw [← hdc] at hcl
          refine x_aload hC dX1_formatPeaks_67 rfl ?_
          refine x_aload_n hC dX1_formatPeaks_69 rfl rfl ?_
          refine x_iload hC dX1_formatPeaks_70 rfl ?_
          refine x_callV0 (na := 1) hC (ct_rseq (j := j) hG x6 (by rw [← j3]; exact x7) (by omega) j1 (by rw [← j3]; exact hpl)) (lw_V q1796 q1748 q1749 q115 q1750) x6 rfl rfl (by decide +kernel) rfl ⟨Nat.le_of_ble_eq_true rfl, Nat.le_of_ble_eq_true rfl⟩ rfl (Nat.le_of_ble_eq_true rfl) ⟨rfl, rfl⟩ ⟨(show kc ≤ 1600 by omega), (show ks ≤ 4200 by omega)⟩ dX1_formatPeaks_72 ?_
          rintro _ M6 ⟨rfl, rfl⟩
          have gi1 := g_inv (cap := cap1) (n := T2.length + ds.length)
          obtain ⟨ca, hca⟩ : ∃ ca, ca = gQ cap1 (T2.length + ds.length) := ⟨_, rfl⟩
          have hct1 := ct_sbAppI hG hT hM6 (show 5 ≠ 0 by decide) (x := chg (nI (pkN r k)) (rz r)) (by omega) hS6 (by rw [← hds]; omega)
          rw [← hds] at hct1
          rw [← j3]
          refine x_callV (k := kc + gC cap1 (T2.length + ds.length)) (n := ks + gS cap1 (T2.length + ds.length)) (na := 1) hC (hct1) (lw_V q2304 q487 q488 q99 q489) hq6 rfl rfl (by decide +kernel) rfl ⟨Nat.le_of_ble_eq_true rfl, Nat.le_of_ble_eq_true rfl⟩ rfl (Nat.le_of_ble_eq_true rfl) (Nat.le_refl _) (Nat.le_refl _) ⟨(show kc + gC cap1 (T2.length + ds.length) ≤ 1600 by omega), (show ks + gS cap1 (T2.length + ds.length) ≤ 4200 by omega)⟩ dX1_formatPeaks_75 ?_
          rintro _ M7 ⟨rfl, hS7, hF7⟩
          rw [← hca] at hS7 gi1
          obtain ⟨kc7, hkc7⟩ : ∃ kc7, kc7 = kc + gC cap1 (T2.length + ds.length) := ⟨_, rfl⟩
          obtain ⟨ks7, hks7⟩ : ∃ ks7, ks7 = ks + gS cap1 (T2.length + ds.length) := ⟨_, rfl⟩
          rw [← hkc7, ← hks7]
          have b7 : kc7 ≤ 6 + ca ∧ ks7 ≤ 160 + 2 * ca ∧ ca ≤ 16 + 24 * (k + 1) := by omega
          clear hkc7 hks7 gi1 hkc hks hca
          obtain ⟨vq7, hq7⟩ := hS7.rec
          have hl7 : (T2 ++ ds).length = T2.length + ds.length := List.length_append
          have gi2 := g_inv (cap := ca) (n := (T2 ++ ds).length + 1)
          refine x_bipush (v := nI 58) hC dX1_formatPeaks_78 (by decide) ?_
          refine x_callV (k := kc7 + gC ca ((T2 ++ ds).length + 1)) (n := ks7 + gS ca ((T2 ++ ds).length + 1)) (na := 1) hC (ct_sbApp hG (by decide) (c := 58) (by decide) hS7 (by omega)) (lw_V q309 q310 q311 q99 q312) hq7 rfl rfl (by decide +kernel) rfl ⟨Nat.le_of_ble_eq_true rfl, Nat.le_of_ble_eq_true rfl⟩ rfl (Nat.le_of_ble_eq_true rfl) (Nat.le_refl _) (Nat.le_refl _) ⟨(show kc7 + gC ca ((T2 ++ ds).length + 1) ≤ 1600 by omega), (show ks7 + gS ca ((T2 ++ ds).length + 1) ≤ 4200 by omega)⟩ dX1_formatPeaks_80 ?_
          rintro _ M8 ⟨rfl, hS8, hF8⟩
          obtain ⟨cb, hcb2⟩ : ∃ cb, cb = gQ ca ((T2 ++ ds).length + 1) := ⟨_, rfl⟩
          rw [← hcb2] at hS8 gi2
          obtain ⟨kc8, hkc8⟩ : ∃ kc8, kc8 = kc7 + gC ca ((T2 ++ ds).length + 1) := ⟨_, rfl⟩
          obtain ⟨ks8, hks8⟩ : ∃ ks8, ks8 = ks7 + gS ca ((T2 ++ ds).length + 1) := ⟨_, rfl⟩
          rw [← hkc8, ← hks8]
          have b8 : kc8 ≤ 6 + cb ∧ ks8 ≤ 160 + 2 * cb ∧ cb ≤ 16 + 24 * (k + 1) := by omega
          clear hkc8 hks8 gi2 hcb2
          obtain ⟨vq8, hq8⟩ := hS8.rec
          have hF78 : Fr (fun g => g = 5) M6 M8 := hF7.tr hF8
          have n8 := n6.fr hF78 (by decide) (by decide)
          obtain ⟨rv8, hb8⟩ : ∃ rv8, RcB M8 q na sa (rz r) (rg r) rv8 true := n8.rb
          obtain ⟨cv8, x8⟩ := hb8.rec
          refine x_aload_n hC dX1_formatPeaks_83 rfl rfl ?_
          refine x_callV (k := kc8) (n := ks8) (na := 0) hC (ct_coefs hG hb8 ⟨j2, j3⟩) (lw_V q1713 q1714 q1715 q115 q1716) x8 rfl rfl (by decide +kernel) rfl ⟨Nat.le_of_ble_eq_true rfl, Nat.le_of_ble_eq_true rfl⟩ rfl (Nat.le_of_ble_eq_true rfl) (Nat.le_refl _) (Nat.le_refl _) ⟨(show kc8 ≤ 1600 by omega), (show ks8 ≤ 4200 by omega)⟩ dX1_formatPeaks_84 ?_
          rintro _ M9 ⟨p9, u9, rfl, hp9, hu9, hL9, hb9⟩
          refine x_iload hC dX1_formatPeaks_87 rfl ?_
          refine x_ialdN hC hp9 hpl (by first | decide | omega) dX1_formatPeaks_89 ?_
          rw [hu9 _ hpl]
          have hS9 := hS8.fr hL9.1 (by decide)
          obtain ⟨vq9, hq9⟩ := hS9.rec
          have hM9 := ((hM6.fr hF78 (by decide)).fr hL9.1 (by decide))
          have hl8 : (T2 ++ ds ++ [58]).length = T2.length + ds.length + 1 := by rw [List.length_append, hl7]; rfl
          have gi3 := g_inv (cap := cb) (n := (T2 ++ ds ++ [58]).length + dc.length)
          have hct3 := ct_sbAppI hG hT hM9 (show 5 ≠ 0 by decide) (x := cfN (rg r) (rz r) (pkN r k)) (by omega) hS9 (by rw [← hdc]; omega)
          rw [← hdc] at hct3
          refine x_callV (k := kc8 + gC cb ((T2 ++ ds ++ [58]).length + dc.length)) (n := ks8 + gS cb ((T2 ++ ds ++ [58]).length + dc.length)) (na := 1) hC (hct3) (lw_V q2304 q487 q488 q99 q489) hq9 rfl rfl (by decide +kernel) rfl ⟨Nat.le_of_ble_eq_true rfl, Nat.le_of_ble_eq_true rfl⟩ rfl (Nat.le_of_ble_eq_true rfl) (Nat.le_refl _) (Nat.le_refl _) ⟨(show kc8 + gC cb ((T2 ++ ds ++ [58]).length + dc.length) ≤ 1600 by omega), (show ks8 + gS cb ((T2 ++ ds ++ [58]).length + dc.length) ≤ 4200 by omega)⟩ dX1_formatPeaks_90 ?_
          rintro _ M10 ⟨rfl, hS10, hF10⟩
          refine x_pop hC dX1_formatPeaks_93 rfl ?_
          refine x_iincN (lv' := [_, _, _, _, _, _, _]) (b := 1) hC dX1_formatPeaks_94 rfl (by decide) (by decide) rfl ?_
          refine x_goto (tgt := 23) hC dX1_formatPeaks_97 (by decide) ?_
          have hl10 : (T2 ++ ds ++ [58] ++ dc).length = T2.length + ds.length + 1 + dc.length := by rw [List.length_append, hl8]
          obtain ⟨b10, c10, n10, e10, -⟩ := n8.lr hL9.lr
          refine ih (k + 1) (by omega) M10 true true _ _ _ (T2 ++ ds ++ [58] ++ dc) (((hR6.pt (pt5 hF78)).lr hL9.lr).pt (pt5 hF10)) (hM9.fr hF10 (by decide)) (hP6.tr ((pe_pw (pt_pe (pt5 hF78))).tr (hL9.lr.pw.tr (pe_pw (pt_pe (pt5 hF10)))))) ?_ hS10 (show _ + 0 ≤ _ by omega) (show _ + 0 ≤ _ by omega) (by omega) (by omega) ?_ (fun _ => by omega) _
          · obtain ⟨rv8', k1, k2, k3⟩ := n8
            obtain ⟨p8, u8, rfl, hp8, hu8⟩ := k3 rfl
            obtain ⟨b', k4, k5⟩ := k1.lc hL9
            have hb' := k5 rfl
            subst hb'
            exact (RcR.mk2 k4 (hL9.1.z (by decide) hp8) hu8).fr hF10 (by decide) (by decide)
          · rw [hT1, hT2, hds, hdc]
            simp only [List.append_assoc]
        refine x_aload hC dX1_formatPeaks_51 rfl ?_
        refine x_callV0 (na := 0) hC (ct_sbLen hG hS5) (lw_V q2316 q426 q2888 q99 q427) hq5 rfl rfl (by decide +kernel) rfl ⟨Nat.le_of_ble_eq_true rfl, Nat.le_of_ble_eq_true rfl⟩ rfl (Nat.le_of_ble_eq_true rfl) ⟨rfl, rfl⟩ ⟨(show kc1 ≤ 1600 by omega), (show ks1 ≤ 4200 by omega)⟩ dX1_formatPeaks_53 ?_
        rintro _ M5 ⟨rfl, rfl⟩
        refine x_if_leN (tgt := 67) hC (by omega) dX1_formatPeaks_56 (by decide) (fun c3 => ?_) (fun c3 => ?_)
        · have hk0 : k = 0 := by
            rcases Nat.eq_zero_or_pos k with h | h
            · exact h
            · have := hz h; omega
          exact rest _ _ _ cap T1 hR5 hM5 hP5 n5 hS5 hkc2 hks2 (by omega) (by omega) (by rw [if_pos hk0, List.append_nil])
        · have hk0 : ¬ k = 0 := fun h => by subst h; omega
          have gi := g_inv (cap := cap) (n := T1.length + 1)
          refine x_aload hC dX1_formatPeaks_59 rfl ?_
          refine x_bipush (v := nI 32) hC dX1_formatPeaks_61 (by decide) ?_
          refine x_callV (k := kc1 + gC cap (T1.length + 1)) (n := ks1 + gS cap (T1.length + 1)) (na := 1) hC (ct_sbApp hG (by decide) (c := 32) (by decide) hS5 (by omega)) (lw_V q309 q310 q311 q99 q312) hq5 rfl rfl (by decide +kernel) rfl ⟨Nat.le_of_ble_eq_true rfl, Nat.le_of_ble_eq_true rfl⟩ rfl (Nat.le_of_ble_eq_true rfl) (Nat.le_refl _) (Nat.le_refl _) ⟨(show kc1 + gC cap (T1.length + 1) ≤ 1600 by omega), (show ks1 + gS cap (T1.length + 1) ≤ 4200 by omega)⟩ dX1_formatPeaks_63 ?_
          rintro _ M6 ⟨rfl, hS6, hF6⟩
          refine x_pop hC dX1_formatPeaks_66 rfl ?_
          exact rest _ _ _ _ (T1 ++ [32]) (hR5.pt (pt5 hF6)) (hM5.fr hF6 (by decide)) (hP5.tr (pe_pw (pt_pe (pt5 hF6)))) (n5.fr hF6 (by decide) (by decide)) hS6 (by omega) (by omega) (by omega) (by rw [List.length_append, List.length_singleton]; omega) (by rw [if_neg hk0])
      · rw [hfm, if_pos c2, List.append_nil] at hT1
        refine x_goto (tgt := 94) hC dX1_formatPeaks_48 (by decide) ?_
        refine x_iincN (lv' := [_, _, _, _, _, _, _]) (b := 1) hC dX1_formatPeaks_94 rfl (by decide) (by decide) rfl ?_
        refine x_goto (tgt := 23) hC dX1_formatPeaks_97 (by decide) ?_
        exact dead e (k + 1) (by omega) M5 true true _ _ cap T1 hR5 hP5 n5 hS5 hkc2 hks2 (by omega) (by omega) hT1.symm (fun l h1 h2 => cf_dead hWf c2 (by omega) h2) _
end FMT

