/-! ===== the component's recordings: synthesis by a filter ===== -/
theorem sg_comm (x y : Int32) : sg x y = sg y x := by unfold sg; rw [Int32.and_comm]
theorem fC_t {b c : Bool} : bC b + fC true c = fC b c ∧ bS b + fS true c = fS b c := by cases b <;> cases c <;> decide
theorem fC_r {b c : Bool} : rC b c + fC (b || !c) true ≤ fC b c ∧ rS b c + fS (b || !c) true ≤ fS b c := by cases b <;> cases c <;> decide
theorem Lr.new {M : X_M} {a : Nat} {e : X_E} (h : M a = none) : Lr M (mu M a e) := ⟨Fr.new h, fun q na sa n f cv rv h1 _ => ⟨cv, rv, mu_f h h1, Or.inl rfl, Or.inl rfl⟩⟩
theorem RV.mu {M : X_M} {n a : Nat} {f : Nat → Int32} {cv : Value} {e : X_E} {k : Nat} {u0 : Nat → Int32} (ha : M a = some (ia 3 k u0)) (h : RV M n f cv) : RV (mu M a e) n f cv := by
  obtain ⟨b, u, h1, h2, h3⟩ := h
  exact ⟨b, u, h1, mu_o (mx_tag h2 ha (show (0 : Nat) ≠ 3 by decide)) h2, h3⟩
theorem RcR.wr {M : X_M} {q na sa n a k : Nat} {f u0 : Nat → Int32} {b c : Bool} {e : X_E} (h : RcR M q na sa n f b c) (ha : M a = some (ia 3 k u0)) : RcR (mu M a e) q na sa n f b c := by
  obtain ⟨rv, h1, h2, h3⟩ := h
  exact ⟨rv, h1.wr ha, h2, fun hc => (h3 hc).mu ha⟩
theorem RcR.nw {M : X_M} {q na sa n a : Nat} {f : Nat → Int32} {b c : Bool} {e : X_E} (h : RcR M q na sa n f b c) (ha : M a = none) : RcR (mu M a e) q na sa n f b c := h.fr (Fr.new (P := fun g => g = 3) ha) (by decide) (by decide)
theorem Lr.wr {a k : Nat} {M M1 : X_M} {u0 : Nat → Int32} {e : X_E} (h : Lr M M1) (hz : M a = none) (ha : M1 a = some (ia 3 k u0)) : Lr M (mu M1 a e) := by
  refine ⟨fun b x hb hn => mu_o (fun e9 => by rw [e9, hz] at hb; cases hb) (h.1 b x hb hn), fun q' na sa n f cv rv a1 a2 => ?_⟩
  obtain ⟨c1, r1, b1, b2, b3⟩ := h.2 q' na sa n f cv rv a1 a2
  exact ⟨c1, r1, mu_o (fun e9 => by rw [e9, hz] at a1; cases a1) b1, b2.imp id (fun h9 => h9.mu ha), b3.imp id (fun h9 => h9.mu ha)⟩
/-- the coefficients of a recording are asked for: its ranking stays -/
theorem RcR.cf {M M' : X_M} {q na sa n : Nat} {f : Nat → Int32} {rv : Value} {c : Bool} (hB : RcB M' q na sa n f rv true) (hL : Lc M M') (h1 : c = false → rv = .null) (h2 : c = true → RV M n f rv) : RcR M' q na sa n f true c := ⟨rv, hB, h1, fun hc => (h2 hc).fr hL.1 (by decide)⟩
/-- what a filter's method leaves -/
def PFl (q na sa n : Nat) (f : Nat → Int32) (v : Int32) (b c : Bool) (M1 : X_M) : Option Value → X_M → Prop := fun r M' => r = some (.int v) ∧ Lr M1 M' ∧ RcR M' q na sa n f b c
/-- the filter's method multiplies the coefficient k of the recording q by ff k -/
def FlM (G : X_G) (q na sa n : Nat) (f : Nat → Int32) (caps : List Value) (ff : Nat → Int32) (z : MethodName) (bz : ByteArray) (nz : Nat) : Prop :=
  ∀ (k : Nat) (M1 : X_M) (b c : Bool), k < n → RcR M1 q na sa n f b c → ∃ k9 n9 b' c', k9 + fC b' c' ≤ fC b c ∧ n9 + fS b' c' ≤ fS b c ∧ Ct G z bz nz (some .int) (xrm 7 k9 n9) (.ref q :: (caps ++ [.int (nI k)])) M1 (PFl q na sa n f (ff k) b' c' M1)
section SYN
variable {G : X_G} {M : X_M} {q na sa n j : Nat} {f : Nat → Int32} {cv rv : Value}
theorem ct_keepIf (hG : GOK G) (p : Prop) [Decidable p] (M : X_M) : Ct G yX9_keepIf cX9_keepIf 1 (some .int) (xrm 1 0 0) [.int (xB p)] M (Pr (.int (xB p)) M) := by
  refine ct_open (lv := [_]) hG (by decide +kernel) (Nat.le_of_ble_eq_true rfl) rfl (fun C hC hk => ?_)
  refine x_iload_n hC dX9_keepIf_0 rfl rfl ?_
  refine x_if_eqB (tgt := 8) hC dX9_keepIf_1 (by decide) (fun c => ?_) (fun c => ?_)
  · refine x_iconst (v := 0) hC dX9_keepIf_8 (by decide) ?_
    exact x_iret hC hk dX9_keepIf_9 (Nat.le_of_ble_eq_true rfl) (Nat.le_of_ble_eq_true rfl) ⟨by rw [xB_f c], rfl⟩
  · refine x_iconst (v := 1) hC dX9_keepIf_4 (by decide) ?_
    refine x_goto (tgt := 9) hC dX9_keepIf_5 (by decide) ?_
    exact x_iret hC hk dX9_keepIf_9 (Nat.le_of_ble_eq_true rfl) (Nat.le_of_ble_eq_true rfl) ⟨by rw [xB_t c], rfl⟩
theorem ct_lamP (hG : GOK G) {b c : Bool} (h : RcR M q na sa n f b c) (hj1 : 1 ≤ j) (hj : j ≤ 6 ∧ n = 2 ^ j) {k : Nat} (hk9 : k < n) (c0 : Int32) : Ct G yX7_lambda_synthesisOfPeaks_0 cX7_lambda_synthesisOfPeaks_0 3 (some .int) (xrm 7 (rC b c) (rS b c)) [.ref q, .int c0, .int (nI k)] M (PFl q na sa n f (xB (rkN f n k < c0)) (b || !c) true M) := by
  obtain ⟨cv, rv, g0, -⟩ := h.rec
  refine ct_open (lv := [_, _, _]) hG (by decide +kernel) (Nat.le_of_ble_eq_true rfl) rfl (fun C hC hk => ?_)
  obtain ⟨M0, hM0⟩ : ∃ M0, M0 = M := ⟨M, rfl⟩
  rw [← hM0] at hk
  have hF : Fm M0 M := by rw [hM0]; exact Fr.rf
  subst hM0
  refine x_aload_n hC dX7_lambda_synthesisOfPeaks_0_0 rfl rfl ?_
  refine x_iload_n hC dX7_lambda_synthesisOfPeaks_0_1 rfl rfl ?_
  refine x_callV (k := rC b c) (n := rS b c) (na := 1) hC (ct_rrank hG h hj1 hj hk9) (lw_V q1919 q1826 q1827 q115 q1828) g0 rfl rfl (by decide +kernel) rfl ⟨Nat.le_of_ble_eq_true rfl, Nat.le_of_ble_eq_true rfl⟩ rfl (Nat.le_of_ble_eq_true rfl) (Nat.le_of_eq (Nat.zero_add _)) (Nat.le_of_eq (Nat.zero_add _)) ⟨Nat.le_refl _, Nat.le_refl _⟩ dX7_lambda_synthesisOfPeaks_0_2 ?_
  rintro _ M1 ⟨rfl, hL, a, u, hB, ha, hu⟩
  have fin : ∀ v, v = xB (rkN f n k < c0) → Wg G C M1 (rC b c) (rS b c) 14 [some (.ref q), some (.int c0), some (.int (nI k))] [.int v] := by
    rintro _ rfl
    refine x_callS0 (na := 1) hC (ct_keepIf hG _ _) (lw_S q1934 q1935 q124 q1936) (by decide +kernel) rfl ⟨Nat.le_of_ble_eq_true rfl, Nat.le_of_ble_eq_true rfl⟩ rfl (Nat.le_of_ble_eq_true rfl) ⟨rfl, rfl⟩ ⟨Nat.le_refl _, Nat.le_refl _⟩ dX7_lambda_synthesisOfPeaks_0_14 ?_
    rintro _ M ⟨rfl, rfl⟩
    exact x_iret hC hk dX7_lambda_synthesisOfPeaks_0_17 (Nat.le_refl _) (Nat.le_refl _) ⟨rfl, hL, RcR.mk2 hB ha hu⟩
  refine x_iload_n hC dX7_lambda_synthesisOfPeaks_0_5 rfl rfl ?_
  refine x_icmp_ge (tgt := 13) hC dX7_lambda_synthesisOfPeaks_0_6 (by decide) (fun c1 => ?_) (fun c1 => ?_)
  · refine x_iconst (v := 0) hC dX7_lambda_synthesisOfPeaks_0_13 (by decide) ?_
    exact fin _ (xB_f (Int32.not_lt.mpr c1)).symm
  · refine x_iconst (v := 1) hC dX7_lambda_synthesisOfPeaks_0_9 (by decide) ?_
    refine x_goto (tgt := 14) hC dX7_lambda_synthesisOfPeaks_0_10 (by decide) ?_
    exact fin _ (xB_t (Int32.not_le.mp c1)).symm
theorem ct_lamA (hG : GOK G) {b c : Bool} (h : RcR M q na sa n f b c) (hj : j ≤ 6 ∧ n = 2 ^ j) {k : Nat} (hk9 : k < n) (t : Int32) : Ct G yX7_lambda_synthesisAbove_2 cX7_lambda_synthesisAbove_2 3 (some .int) (xrm 7 (bC b) (bS b)) [.ref q, .int t, .int (nI k)] M (PFl q na sa n f (xB (t ≤ iabs (cfN f n k))) true c M) := by
  obtain ⟨rv, hB, h1, h2⟩ := h
  obtain ⟨cv, g0⟩ := hB.rec
  refine ct_open (lv := [_, _, _]) hG (by decide +kernel) (Nat.le_of_ble_eq_true rfl) rfl (fun C hC hk => ?_)
  obtain ⟨M0, hM0⟩ : ∃ M0, M0 = M := ⟨M, rfl⟩
  rw [← hM0] at hk
  have hF : Fm M0 M := by rw [hM0]; exact Fr.rf
  subst hM0
  refine x_aload_n hC dX7_lambda_synthesisAbove_2_0 rfl rfl ?_
  refine x_iload_n hC dX7_lambda_synthesisAbove_2_1 rfl rfl ?_
  refine x_iload_n hC dX7_lambda_synthesisAbove_2_2 rfl rfl ?_
  refine x_callV (k := bC b) (n := bS b) (na := 2) hC (ct_risAbove hG hB hj hk9 t) (lw_V q1784 q1786 qs16 q115 q1787) g0 rfl rfl (by decide +kernel) rfl ⟨Nat.le_of_ble_eq_true rfl, Nat.le_of_ble_eq_true rfl⟩ rfl (Nat.le_of_ble_eq_true rfl) (Nat.le_of_eq (Nat.zero_add _)) (Nat.le_of_eq (Nat.zero_add _)) ⟨Nat.le_refl _, Nat.le_refl _⟩ dX7_lambda_synthesisAbove_2_3 ?_
  rintro _ M1 ⟨rfl, hL, hB2⟩
  refine x_callS0 (na := 1) hC (ct_keepIf hG _ _) (lw_S q1934 q1935 q124 q1936) (by decide +kernel) rfl ⟨Nat.le_of_ble_eq_true rfl, Nat.le_of_ble_eq_true rfl⟩ rfl (Nat.le_of_ble_eq_true rfl) ⟨rfl, rfl⟩ ⟨Nat.le_refl _, Nat.le_refl _⟩ dX7_lambda_synthesisAbove_2_6 ?_
  rintro _ M ⟨rfl, rfl⟩
  exact x_iret hC hk dX7_lambda_synthesisAbove_2_9 (Nat.le_refl _) (Nat.le_refl _) ⟨rfl, hL.lr, RcR.cf hB2 hL h1 h2⟩
theorem ct_lamB (hG : GOK G) {b c : Bool} (h : RcR M q na sa n f b c) (hj1 : 1 ≤ j) (hj : j ≤ 6 ∧ n = 2 ^ j) {k : Nat} (hk9 : k < n) (lo hi fc : Int32) : Ct G yX7_lambda_synthesisOfBand_1 cX7_lambda_synthesisOfBand_1 5 (some .int) (xrm 7 0 0) [.ref q, .int lo, .int hi, .int fc, .int (nI k)] M (PFl q na sa n f (if lo ≤ chg (nI k) n ∧ chg (nI k) n ≤ hi then fc else 1) b c M) := by
  obtain ⟨cv, rv, g1, g2⟩ := h.rec
  have hsq := ct_rseq hG g1 (j := j) (f := f) (by rw [← hj.2]; exact g2) (by omega) hj1 (x := k) (by rw [← hj.2]; exact hk9)
  rw [← hj.2] at hsq
  refine ct_open (lv := [_, _, _, _, _]) hG (by decide +kernel) (Nat.le_of_ble_eq_true rfl) rfl (fun C hC hk => ?_)
  refine x_aload_n hC dX7_lambda_synthesisOfBand_1_0 rfl rfl ?_
  refine x_iload hC dX7_lambda_synthesisOfBand_1_1 rfl ?_
  refine x_callV0 (na := 1) hC (hsq) (lw_V q1747 q1748 q1749 q115 q1750) g1 rfl rfl (by decide +kernel) rfl ⟨Nat.le_of_ble_eq_true rfl, Nat.le_of_ble_eq_true rfl⟩ rfl (Nat.le_of_ble_eq_true rfl) ⟨rfl, rfl⟩ ⟨Nat.le_of_ble_eq_true rfl, Nat.le_of_ble_eq_true rfl⟩ dX7_lambda_synthesisOfBand_1_3 ?_
  rintro _ M ⟨rfl, rfl⟩
  refine x_iload_n hC dX7_lambda_synthesisOfBand_1_6 rfl rfl ?_
  refine x_iload_n hC dX7_lambda_synthesisOfBand_1_7 rfl rfl ?_
  refine x_callSN0 (na := 3) hC (ct_isBetween hG _ _ _ _) q643 q642 q81 q1584 (by decide +kernel) rfl ⟨Nat.le_of_ble_eq_true rfl, Nat.le_of_ble_eq_true rfl⟩ rfl (Nat.le_of_ble_eq_true rfl) ⟨rfl, rfl⟩ ⟨Nat.le_of_ble_eq_true rfl, Nat.le_of_ble_eq_true rfl⟩ dX7_lambda_synthesisOfBand_1_8 ?_
  rintro _ M ⟨rfl, rfl⟩
  refine x_if_eqB (tgt := 18) hC dX7_lambda_synthesisOfBand_1_11 (by decide) (fun c2 => ?_) (fun c2 => ?_)
  · refine x_iconst (v := 1) hC dX7_lambda_synthesisOfBand_1_18 (by decide) ?_
    exact x_iret hC hk dX7_lambda_synthesisOfBand_1_19 (Nat.le_of_ble_eq_true rfl) (Nat.le_of_ble_eq_true rfl) ⟨by rw [if_neg c2], Lr.rf, h⟩
  · refine x_iload_n hC dX7_lambda_synthesisOfBand_1_14 rfl rfl ?_
    refine x_goto (tgt := 19) hC dX7_lambda_synthesisOfBand_1_15 (by decide) ?_
    exact x_iret hC hk dX7_lambda_synthesisOfBand_1_19 (Nat.le_of_ble_eq_true rfl) (Nat.le_of_ble_eq_true rfl) ⟨by rw [if_pos c2], Lr.rf, h⟩
theorem fl_P (hG : GOK G) (hj1 : 1 ≤ j) (hj : j ≤ 6 ∧ n = 2 ^ j) (c0 : Int32) : FlM G q na sa n f [.int c0] (fun k => xB (rkN f n k < c0)) yX7_lambda_synthesisOfPeaks_0 cX7_lambda_synthesisOfPeaks_0 3 := fun k M1 b c hk h => ⟨_, _, _, _, fC_r.1, fC_r.2, ct_lamP hG h hj1 hj hk c0⟩
theorem fl_A (hG : GOK G) (hj : j ≤ 6 ∧ n = 2 ^ j) (t : Int32) : FlM G q na sa n f [.int t] (fun k => xB (t ≤ iabs (cfN f n k))) yX7_lambda_synthesisAbove_2 cX7_lambda_synthesisAbove_2 3 := fun k M1 b c hk h => ⟨_, _, _, _, Nat.le_of_eq fC_t.1, Nat.le_of_eq fC_t.2, ct_lamA hG h hj hk t⟩
theorem fl_B (hG : GOK G) (hj1 : 1 ≤ j) (hj : j ≤ 6 ∧ n = 2 ^ j) (lo hi fc : Int32) : FlM G q na sa n f [.int lo, .int hi, .int fc] (fun k => if lo ≤ chg (nI k) n ∧ chg (nI k) n ≤ hi then fc else 1) yX7_lambda_synthesisOfBand_1 cX7_lambda_synthesisOfBand_1 5 := fun k M1 b c hk h => ⟨_, _, _, _, Nat.le_of_eq (Nat.zero_add _), Nat.le_of_eq (Nat.zero_add _), ct_lamB hG h hj1 hj hk lo hi fc⟩
/-- what a synthesis leaves -/
def PSy (M : X_M) (n : Nat) (F : Nat → Int32) : Option Value → X_M → Prop := fun r M' => ∃ p u, r = some (.ref p) ∧ M p = none ∧ M' p = some (ia 3 n u) ∧ (∀ k, k < n → u k = F k) ∧ Lr M M'
theorem ct_rsynth (hG : GOK G) {b c : Bool} (h : RcR M q na sa n f b c) (hj : j ≤ 6 ∧ n = 2 ^ j) {ff : Nat → Int32} {σ : Lambda.Shape} {cK : ClassId} {code : ByteArray} {iM iC iN iS0 : Nat} {fs : List (Nat × Nat × String × String)} {x0 : MethodName} {pc0 idx0 o : Nat} {caps : List Value} {z : MethodName} {bz : ByteArray} {nz na' : Nat}
    (hok : LamOk σ code iM iC iN iS0 fs) (hat : LamS G x0 pc0 idx0 σ cK) (hx0 : x0.cls = nRec) (ho : M o = some (xrw 6 { cls := cK, slots := (Value.ref q :: caps).toArray, vm := .none })) (hdec : FwDec code (Value.ref q :: caps).length iM fs) (hcat : ((Value.ref q :: caps).map fun v => v.category).sum ≤ 7)
    (hz : z = ⟨nRec, σ.implName, σ.implDesc.toString⟩) (hM : FlM G q na sa n f caps ff z bz nz) (h4w : Cond.instanceMethod z ∈ lw_all) (h3w : Cond.privateMethod z ∈ lw_tbl) (h6w : Cond.code z bz nz (some .int) ∈ lw_all) (hd : (parseMethodDescriptor z.desc).map (fun d => d.parameters.length) = some na') (hna : caps.length + 1 = na') (hnz : nz ≤ 8) :
    Ct G yX7_synthesis cX7_synthesis 4 (some (.array .int)) (xrm 9 (1 + fC b c) (64 + fS b c)) [.ref q, .ref o] M (PSy M n (fun k => syS (fun i => ff i * cfN f n i) n k)) := by
  have hp2 := (pw_le (j := j) (by omega)).2
  have hn64 : n ≤ 64 := by rw [hj.2]; exact hp2
  have hn0 : 0 < n := by rw [hj.2]; exact Nat.two_pow_pos j
  obtain ⟨cv, rv, g1, g2⟩ := h.rec
  refine ct_open (lv := [_, _, _, _]) hG (by decide +kernel) (Nat.le_of_ble_eq_true rfl) rfl (fun C hC hk => ?_)
  obtain ⟨M0, hM0⟩ : ∃ M0, M0 = M := ⟨M, rfl⟩
  rw [← hM0] at hk
  have hF : Fm M0 M := by rw [hM0]; exact Fr.rf
  subst hM0
  refine x_aload_n hC dX7_synthesis_0 rfl rfl ?_
  refine x_get hC 1 g1 rfl (by decide) q1486 rfl rfl dX7_synthesis_1 ?_
  refine x_alen hC g2 dX7_synthesis_4 ?_
  dsimp only
  refine x_newi hC n 3 q1328 (by decide) rfl (by omega) (show 0 + 1 ≤ 1 + fC b c by omega) (show 0 + n ≤ 64 + fS b c by omega) dX7_synthesis_5 (fun p hp => ?_)
  refine x_astore_n (lv' := [_, _, _, _]) hC dX7_synthesis_7 rfl (by decide) rfl ?_
  refine x_iconst (v := nI 0) hC dX7_synthesis_8 (by decide) ?_
  refine x_istore_n (lv' := [_, _, _, _]) hC dX7_synthesis_9 rfl (by decide) rfl ?_
  refine x_up (n := n) (I := fun k => ∀ M1 b1 c1 kc ks u, kc + fC b1 c1 ≤ 1 + fC b c → ks + fS b1 c1 ≤ 64 + fS b c → RcR M1 q na sa n f b1 c1 → Lr M0 M1 → M1 o = some (xrw 6 { cls := cK, slots := (Value.ref q :: caps).toArray, vm := .none }) → M1 p = some (ia 3 n u) → (∀ l, l < k → u l = ff l * cfN f n l) → Wg G C M1 kc ks 10 [some (.ref q), some (.ref o), some (.ref p), some (.int (nI k))] []) (fun k hk2 ih M1 b1 c1 kc ks u hkc hks hR hL ho1 hp1 hu => ?_) 0 (Nat.zero_le _) _ b c (0 + 1) (0 + n) (fun _ => 0) (by omega) (by omega) (h.nw hp) (Lr.new hp) (mu_f hp ho) mu_s (fun l hl => by omega)
  refine x_iload_n hC dX7_synthesis_10 rfl rfl ?_
  refine x_aload_n hC dX7_synthesis_11 rfl rfl ?_
  refine x_alen hC hp1 dX7_synthesis_12 ?_
  dsimp only
  refine x_icmp_geN (tgt := 39) hC (by omega) (by omega) dX7_synthesis_13 (by decide) (fun d1 => ?_) (fun d1 => ?_)
  · have hk3 : k = n := by omega
    subst hk3
    refine x_aload_n hC dX7_synthesis_39 rfl rfl ?_
    obtain ⟨hj6, hje⟩ := hj
    have hp1' : M1 p = some (ia 3 (2 ^ j) u) := by rw [← hje]; exact hp1
    refine x_callS0 (na := 1) hC (ct_wht hG (g := 3) hj6 hp1' (by decide)) (lw_S q1722 q1723 q123 q1724) (by decide +kernel) rfl ⟨Nat.le_of_ble_eq_true rfl, Nat.le_of_ble_eq_true rfl⟩ rfl (Nat.le_of_ble_eq_true rfl) ⟨rfl, rfl⟩ ⟨(show kc ≤ 1 + fC b c by omega), (show ks ≤ 64 + fS b c by omega)⟩ dX7_synthesis_40 ?_
    rintro _ M2 ⟨rfl, u2, rfl, hu2⟩
    rw [← hje] at hu2 ⊢
    have hL2 : ∀ e, Lr M0 (mu M1 p e) := fun e => hL.wr hp hp1
    have hs2 : ∀ l, l < k → clip (fdiv (u2 l) (nI k)) = syS (fun i => ff i * cfN f k i) k l := fun l hl => by
      rw [hu2 l hl]
      unfold syS
      congr 2
      exact iS_cong fun i hi => by rw [hu i hi, sg_comm]
    refine x_iconst (v := nI 0) hC dX7_synthesis_43 (by decide) ?_
    refine x_istore_n (lv' := [_, _, _, _]) hC dX7_synthesis_44 rfl (by decide) rfl ?_
    refine x_up (n := k) (I := fun m => ∀ u3, (∀ l, l < m → u3 l = syS (fun i => ff i * cfN f k i) k l) → (∀ l, m ≤ l → l < k → u3 l = u2 l) → Wg G C (mu M1 p (ia 3 k u3)) kc ks 45 [some (.ref q), some (.ref o), some (.ref p), some (.int (nI m))] []) (fun m hm2 ih2 u3 i1 i2 => ?_) 0 (Nat.zero_le _) u2 (fun l hl => by omega) (fun l h1 h2 => rfl)
    refine x_iload_n hC dX7_synthesis_45 rfl rfl ?_
    refine x_aload_n hC dX7_synthesis_46 rfl rfl ?_
    refine x_alen hC mu_s dX7_synthesis_47 ?_
    dsimp only
    refine x_icmp_geN (tgt := 71) hC (by omega) (by omega) dX7_synthesis_48 (by decide) (fun d2 => ?_) (fun d2 => ?_)
    · have hm3 : m = k := by omega
      subst hm3
      refine x_aload_n hC dX7_synthesis_71 rfl rfl ?_
      exact x_aret hC hk dX7_synthesis_72 (Or.inr ⟨_, rfl⟩) (Or.inr ⟨_, rfl⟩) (show kc ≤ 1 + fC b c by omega) (show ks ≤ 64 + fS b c by omega) ⟨p, u3, rfl, hp, mu_s, i1, hL2 _⟩
    · refine x_aload_n hC dX7_synthesis_51 rfl rfl ?_
      refine x_iload_n hC dX7_synthesis_52 rfl rfl ?_
      refine x_aload_n hC dX7_synthesis_53 rfl rfl ?_
      refine x_iload_n hC dX7_synthesis_54 rfl rfl ?_
      refine x_ialdN hC mu_s d2 (by first | decide | omega) dX7_synthesis_55 ?_
      rw [i2 m (Nat.le_refl m) d2]
      refine x_aload_n hC dX7_synthesis_56 rfl rfl ?_
      refine x_alen hC mu_s dX7_synthesis_57 ?_
      dsimp only
      refine x_callS0 (na := 2) hC (ct_floorDiv hG _ _ (nI_ne0 (by omega) (by omega)) _) (lw_S q1945 q1946 q103 q1947) (by decide +kernel) rfl ⟨Nat.le_of_ble_eq_true rfl, Nat.le_of_ble_eq_true rfl⟩ rfl (Nat.le_of_ble_eq_true rfl) ⟨rfl, rfl⟩ ⟨(show kc ≤ 1 + fC b c by omega), (show ks ≤ 64 + fS b c by omega)⟩ dX7_synthesis_58 ?_
      rintro _ M ⟨rfl, rfl⟩
      refine x_callSN0 (na := 1) hC (ct_limited hG _ _) q1950 q1949 q81 q1948 (by decide +kernel) rfl ⟨Nat.le_of_ble_eq_true rfl, Nat.le_of_ble_eq_true rfl⟩ rfl (Nat.le_of_ble_eq_true rfl) ⟨rfl, rfl⟩ ⟨(show kc ≤ 1 + fC b c by omega), (show ks ≤ 64 + fS b c by omega)⟩ dX7_synthesis_61 ?_
      rintro _ M ⟨rfl, rfl⟩
      refine x_iastN hC mu_s (by first | decide | assumption) d2 (by first | decide | omega) dX7_synthesis_64 ?_
      refine x_iincN (lv' := [_, _, _, _]) (b := 1) hC dX7_synthesis_65 rfl (by decide) (by decide) rfl ?_
      refine x_goto (tgt := 45) hC dX7_synthesis_68 (by decide) ?_
      rw [mu_mu]
      refine ih2 d2 _ (fun l hl => ?_) (fun l h1 h2 => ?_)
      · by_cases e : l = m
        · subst e; rw [upd_s]; exact hs2 l d2
        · rw [upd_n e]; exact i1 l (by omega)
      · rw [upd_n (by omega)]; exact i2 l (by omega) h2
  · refine x_aload_n hC dX7_synthesis_16 rfl rfl ?_
    refine x_iload_n hC dX7_synthesis_17 rfl rfl ?_
    refine x_aload_n hC dX7_synthesis_18 rfl rfl ?_
    refine x_iload_n hC dX7_synthesis_19 rfl rfl ?_
    obtain ⟨k9, n9, b2, c2, hk9, hn9, hct⟩ := hM k M1 b1 c1 d1 hR
    obtain ⟨cv1, rv1, x1, -⟩ := hR.rec
    refine x_made hC hok hat hx0 ho1 x1 rfl hdec hcat hz hct h4w h3w q115 h6w hd (by rw [List.length_append]; exact hna) q1942 q1944 q1943 q2931 (Nat.le_of_ble_eq_true rfl) (show 8 + 13 + (8 + (nz + 11) + (64 * 7 + 4096)) ≤ 64 * 9 + 4096 by omega) (Nat.le_of_ble_eq_true rfl) (k := kc + k9) (n := ks + n9) (Nat.le_refl _) (Nat.le_refl _) ⟨show kc + k9 ≤ 1 + fC b c by omega, show ks + n9 ≤ 64 + fS b c by omega⟩ dX7_synthesis_20 (fun r M' hp => ⟨_, hp.1⟩) ?_
    rintro _ M2 ⟨rfl, hL2, hR2⟩
    obtain ⟨rv2, hB2, hv1, hv2⟩ := hR2
    obtain ⟨cv2, y1⟩ := hB2.rec
    have hc2 := fC_t (b := b2) (c := c2)
    refine x_aload_n hC dX7_synthesis_25 rfl rfl ?_
    refine x_callV (k := kc + k9 + bC b2) (n := ks + n9 + bS b2) (na := 0) hC (ct_coefs hG hB2 hj) (lw_V q1756 q1714 q1715 q115 q1716) y1 rfl rfl (by decide +kernel) rfl ⟨Nat.le_of_ble_eq_true rfl, Nat.le_of_ble_eq_true rfl⟩ rfl (Nat.le_of_ble_eq_true rfl) (Nat.le_refl _) (Nat.le_refl _) ⟨(show kc + k9 + bC b2 ≤ 1 + fC b c by omega), (show ks + n9 + bS b2 ≤ 64 + fS b c by omega)⟩ dX7_synthesis_26 ?_
    rintro _ M3 ⟨a3, u3, rfl, ha3, hu3, hL3, hB3⟩
    have hp3 := hL3.1.z (by decide) (hL2.1.z (by decide) hp1)
    refine x_iload_n hC dX7_synthesis_29 rfl rfl ?_
    refine x_ialdN hC ha3 d1 (by first | decide | omega) dX7_synthesis_30 ?_
    rw [hu3 k d1]
    refine x_imul hC dX7_synthesis_31 ?_
    refine x_iastN hC hp3 (by first | decide | assumption) d1 (by first | decide | omega) dX7_synthesis_32 ?_
    refine x_iincN (lv' := [_, _, _, _]) (b := 1) hC dX7_synthesis_33 rfl (by decide) (by decide) rfl ?_
    refine x_goto (tgt := 10) hC dX7_synthesis_36 (by decide) ?_
    refine ih d1 _ true c2 _ _ _ (by omega) (by omega) ((RcR.cf hB3 hL3 hv1 hv2).wr hp3) (((hL.tr hL2).tr hL3.lr).wr hp hp3) (mu_o (mx_tag (hL3.1.z (by decide) (hL2.1.z (by decide) ho1)) hp3 (show (6 : Nat) ≠ 3 by decide)) (hL3.1.z (by decide) (hL2.1.z (by decide) ho1))) mu_s (fun l hl => ?_)
    by_cases e : l = k
    · subst e; rw [upd_s]
    · rw [upd_n e]; exact hu l (by omega)
end SYN

