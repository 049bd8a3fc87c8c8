/-! ===== the component's public methods that only read ===== -/
theorem bC_le {b : Bool} : bC b ≤ 1 ∧ bS b ≤ 64 := by cases b <;> exact ⟨by decide, by decide⟩
theorem rC_le {b c : Bool} : rC b c ≤ 2 ∧ rS b c ≤ 128 := by cases b <;> cases c <;> exact ⟨by decide, by decide⟩
theorem dC_le2 {b c : Bool} : dC b c ≤ 2 ∧ dS b c ≤ 128 := by cases b <;> cases c <;> exact ⟨by decide, by decide⟩
theorem WfRow.pw {r : Rcd} (h : WfRow r) : ∃ j, 1 ≤ j ∧ j ≤ 6 ∧ rz r = 2 ^ j := h.2.2.1
theorem WfRow.lm {r : Rcd} (h : WfRow r) : ∀ l, l < rz r → lim (rg r l) := fun l hl => by
  have e : rg r l = r.2[l] := by show r.2.getD l 0 = _; rw [List.getD_eq_getElem?_getD, List.getElem?_eq_getElem hl]; rfl
  rw [e]
  exact h.2.2.2 _ (List.getElem_mem hl)
theorem RcR.rb {M : X_M} {q na sa n : Nat} {f : Nat → Int32} {b c : Bool} (h : RcR M q na sa n f b c) : ∃ rv, RcB M q na sa n f rv b := by
  obtain ⟨rv, h1, -⟩ := h
  exact ⟨rv, h1⟩
/-- how many places have a property -/
theorem iS_cnt {p : Nat → Prop} [DecidablePred p] : ∀ {n : Nat}, ∃ c, c ≤ n ∧ iS (fun k => xB (p k)) n = nI c ∧ (c = 0 ↔ ∀ k, k < n → ¬ p k)
  | 0 => ⟨0, Nat.le_refl _, rfl, by constructor; intro _ k hk; omega; intro _; rfl⟩
  | n + 1 => by
    obtain ⟨c, h1, h2, h3⟩ := iS_cnt (p := p) (n := n)
    by_cases h : p n
    · refine ⟨c + 1, by omega, ?_, ?_⟩
      · show iS (fun k => xB (p k)) n + xB (p n) = _
        rw [h2, xB_t h]
        exact (nI_succ c).symm
      · constructor
        · intro z; omega
        · intro z; exact absurd h (z n (by omega))
    · refine ⟨c, by omega, ?_, ?_⟩
      · show iS (fun k => xB (p k)) n + xB (p n) = _
        rw [h2, xB_f h, Int32.add_zero]
      · rw [h3]
        constructor
        · intro z k hk
          by_cases e : k = n
          · subst e; exact h
          · exact z k (by omega)
        · intro z k hk; exact z k (by omega)
section PB1
variable {G : X_G} {M : X_M} {T : X_T} {a : Nat} {S : X_S}
theorem cp_errorKind (hG : GOK G) (hR : CRep S M T a) : Ct G yX1_errorKind cX1_errorKind 1 (some .int) (xrm 1 0 0) [.ref a] M (Pr (.int (opErrorKind S).2) M) := by
  obtain ⟨bu, ar, dq, sv, fm, bf, H, h1, -⟩ := hR
  refine ct_open (lv := [_]) hG (by decide +kernel) (Nat.le_of_ble_eq_true rfl) rfl (fun C hC hk => ?_)
  refine x_aload_n hC dX1_errorKind_0 rfl rfl ?_
  refine x_get hC 2 h1 rfl (by decide) q231 rfl rfl dX1_errorKind_1 ?_
  exact x_iret hC hk dX1_errorKind_4 (Nat.le_of_ble_eq_true rfl) (Nat.le_of_ble_eq_true rfl) ⟨rfl, rfl⟩
theorem cp_errorOffset (hG : GOK G) (hR : CRep S M T a) : Ct G yX1_errorOffset cX1_errorOffset 1 (some .int) (xrm 1 0 0) [.ref a] M (Pr (.int (opErrorOffset S).2) M) := by
  obtain ⟨bu, ar, dq, sv, fm, bf, H, h1, -⟩ := hR
  refine ct_open (lv := [_]) hG (by decide +kernel) (Nat.le_of_ble_eq_true rfl) rfl (fun C hC hk => ?_)
  refine x_aload_n hC dX1_errorOffset_0 rfl rfl ?_
  refine x_get hC 3 h1 rfl (by decide) q232 rfl rfl dX1_errorOffset_1 ?_
  exact x_iret hC hk dX1_errorOffset_4 (Nat.le_of_ble_eq_true rfl) (Nat.le_of_ble_eq_true rfl) ⟨rfl, rfl⟩
theorem cp_recordingCount (hG : GOK G) (hR : CRep S M T a) : Ct G yX1_recordingCount cX1_recordingCount 1 (some .int) (xrm 2 0 0) [.ref a] M (Pr (.int (opCount S).2) M) := by
  obtain ⟨bu, ar, dq, sv, fm, bf, H, h1, h2, ⟨⟨L, h3⟩, h3w⟩, -⟩ := hR
  obtain ⟨l, m, a1, a2, a4⟩ := h3.rec
  obtain ⟨vl, hl⟩ := a2.rec
  refine ct_open (lv := [_]) hG (by decide +kernel) (Nat.le_of_ble_eq_true rfl) rfl (fun C hC hk => ?_)
  refine x_aload_n hC dX1_recordingCount_0 rfl rfl ?_
  refine x_get hC 4 h1 rfl (by decide) q233 rfl rfl dX1_recordingCount_1 ?_
  refine x_getN hC 0 a1 rfl (by decide) q203 rfl rfl dX1_recordingCount_4 ?_
  refine x_callV0 (na := 0) hC (ct_alSize hG a2) (lw_V q266 q267 q268 q85 q269) hl rfl rfl (by decide +kernel) rfl ⟨Nat.le_of_ble_eq_true rfl, Nat.le_of_ble_eq_true rfl⟩ rfl (Nat.le_of_ble_eq_true rfl) ⟨rfl, rfl⟩ ⟨Nat.le_of_ble_eq_true rfl, Nat.le_of_ble_eq_true rfl⟩ dX1_recordingCount_7 ?_
  rintro _ M ⟨rfl, rfl⟩
  exact x_iret hC hk dX1_recordingCount_10 (Nat.le_of_ble_eq_true rfl) (Nat.le_of_ble_eq_true rfl) ⟨by rw [a4]; rfl, rfl⟩
theorem cq_length (hG : GOK G) (hR : CRep S M T a) (x : Int32) : Cq G yX1_length cX1_length 2 (some .int) (xrm 8 1 6) [.ref a, .int x] M (CO T a S (opLength S x).1 (.int (opLength S x).2) M) (CX T a S (opLength S x).1 [xIOB] M) := by
  obtain ⟨vs, ha⟩ := hR.rec
  refine cq_open (lv := [_, _]) hG (by decide +kernel) (Nat.le_of_ble_eq_true rfl) rfl (fun C hC hk hx => ?_)
  refine x_aload_n hC dX1_length_0 rfl rfl ?_
  refine x_iload_n hC dX1_length_1 rfl rfl ?_
  refine x_qV (k := 1) (n := 6) (na := 1) hC (cq_get hG hR _) (lw_V q1534 q1536 qs13 q81 q1537) ha rfl rfl (by decide +kernel) rfl ⟨Nat.le_of_ble_eq_true rfl, Nat.le_of_ble_eq_true rfl⟩ rfl (Nat.le_of_ble_eq_true rfl) (Nat.le_of_ble_eq_true rfl) (Nat.le_of_ble_eq_true rfl) ⟨Nat.le_of_ble_eq_true rfl, Nat.le_of_ble_eq_true rfl⟩ dX1_length_2 ?_ (fun q9 E9 M9 h9 => x_out hC hx (Nat.le_of_ble_eq_true rfl) (Nat.le_of_ble_eq_true rfl) (by obtain ⟨rfl, rfl, h9⟩ := h9; exact CX.same (k := 0) hR (by unfold opLength; rw [Decidable.not_not.mp h9]; rfl) rfl))
  rintro _ M1 ⟨hM1, q, r, hrc, rfl, hRA, hWf⟩
  subst hM1
  have hop : opLength S x = (0, nI (rz r)) := by unfold opLength; rw [hrc]; rfl
  obtain ⟨na, sa, cv, rv, x1, x2, -⟩ := hRA.rec
  refine x_callV0 (na := 0) hC (ct_rlen hG x1 x2) (lw_V q1558 q1559 q1560 q115 q1561) x1 rfl rfl (by decide +kernel) rfl ⟨Nat.le_of_ble_eq_true rfl, Nat.le_of_ble_eq_true rfl⟩ rfl (Nat.le_of_ble_eq_true rfl) ⟨rfl, rfl⟩ ⟨Nat.le_of_ble_eq_true rfl, Nat.le_of_ble_eq_true rfl⟩ dX1_length_5 ?_
  rintro _ M ⟨rfl, rfl⟩
  exact x_iret hC hk dX1_length_8 (Nat.le_of_ble_eq_true rfl) (Nat.le_of_ble_eq_true rfl) ⟨by rw [hop], by rw [hop], hR, Fr.rf⟩
theorem cq_sample (hG : GOK G) (hR : CRep S M T a) (x z : Int32) : Cq G yX1_sample cX1_sample 3 (some .int) (xrm 8 2 12) [.ref a, .int x, .int z] M (CO T a S (opSample S x z).1 (.int (opSample S x z).2) M) (CX T a S (opSample S x z).1 [xIOB] M) := by
  obtain ⟨vs, ha⟩ := hR.rec
  have no : ¬ (∃ r, rc (sR S) x = some r ∧ inI (rz r) z) → (opSample S x z).1 = 1 := by
    intro h
    unfold opSample
    cases hrc : rc (sR S) x with
    | none => rfl
    | some r => dsimp only [Option.elim]; rw [if_neg (fun z => h ⟨r, hrc, z⟩)]
  refine cq_open (lv := [_, _, _]) hG (by decide +kernel) (Nat.le_of_ble_eq_true rfl) rfl (fun C hC hk hx => ?_)
  refine x_aload_n hC dX1_sample_0 rfl rfl ?_
  refine x_iload_n hC dX1_sample_1 rfl rfl ?_
  refine x_iload_n hC dX1_sample_2 rfl rfl ?_
  refine x_qV (k := 2) (n := 12) (na := 2) hC (cq_get2 hG hR _ _) (lw_V q1576 q1578 qs14 q81 q1579) ha rfl rfl (by decide +kernel) rfl ⟨Nat.le_of_ble_eq_true rfl, Nat.le_of_ble_eq_true rfl⟩ rfl (Nat.le_of_ble_eq_true rfl) (Nat.le_of_ble_eq_true rfl) (Nat.le_of_ble_eq_true rfl) ⟨Nat.le_of_ble_eq_true rfl, Nat.le_of_ble_eq_true rfl⟩ dX1_sample_3 ?_ (fun q9 E9 M9 h9 => x_out hC hx (Nat.le_of_ble_eq_true rfl) (Nat.le_of_ble_eq_true rfl) (by obtain ⟨rfl, rfl, h9⟩ := h9; exact CX.same (k := 0) hR (no h9) rfl))
  rintro _ M1 ⟨hM1, q, r, hrc, hin, rfl, hRA, hWf⟩
  subst hM1
  obtain ⟨na, sa, cv, rv, x1, x2, -⟩ := hRA.rec
  have h64 : rz r ≤ 64 := hWf.len.1
  obtain ⟨k, hk1, rfl, hk3⟩ := inI_at (n := rz r) (by omega) hin
  have hop : opSample S x (nI k) = (0, rg r k) := by unfold opSample; rw [hrc]; dsimp only [Option.elim]; rw [if_pos hin, hk3]
  refine x_getN hC 1 x1 rfl (by decide) q1488 rfl rfl dX1_sample_6 ?_
  refine x_iload_n hC dX1_sample_9 rfl rfl ?_
  refine x_ialdN hC x2 hk1 (by first | decide | omega) dX1_sample_10 ?_
  exact x_iret hC hk dX1_sample_11 (Nat.le_of_ble_eq_true rfl) (Nat.le_of_ble_eq_true rfl) ⟨by rw [hop], by rw [hop], hR, Fr.rf⟩
theorem cq_energy (hG : GOK G) (hR : CRep S M T a) (x : Int32) : Cq G yX1_energy cX1_energy 2 (some .long) (xrm 8 1 6) [.ref a, .int x] M (CO T a S (opEnergy S x).1 (.long (opEnergy S x).2) M) (CX T a S (opEnergy S x).1 [xIOB] M) := by
  obtain ⟨vs, ha⟩ := hR.rec
  refine cq_open (lv := [_, _]) hG (by decide +kernel) (Nat.le_of_ble_eq_true rfl) rfl (fun C hC hk hx => ?_)
  refine x_aload_n hC dX1_energy_0 rfl rfl ?_
  refine x_iload_n hC dX1_energy_1 rfl rfl ?_
  refine x_qV (k := 1) (n := 6) (na := 1) hC (cq_get hG hR _) (lw_V q1534 q1536 qs13 q81 q1537) ha rfl rfl (by decide +kernel) rfl ⟨Nat.le_of_ble_eq_true rfl, Nat.le_of_ble_eq_true rfl⟩ rfl (Nat.le_of_ble_eq_true rfl) (Nat.le_of_ble_eq_true rfl) (Nat.le_of_ble_eq_true rfl) ⟨Nat.le_of_ble_eq_true rfl, Nat.le_of_ble_eq_true rfl⟩ dX1_energy_2 ?_ (fun q9 E9 M9 h9 => x_out hC hx (Nat.le_of_ble_eq_true rfl) (Nat.le_of_ble_eq_true rfl) (by obtain ⟨rfl, rfl, h9⟩ := h9; exact CX.same (k := 0) hR (by unfold opEnergy; rw [Decidable.not_not.mp h9]; rfl) rfl))
  rintro _ M1 ⟨hM1, q, r, hrc, rfl, hRA, hWf⟩
  subst hM1
  have hop : opEnergy S x = (0, jS (fun k => sq (rg r k)) (rz r)) := by unfold opEnergy; rw [hrc]; rfl
  obtain ⟨na, sa, cv, rv, x1, x2, -⟩ := hRA.rec
  refine x_callV0 (na := 0) hC (ct_renergy hG x1 x2 hWf.len.1) (lw_V q1592 q1593 q1594 q115 q1595) x1 rfl rfl (by decide +kernel) rfl ⟨Nat.le_of_ble_eq_true rfl, Nat.le_of_ble_eq_true rfl⟩ rfl (Nat.le_of_ble_eq_true rfl) ⟨rfl, rfl⟩ ⟨Nat.le_of_ble_eq_true rfl, Nat.le_of_ble_eq_true rfl⟩ dX1_energy_5 ?_
  rintro _ M ⟨rfl, rfl⟩
  exact x_lret hC hk dX1_energy_8 (Nat.le_of_ble_eq_true rfl) (Nat.le_of_ble_eq_true rfl) ⟨by rw [hop], by rw [hop], hR, Fr.rf⟩
theorem cq_signChanges (hG : GOK G) (hR : CRep S M T a) (x : Int32) : Cq G yX1_signChanges cX1_signChanges 2 (some .int) (xrm 8 1 6) [.ref a, .int x] M (CO T a S (opSigns S x).1 (.int (opSigns S x).2) M) (CX T a S (opSigns S x).1 [xIOB] M) := by
  obtain ⟨vs, ha⟩ := hR.rec
  refine cq_open (lv := [_, _]) hG (by decide +kernel) (Nat.le_of_ble_eq_true rfl) rfl (fun C hC hk hx => ?_)
  refine x_aload_n hC dX1_signChanges_0 rfl rfl ?_
  refine x_iload_n hC dX1_signChanges_1 rfl rfl ?_
  refine x_qV (k := 1) (n := 6) (na := 1) hC (cq_get hG hR _) (lw_V q1534 q1536 qs13 q81 q1537) ha rfl rfl (by decide +kernel) rfl ⟨Nat.le_of_ble_eq_true rfl, Nat.le_of_ble_eq_true rfl⟩ rfl (Nat.le_of_ble_eq_true rfl) (Nat.le_of_ble_eq_true rfl) (Nat.le_of_ble_eq_true rfl) ⟨Nat.le_of_ble_eq_true rfl, Nat.le_of_ble_eq_true rfl⟩ dX1_signChanges_2 ?_ (fun q9 E9 M9 h9 => x_out hC hx (Nat.le_of_ble_eq_true rfl) (Nat.le_of_ble_eq_true rfl) (by obtain ⟨rfl, rfl, h9⟩ := h9; exact CX.same (k := 0) hR (by unfold opSigns; rw [Decidable.not_not.mp h9]; rfl) rfl))
  rintro _ M1 ⟨hM1, q, r, hrc, rfl, hRA, hWf⟩
  subst hM1
  have hop : opSigns S x = (0, (sgF (rg r) (rz r)).1) := by unfold opSigns; rw [hrc]; rfl
  obtain ⟨na, sa, cv, rv, x1, x2, -⟩ := hRA.rec
  refine x_callV0 (na := 0) hC (ct_rsigns hG x1 x2 hWf.len.1) (lw_V q1620 q1621 q1622 q115 q1623) x1 rfl rfl (by decide +kernel) rfl ⟨Nat.le_of_ble_eq_true rfl, Nat.le_of_ble_eq_true rfl⟩ rfl (Nat.le_of_ble_eq_true rfl) ⟨rfl, rfl⟩ ⟨Nat.le_of_ble_eq_true rfl, Nat.le_of_ble_eq_true rfl⟩ dX1_signChanges_5 ?_
  rintro _ M ⟨rfl, rfl⟩
  exact x_iret hC hk dX1_signChanges_8 (Nat.le_of_ble_eq_true rfl) (Nat.le_of_ble_eq_true rfl) ⟨by rw [hop], by rw [hop], hR, Fr.rf⟩
theorem cq_samplesBetween (hG : GOK G) (hR : CRep S M T a) (x lo hi : Int32) : Cq G yX1_samplesBetween cX1_samplesBetween 5 (some .int) (xrm 8 2 12) [.ref a, .int x, .int lo, .int hi] M (CO T a S (opBetw S x lo hi).1 (.int (opBetw S x lo hi).2) M) (CX T a S (opBetw S x lo hi).1 [xIOB, xIAE] M) := by
  obtain ⟨vs, ha⟩ := hR.rec
  refine cq_open (lv := [_, _, _, _, _]) hG (by decide +kernel) (Nat.le_of_ble_eq_true rfl) rfl (fun C hC hk hx => ?_)
  refine x_aload_n hC dX1_samplesBetween_0 rfl rfl ?_
  refine x_iload_n hC dX1_samplesBetween_1 rfl rfl ?_
  refine x_qV (k := 1) (n := 6) (na := 1) hC (cq_get hG hR _) (lw_V q1534 q1536 qs13 q81 q1537) ha rfl rfl (by decide +kernel) rfl ⟨Nat.le_of_ble_eq_true rfl, Nat.le_of_ble_eq_true rfl⟩ rfl (Nat.le_of_ble_eq_true rfl) (Nat.le_of_ble_eq_true rfl) (Nat.le_of_ble_eq_true rfl) ⟨Nat.le_of_ble_eq_true rfl, Nat.le_of_ble_eq_true rfl⟩ dX1_samplesBetween_2 ?_ (fun q9 E9 M9 h9 => x_out hC hx (Nat.le_of_ble_eq_true rfl) (Nat.le_of_ble_eq_true rfl) (by obtain ⟨rfl, rfl, h9⟩ := h9; exact CX.same (k := 0) hR (by unfold opBetw; rw [Decidable.not_not.mp h9]; rfl) rfl))
  rintro _ M1 ⟨hM1, q, r, hrc, rfl, hRA, hWf⟩
  subst hM1
  obtain ⟨na, sa, cv, rv, x1, x2, -⟩ := hRA.rec
  refine x_astore (lv' := [_, _, _, _, _]) hC dX1_samplesBetween_5 (by decide) rfl ?_
  refine x_iload_n hC dX1_samplesBetween_7 rfl rfl ?_
  refine x_iload_n hC dX1_samplesBetween_8 rfl rfl ?_
  refine x_icmp_gt (tgt := 16) hC dX1_samplesBetween_9 (by decide) (fun c => ?_) (fun c => ?_)
  · have hop : opBetw S x lo hi = (2, 0) := by unfold opBetw; rw [hrc]; dsimp only [Option.elim]; rw [if_neg (Int32.not_le.mpr c)]
    refine x_iconst (v := 0) hC dX1_samplesBetween_16 (by decide) ?_
    refine x_qS (k := 2) (n := 12) (na := 1) hC (cq_reqIAE hG False _) (lw_S q1337 q1338 q81 q1339) (by decide +kernel) rfl ⟨Nat.le_of_ble_eq_true rfl, Nat.le_of_ble_eq_true rfl⟩ rfl (Nat.le_of_ble_eq_true rfl) (Nat.le_of_ble_eq_true rfl) (Nat.le_of_ble_eq_true rfl) ⟨Nat.le_of_ble_eq_true rfl, Nat.le_of_ble_eq_true rfl⟩ dX1_samplesBetween_17 ?_ (fun q9 E9 M9 h9 => x_out hC hx (Nat.le_of_ble_eq_true rfl) (Nat.le_of_ble_eq_true rfl) (by obtain ⟨rfl, rfl, h9⟩ := h9; exact CX.same (k := 1) hR (by rw [hop]; rfl) rfl))
    rintro _ M ⟨rfl, rfl, h9⟩
    exact h9.elim
  · have hop : opBetw S x lo hi = (0, iS (fun k => xB (lo ≤ rg r k ∧ rg r k ≤ hi)) (rz r)) := by unfold opBetw; rw [hrc]; dsimp only [Option.elim]; rw [if_pos (Int32.not_lt.mp c)]
    refine x_iconst (v := 1) hC dX1_samplesBetween_12 (by decide) ?_
    refine x_goto (tgt := 17) hC dX1_samplesBetween_13 (by decide) ?_
    refine x_qS (k := 2) (n := 12) (na := 1) hC (cq_reqIAE hG True _) (lw_S q1337 q1338 q81 q1339) (by decide +kernel) rfl ⟨Nat.le_of_ble_eq_true rfl, Nat.le_of_ble_eq_true rfl⟩ rfl (Nat.le_of_ble_eq_true rfl) (Nat.le_of_ble_eq_true rfl) (Nat.le_of_ble_eq_true rfl) ⟨Nat.le_of_ble_eq_true rfl, Nat.le_of_ble_eq_true rfl⟩ dX1_samplesBetween_17 ?_ (fun q9 E9 M9 h9 => x_out hC hx (Nat.le_of_ble_eq_true rfl) (Nat.le_of_ble_eq_true rfl) (by obtain ⟨rfl, rfl, h9⟩ := h9; exact absurd trivial h9))
    rintro _ M ⟨rfl, rfl, h9⟩
    refine x_aload hC dX1_samplesBetween_20 rfl ?_
    refine x_iload_n hC dX1_samplesBetween_22 rfl rfl ?_
    refine x_iload_n hC dX1_samplesBetween_23 rfl rfl ?_
    refine x_callV0 (na := 2) hC (ct_rbetw hG x1 x2 hWf.len.1 lo hi) (lw_V q1631 q1632 q1633 q115 q1634) x1 rfl rfl (by decide +kernel) rfl ⟨Nat.le_of_ble_eq_true rfl, Nat.le_of_ble_eq_true rfl⟩ rfl (Nat.le_of_ble_eq_true rfl) ⟨rfl, rfl⟩ ⟨Nat.le_of_ble_eq_true rfl, Nat.le_of_ble_eq_true rfl⟩ dX1_samplesBetween_24 ?_
    rintro _ M ⟨rfl, rfl⟩
    exact x_iret hC hk dX1_samplesBetween_27 (Nat.le_of_ble_eq_true rfl) (Nat.le_of_ble_eq_true rfl) ⟨by rw [hop], by rw [hop], hR, Fr.rf⟩
theorem cq_loudestPlace (hG : GOK G) (hR : CRep S M T a) (x : Int32) : Cq G yX1_loudestPlace cX1_loudestPlace 5 (some .int) (xrm 8 1 6) [.ref a, .int x] M (CO T a S (opLoudPl S x).1 (.int (opLoudPl S x).2) M) (CX T a S (opLoudPl S x).1 [xIOB] M) := by
  obtain ⟨vs, ha⟩ := hR.rec
  refine cq_open (lv := [_, _, _, _, _]) hG (by decide +kernel) (Nat.le_of_ble_eq_true rfl) rfl (fun C hC hk hx => ?_)
  refine x_aload_n hC dX1_loudestPlace_0 rfl rfl ?_
  refine x_iload_n hC dX1_loudestPlace_1 rfl rfl ?_
  refine x_qV (k := 1) (n := 6) (na := 1) hC (cq_get hG hR _) (lw_V q1534 q1536 qs13 q81 q1537) ha rfl rfl (by decide +kernel) rfl ⟨Nat.le_of_ble_eq_true rfl, Nat.le_of_ble_eq_true rfl⟩ rfl (Nat.le_of_ble_eq_true rfl) (Nat.le_of_ble_eq_true rfl) (Nat.le_of_ble_eq_true rfl) ⟨Nat.le_of_ble_eq_true rfl, Nat.le_of_ble_eq_true rfl⟩ dX1_loudestPlace_2 ?_ (fun q9 E9 M9 h9 => x_out hC hx (Nat.le_of_ble_eq_true rfl) (Nat.le_of_ble_eq_true rfl) (by obtain ⟨rfl, rfl, h9⟩ := h9; exact CX.same (k := 0) hR (by unfold opLoudPl; rw [Decidable.not_not.mp h9]; rfl) rfl))
  rintro _ M1 ⟨hM1, q, r, hrc, rfl, hRA, hWf⟩
  subst hM1
  have hop : opLoudPl S x = (0, nI (amx (fun a b => decide (iabs (rg r a) < iabs (rg r b))) (rz r))) := by unfold opLoudPl; rw [hrc]; rfl
  obtain ⟨na, sa, cv, rv, x1, x2, -⟩ := hRA.rec
  have h64 : rz r ≤ 64 := hWf.len.1
  have h2 : 2 ≤ rz r := hWf.len.2
  refine x_getN hC 1 x1 rfl (by decide) q1488 rfl rfl dX1_loudestPlace_5 ?_
  refine x_astore_n (lv' := [_, _, _, _, _]) hC dX1_loudestPlace_8 rfl (by decide) rfl ?_
  refine x_iconst (v := nI 0) hC dX1_loudestPlace_9 (by decide) ?_
  refine x_istore_n (lv' := [_, _, _, _, _]) hC dX1_loudestPlace_10 rfl (by decide) rfl ?_
  refine x_iconst (v := nI 1) hC dX1_loudestPlace_11 (by decide) ?_
  refine x_istore (lv' := [_, _, _, _, _]) hC dX1_loudestPlace_12 (by decide) rfl ?_
  suffices lp : ∀ k, k ≤ rz r - 1 → Wg G C M1 1 6 14 [some (.ref a), some (.int x), some (.ref sa), some (.int (nI (amx (fun a b => decide (iabs (rg r a) < iabs (rg r b))) (k + 1)))), some (.int (nI (k + 1)))] [] by
    have h0 := lp 0 (Nat.zero_le _)
    rw [show amx (fun a b => decide (iabs (rg r a) < iabs (rg r b))) (0 + 1) = 0 by unfold amx; split <;> rfl] at h0
    exact h0
  refine x_up (n := rz r - 1) (I := fun k => Wg G C M1 1 6 14 [some (.ref a), some (.int x), some (.ref sa), some (.int (nI (amx (fun a b => decide (iabs (rg r a) < iabs (rg r b))) (k + 1)))), some (.int (nI (k + 1)))] []) (fun k hk2 ih => ?_)
  refine x_iload hC dX1_loudestPlace_14 rfl ?_
  refine x_aload_n hC dX1_loudestPlace_16 rfl rfl ?_
  refine x_alen hC x2 dX1_loudestPlace_17 ?_
  dsimp only
  refine x_icmp_geN (tgt := 46) hC (by omega) (by omega) dX1_loudestPlace_18 (by decide) (fun c1 => ?_) (fun c1 => ?_)
  · refine x_iload_n hC dX1_loudestPlace_46 rfl rfl ?_
    exact x_iret hC hk dX1_loudestPlace_47 (Nat.le_of_ble_eq_true rfl) (Nat.le_of_ble_eq_true rfl) ⟨by rw [hop], by rw [hop, show k + 1 = rz r by omega], hR, Fr.rf⟩
  · have hal := amx_lt (lt := fun a b => decide (iabs (rg r a) < iabs (rg r b))) (k := k + 1) (by omega)
    have hst : amx (fun a b => decide (iabs (rg r a) < iabs (rg r b))) (k + 1 + 1) = if iabs (rg r (amx (fun a b => decide (iabs (rg r a) < iabs (rg r b))) (k + 1))) < iabs (rg r (k + 1)) then k + 1 else amx (fun a b => decide (iabs (rg r a) < iabs (rg r b))) (k + 1) := by
      rw [amx]
      simp only [decide_eq_true_eq]
    have ih2 := ih (by omega)
    rw [hst] at ih2
    generalize amx (fun a b => decide (iabs (rg r a) < iabs (rg r b))) (k + 1) = u at hal ih2 ⊢
    refine x_aload_n hC dX1_loudestPlace_21 rfl rfl ?_
    refine x_iload hC dX1_loudestPlace_22 rfl ?_
    refine x_ialdN hC x2 (by omega) (by first | decide | omega) dX1_loudestPlace_24 ?_
    refine x_callS0 (na := 1) hC (ct_abs hG _ _) (lw_S q1603 q1604 q103 q1605) (by decide +kernel) rfl ⟨Nat.le_of_ble_eq_true rfl, Nat.le_of_ble_eq_true rfl⟩ rfl (Nat.le_of_ble_eq_true rfl) ⟨rfl, rfl⟩ ⟨Nat.le_of_ble_eq_true rfl, Nat.le_of_ble_eq_true rfl⟩ dX1_loudestPlace_25 ?_
    rintro _ M ⟨rfl, rfl⟩
    refine x_aload_n hC dX1_loudestPlace_28 rfl rfl ?_
    refine x_iload_n hC dX1_loudestPlace_29 rfl rfl ?_
    refine x_ialdN hC x2 (by omega) (by first | decide | omega) dX1_loudestPlace_30 ?_
    refine x_callS0 (na := 1) hC (ct_abs hG _ _) (lw_S q1603 q1604 q103 q1605) (by decide +kernel) rfl ⟨Nat.le_of_ble_eq_true rfl, Nat.le_of_ble_eq_true rfl⟩ rfl (Nat.le_of_ble_eq_true rfl) ⟨rfl, rfl⟩ ⟨Nat.le_of_ble_eq_true rfl, Nat.le_of_ble_eq_true rfl⟩ dX1_loudestPlace_31 ?_
    rintro _ M ⟨rfl, rfl⟩
    refine x_icmp_le (tgt := 40) hC dX1_loudestPlace_34 (by decide) (fun c2 => ?_) (fun c2 => ?_)
    · rw [if_neg (Int32.not_lt.mpr c2)] at ih2
      refine x_iincN (lv' := [_, _, _, _, _]) (b := 1) hC dX1_loudestPlace_40 rfl (by decide) (by decide) rfl ?_
      refine x_goto (tgt := 14) hC dX1_loudestPlace_43 (by decide) ?_
      exact ih2
    · rw [if_pos (Int32.not_le.mp c2)] at ih2
      refine x_iload hC dX1_loudestPlace_37 rfl ?_
      refine x_istore_n (lv' := [_, _, _, _, _]) hC dX1_loudestPlace_39 rfl (by decide) rfl ?_
      refine x_iincN (lv' := [_, _, _, _, _]) (b := 1) hC dX1_loudestPlace_40 rfl (by decide) (by decide) rfl ?_
      refine x_goto (tgt := 14) hC dX1_loudestPlace_43 (by decide) ?_
      exact ih2
theorem cq_meanLoudness (hG : GOK G) (hR : CRep S M T a) (x : Int32) : Cq G yX1_meanLoudness cX1_meanLoudness 8 (some .double) (xrm 8 1 6) [.ref a, .int x] M (CO T a S (opMeanLoud S x).1 (.double (opMeanLoud S x).2) M) (CX T a S (opMeanLoud S x).1 [xIOB] M) := by
  obtain ⟨vs, ha⟩ := hR.rec
  refine cq_open (lv := [_, _, _, _, _, _, _, _]) hG (by decide +kernel) (Nat.le_of_ble_eq_true rfl) rfl (fun C hC hk hx => ?_)
  refine x_aload_n hC dX1_meanLoudness_0 rfl rfl ?_
  refine x_iload_n hC dX1_meanLoudness_1 rfl rfl ?_
  refine x_qV (k := 1) (n := 6) (na := 1) hC (cq_get hG hR _) (lw_V q1534 q1536 qs13 q81 q1537) ha rfl rfl (by decide +kernel) rfl ⟨Nat.le_of_ble_eq_true rfl, Nat.le_of_ble_eq_true rfl⟩ rfl (Nat.le_of_ble_eq_true rfl) (Nat.le_of_ble_eq_true rfl) (Nat.le_of_ble_eq_true rfl) ⟨Nat.le_of_ble_eq_true rfl, Nat.le_of_ble_eq_true rfl⟩ dX1_meanLoudness_2 ?_ (fun q9 E9 M9 h9 => x_out hC hx (Nat.le_of_ble_eq_true rfl) (Nat.le_of_ble_eq_true rfl) (by obtain ⟨rfl, rfl, h9⟩ := h9; exact CX.same (k := 0) hR (by unfold opMeanLoud; rw [Decidable.not_not.mp h9]; rfl) rfl))
  rintro _ M1 ⟨hM1, q, r, hrc, rfl, hRA, hWf⟩
  subst hM1
  have hop : opMeanLoud S x = (0, FP.ddiv (FP.i2d (iS (fun k => iabs (rg r k)) (rz r))) (FP.i2d (nI (rz r)))) := by unfold opMeanLoud; rw [hrc]; rfl
  obtain ⟨na, sa, cv, rv, x1, x2, -⟩ := hRA.rec
  have h64 : rz r ≤ 64 := hWf.len.1
  have h2 : 2 ≤ rz r := hWf.len.2
  refine x_astore_n (lv' := [_, _, _, _, _, _, _, _]) hC dX1_meanLoudness_5 rfl (by decide) rfl ?_
  refine x_iconst (v := 0) hC dX1_meanLoudness_6 (by decide) ?_
  refine x_istore_n (lv' := [_, _, _, _, _, _, _, _]) hC dX1_meanLoudness_7 rfl (by decide) rfl ?_
  refine x_aload_n hC dX1_meanLoudness_8 rfl rfl ?_
  refine x_getN hC 1 x1 rfl (by decide) q1488 rfl rfl dX1_meanLoudness_9 ?_
  refine x_astore (lv' := [_, _, _, _, _, _, _, _]) hC dX1_meanLoudness_12 (by decide) rfl ?_
  refine x_aload hC dX1_meanLoudness_14 rfl ?_
  refine x_alen hC x2 dX1_meanLoudness_16 ?_
  dsimp only
  refine x_istore (lv' := [_, _, _, _, _, _, _, _]) hC dX1_meanLoudness_17 (by decide) rfl ?_
  refine x_iconst (v := nI 0) hC dX1_meanLoudness_19 (by decide) ?_
  refine x_istore (lv' := [_, _, _, _, _, _, _, _]) hC dX1_meanLoudness_20 (by decide) rfl ?_
  refine x_up (n := rz r) (I := fun k => ∀ w7, Wg G C M1 1 6 22 [some (.ref a), some (.int x), some (.ref q), some (.int (iS (fun k => iabs (rg r k)) k)), some (.ref sa), some (.int (nI (rz r))), some (.int (nI k)), w7] []) (fun k hk2 ih w7 => ?_) 0 (Nat.zero_le _) none
  refine x_iload hC dX1_meanLoudness_22 rfl ?_
  refine x_iload hC dX1_meanLoudness_24 rfl ?_
  refine x_icmp_geN (tgt := 50) hC (by omega) (by omega) dX1_meanLoudness_26 (by decide) (fun c1 => ?_) (fun c1 => ?_)
  · refine x_iload_n hC dX1_meanLoudness_50 rfl rfl ?_
    refine x_i2d hC dX1_meanLoudness_51 ?_
    refine x_aload_n hC dX1_meanLoudness_52 rfl rfl ?_
    refine x_callV0 (na := 0) hC (ct_rlen hG x1 x2) (lw_V q1558 q1559 q1560 q115 q1561) x1 rfl rfl (by decide +kernel) rfl ⟨Nat.le_of_ble_eq_true rfl, Nat.le_of_ble_eq_true rfl⟩ rfl (Nat.le_of_ble_eq_true rfl) ⟨rfl, rfl⟩ ⟨Nat.le_of_ble_eq_true rfl, Nat.le_of_ble_eq_true rfl⟩ dX1_meanLoudness_53 ?_
    rintro _ M ⟨rfl, rfl⟩
    refine x_i2d hC dX1_meanLoudness_56 ?_
    refine x_ddiv hC dX1_meanLoudness_57 (i2d_n64 _ _ (fun e => by have := (nI_eq (a := rz r) (b := 0) (by omega) (by decide)).mp e; omega)) ?_
    exact x_dret hC hk dX1_meanLoudness_58 (Nat.le_of_ble_eq_true rfl) (Nat.le_of_ble_eq_true rfl) ⟨by rw [hop], by rw [hop, show k = rz r by omega], hR, Fr.rf⟩
  · refine x_aload hC dX1_meanLoudness_29 rfl ?_
    refine x_iload hC dX1_meanLoudness_31 rfl ?_
    refine x_ialdN hC x2 c1 (by first | decide | omega) dX1_meanLoudness_33 ?_
    refine x_istore (lv' := [_, _, _, _, _, _, _, _]) hC dX1_meanLoudness_34 (by decide) rfl ?_
    refine x_iload_n hC dX1_meanLoudness_36 rfl rfl ?_
    refine x_iload hC dX1_meanLoudness_37 rfl ?_
    refine x_callS0 (na := 1) hC (ct_abs hG _ _) (lw_S q1603 q1604 q103 q1605) (by decide +kernel) rfl ⟨Nat.le_of_ble_eq_true rfl, Nat.le_of_ble_eq_true rfl⟩ rfl (Nat.le_of_ble_eq_true rfl) ⟨rfl, rfl⟩ ⟨Nat.le_of_ble_eq_true rfl, Nat.le_of_ble_eq_true rfl⟩ dX1_meanLoudness_39 ?_
    rintro _ M ⟨rfl, rfl⟩
    refine x_iadd hC dX1_meanLoudness_42 ?_
    refine x_istore_n (lv' := [_, _, _, _, _, _, _, _]) hC dX1_meanLoudness_43 rfl (by decide) rfl ?_
    refine x_iincN (lv' := [_, _, _, _, _, _, _, _]) (b := 1) hC dX1_meanLoudness_44 rfl (by decide) (by decide) rfl ?_
    refine x_goto (tgt := 22) hC dX1_meanLoudness_47 (by decide) ?_
    exact ih c1 _
theorem cq_isSymmetric (hG : GOK G) (hR : CRep S M T a) (x : Int32) : Cq G yX1_isSymmetric cX1_isSymmetric 3 (some .boolean) (xrm 8 2 70) [.ref a, .int x] M (CO T a S (opSym S x).1 (.int (opSym S x).2) M) (CX T a S (opSym S x).1 [xIOB] M) := by
  obtain ⟨vs, ha⟩ := hR.rec
  refine cq_open (lv := [_, _, _]) hG (by decide +kernel) (Nat.le_of_ble_eq_true rfl) rfl (fun C hC hk hx => ?_)
  refine x_aload_n hC dX1_isSymmetric_0 rfl rfl ?_
  refine x_iload_n hC dX1_isSymmetric_1 rfl rfl ?_
  refine x_qV (k := 1) (n := 6) (na := 1) hC (cq_get hG hR _) (lw_V q1534 q1536 qs13 q81 q1537) ha rfl rfl (by decide +kernel) rfl ⟨Nat.le_of_ble_eq_true rfl, Nat.le_of_ble_eq_true rfl⟩ rfl (Nat.le_of_ble_eq_true rfl) (Nat.le_of_ble_eq_true rfl) (Nat.le_of_ble_eq_true rfl) ⟨Nat.le_of_ble_eq_true rfl, Nat.le_of_ble_eq_true rfl⟩ dX1_isSymmetric_2 ?_ (fun q9 E9 M9 h9 => x_out hC hx (Nat.le_of_ble_eq_true rfl) (Nat.le_of_ble_eq_true rfl) (by obtain ⟨rfl, rfl, h9⟩ := h9; exact CX.same (k := 0) hR (by unfold opSym; rw [Decidable.not_not.mp h9]; rfl) rfl))
  rintro _ M1 ⟨hM1, q, r, hrc, rfl, hRA, hWf⟩
  subst hM1
  have hop : opSym S x = (0, xB (∀ k, k < rz r → rg r k = rg r (rz r - 1 - k))) := by unfold opSym; rw [hrc]; rfl
  obtain ⟨na, sa, cv, rv, x1, x2, -⟩ := hRA.rec
  have h64 : rz r ≤ 64 := hWf.len.1
  refine x_astore_n (lv' := [_, _, _]) hC dX1_isSymmetric_5 rfl (by decide) rfl ?_
  refine x_aload_n hC dX1_isSymmetric_6 rfl rfl ?_
  refine x_aload_n hC dX1_isSymmetric_7 rfl rfl ?_
  refine x_callV (k := 2) (n := 70) (na := 0) hC (ct_rrev hG (g := 3) (by decide) x1 x2 h64) (lw_V q1642 q1643 q1644 q115 q1645) x1 rfl rfl (by decide +kernel) rfl ⟨Nat.le_of_ble_eq_true rfl, Nat.le_of_ble_eq_true rfl⟩ rfl (Nat.le_of_ble_eq_true rfl) (Nat.le_of_ble_eq_true rfl) (Nat.le_of_ble_eq_true rfl) ⟨Nat.le_of_ble_eq_true rfl, Nat.le_of_ble_eq_true rfl⟩ dX1_isSymmetric_8 ?_
  rintro _ M2 ⟨b, u, rfl, hb, rfl, hu⟩
  have hF : Fr (fun g => g = 3) M1 (mu M1 b (ia 3 (rz r) u)) := Fr.new hb
  refine x_callV0 (na := 1) hC (ct_rdiff hG (mu_f hb x1) (mu_f hb x2) mu_s h64) (lw_V q1646 q1647 q1648 q115 q1649) (mu_f hb x1) rfl rfl (by decide +kernel) rfl ⟨Nat.le_of_ble_eq_true rfl, Nat.le_of_ble_eq_true rfl⟩ rfl (Nat.le_of_ble_eq_true rfl) ⟨rfl, rfl⟩ ⟨Nat.le_of_ble_eq_true rfl, Nat.le_of_ble_eq_true rfl⟩ dX1_isSymmetric_11 ?_
  rintro _ M ⟨rfl, rfl⟩
  obtain ⟨c, c1, c2, c3⟩ := iS_cnt (p := fun k => rg r k ≠ u k) (n := rz r)
  rw [c2]
  have e : c = 0 ↔ ∀ k, k < rz r → rg r k = rg r (rz r - 1 - k) := by
    rw [c3]
    constructor
    · intro z k hk; have := z k hk; rw [hu k hk] at this; exact Decidable.not_not.mp this
    · intro z k hk; rw [hu k hk]; exact not_not_intro (z k hk)
  refine x_if_neN (tgt := 21) hC (by omega) dX1_isSymmetric_14 (by decide) (fun d => ?_) (fun d => ?_)
  · refine x_iconst (v := 0) hC dX1_isSymmetric_21 (by decide) ?_
    exact x_zret hC hk dX1_isSymmetric_22 (by first | rfl | exact xB_nar) (Nat.le_of_ble_eq_true rfl) (Nat.le_of_ble_eq_true rfl) ⟨by rw [hop], by rw [hop, xB_f (fun z => d (e.mpr z))], hR.f3 hF, pw3 hF⟩
  · refine x_iconst (v := 1) hC dX1_isSymmetric_17 (by decide) ?_
    refine x_goto (tgt := 22) hC dX1_isSymmetric_18 (by decide) ?_
    exact x_zret hC hk dX1_isSymmetric_22 (by first | rfl | exact xB_nar) (Nat.le_of_ble_eq_true rfl) (Nat.le_of_ble_eq_true rfl) ⟨by rw [hop], by rw [hop, xB_t (e.mp (by omega))], hR.f3 hF, pw3 hF⟩
end PB1

