/-! ===== new recordings, renaming, finding ===== -/
theorem x_frzL {G : X_G} {C : X_C} {M : X_M} {kc ks pc : Nat} {lv : List (Option Value)} {rest : List Value} {p n : Nat} {u : Nat → Int32} (xs : List Int32) (hn : n = xs.length) (hp : M p = none) (hu : ∀ k, k < n → u k = xs.getD k 0) (kk : ∀ M', M' p = some (ia 0 xs.length fun k => xs.getD k 0) → Fr (fun g => g = 3) M M' → Wg G C M' kc ks pc lv rest) : Wg G C (mu M p (ia 3 n u)) kc ks pc lv rest := by
  subst hn
  refine x_freeze 0 (fun k => xs.getD k 0) mu_s (by decide) (fun k hk => (hu k hk).symm) ?_
  rw [mu_mu]
  exact kk _ mu_s (Fr.new hp)
theorem wf_ren {R : List Rcd} {i : Nat} {w : List Nat} {r : Rcd} (hW : WfR R) (hi : R[i]? = some r) (h1 : WfRow (w, r.2)) (hw : w ∉ R.map Prod.fst) : WfR (R.set i (w, r.2)) := by
  refine ⟨by rw [List.length_set]; exact hW.1, fun q hq => ?_, ?_⟩
  · rcases List.mem_or_eq_of_mem_set hq with h | h
    · exact hW.2.1 q h
    · rw [h]; exact h1
  · rw [List.map_set]
    show ((R.map Prod.fst).set i w).Nodup
    have hN := hW.2.2
    generalize R.map Prod.fst = l at hN hw
    clear hi h1 hW
    induction l generalizing i with
    | nil => exact List.nodup_nil
    | cons x l ih =>
      have hc := List.nodup_cons.mp hN
      cases i with
      | zero => exact List.nodup_cons.mpr ⟨fun z => hw (List.mem_cons_of_mem _ z), hc.2⟩
      | succ i =>
        refine List.nodup_cons.mpr ⟨fun z => ?_, ih hc.2 (fun z => hw (List.mem_cons_of_mem _ z))⟩
        rcases List.mem_or_eq_of_mem_set z with h | h
        · exact hc.1 h
        · exact hw (by rw [h]; exact List.mem_cons_self)
section REC
variable {G : X_G} {M : X_M} {T : X_T} {a : Nat} {S : X_S}
theorem cq_addC (hG : GOK G) (hT : T0 G T) (hR : CRep S M T a) {nm b : Nat} {u : List Int32} (hn : NM M nm (sB S)) (hb : M b = some (ia 0 u.length fun k => u.getD k 0)) (hW : WfRow (sB S, u)) (hnw : nwN S) : Cq G yX1_add cX1_add 3 (some .int) (xrm 14 30 240) [.ref a, .ref nm, .ref b] M (fun z M' => z = some (.int (nI (sR S).length)) ∧ (sR S).length < 6 ∧ CRep (newS S u) M' T a ∧ Fr PE M M') (fun _ E M' => E = xISE ∧ (sR S).length = 6 ∧ M' = M) := by
  obtain ⟨bu, ar, dq, sv, fm, bf, H, hR2⟩ := id hR
  obtain ⟨h1, -, ⟨⟨L, h3⟩, h3w⟩, -⟩ := id hR2
  obtain ⟨l, m, a1, -, -⟩ := h3.rec
  have h6 : (sR S).length ≤ 6 := h3w.1
  refine cq_open (lv := [_, _, _]) hG (by decide +kernel) (Nat.le_of_ble_eq_true rfl) rfl (fun C hC hk hx => ?_)
  refine x_aload_n hC dX1_add_0 rfl rfl ?_
  refine x_get hC 4 h1 rfl (by decide) q233 rfl rfl dX1_add_1 ?_
  refine x_callV0 (na := 0) hC (ct_arFull hG h3) (lw_V q1972 q1463 q1464 q82 q1465) a1 rfl rfl (by decide +kernel) rfl ⟨Nat.le_of_ble_eq_true rfl, Nat.le_of_ble_eq_true rfl⟩ rfl (Nat.le_of_ble_eq_true rfl) ⟨rfl, rfl⟩ ⟨Nat.le_of_ble_eq_true rfl, Nat.le_of_ble_eq_true rfl⟩ dX1_add_4 ?_
  rintro _ M1 ⟨rfl, rfl⟩
  refine x_if_neB (tgt := 14) hC dX1_add_7 (by decide) (fun d => ?_) (fun d => ?_)
  · refine x_iconst (v := 0) hC dX1_add_14 (by decide) ?_
    refine x_qS (k := 1) (n := 6) (na := 1) hC (cq_reqISE hG False _) (lw_S q1306 q1307 q81 q1308) (by decide +kernel) rfl ⟨Nat.le_of_ble_eq_true rfl, Nat.le_of_ble_eq_true rfl⟩ rfl (Nat.le_of_ble_eq_true rfl) (Nat.le_of_ble_eq_true rfl) (Nat.le_of_ble_eq_true rfl) ⟨Nat.le_of_ble_eq_true rfl, Nat.le_of_ble_eq_true rfl⟩ dX1_add_15 ?_ (fun q9 E9 M9 h9 => x_out hC hx (Nat.le_of_ble_eq_true rfl) (Nat.le_of_ble_eq_true rfl) (by obtain ⟨rfl, rfl, h9⟩ := h9; exact ⟨rfl, d, rfl⟩))
    rintro _ M1 ⟨rfl, rfl, h9⟩
    exact h9.elim
  · refine x_iconst (v := 1) hC dX1_add_10 (by decide) ?_
    refine x_goto (tgt := 15) hC dX1_add_11 (by decide) ?_
    refine x_qS (k := 1) (n := 6) (na := 1) hC (cq_reqISE hG True _) (lw_S q1306 q1307 q81 q1308) (by decide +kernel) rfl ⟨Nat.le_of_ble_eq_true rfl, Nat.le_of_ble_eq_true rfl⟩ rfl (Nat.le_of_ble_eq_true rfl) (Nat.le_of_ble_eq_true rfl) (Nat.le_of_ble_eq_true rfl) ⟨Nat.le_of_ble_eq_true rfl, Nat.le_of_ble_eq_true rfl⟩ dX1_add_15 ?_ (fun q9 E9 M9 h9 => x_out hC hx (Nat.le_of_ble_eq_true rfl) (Nat.le_of_ble_eq_true rfl) (by obtain ⟨rfl, rfl, h9⟩ := h9; exact absurd trivial h9))
    rintro _ M1 ⟨rfl, hM1, h9⟩
    subst hM1
    refine x_aload_n hC dX1_add_18 rfl rfl ?_
    refine x_callV (k := 23) (n := 203) (na := 0) hC (ct_beginEdit hG hT hR) (lw_V q1973 q1975 qs22 q81 q1976) h1 rfl rfl (by decide +kernel) rfl ⟨Nat.le_of_ble_eq_true rfl, Nat.le_of_ble_eq_true rfl⟩ rfl (Nat.le_of_ble_eq_true rfl) (Nat.le_of_ble_eq_true rfl) (Nat.le_of_ble_eq_true rfl) ⟨Nat.le_of_ble_eq_true rfl, Nat.le_of_ble_eq_true rfl⟩ dX1_add_19 ?_
    rintro _ M2 ⟨rfl, ⟨bu, ar, dq, sv, fm, bf, H, hR3⟩, hF1⟩
    have n0 : ¬ PE 0 := fun z => z.1 rfl
    have hn2 := hn.fr hF1 n0
    have hb2 := hF1.z n0 hb
    obtain ⟨hR4, hF4⟩ := hR3.put (ar' := ar) (fm' := fm) (sv' := sv) (R' := sR S) (V' := sV S) (B' := []) (E' := sE S) (t' := sT S) ⟨Nat.zero_le _, fun i c hc => by cases hc⟩ hR3.2.2.1 hR3.2.2.2.2.1 hR3.2.2.2.2.2.1 hR3.2.2.2.2.2.2.1
    refine x_aload_n hC dX1_add_22 rfl rfl ?_
    refine x_iconst (v := 0) hC dX1_add_23 (by decide) ?_
    refine x_put hC 1 hR3.1 (by decide) rfl (by decide) q230 rfl rfl rfl rfl rfl (show 1 < 8 by decide) (fs' := aF bu (nI 0) (sE S).1 (sE S).2 ar dq sv fm) rfl dX1_add_24 ?_
    have hn3 := hn2.fr hF4 (by decide)
    have hb3 := hF4.z (by decide) hb2
    have hF5 := hF1.tr (pe1 hF4)
    generalize mu M2 a (ob 1 1 (aF bu (nI ([] : List Nat).length) (sE S).1 (sE S).2 ar dq sv fm)) = M3 at hR4 hF4 hn3 hb3 hF5 ⊢
    refine x_aload_n hC dX1_add_27 rfl rfl ?_
    refine x_get hC 4 hR4.1 rfl (by decide) q233 rfl rfl dX1_add_28 ?_
    refine x_new (ci := 3) (T := TX7) (N := 4) hC 2 [.null, .null, .null, .null] rfl q1557 q1478 q115 tyX7 tyX7_ok (by decide) (by decide +kernel) (Nat.le_of_ble_eq_true rfl) (Nat.le_of_ble_eq_true rfl) dX1_add_31 (fun q hq => ?_)
    refine x_dup hC dX1_add_34 rfl ?_
    refine x_aload_n hC dX1_add_35 rfl rfl ?_
    refine x_aload_n hC dX1_add_36 rfl rfl ?_
    refine x_callI0 (na := 2) hC (ct_rinit hG mu_s) q1481 q115 q2022 q1480 rfl (by decide +kernel) rfl ⟨Nat.le_of_ble_eq_true rfl, Nat.le_of_ble_eq_true rfl⟩ rfl (Nat.le_of_ble_eq_true rfl) ⟨rfl, rfl⟩ ⟨Nat.le_of_ble_eq_true rfl, Nat.le_of_ble_eq_true rfl⟩ dX1_add_37 ?_
    rintro _ M ⟨rfl, rfl⟩
    rw [mu_mu]
    have hF6 : Fr (fun _ => False) M3 (mu M3 q (ob 2 3 (reF nm b .null .null))) := Fr.new hq
    have hRA : RA (mu M3 q (ob 2 3 (reF nm b .null .null))) q (sB S, u) := ⟨nm, b, false, false, hn3.fr hF6 id, .null, ⟨.null, mu_s, hF6.z id hb3, fun _ => rfl, fun h => by cases h⟩, fun _ => rfl, fun h => by cases h⟩
    have hR5 := hR4.fr hF6 id id id id (fun _ _ => id)
    have hF7 := hF5.tr (hF6.wk fun _ z => z.elim)
    generalize mu M3 q (ob 2 3 (reF nm b .null .null)) = M4 at hF6 hRA hR5 hF7 ⊢
    obtain ⟨-, -, ⟨⟨L5, h5⟩, -⟩, -, -, -, -, h58⟩ := id hR5
    have h5' : AMl M4 T ar (sR S) L5 := h5
    obtain ⟨l5, m5, a5, -, -⟩ := h5.rec
    refine x_callV (k := 27) (n := 237) (na := 1) hC (ct_arAdd hG hT h58 h5' hRA (by omega) (fnd_none.mp hnw.2)) (lw_V q2023 q1127 q1128 q82 q1129) a5 rfl rfl (by decide +kernel) rfl ⟨Nat.le_of_ble_eq_true rfl, Nat.le_of_ble_eq_true rfl⟩ rfl (Nat.le_of_ble_eq_true rfl) (Nat.le_of_ble_eq_true rfl) (Nat.le_of_ble_eq_true rfl) ⟨Nat.le_of_ble_eq_true rfl, Nat.le_of_ble_eq_true rfl⟩ dX1_add_40 ?_
    rintro _ M5 ⟨rfl, hA, hF8⟩
    refine x_iret hC hk dX1_add_43 (Nat.le_of_ble_eq_true rfl) (Nat.le_of_ble_eq_true rfl) ⟨rfl, by omega, ⟨bu, ar, dq, sv, fm, bf, H, hR5.arch hF8 ⟨_, hA⟩ (wf_new h3w (by omega) hW (fnd_none.mp hnw.2))⟩, hF7.tr (hF8.wk PA_pe)⟩
theorem cq_addSilence (hG : GOK G) (hT : T0 G T) (hR : CRep S M T a) (n : Int32) : Cq G yX1_addSilence cX1_addSilence 3 (some .int) (xrm 15 1850 4900) [.ref a, .int n] M (CO T a (opAddS S n).2.2 (opAddS S n).1 (.int (opAddS S n).2.1) M) (CX T a S (opAddS S n).1 [xIAE, xISE] M) := by
  obtain ⟨vs, ha⟩ := hR.rec
  refine cq_open (lv := [_, _, _]) hG (by decide +kernel) (Nat.le_of_ble_eq_true rfl) rfl (fun C hC hk hx => ?_)
  refine x_aload_n hC dX1_addSilence_0 rfl rfl ?_
  refine x_qV (k := 1810) (n := 4540) (na := 0) hC (cq_newName hG hR) (lw_V q1964 q1966 qs20 q81 q1967) ha rfl rfl (by decide +kernel) rfl ⟨Nat.le_of_ble_eq_true rfl, Nat.le_of_ble_eq_true rfl⟩ rfl (Nat.le_of_ble_eq_true rfl) (Nat.le_of_ble_eq_true rfl) (Nat.le_of_ble_eq_true rfl) ⟨Nat.le_of_ble_eq_true rfl, Nat.le_of_ble_eq_true rfl⟩ dX1_addSilence_1 ?_ (fun q9 E9 M9 h9 => x_out hC hx (Nat.le_of_ble_eq_true rfl) (Nat.le_of_ble_eq_true rfl) (by obtain ⟨rfl, h9, hR9, hF9⟩ := h9; exact CX.mk (k := 0) hR9 (pe_pw (pt_pe hF9)) (by unfold opAddS; rw [if_neg (fun z => h9 z.1)]; rfl) rfl))
  rintro _ M1 ⟨nm, rfl, hnw, hN, hR1, hF1⟩
  refine x_astore_n (lv' := [_, _, _]) hC dX1_addSilence_4 rfl (by decide) rfl ?_
  refine x_iload_n hC dX1_addSilence_5 rfl rfl ?_
  refine x_callS0 (na := 1) hC (ct_cisLength hG _ _) (lw_S q1673 q1474 q81 q1475) (by decide +kernel) rfl ⟨Nat.le_of_ble_eq_true rfl, Nat.le_of_ble_eq_true rfl⟩ rfl (Nat.le_of_ble_eq_true rfl) ⟨rfl, rfl⟩ ⟨Nat.le_of_ble_eq_true rfl, Nat.le_of_ble_eq_true rfl⟩ dX1_addSilence_6 ?_
  rintro _ M1 ⟨rfl, rfl⟩
  refine x_qS (k := 1811) (n := 4546) (na := 1) hC (cq_reqIAE hG _ _) (lw_S q1337 q1338 q81 q1339) (by decide +kernel) rfl ⟨Nat.le_of_ble_eq_true rfl, Nat.le_of_ble_eq_true rfl⟩ rfl (Nat.le_of_ble_eq_true rfl) (Nat.le_of_ble_eq_true rfl) (Nat.le_of_ble_eq_true rfl) ⟨Nat.le_of_ble_eq_true rfl, Nat.le_of_ble_eq_true rfl⟩ dX1_addSilence_9 ?_ (fun q9 E9 M9 h9 => x_out hC hx (Nat.le_of_ble_eq_true rfl) (Nat.le_of_ble_eq_true rfl) (by obtain ⟨rfl, rfl, h9⟩ := h9; exact CX.mk (k := 0) hR1 (pe_pw (pt_pe hF1)) (by unfold opAddS; rw [if_neg (fun z => h9 z.2)]; rfl) rfl))
  rintro _ M2 ⟨rfl, hM2, h9⟩
  subst hM2
  obtain ⟨j, h1, h2, h3⟩ := isL_pw h9
  have hp := (pw_le (j := j) (by omega)).2
  have hop : (sR S).length < 6 → opAddS S n = (0, nI (sR S).length, newS S (List.replicate (2 ^ j) 0)) := by intro h; unfold opAddS; rw [if_pos ⟨hnw, h9⟩, if_pos h, h3]
  have hop2 : (sR S).length = 6 → (opAddS S n).1 = 2 := by intro h; unfold opAddS; rw [if_pos ⟨hnw, h9⟩, if_neg (by omega)]
  subst h2
  refine x_aload_n hC dX1_addSilence_12 rfl rfl ?_
  refine x_aload_n hC dX1_addSilence_13 rfl rfl ?_
  refine x_iload_n hC dX1_addSilence_14 rfl rfl ?_
  refine x_newi hC (2 ^ j) 3 q1328 (by decide) rfl (by omega) (Nat.le_of_ble_eq_true rfl) (show 4546 + 2 ^ j ≤ 4900 by omega) dX1_addSilence_15 (fun q hq => ?_)
  refine x_frzL (List.replicate (2 ^ j) 0) (by rw [List.length_replicate]) hq (fun k hk => by rw [List.getD_eq_getElem?_getD, List.getElem?_replicate, if_pos hk]; rfl) (fun M3 hb hF3 => ?_)
  have hWf : WfRow (sB S, List.replicate (2 ^ j) 0) := ⟨hnw.1.1, hnw.1.2, ⟨j, h1.2, by omega, by rw [List.length_replicate]⟩, fun x hx => by rw [(List.mem_replicate.mp hx).2]; decide⟩
  have hF4 : Fr PE M M3 := pt_pe (hF1.tr (pt3 hF3))
  obtain ⟨vs3, ha3⟩ := (hR1.f3 hF3).rec
  refine x_qV (k := 1842) (n := 4850) (na := 2) hC (cq_addC hG hT (hR1.f3 hF3) (hN.fr hF3 (by decide)) hb hWf hnw) (lw_V q1968 q1970 qs21 q81 q1971) ha3 rfl rfl (by decide +kernel) rfl ⟨Nat.le_of_ble_eq_true rfl, Nat.le_of_ble_eq_true rfl⟩ rfl (Nat.le_of_ble_eq_true rfl) (Nat.le_of_ble_eq_true rfl) (show 4546 + 2 ^ j + 240 ≤ 4850 by omega) ⟨Nat.le_of_ble_eq_true rfl, Nat.le_of_ble_eq_true rfl⟩ dX1_addSilence_17 ?_ (fun q9 E9 M9 h9 => x_out hC hx (Nat.le_of_ble_eq_true rfl) (Nat.le_of_ble_eq_true rfl) (by obtain ⟨rfl, h8, rfl⟩ := h9; exact CX.mk (k := 1) (hR1.f3 hF3) (pe_pw hF4) (hop2 h8) rfl))
  rintro _ M4 ⟨rfl, hl, hR5, hF5⟩
  exact x_iret hC hk dX1_addSilence_20 (Nat.le_of_ble_eq_true rfl) (Nat.le_of_ble_eq_true rfl) ⟨by rw [hop hl], by rw [hop hl], by rw [hop hl]; exact hR5, pe_pw (hF4.tr hF5)⟩
theorem cq_copyRecording (hG : GOK G) (hT : T0 G T) (hR : CRep S M T a) (x : Int32) : Cq G yX1_copyRecording cX1_copyRecording 3 (some .int) (xrm 15 1850 4900) [.ref a, .int x] M (CO T a (opCopy S x).2.2 (opCopy S x).1 (.int (opCopy S x).2.1) M) (CX T a S (opCopy S x).1 [xIOB, xIAE, xISE] M) := by
  obtain ⟨vs, ha⟩ := hR.rec
  refine cq_open (lv := [_, _, _]) hG (by decide +kernel) (Nat.le_of_ble_eq_true rfl) rfl (fun C hC hk hx => ?_)
  refine x_aload_n hC dX1_copyRecording_0 rfl rfl ?_
  refine x_iload_n hC dX1_copyRecording_1 rfl rfl ?_
  refine x_qV (k := 1) (n := 6) (na := 1) hC (cq_get hG hR _) (lw_V q1534 q1536 qs13 q81 q1537) ha rfl rfl (by decide +kernel) rfl ⟨Nat.le_of_ble_eq_true rfl, Nat.le_of_ble_eq_true rfl⟩ rfl (Nat.le_of_ble_eq_true rfl) (Nat.le_of_ble_eq_true rfl) (Nat.le_of_ble_eq_true rfl) ⟨Nat.le_of_ble_eq_true rfl, Nat.le_of_ble_eq_true rfl⟩ dX1_copyRecording_2 ?_ (fun q9 E9 M9 h9 => x_out hC hx (Nat.le_of_ble_eq_true rfl) (Nat.le_of_ble_eq_true rfl) (by obtain ⟨rfl, rfl, h9⟩ := h9; exact CX.same (k := 0) hR (by unfold opCopy; rw [Decidable.not_not.mp h9]; rfl) rfl))
  rintro _ M1 ⟨hM1, q, r, hrc, rfl, hRA, hWf⟩
  subst hM1
  have h64 : rz r ≤ 64 := hWf.len.1
  refine x_astore_n (lv' := [_, _, _]) hC dX1_copyRecording_5 rfl (by decide) rfl ?_
  refine x_aload_n hC dX1_copyRecording_6 rfl rfl ?_
  refine x_aload_n hC dX1_copyRecording_7 rfl rfl ?_
  refine x_qV (k := 1811) (n := 4546) (na := 0) hC (cq_newName hG hR) (lw_V q1964 q1966 qs20 q81 q1967) ha rfl rfl (by decide +kernel) rfl ⟨Nat.le_of_ble_eq_true rfl, Nat.le_of_ble_eq_true rfl⟩ rfl (Nat.le_of_ble_eq_true rfl) (Nat.le_of_ble_eq_true rfl) (Nat.le_of_ble_eq_true rfl) ⟨Nat.le_of_ble_eq_true rfl, Nat.le_of_ble_eq_true rfl⟩ dX1_copyRecording_8 ?_ (fun q9 E9 M9 h9 => x_out hC hx (Nat.le_of_ble_eq_true rfl) (Nat.le_of_ble_eq_true rfl) (by obtain ⟨rfl, h9, hR9, hF9⟩ := h9; exact CX.mk (k := 1) hR9 (pe_pw (pt_pe hF9)) (by unfold opCopy; rw [hrc]; dsimp only [Option.elim]; rw [if_neg h9]; rfl) rfl))
  rintro _ M2 ⟨nm, rfl, hnw, hN, hR1, hF1⟩
  have hop : (sR S).length < 6 → opCopy S x = (0, nI (sR S).length, newS S r.2) := by intro h; unfold opCopy; rw [hrc]; dsimp only [Option.elim]; rw [if_pos hnw, if_pos h]
  have hop2 : (sR S).length = 6 → (opCopy S x).1 = 3 := by intro h; unfold opCopy; rw [hrc]; dsimp only [Option.elim]; rw [if_pos hnw, if_neg (by omega)]
  have hRA2 := hRA.fr hF1 (by decide) (by decide)
  obtain ⟨na, sa, cv, rv, x1, x2, -⟩ := hRA2.rec
  refine x_aload_n hC dX1_copyRecording_11 rfl rfl ?_
  refine x_callVN (k := 1812) (n := 4610) (na := 0) hC (ct_copyS hG (g := 3) (by decide) x1 x2 h64) q1720 q1719 qs15 q115 q2031 (x1) rfl rfl (by decide +kernel) rfl ⟨Nat.le_of_ble_eq_true rfl, Nat.le_of_ble_eq_true rfl⟩ rfl (Nat.le_of_ble_eq_true rfl) (Nat.le_of_ble_eq_true rfl) (Nat.le_of_ble_eq_true rfl) ⟨Nat.le_of_ble_eq_true rfl, Nat.le_of_ble_eq_true rfl⟩ dX1_copyRecording_12 ?_
  rintro _ _ ⟨p, u, rfl, hp, rfl, hu⟩
  refine x_frzL r.2 rfl hp hu (fun M3 hb hF3 => ?_)
  have hWf2 : WfRow (sB S, r.2) := ⟨hnw.1.1, hnw.1.2, hWf.2.2.1, hWf.2.2.2⟩
  have hF4 : Fr PE M1 M3 := pt_pe (hF1.tr (pt3 hF3))
  obtain ⟨vs3, ha3⟩ := (hR1.f3 hF3).rec
  refine x_qV (k := 1842) (n := 4850) (na := 2) hC (cq_addC hG hT (hR1.f3 hF3) (hN.fr hF3 (by decide)) hb hWf2 hnw) (lw_V q1968 q1970 qs21 q81 q1971) ha3 rfl rfl (by decide +kernel) rfl ⟨Nat.le_of_ble_eq_true rfl, Nat.le_of_ble_eq_true rfl⟩ rfl (Nat.le_of_ble_eq_true rfl) (Nat.le_of_ble_eq_true rfl) (Nat.le_of_ble_eq_true rfl) ⟨Nat.le_of_ble_eq_true rfl, Nat.le_of_ble_eq_true rfl⟩ dX1_copyRecording_15 ?_ (fun q9 E9 M9 h9 => x_out hC hx (Nat.le_of_ble_eq_true rfl) (Nat.le_of_ble_eq_true rfl) (by obtain ⟨rfl, h8, rfl⟩ := h9; exact CX.mk (k := 2) (hR1.f3 hF3) (pe_pw hF4) (hop2 h8) rfl))
  rintro _ M4 ⟨rfl, hl, hR5, hF5⟩
  exact x_iret hC hk dX1_copyRecording_18 (Nat.le_of_ble_eq_true rfl) (Nat.le_of_ble_eq_true rfl) ⟨by rw [hop hl], by rw [hop hl], by rw [hop hl]; exact hR5, pe_pw (hF4.tr hF5)⟩
theorem cq_rename (hG : GOK G) (hT : T0 G T) (hR : CRep S M T a) (x : Int32) : Cq G yX1_rename cX1_rename 3 (some .int) (xrm 15 1850 4900) [.ref a, .int x] M (CO T a (opRename S x).2.2 (opRename S x).1 (.int (opRename S x).2.1) M) (CX T a S (opRename S x).1 [xIOB, xIAE] M) := by
  obtain ⟨vs, ha⟩ := hR.rec
  have hwf := hR.wf
  refine cq_open (lv := [_, _, _]) hG (by decide +kernel) (Nat.le_of_ble_eq_true rfl) rfl (fun C hC hk hx => ?_)
  refine x_aload_n hC dX1_rename_0 rfl rfl ?_
  refine x_iload_n hC dX1_rename_1 rfl rfl ?_
  refine x_qV (k := 1) (n := 6) (na := 1) hC (cq_get hG hR _) (lw_V q1534 q1536 qs13 q81 q1537) ha rfl rfl (by decide +kernel) rfl ⟨Nat.le_of_ble_eq_true rfl, Nat.le_of_ble_eq_true rfl⟩ rfl (Nat.le_of_ble_eq_true rfl) (Nat.le_of_ble_eq_true rfl) (Nat.le_of_ble_eq_true rfl) ⟨Nat.le_of_ble_eq_true rfl, Nat.le_of_ble_eq_true rfl⟩ dX1_rename_2 ?_ (fun q9 E9 M9 h9 => x_out hC hx (Nat.le_of_ble_eq_true rfl) (Nat.le_of_ble_eq_true rfl) (by obtain ⟨rfl, rfl, h9⟩ := h9; exact CX.same (k := 0) hR (by unfold opRename; rw [Decidable.not_not.mp h9]; rfl) rfl))
  rintro _ M1 ⟨hM1, q, r, hrc, rfl, hRA, hWf⟩
  subst hM1
  obtain ⟨c, rfl, hci, hcc⟩ := rc_at hrc
  refine x_pop hC dX1_rename_5 rfl ?_
  refine x_aload_n hC dX1_rename_6 rfl rfl ?_
  refine x_qV (k := 1811) (n := 4546) (na := 0) hC (cq_newName hG hR) (lw_V q1964 q1966 qs20 q81 q1967) ha rfl rfl (by decide +kernel) rfl ⟨Nat.le_of_ble_eq_true rfl, Nat.le_of_ble_eq_true rfl⟩ rfl (Nat.le_of_ble_eq_true rfl) (Nat.le_of_ble_eq_true rfl) (Nat.le_of_ble_eq_true rfl) ⟨Nat.le_of_ble_eq_true rfl, Nat.le_of_ble_eq_true rfl⟩ dX1_rename_7 ?_ (fun q9 E9 M9 h9 => x_out hC hx (Nat.le_of_ble_eq_true rfl) (Nat.le_of_ble_eq_true rfl) (by obtain ⟨rfl, h9, hR9, hF9⟩ := h9; exact CX.mk (k := 1) hR9 (pe_pw (pt_pe hF9)) (by unfold opRename; rw [hrc]; dsimp only [Option.elim]; rw [if_neg h9]; rfl) rfl))
  rintro _ M2 ⟨nm, rfl, hnw, hN, hR1, hF1⟩
  have hop : opRename S (nI c) = (0, nI (sB S).length, ((sR S).set c (sB S, r.2), hP (sH S) (sR S), sV S, [], sE S, sT S)) := by unfold opRename; rw [hrc, hcc]; dsimp only [Option.elim]; rw [if_pos hnw]
  have hWf2 : WfRow (sB S, r.2) := ⟨hnw.1.1, hnw.1.2, hWf.2.2.1, hWf.2.2.2⟩
  obtain ⟨vs2, ha2⟩ := hR1.rec
  refine x_astore_n (lv' := [_, _, _]) hC dX1_rename_10 rfl (by decide) rfl ?_
  refine x_aload_n hC dX1_rename_11 rfl rfl ?_
  refine x_callV (k := 1833) (n := 4743) (na := 0) hC (ct_beginEdit hG hT hR1) (lw_V q1973 q1975 qs22 q81 q1976) ha2 rfl rfl (by decide +kernel) rfl ⟨Nat.le_of_ble_eq_true rfl, Nat.le_of_ble_eq_true rfl⟩ rfl (Nat.le_of_ble_eq_true rfl) (Nat.le_of_ble_eq_true rfl) (Nat.le_of_ble_eq_true rfl) ⟨Nat.le_of_ble_eq_true rfl, Nat.le_of_ble_eq_true rfl⟩ dX1_rename_12 ?_
  rintro _ M3 ⟨rfl, ⟨bu, ar, dq, sv, fm, bf, H, hR3⟩, hF3⟩
  have n0 : ¬ PE 0 := fun z => z.1 rfl
  have hn2 := hN.fr hF3 n0
  obtain ⟨hR4, hF4⟩ := hR3.put (ar' := ar) (fm' := fm) (sv' := sv) (R' := sR S) (V' := sV S) (B' := []) (E' := sE S) (t' := sT S) ⟨Nat.zero_le _, fun i c hc => by cases hc⟩ hR3.2.2.1 hR3.2.2.2.2.1 hR3.2.2.2.2.2.1 hR3.2.2.2.2.2.2.1
  refine x_aload_n hC dX1_rename_15 rfl rfl ?_
  refine x_iconst (v := 0) hC dX1_rename_16 (by decide) ?_
  refine x_put hC 1 hR3.1 (by decide) rfl (by decide) q230 rfl rfl rfl rfl rfl (show 1 < 8 by decide) (fs' := aF bu (nI 0) (sE S).1 (sE S).2 ar dq sv fm) rfl dX1_rename_17 ?_
  have hn3 := hn2.fr hF4 (by decide)
  have hF5 := (pt_pe hF1).tr (hF3.tr (pe1 hF4))
  generalize mu M3 a (ob 1 1 (aF bu (nI ([] : List Nat).length) (sE S).1 (sE S).2 ar dq sv fm)) = M4 at hR4 hF4 hn3 hF5 ⊢
  obtain ⟨-, -, ⟨⟨L5, h5⟩, -⟩, -⟩ := id hR4
  have h5' : AMl M4 T ar (sR S) L5 := h5
  obtain ⟨l5, m5, a5, -, -⟩ := h5.rec
  refine x_aload_n hC dX1_rename_20 rfl rfl ?_
  refine x_get hC 4 hR4.1 rfl (by decide) q233 rfl rfl dX1_rename_21 ?_
  refine x_iload_n hC dX1_rename_24 rfl rfl ?_
  refine x_aload_n hC dX1_rename_25 rfl rfl ?_
  refine x_callV (k := 1836) (n := 4767) (na := 2) hC (ct_arRename hG h5' hwf.1 hwf.2.2 hci hn3 (fnd_none.mp hnw.2)) (lw_V q2039 q2040 q2041 q82 q2042) a5 rfl rfl (by decide +kernel) rfl ⟨Nat.le_of_ble_eq_true rfl, Nat.le_of_ble_eq_true rfl⟩ rfl (Nat.le_of_ble_eq_true rfl) (Nat.le_of_ble_eq_true rfl) (Nat.le_of_ble_eq_true rfl) ⟨Nat.le_of_ble_eq_true rfl, Nat.le_of_ble_eq_true rfl⟩ dX1_rename_26 ?_
  rintro _ M5 ⟨rfl, ⟨y, hA⟩, hF6⟩
  have hn4 := hn3.fr hF6 PA_n0
  obtain ⟨s, hs1, hs2⟩ := hn4
  obtain ⟨vss, hs3⟩ := hs2.rec
  refine x_aload_n hC dX1_rename_29 rfl rfl ?_
  refine x_getN hC 0 hs1 rfl (by decide) q618 rfl rfl dX1_rename_30 ?_
  refine x_callV0 (na := 0) hC (ct_sLen hG hs2) (lw_V q625 q536 q537 q100 q538) hs3 rfl rfl (by decide +kernel) rfl ⟨Nat.le_of_ble_eq_true rfl, Nat.le_of_ble_eq_true rfl⟩ rfl (Nat.le_of_ble_eq_true rfl) ⟨rfl, rfl⟩ ⟨Nat.le_of_ble_eq_true rfl, Nat.le_of_ble_eq_true rfl⟩ dX1_rename_33 ?_
  rintro _ M6 ⟨rfl, rfl⟩
  exact x_iret hC hk dX1_rename_36 (Nat.le_of_ble_eq_true rfl) (Nat.le_of_ble_eq_true rfl) ⟨by rw [hop], by rw [hop], by rw [hop]; exact ⟨bu, ar, dq, sv, fm, bf, H, hR4.arch hF6 ⟨_, hA⟩ (wf_ren hwf hci hWf2 (fnd_none.mp hnw.2))⟩, pe_pw (hF5.tr (hF6.wk PA_pe))⟩
theorem cp_findRecording (hG : GOK G) (hR : CRep S M T a) : Ct G yX1_findRecording cX1_findRecording 3 (some .int) (xrm 11 1810 4540) [.ref a] M (CO T a S (opFind S).1 (.int (opFind S).2) M) := by
  obtain ⟨vs, ha⟩ := hR.rec
  refine ct_open (lv := [_, _, _]) hG (by decide +kernel) (Nat.le_of_ble_eq_true rfl) rfl (fun C hC hk => ?_)
  obtain ⟨M0, hM0⟩ : ∃ M0, M0 = M := ⟨M, rfl⟩
  rw [← hM0] at hk
  have hF : Fm M0 M := by rw [hM0]; exact Fr.rf
  subst hM0
  refine x_aload_n hC dX1_findRecording_0 rfl rfl ?_
  refine x_callV (k := 1802) (n := 4524) (na := 0) hC (ct_bufferText hG hR) (lw_V q274 q276 qs0 q81 q277) ha rfl rfl (by decide +kernel) rfl ⟨Nat.le_of_ble_eq_true rfl, Nat.le_of_ble_eq_true rfl⟩ rfl (Nat.le_of_ble_eq_true rfl) (Nat.le_of_ble_eq_true rfl) (Nat.le_of_ble_eq_true rfl) ⟨Nat.le_of_ble_eq_true rfl, Nat.le_of_ble_eq_true rfl⟩ dX1_findRecording_1 ?_
  rintro _ M1 ⟨s, rfl, hS, hF1⟩
  have hR1 := hR.pt hF1
  obtain ⟨vs1, hs1⟩ := hS.rec
  refine x_astore_n (lv' := [_, _, _]) hC dX1_findRecording_4 rfl (by decide) rfl ?_
  refine x_new (ci := 4) (T := TX6) (N := 1) hC 3 [.null] rfl q611 q612 q111 tyX6 tyX6_ok (by decide) (by decide +kernel) (Nat.le_of_ble_eq_true rfl) (Nat.le_of_ble_eq_true rfl) dX1_findRecording_5 (fun q hq => ?_)
  refine x_dup hC dX1_findRecording_8 rfl ?_
  refine x_aload_n hC dX1_findRecording_9 rfl rfl ?_
  refine x_callI0 (na := 1) hC (ct_nmInit hG (by decide) mu_s) q615 q111 q613 q614 rfl (by decide +kernel) rfl ⟨Nat.le_of_ble_eq_true rfl, Nat.le_of_ble_eq_true rfl⟩ rfl (Nat.le_of_ble_eq_true rfl) ⟨rfl, rfl⟩ ⟨Nat.le_of_ble_eq_true rfl, Nat.le_of_ble_eq_true rfl⟩ dX1_findRecording_10 ?_
  rintro _ M ⟨rfl, rfl⟩
  refine x_nm hq hS (fun M2 hN hF4 => ?_)
  have hS2 := hS.fr hF4 (by decide)
  have hR2 := hR1.f3 hF4
  have hF2 := pe_pw (pt_pe (hF1.tr (pt3 hF4)))
  refine x_astore_n (lv' := [_, _, _]) hC dX1_findRecording_13 rfl (by decide) rfl ?_
  refine x_aload_n hC dX1_findRecording_14 rfl rfl ?_
  refine x_callS0 (na := 1) hC (ct_isName hG hS2) (lw_S q622 q623 q81 q624) (by decide +kernel) rfl ⟨Nat.le_of_ble_eq_true rfl, Nat.le_of_ble_eq_true rfl⟩ rfl (Nat.le_of_ble_eq_true rfl) ⟨rfl, rfl⟩ ⟨Nat.le_of_ble_eq_true rfl, Nat.le_of_ble_eq_true rfl⟩ dX1_findRecording_15 ?_
  rintro _ M2 ⟨rfl, rfl⟩
  refine x_if_eqB (tgt := 43) hC dX1_findRecording_18 (by decide) (fun d => ?_) (fun d => ?_)
  · have hf : (if 1 ≤ (sB S).length ∧ (sB S).length ≤ 6 then fnd (sR S) (sB S) else none) = none := by
      split
      next h =>
        refine fnd_none.mpr fun z => d ⟨h, ?_⟩
        obtain ⟨r, hr, hrn⟩ := List.mem_map.mp z
        rw [← hrn]
        exact (hR.wf.2.1 r hr).2.1
      next => rfl
    refine x_iconst (v := -1) hC dX1_findRecording_43 (by decide) ?_
    exact x_iret hC hk dX1_findRecording_44 (Nat.le_of_ble_eq_true rfl) (Nat.le_of_ble_eq_true rfl) ⟨rfl, by unfold opFind; rw [hf]; rfl, hR2, hF2⟩
  · obtain ⟨bu, ar, dq, sv, fm, bf, H, hRp⟩ := id hR2
    obtain ⟨h1, -, ⟨⟨L, h3⟩, h3w⟩, -⟩ := id hRp
    obtain ⟨l, m, a1, -, -⟩ := h3.rec
    refine x_aload_n hC dX1_findRecording_21 rfl rfl ?_
    refine x_get hC 4 h1 rfl (by decide) q233 rfl rfl dX1_findRecording_22 ?_
    refine x_aload_n hC dX1_findRecording_25 rfl rfl ?_
    refine x_callV0 (na := 1) hC (ct_arHas hG h3 hN) (lw_V q644 q645 q646 q82 q647) a1 rfl rfl (by decide +kernel) rfl ⟨Nat.le_of_ble_eq_true rfl, Nat.le_of_ble_eq_true rfl⟩ rfl (Nat.le_of_ble_eq_true rfl) ⟨rfl, rfl⟩ ⟨Nat.le_of_ble_eq_true rfl, Nat.le_of_ble_eq_true rfl⟩ dX1_findRecording_26 ?_
    rintro _ M2 ⟨rfl, rfl⟩
    refine x_if_eqB (tgt := 43) hC dX1_findRecording_29 (by decide) (fun e => ?_) (fun e => ?_)
    · refine x_iconst (v := -1) hC dX1_findRecording_43 (by decide) ?_
      exact x_iret hC hk dX1_findRecording_44 (Nat.le_of_ble_eq_true rfl) (Nat.le_of_ble_eq_true rfl) ⟨rfl, by unfold opFind; rw [if_pos d.1, fnd_none.mpr e]; rfl, hR2, hF2⟩
    · obtain ⟨i, hi⟩ : ∃ i, fnd (sR S) (sB S) = some i := by
        cases h : fnd (sR S) (sB S) with
        | none => exact absurd e (fnd_none.mp h)
        | some i => exact ⟨i, rfl⟩
      have hi2 := (fstI_some hi).2.2.1
      have hil := (fstI_some hi).2.1
      have hri : (sR S)[i]? = some (sR S)[i] := List.getElem?_eq_getElem (by omega)
      have hnm : (sR S)[i].1 = sB S := by
        rw [List.getElem?_map, hri] at hi2
        exact Option.some.inj hi2
      refine x_aload_n hC dX1_findRecording_32 rfl rfl ?_
      refine x_get hC 4 h1 rfl (by decide) q233 rfl rfl dX1_findRecording_33 ?_
      refine x_aload_n hC dX1_findRecording_36 rfl rfl ?_
      refine x_callV0 (na := 1) hC (ct_arNum hG h3 h3w.1 h3w.2.2 hri (by rw [hnm]; exact hN)) (lw_V q1027 q1028 q1029 q82 q1030) a1 rfl rfl (by decide +kernel) rfl ⟨Nat.le_of_ble_eq_true rfl, Nat.le_of_ble_eq_true rfl⟩ rfl (Nat.le_of_ble_eq_true rfl) ⟨rfl, rfl⟩ ⟨Nat.le_of_ble_eq_true rfl, Nat.le_of_ble_eq_true rfl⟩ dX1_findRecording_37 ?_
      rintro _ M2 ⟨rfl, rfl⟩
      refine x_goto (tgt := 44) hC dX1_findRecording_40 (by decide) ?_
      exact x_iret hC hk dX1_findRecording_44 (Nat.le_of_ble_eq_true rfl) (Nat.le_of_ble_eq_true rfl) ⟨rfl, by unfold opFind; rw [if_pos d.1, hi]; rfl, hR2, hF2⟩
theorem cq_nameCharacter (hG : GOK G) (hR : CRep S M T a) (x z : Int32) : Cq G yX1_nameCharacter cX1_nameCharacter 4 (some .char) (xrm 8 2 12) [.ref a, .int x, .int z] M (CO T a S (opNameChar S x z).1 (.int (opNameChar S x z).2) M) (CX T a S (opNameChar S x z).1 [xIOB] M) := by
  obtain ⟨vs, ha⟩ := hR.rec
  refine cq_open (lv := [_, _, _, _]) hG (by decide +kernel) (Nat.le_of_ble_eq_true rfl) rfl (fun C hC hk hx => ?_)
  refine x_aload_n hC dX1_nameCharacter_0 rfl rfl ?_
  refine x_iload_n hC dX1_nameCharacter_1 rfl rfl ?_
  refine x_qV (k := 1) (n := 6) (na := 1) hC (cq_get hG hR _) (lw_V q1534 q1536 qs13 q81 q1537) ha rfl rfl (by decide +kernel) rfl ⟨Nat.le_of_ble_eq_true rfl, Nat.le_of_ble_eq_true rfl⟩ rfl (Nat.le_of_ble_eq_true rfl) (Nat.le_of_ble_eq_true rfl) (Nat.le_of_ble_eq_true rfl) ⟨Nat.le_of_ble_eq_true rfl, Nat.le_of_ble_eq_true rfl⟩ dX1_nameCharacter_2 ?_ (fun q9 E9 M9 h9 => x_out hC hx (Nat.le_of_ble_eq_true rfl) (Nat.le_of_ble_eq_true rfl) (by obtain ⟨rfl, rfl, h9⟩ := h9; exact CX.same (k := 0) hR (by unfold opNameChar; rw [Decidable.not_not.mp h9]; rfl) rfl))
  rintro _ M1 ⟨hM1, q, r, hrc, rfl, hRA, hWf⟩
  subst hM1
  obtain ⟨na, sa, cv, rv, x1, x2, x3⟩ := hRA.rec
  obtain ⟨s, s1, s2⟩ := x3
  obtain ⟨vss, s3⟩ := s2.rec
  have h6 : r.1.length ≤ 6 := hWf.1.2
  refine x_getN hC 0 x1 rfl (by decide) q1485 rfl rfl dX1_nameCharacter_5 ?_
  refine x_getN hC 0 s1 rfl (by decide) q618 rfl rfl dX1_nameCharacter_8 ?_
  refine x_astore_n (lv' := [_, _, _, _]) hC dX1_nameCharacter_11 rfl (by decide) rfl ?_
  refine x_iload_n hC dX1_nameCharacter_12 rfl rfl ?_
  refine x_iconst (v := 0) hC dX1_nameCharacter_13 (by decide) ?_
  refine x_aload_n hC dX1_nameCharacter_14 rfl rfl ?_
  refine x_callV0 (na := 0) hC (ct_sLen hG s2) (lw_V q625 q536 q537 q100 q538) s3 rfl rfl (by decide +kernel) rfl ⟨Nat.le_of_ble_eq_true rfl, Nat.le_of_ble_eq_true rfl⟩ rfl (Nat.le_of_ble_eq_true rfl) ⟨rfl, rfl⟩ ⟨Nat.le_of_ble_eq_true rfl, Nat.le_of_ble_eq_true rfl⟩ dX1_nameCharacter_15 ?_
  rintro _ M1 ⟨rfl, rfl⟩
  refine x_iconst (v := 1) hC dX1_nameCharacter_18 (by decide) ?_
  refine x_isub hC dX1_nameCharacter_19 ?_
  refine x_callS0 (na := 3) hC (ct_isBetween hG _ _ _ _) (lw_S q641 q642 q81 q643) (by decide +kernel) rfl ⟨Nat.le_of_ble_eq_true rfl, Nat.le_of_ble_eq_true rfl⟩ rfl (Nat.le_of_ble_eq_true rfl) ⟨rfl, rfl⟩ ⟨Nat.le_of_ble_eq_true rfl, Nat.le_of_ble_eq_true rfl⟩ dX1_nameCharacter_20 ?_
  rintro _ M1 ⟨rfl, rfl⟩
  refine x_qS (k := 2) (n := 12) (na := 1) hC (cq_reqIOB hG _ _) (lw_S q1538 q1539 q81 q1540) (by decide +kernel) rfl ⟨Nat.le_of_ble_eq_true rfl, Nat.le_of_ble_eq_true rfl⟩ rfl (Nat.le_of_ble_eq_true rfl) (Nat.le_of_ble_eq_true rfl) (Nat.le_of_ble_eq_true rfl) ⟨Nat.le_of_ble_eq_true rfl, Nat.le_of_ble_eq_true rfl⟩ dX1_nameCharacter_23 ?_ (fun q9 E9 M9 h9 => x_out hC hx (Nat.le_of_ble_eq_true rfl) (Nat.le_of_ble_eq_true rfl) (by obtain ⟨rfl, rfl, h9⟩ := h9; exact CX.same (k := 0) hR (by unfold opNameChar; rw [hrc]; dsimp only [Option.elim]; rw [if_neg h9]; rfl) rfl))
  rintro _ M2 ⟨rfl, hM2, h9⟩
  subst hM2
  obtain ⟨k, hk1, rfl, hk3⟩ := inI_at (n := r.1.length) (by omega) h9
  have hck : r.1[k]? = some r.1[k] := List.getElem?_eq_getElem hk1
  have hop : opNameChar S x (nI k) = (0, nI r.1[k]) := by unfold opNameChar; rw [hrc]; dsimp only [Option.elim]; rw [if_pos h9, hk3, List.getD_eq_getElem?_getD, hck]; rfl
  have hlt := hWf.2.1 _ (List.getElem_mem hk1)
  refine x_aload_n hC dX1_nameCharacter_26 rfl rfl ?_
  refine x_iload_n hC dX1_nameCharacter_27 rfl rfl ?_
  refine x_callV0 (na := 1) hC (ct_sAt hG s2 hck) (lw_V q626 q627 q628 q100 q629) s3 rfl rfl (by decide +kernel) rfl ⟨Nat.le_of_ble_eq_true rfl, Nat.le_of_ble_eq_true rfl⟩ rfl (Nat.le_of_ble_eq_true rfl) ⟨rfl, rfl⟩ ⟨Nat.le_of_ble_eq_true rfl, Nat.le_of_ble_eq_true rfl⟩ dX1_nameCharacter_28 ?_
  rintro _ M1 ⟨rfl, rfl⟩
  exact x_zret hC hk dX1_nameCharacter_31 (by show Value.int ((nI r.1[k]).toUInt32 % 65536).toInt32 = _; rw [(sb_byte _ (by omega)).2.1]) (Nat.le_of_ble_eq_true rfl) (Nat.le_of_ble_eq_true rfl) ⟨by rw [hop], by rw [hop], hR, Fr.rf⟩
theorem cq_formattedCharacter (hG : GOK G) (hR : CRep S M T a) (z : Int32) : Cq G yX1_formattedCharacter cX1_formattedCharacter 2 (some .char) (xrm 8 1 6) [.ref a, .int z] M (CO T a S (opFmtC S z).1 (.int (opFmtC S z).2) M) (CX T a S (opFmtC S z).1 [xIOB] M) := by
  obtain ⟨bu, ar, dq, sv, fm, bf, H, hRp⟩ := id hR
  obtain ⟨h1, -, -, -, -, s2, -⟩ := id hRp
  obtain ⟨vss, s3⟩ := s2.rec
  have hl := s2.len
  have h256 : ∀ c ∈ sT S, c < 256 := by obtain ⟨b, x, z, f, h1, h2, h3, h4, h5⟩ := id s2; exact h5
  refine cq_open (lv := [_, _]) hG (by decide +kernel) (Nat.le_of_ble_eq_true rfl) rfl (fun C hC hk hx => ?_)
  refine x_iload_n hC dX1_formattedCharacter_0 rfl rfl ?_
  refine x_iconst (v := 0) hC dX1_formattedCharacter_1 (by decide) ?_
  refine x_aload_n hC dX1_formattedCharacter_2 rfl rfl ?_
  refine x_get hC 7 h1 rfl (by decide) q236 rfl rfl dX1_formattedCharacter_3 ?_
  refine x_callV0 (na := 0) hC (ct_sLen hG s2) (lw_V q625 q536 q537 q100 q538) s3 rfl rfl (by decide +kernel) rfl ⟨Nat.le_of_ble_eq_true rfl, Nat.le_of_ble_eq_true rfl⟩ rfl (Nat.le_of_ble_eq_true rfl) ⟨rfl, rfl⟩ ⟨Nat.le_of_ble_eq_true rfl, Nat.le_of_ble_eq_true rfl⟩ dX1_formattedCharacter_6 ?_
  rintro _ M1 ⟨rfl, rfl⟩
  refine x_iconst (v := 1) hC dX1_formattedCharacter_9 (by decide) ?_
  refine x_isub hC dX1_formattedCharacter_10 ?_
  refine x_callS0 (na := 3) hC (ct_isBetween hG _ _ _ _) (lw_S q641 q642 q81 q643) (by decide +kernel) rfl ⟨Nat.le_of_ble_eq_true rfl, Nat.le_of_ble_eq_true rfl⟩ rfl (Nat.le_of_ble_eq_true rfl) ⟨rfl, rfl⟩ ⟨Nat.le_of_ble_eq_true rfl, Nat.le_of_ble_eq_true rfl⟩ dX1_formattedCharacter_11 ?_
  rintro _ M1 ⟨rfl, rfl⟩
  refine x_qS (k := 1) (n := 6) (na := 1) hC (cq_reqIOB hG _ _) (lw_S q1538 q1539 q81 q1540) (by decide +kernel) rfl ⟨Nat.le_of_ble_eq_true rfl, Nat.le_of_ble_eq_true rfl⟩ rfl (Nat.le_of_ble_eq_true rfl) (Nat.le_of_ble_eq_true rfl) (Nat.le_of_ble_eq_true rfl) ⟨Nat.le_of_ble_eq_true rfl, Nat.le_of_ble_eq_true rfl⟩ dX1_formattedCharacter_14 ?_ (fun q9 E9 M9 h9 => x_out hC hx (Nat.le_of_ble_eq_true rfl) (Nat.le_of_ble_eq_true rfl) (by obtain ⟨rfl, rfl, h9⟩ := h9; exact CX.same (k := 0) hR (by unfold opFmtC; rw [if_neg h9]; rfl) rfl))
  rintro _ M2 ⟨rfl, hM2, h9⟩
  subst hM2
  obtain ⟨k, hk1, rfl, hk3⟩ := inI_at (n := (sT S).length) (by omega) h9
  have hck : (sT S)[k]? = some (sT S)[k] := List.getElem?_eq_getElem hk1
  have hop : opFmtC S (nI k) = (0, nI (sT S)[k]) := by unfold opFmtC; rw [if_pos h9, hk3, List.getD_eq_getElem?_getD, hck]; rfl
  have hlt := h256 _ (List.getElem_mem hk1)
  refine x_aload_n hC dX1_formattedCharacter_17 rfl rfl ?_
  refine x_get hC 7 h1 rfl (by decide) q236 rfl rfl dX1_formattedCharacter_18 ?_
  refine x_iload_n hC dX1_formattedCharacter_21 rfl rfl ?_
  refine x_callV0 (na := 1) hC (ct_sAt hG s2 hck) (lw_V q626 q627 q628 q100 q629) s3 rfl rfl (by decide +kernel) rfl ⟨Nat.le_of_ble_eq_true rfl, Nat.le_of_ble_eq_true rfl⟩ rfl (Nat.le_of_ble_eq_true rfl) ⟨rfl, rfl⟩ ⟨Nat.le_of_ble_eq_true rfl, Nat.le_of_ble_eq_true rfl⟩ dX1_formattedCharacter_22 ?_
  rintro _ M1 ⟨rfl, rfl⟩
  exact x_zret hC hk dX1_formattedCharacter_25 (by show Value.int ((nI (sT S)[k]).toUInt32 % 65536).toInt32 = _; rw [(sb_byte _ hlt).2.1]) (Nat.le_of_ble_eq_true rfl) (Nat.le_of_ble_eq_true rfl) ⟨by rw [hop], by rw [hop], hR, Fr.rf⟩
end REC

