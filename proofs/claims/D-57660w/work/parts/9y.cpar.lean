/-! ===== WalshAnalyzer.parse, its constructor ===== -/
theorem pS2_k {b : Nat → Nat} {L s n : Nat} {ng : Bool} {k o : Nat} (h : pS2 b L s n ng = .error (k, o)) : 1 ≤ k ∧ k < 5 := by
  unfold pS2 at h
  split at h
  · split at h
    · cases h; decide
    · cases h
  · cases h; decide
theorem pS1_k {b : Nat → Nat} {L s n : Nat} {k o : Nat} (h : pS1 b L s n = .error (k, o)) : 1 ≤ k ∧ k < 5 := by
  unfold pS1 at h
  split at h
  · exact pS2_k h
  · exact pS2_k h
theorem pSs_k {b : Nat → Nat} {L : Nat} : ∀ {d s : Nat} {acc : List Int32} {k o : Nat}, s ≤ L → acc.length + d = 65 → acc.length ≤ 64 → pSs b L d s acc = .error (k, o) → 1 ≤ k ∧ k < 5
  | 0, _, _, _, _, _, hl, h4, _ => by omega
  | d + 1, s, acc, k, o, hs, hl, h4, h => by
    unfold pSs at h
    split at h
    · cases h
    · cases hp : pS1 b L s acc.length with
      | error e =>
        obtain ⟨k', o'⟩ := e
        rw [hp] at h
        cases h
        exact pS1_k hp
      | ok e =>
        obtain ⟨x, s2⟩ := e
        rw [hp] at h
        obtain ⟨q1, q2, q3⟩ := pS1_ok hs hp
        exact pSs_k (b := b) (d := d) (s := s2) (acc := acc ++ [x]) q1 (by simp; omega) (by simp; omega) h
theorem pSt_k {b : Nat → Nat} {L s : Nat} {R : List Rcd} {k o : Nat} (hs : s ≤ L) (h : pSt b L R s = .error (k, o)) : 1 ≤ k ∧ k < 5 := by
  have h1 := adv_le (b := b) hs
  have h2 := adv_le (b := b) h1.2
  unfold pSt at h
  split at h
  · split at h
    · cases h; decide
    · split at h
      · split at h
        · cases hp : pSs b L 65 (adv b L (adv b L s)) [] with
          | error e =>
            obtain ⟨k', o'⟩ := e
            rw [hp] at h
            cases h
            exact pSs_k h2.2 rfl (Nat.zero_le _) hp
          | ok e =>
            obtain ⟨xs, s3⟩ := e
            rw [hp] at h
            dsimp only at h
            split at h
            · cases h
            · cases h; decide
        · cases h; decide
      · cases h; decide
  · cases h; decide
theorem pTx_k' {b : Nat → Nat} {L : Nat} : ∀ {d s : Nat} {R : List Rcd} {k o : Nat}, s ≤ L → R.length + d = 7 → WfR R → pTx b L d R s = .error (k, o) → 1 ≤ k ∧ k < 5
  | 0, _, _, _, _, _, hl, hW, _ => by have := hW.1; omega
  | d + 1, s, R, k, o, hs, hl, hW, h => by
    unfold pTx at h
    split at h
    · cases h
    · cases hp : pSt b L R s with
      | error e =>
        obtain ⟨k', o'⟩ := e
        rw [hp] at h
        cases h
        exact pSt_k hs hp
      | ok e =>
        obtain ⟨R2, s2⟩ := e
        rw [hp] at h
        obtain ⟨w1, w2, w3⟩ := pSt_wf hs hW hp
        exact pTx_k' w2 (by omega) w1 h
theorem pTx_k {b : Nat → Nat} {L k o : Nat} (h : pTx b L 7 [] (tkS b L 0) = .error (k, o)) : 1 ≤ k ∧ k < 5 := pTx_k' (R := []) (tkS_le b (Nat.zero_le L)).2 rfl ⟨Nat.zero_le _, (fun r h => by cases h), List.nodup_nil⟩ h
section CPA
variable {G : X_G} {M : X_M} {T : X_T} {a : Nat} {S : X_S}
theorem cq_parse (hG : GOK G) (hT0 : T0 G T) (hT : T2 G T) (hM : M2c T M) (hR : CRep S M T a) : CqW G yX1_parse cX1_parse 3 (some .int) [(10, 39, 42, 88)] (xrm 16 22010 80100) [.ref a] M (CO T a (opParse S).2.2 (opParse S).1 (.int (opParse S).2.1) M) (CX T a (opParse S).2.2 (opParse S).1 [xIAE] M) := by
  obtain ⟨bu, ar, dq, sv, fm, bf, H, hR2⟩ := hR
  have h1 := hR2.1
  have h2 := hR2.2.1
  have h900 := h2.2.1
  refine cqW_open (lv := [_, _, _]) hG (by decide +kernel) (Nat.le_of_ble_eq_true rfl) rfl (fun C hC hk hx => ?_)
  obtain ⟨M0, hM0⟩ : ∃ M0, M0 = M := ⟨M, rfl⟩
  subst hM0
  obtain ⟨hR3, hF3⟩ := hR2.put (ar' := ar) (fm' := fm) (sv' := sv) (R' := sR S) (V' := sV S) (B' := []) (E' := sE S) (t' := sT S) ⟨Nat.zero_le _, fun i c hc => by cases hc⟩ hR2.2.2.1 hR2.2.2.2.2.1 hR2.2.2.2.2.2.1 hR2.2.2.2.2.2.2.1
  refine x_aload_n hC dX1_parse_0 rfl rfl ?_
  refine x_get hC 1 h1 rfl (by decide) q230 rfl rfl dX1_parse_1 ?_
  refine x_istore_n (lv' := [_, _, _]) hC dX1_parse_4 rfl (by decide) rfl ?_
  refine x_aload_n hC dX1_parse_5 rfl rfl ?_
  refine x_iconst (v := nI 0) hC dX1_parse_6 (by decide) ?_
  refine x_put hC 1 h1 (by decide) rfl (by decide) q230 rfl rfl rfl rfl rfl (show 1 < 8 by decide) (fs' := aF bu (nI ([] : List Nat).length) (sE S).1 (sE S).2 ar dq sv fm) rfl dX1_parse_7 ?_
  have hM1 := hM.fr hF3 (by decide)
  have hb1 : PBt (mu M0 a (ob 1 1 (aF bu (nI ([] : List Nat).length) (sE S).1 (sE S).2 ar dq sv fm))) bu (sB S).length (bN (sB S)) := ⟨bf, hR3.2.1.1, h900, fun i hi => by
    have e : (sB S)[i]? = some (bN (sB S) i) := by simp [bN, List.getD_eq_getElem?_getD, hi]
    exact h2.2.2 i _ e⟩
  generalize mu M0 a (ob 1 1 (aF bu (nI ([] : List Nat).length) (sE S).1 (sE S).2 ar dq sv fm)) = M1 at hR3 hF3 hM1 hb1 ⊢
  have k1 := hR3.1
  refine x_aload_n hC dX1_parse_10 rfl rfl ?_
  refine x_new (ci := 5) (T := TX4) (N := 10) hC 7 [.null, .int 0, .null, .null, .int 0, .int 0, .int 0, .null, .null, .int 0] rfl q1353 q1354 q95 tyX4 tyX4_ok (by decide) (by decide +kernel) (Nat.le_of_ble_eq_true rfl) (Nat.le_of_ble_eq_true rfl) dX1_parse_11 (fun pa hpa => ?_)
  have hFn : Fr P7 M1 (mu M1 pa (ob 7 5 [.null, .int 0, .null, .null, .int 0, .int 0, .int 0, .null, .null, .int 0])) := Fr.new hpa
  have hM2 := hM1.fr hFn P7_0
  have hb2 := hb1.fr hFn P7_1
  have k2 := hFn.z P7_1 k1
  have k8 := hFn.z P7_0 hR3.2.2.2.2.2.2.2
  refine x_dup hC dX1_parse_14 rfl ?_
  refine x_aload_n hC dX1_parse_15 rfl rfl ?_
  refine x_get hC 0 k2 rfl (by decide) q229 rfl rfl dX1_parse_16 ?_
  refine x_iload_n hC dX1_parse_19 rfl rfl ?_
  refine x_callI (k := 5) (n := 87) (na := 2) hC (ct_pinit hG hT0 hT k8 mu_s) q1357 q95 q1355 q1356 rfl (by decide +kernel) rfl ⟨Nat.le_of_ble_eq_true rfl, Nat.le_of_ble_eq_true rfl⟩ rfl (Nat.le_of_ble_eq_true rfl) (Nat.le_of_ble_eq_true rfl) (Nat.le_of_ble_eq_true rfl) ⟨Nat.le_of_ble_eq_true rfl, Nat.le_of_ble_eq_true rfl⟩ dX1_parse_20 ?_
  rintro _ M3 ⟨rfl, c, rd, hc0, hp3, hrd3, hA3, hF4⟩
  have hc1 : M1 c = none := mu_nn hc0
  have hF5 : Fr (P9 c) M1 M3 := (hFn.wk fun _ e => Or.inl (Or.inr e)).tr (hF4.wk fun g e => by
    rcases e with e | e
    · exact Or.inl (Or.inr (Or.inl e))
    · exact Or.inr e)
  have w1 : Fr PW M0 M1 := hF3.wk (fun g e => by subst e; exact ⟨by decide, by decide, by decide⟩)
  refine x_qV (k := 22005) (n := 80087) (na := 0) hC (cq_pparse hG hT0 hT (hF5.z P9_n.1 hR3.2.2.2.2.2.2.2) (hM1.fr hF5 P9_n.1) hp3 (hb1.fr hF5 P9_n.2.1) hrd3 hA3) (lw_V q1395 q1396 q1397 q95 q1398) hp3 rfl rfl (by decide +kernel) rfl ⟨Nat.le_of_ble_eq_true rfl, Nat.le_of_ble_eq_true rfl⟩ rfl (Nat.le_of_ble_eq_true rfl) (Nat.le_of_ble_eq_true rfl) (Nat.le_of_ble_eq_true rfl) ⟨Nat.le_of_ble_eq_true rfl, Nat.le_of_ble_eq_true rfl⟩ dX1_parse_23 ?_ (fun q9 E9 M9 h9 => ?thr)
  rintro _ M4 ⟨rfl, R, Lr, hpx, hWR, hA4, hF6⟩
  case thr =>
    obtain ⟨k, o, hpx, rfl, ⟨v0, v1, v2, hq9⟩, hF6⟩ := h9
    refine x_catchW (name := nPE) hC hx [] (10, 39, 42, 88) [] rfl (fun z hz => by cases hz) (by decide) (by decide) q1352 q1422 ?_
    have hF7 : Fr (P9 c) M1 M9 := hF5.tr hF6
    have hR4 := hR3.p9 hc1 hF7
    obtain ⟨hR5, hF8⟩ := hR4.put (ar' := ar) (fm' := fm) (sv' := sv) (R' := sR S) (V' := sV S) (B' := []) (E' := (nI k, nI o)) (t' := sT S) hR4.2.1.2 hR4.2.2.1 hR4.2.2.2.2.1 hR4.2.2.2.2.2.1 hR4.2.2.2.2.2.2.1
    have hop : opParse S = (1, 0, (sR S, sH S, sV S, [], (nI k, nI o), sT S)) := by
      unfold opParse
      rw [show pAll (sB S) = .error (k, o) from hpx]
    have m1 := hR4.1
    refine x_astore_n (lv' := [_, _, _]) hC dX1_parse_42 rfl (by decide) rfl ?_
    refine x_aload_n hC dX1_parse_43 rfl rfl ?_
    refine x_aload_n hC dX1_parse_44 rfl rfl ?_
    refine x_getN hC 6 hq9 rfl (by decide) q1434 rfl rfl dX1_parse_45 ?_
    refine x_put hC 2 m1 (by decide) rfl (by decide) q231 rfl rfl rfl rfl rfl (show 2 < 8 by decide) (fs' := aF bu (nI ([] : List Nat).length) (nI k) (sE S).2 ar dq sv fm) rfl dX1_parse_48 ?_
    have hq10 := mu_o (e := ob 1 1 (aF bu (nI ([] : List Nat).length) (nI k) (sE S).2 ar dq sv fm)) (mx_tag hq9 m1 (show (12 : Nat) ≠ 1 by decide)) hq9
    refine x_aload_n hC dX1_parse_51 rfl rfl ?_
    refine x_aload_n hC dX1_parse_52 rfl rfl ?_
    refine x_getN hC 7 hq10 rfl (by decide) q1436 rfl rfl dX1_parse_53 ?_
    refine x_put hC 3 mu_s (by decide) rfl (by decide) q232 rfl rfl rfl rfl rfl (show 3 < 8 by decide) (fs' := aF bu (nI ([] : List Nat).length) (nI k) (nI o) ar dq sv fm) rfl dX1_parse_56 ?_
    rw [mu_mu]
    generalize mu M9 a (ob 1 1 (aF bu (nI ([] : List Nat).length) (nI k) (nI o) ar dq sv fm)) = M10 at hR5 hF8 ⊢
    have hW9 : Fr PW M0 M10 := (w1.tr (hF7.wk P9_pw)).tr (hF8.wk fun g e => by subst e; exact ⟨by decide, by decide, by decide⟩)
    have hR6 : CRep (opParse S).2.2 M10 T a := by rw [hop]; exact ⟨_, _, _, _, _, _, _, hR5⟩
    have fin : ∀ v, v = xB False → Wg G C M10 22005 80087 71 [some (.ref a), some (.int (nI (sB S).length)), some (.ref q9)] [.int v] := by
      rintro _ rfl
      refine x_qS (k := 22006) (n := 80093) (na := 1) hC (cq_reqIAE hG False _) (lw_S q1337 q1338 q81 q1339) (by decide +kernel) rfl ⟨Nat.le_of_ble_eq_true rfl, Nat.le_of_ble_eq_true rfl⟩ rfl (Nat.le_of_ble_eq_true rfl) (Nat.le_of_ble_eq_true rfl) (Nat.le_of_ble_eq_true rfl) ⟨Nat.le_of_ble_eq_true rfl, Nat.le_of_ble_eq_true rfl⟩ dX1_parse_71 ?_ (fun q8 E8 M8 h8 => x_outW hC hx (by decide) (Nat.le_of_ble_eq_true rfl) (Nat.le_of_ble_eq_true rfl) (by obtain ⟨rfl, rfl, -⟩ := h8; exact CX.mk (k := 0) hR6 hW9 (by rw [hop]; rfl) rfl))
      rintro _ Mz ⟨rfl, hMz, h9⟩
      exact h9.elim
    refine x_aload_n hC dX1_parse_59 rfl rfl ?_
    refine x_get hC 2 hR5.1 rfl (by decide) q231 rfl rfl dX1_parse_60 ?_
    refine x_if_ne (tgt := 70) hC dX1_parse_63 (by decide) (fun d0 => ?_) (fun d0 => ?_)
    · refine x_iconst (v := 0) hC dX1_parse_70 (by decide) ?_
      exact fin _ (xB_f id).symm
    · exfalso
      have hk : 1 ≤ k ∧ k < 5 := pTx_k hpx
      have h8 : ∀ k, k < 5 → 1 ≤ k → ¬ nI k = 0 := by decide
      exact h8 k hk.2 hk.1 d0
  have hF7 : Fr (P9 c) M1 M4 := hF5.tr hF6
  have hR4 := hR3.p9 hc1 hF7
  have ho := hR3.old hc1
  have hop : opParse S = (0, nI R.length, (R, [], none, [], (0, -1), sT S)) := by
    unfold opParse
    rw [show pAll (sB S) = .ok R from hpx]
  have m1 := hR4.1
  have hnd := List.nodup_cons.mp hR4.2.2.2.2.2.2.1
  obtain ⟨hR5, hF8⟩ := hR4.put (ar' := c) (fm' := fm) (sv' := sv) (R' := R) (V' := sV S) (B' := []) (E' := ((0 : Int32), (-1 : Int32))) (t' := sT S) hR4.2.1.2 ⟨⟨Lr, hA4⟩, hWR⟩ hR4.2.2.2.2.1 hR4.2.2.2.2.2.1 (List.nodup_cons.mpr ⟨fun z => ho c (List.mem_cons_of_mem _ z) rfl, hnd.2⟩)
  refine x_put hC 4 m1 (by decide) rfl (by decide) q233 rfl rfl rfl rfl rfl (show 4 < 8 by decide) (fs' := aF bu (nI ([] : List Nat).length) (sE S).1 (sE S).2 c dq sv fm) rfl dX1_parse_26 ?_
  refine x_aload_n hC dX1_parse_29 rfl rfl ?_
  refine x_iconst (v := 0) hC dX1_parse_30 (by decide) ?_
  refine x_put hC 2 mu_s (by decide) rfl (by decide) q231 rfl rfl rfl rfl rfl (show 2 < 8 by decide) (fs' := aF bu (nI ([] : List Nat).length) 0 (sE S).2 c dq sv fm) rfl dX1_parse_31 ?_
  rw [mu_mu]
  refine x_aload_n hC dX1_parse_34 rfl rfl ?_
  refine x_iconst (v := -1) hC dX1_parse_35 (by decide) ?_
  refine x_put hC 3 mu_s (by decide) rfl (by decide) q232 rfl rfl rfl rfl rfl (show 3 < 8 by decide) (fs' := aF bu (nI ([] : List Nat).length) 0 (-1) c dq sv fm) rfl dX1_parse_36 ?_
  rw [mu_mu]
  generalize mu M4 a (ob 1 1 (aF bu (nI ([] : List Nat).length) 0 (-1) c dq sv fm)) = M5 at hR5 hF8 ⊢
  have n1 := hR5.1
  refine x_goto (tgt := 59) hC dX1_parse_39 (by decide) ?_
  refine x_aload_n hC dX1_parse_59 rfl rfl ?_
  refine x_get hC 2 n1 rfl (by decide) q231 rfl rfl dX1_parse_60 ?_
  refine x_if_ne (tgt := 70) hC dX1_parse_63 (by decide) (fun d0 => ?_) (fun d0 => ?_)
  · exact absurd rfl d0
  · refine x_iconst (v := 1) hC dX1_parse_66 (by decide) ?_
    refine x_goto (tgt := 71) hC dX1_parse_67 (by decide) ?_
    rw [show (1 : Int32) = xB True from (xB_t trivial).symm]
    refine x_qS (k := 22006) (n := 80093) (na := 1) hC (cq_reqIAE hG True _) (lw_S q1337 q1338 q81 q1339) (by decide +kernel) rfl ⟨Nat.le_of_ble_eq_true rfl, Nat.le_of_ble_eq_true rfl⟩ rfl (Nat.le_of_ble_eq_true rfl) (Nat.le_of_ble_eq_true rfl) (Nat.le_of_ble_eq_true rfl) ⟨Nat.le_of_ble_eq_true rfl, Nat.le_of_ble_eq_true rfl⟩ dX1_parse_71 ?_ (fun q8 E8 M8 h8 => absurd trivial h8.2.2)
    rintro _ M6 ⟨rfl, hM6, -⟩
    subst hM6
    obtain ⟨vq, hq⟩ := hR5.2.2.2.1.1.rec
    refine x_aload_n hC dX1_parse_74 rfl rfl ?_
    refine x_get hC 5 n1 rfl (by decide) q234 rfl rfl dX1_parse_75 ?_
    refine x_callV0 (na := 0) hC (ct_dqClear hG (by decide) hR5.2.2.2.1.1) (lw_V q1501 q1502 q1503 q88 q1504) hq rfl rfl (by decide +kernel) rfl ⟨Nat.le_of_ble_eq_true rfl, Nat.le_of_ble_eq_true rfl⟩ rfl (Nat.le_of_ble_eq_true rfl) ⟨rfl, rfl⟩ ⟨Nat.le_of_ble_eq_true rfl, Nat.le_of_ble_eq_true rfl⟩ dX1_parse_78 ?_
    rintro _ M7 ⟨rfl, hD, hF9⟩
    have q1 := hF9.z (by decide) n1
    first
      | refine x_aload_n hC dX1_parse_81 rfl rfl ?_
      | refine x_aload_nN hC dX1_parse_81 rfl rfl ?_
      | refine x_aload_nV hC dX1_parse_81 rfl rfl ?_
    refine x_null hC dX1_parse_82 ?_
    refine x_put hC 6 q1 (by decide) rfl (by decide) q235 rfl rfl rfl rfl rfl (show 6 < 8 by decide) (fs' := aF bu (nI ([] : List Nat).length) 0 (-1) c dq none fm) rfl dX1_parse_83 ?_
    have hF10 : Fr (fun g => g = 1) M7 (mu M7 a (ob 1 1 (aF bu (nI ([] : List Nat).length) 0 (-1) c dq none fm))) := Fr.set q1 rfl
    obtain ⟨-, ⟨u1, u2⟩, ⟨u3, u4⟩, -, -, u6, -, u8⟩ := hR5
    have f4 : ∀ c g, PA c g → ¬ g = 4 := fun c g z => by have := z.1; omega
    have f1 : ∀ c g, PA c g → ¬ g = 1 := fun c g z => by have := z.1; omega
    have hab : a ≠ bu := fun e => by rw [← e, n1] at u1; cases u1
    have v3 : AM (mu M7 a (ob 1 1 (aF bu (nI ([] : List Nat).length) 0 (-1) c dq none fm))) T c R := (u3.fr hF9 (by decide) (by decide) (f4 c)).fr hF10 (by decide) (by decide) (f1 c)
    have hR7 : CRp (R, [], none, [], (0, -1), sT S) (mu M7 a (ob 1 1 (aF bu (nI ([] : List Nat).length) 0 (-1) c dq none fm))) T a bu c dq none fm bf [] := ⟨mu_s, ⟨mu_o (Ne.symm hab) (hF9.z (by decide) u1), Nat.zero_le _, fun i c hc => by cases hc⟩, ⟨v3, hWR⟩, ⟨hD.fr hF10 (by decide), rfl, Nat.zero_le _, fun i c R h _ => by cases h⟩, Or.inl ⟨rfl, rfl⟩, (u6.fr hF9 (by decide)).fr hF10 (by decide), by simp, hF10.z (by decide) (hF9.z (by decide) u8)⟩
    have hW9 : Fr PW M0 (mu M7 a (ob 1 1 (aF bu (nI ([] : List Nat).length) 0 (-1) c dq none fm))) := (((w1.tr (hF7.wk P9_pw)).tr (hF8.wk fun g e => by subst e; exact ⟨by decide, by decide, by decide⟩)).tr (hF9.wk fun g e => by subst e; exact ⟨by decide, by decide, by decide⟩)).tr (hF10.wk fun g e => by subst e; exact ⟨by decide, by decide, by decide⟩)
    generalize mu M7 a (ob 1 1 (aF bu (nI ([] : List Nat).length) 0 (-1) c dq none fm)) = M8 at hR7 hW9 v3 ⊢
    obtain ⟨L', v3'⟩ := v3
    obtain ⟨l, m, b1, b2, b4⟩ := v3'.rec
    obtain ⟨vl, hl⟩ := b2.rec
    refine x_aload_n hC dX1_parse_86 rfl rfl ?_
    refine x_get hC 4 hR7.1 rfl (by decide) q233 rfl rfl dX1_parse_87 ?_
    refine x_getN hC 0 b1 rfl (by decide) q203 rfl rfl dX1_parse_90 ?_
    refine x_callV0 (na := 0) hC (ct_alSize hG b2) (lw_V q266 q267 q268 q85 q269) hl rfl rfl (by decide +kernel) rfl ⟨Nat.le_of_ble_eq_true rfl, Nat.le_of_ble_eq_true rfl⟩ rfl (Nat.le_of_ble_eq_true rfl) ⟨rfl, rfl⟩ ⟨Nat.le_of_ble_eq_true rfl, Nat.le_of_ble_eq_true rfl⟩ dX1_parse_93 ?_
    rintro _ M ⟨rfl, rfl⟩
    exact x_iret hC hk dX1_parse_96 (Nat.le_of_ble_eq_true rfl) (Nat.le_of_ble_eq_true rfl) ⟨by rw [hop], by rw [hop, b4], by rw [hop]; exact ⟨_, _, _, _, _, _, _, hR7⟩, hW9⟩
theorem ct_cinit (hG : GOK G) (hT0 : T0 G T) (hT : T2 G T) (h0 : M0c T M) (hM : M2c T M) (h : M a = some (ob 1 1 [.null, .int 0, .int 0, .int 0, .null, .null, .null, .null])) : Ct G yX1_init cX1_init 1 none (xrm 6 6 940) [.ref a] M (fun r M' => r = none ∧ CRep ([], [], none, [], (0, -1), []) M' T a ∧ Fr PW M M') := by
  refine ct_open (lv := [_]) hG (by decide +kernel) (Nat.le_of_ble_eq_true rfl) rfl (fun C hC hk => ?_)
  obtain ⟨M0, hM0⟩ : ∃ M0, M0 = M := ⟨M, rfl⟩
  rw [← hM0] at hk
  have hF : Fm M0 M := by rw [hM0]; exact Fr.rf
  subst hM0
  refine x_aload_n hC dX1_init_0 rfl rfl ?_
  refine x_objInit hC q131 q132 q133 dX1_init_1 (Nat.le_of_ble_eq_true rfl) ⟨Nat.le_of_ble_eq_true rfl, Nat.le_of_ble_eq_true rfl⟩ ?_
  refine x_aload_n hC dX1_init_4 rfl rfl ?_
  refine x_sipush (v := nI 900) hC dX1_init_5 (by decide) ?_
  refine x_newb hC 900 1 q169 (by decide) rfl (by omega) (Nat.le_of_ble_eq_true rfl) (Nat.le_of_ble_eq_true rfl) dX1_init_8 (fun bu hbu => ?_)
  have hab : a ≠ bu := mu_ne hbu h
  refine x_putF hC 0 (mu_f hbu h) (by decide) rfl (by decide) q229 rfl rfl rfl rfl rfl rfl rfl (show 0 < 8 by decide) (fs' := [.ref bu, .int 0, .int 0, .int 0, .null, .null, .null, .null]) rfl dX1_init_10 ?_
  refine x_aload_n hC dX1_init_13 rfl rfl ?_
  refine x_iconst (v := -1) hC dX1_init_14 (by decide) ?_
  refine x_put hC 3 mu_s (by decide) rfl (by decide) q232 rfl rfl rfl rfl rfl (show 3 < 8 by decide) (fs' := [.ref bu, .int 0, .int 0, .int (-1), .null, .null, .null, .null]) rfl dX1_init_15 ?_
  rw [mu_mu]
  have hF1 : Fr PW M0 (mu (mu M0 bu (ba 1 900 (fun _ => 0))) a (ob 1 1 [.ref bu, .int 0, .int 0, .int (-1), .null, .null, .null, .null])) := (Fr.new hbu).tr (Fr.set (mu_f hbu h) ⟨by decide, by decide, by decide⟩)
  have g1 : (mu (mu M0 bu (ba 1 900 (fun _ => 0))) a (ob 1 1 [.ref bu, .int 0, .int 0, .int (-1), .null, .null, .null, .null])) a = some (ob 1 1 [.ref bu, .int 0, .int 0, .int (-1), .null, .null, .null, .null]) := mu_s
  have g2 : (mu (mu M0 bu (ba 1 900 (fun _ => 0))) a (ob 1 1 [.ref bu, .int 0, .int 0, .int (-1), .null, .null, .null, .null])) bu = some (ba 1 900 (fun _ => 0)) := mu_o (Ne.symm hab) mu_s
  have nz : ¬ PW 0 := fun z => z.1 rfl
  have h01 := hF1.z nz h0
  have hM1 : M2c T (mu (mu M0 bu (ba 1 900 (fun _ => 0))) a (ob 1 1 [.ref bu, .int 0, .int 0, .int (-1), .null, .null, .null, .null])) := ⟨hM.1.fr hF1 nz, hM.2.fr hF1 nz⟩
  generalize mu (mu M0 bu (ba 1 900 (fun _ => 0))) a (ob 1 1 [.ref bu, .int 0, .int 0, .int (-1), .null, .null, .null, .null]) = M1 at hF1 g1 g2 h01 hM1 ⊢
  refine x_aload_n hC dX1_init_18 rfl rfl ?_
  refine x_new (ci := 2) (T := TX2) (N := 2) hC 3 [.null, .null] rfl q134 q135 q82 tyX2 tyX2_ok (by decide) (by decide +kernel) (Nat.le_of_ble_eq_true rfl) (Nat.le_of_ble_eq_true rfl) dX1_init_19 (fun ar har => ?_)
  refine x_dup hC dX1_init_22 rfl ?_
  refine x_tag (tA ar) mu_s (by decide) ?_
  rw [mu_mu]
  have n1 : ¬ PA ar 1 := fun z => by have := z.1; omega
  refine x_callIN (k := 4) (n := 913) (na := 0) hC (ct_arInit hG hT0 (mu_f har h01) mu_s) q138 q137 q82 q136 rfl (by decide +kernel) rfl ⟨Nat.le_of_ble_eq_true rfl, Nat.le_of_ble_eq_true rfl⟩ rfl (Nat.le_of_ble_eq_true rfl) (Nat.le_of_ble_eq_true rfl) (Nat.le_of_ble_eq_true rfl) ⟨Nat.le_of_ble_eq_true rfl, Nat.le_of_ble_eq_true rfl⟩ dX1_init_23 ?_
  rintro _ M2 ⟨rfl, hA, hF2⟩
  have g3 := hF2.z n1 (mu_f har g1)
  have g4 := hF2.z n1 (mu_f har g2)
  have hF3 : Fr PW M1 M2 := (Fr.new har).tr (hF2.wk fun g z => by have := z.1; exact ⟨by omega, by omega, by omega⟩)
  have hM2 : M2c T M2 := ⟨hM1.1.fr hF3 nz, hM1.2.fr hF3 nz⟩
  have h02 := hF3.z nz h01
  refine x_put hC 4 g3 (by decide) rfl (by decide) q233 rfl rfl rfl rfl rfl (show 4 < 8 by decide) (fs' := [.ref bu, .int 0, .int 0, .int (-1), .ref ar, .null, .null, .null]) rfl dX1_init_26 ?_
  have hF4 : Fr (fun g => g = 1) M2 (mu M2 a (ob 1 1 [.ref bu, .int 0, .int 0, .int (-1), .ref ar, .null, .null, .null])) := Fr.set g3 rfl
  have f1 : ∀ c g, PA c g → ¬ g = 1 := fun c g z => by have := z.1; omega
  have hA4 := hA.fr hF4 (by decide) (by decide) (f1 ar)
  have g5 : (mu M2 a (ob 1 1 [.ref bu, .int 0, .int 0, .int (-1), .ref ar, .null, .null, .null])) a = some (ob 1 1 [.ref bu, .int 0, .int 0, .int (-1), .ref ar, .null, .null, .null]) := mu_s
  have g6 : (mu M2 a (ob 1 1 [.ref bu, .int 0, .int 0, .int (-1), .ref ar, .null, .null, .null])) bu = some (ba 1 900 (fun _ => 0)) := mu_o (Ne.symm hab) g4
  have h04 := hF4.z (by decide) h02
  have hM4 := hM2.fr hF4 (by decide)
  generalize mu M2 a (ob 1 1 [.ref bu, .int 0, .int 0, .int (-1), .ref ar, .null, .null, .null]) = M4 at hF4 hA4 g5 g6 h04 hM4 ⊢
  refine x_aload_n hC dX1_init_29 rfl rfl ?_
  refine x_new (ci := 10) (T := TJ5) (N := 3) hC 4 [.null, .int 0, .int 0] rfl q210 q211 q88 tyJ5 tyJ5_ok (by decide) (by decide +kernel) (Nat.le_of_ble_eq_true rfl) (Nat.le_of_ble_eq_true rfl) dX1_init_30 (fun dq hdq => ?_)
  refine x_dup hC dX1_init_33 rfl ?_
  refine x_callI (k := 6) (n := 933) (na := 0) hC (ct_dqInit (g := 4) hG (by decide) mu_s) q214 q88 q212 q213 rfl (by decide +kernel) rfl ⟨Nat.le_of_ble_eq_true rfl, Nat.le_of_ble_eq_true rfl⟩ rfl (Nat.le_of_ble_eq_true rfl) (Nat.le_of_ble_eq_true rfl) (Nat.le_of_ble_eq_true rfl) ⟨Nat.le_of_ble_eq_true rfl, Nat.le_of_ble_eq_true rfl⟩ dX1_init_34 ?_
  rintro _ M5 ⟨rfl, hD, hF5⟩
  have hF6 : Fr (fun g => g = 4) M4 M5 := (Fr.new hdq).tr hF5
  have g7 := hF6.z (by decide) g5
  have g8 := hF6.z (by decide) g6
  have f4 : ∀ c g, PA c g → ¬ g = 4 := fun c g z => by have := z.1; omega
  have hA5 := hA4.fr hF6 (by decide) (by decide) (f4 ar)
  refine x_putF hC 5 g7 (by decide) rfl (by decide) q234 rfl rfl rfl rfl rfl rfl rfl (show 5 < 8 by decide) (fs' := [.ref bu, .int 0, .int 0, .int (-1), .ref ar, .ref dq, .null, .null]) rfl dX1_init_37 ?_
  refine x_aload_n hC dX1_init_40 rfl rfl ?_
  refine x_ldcS hC hT.2.2.2.2 dX1_init_41 ?_
  refine x_put hC 7 mu_s (by decide) rfl (by decide) q236 rfl rfl rfl rfl rfl (show 7 < 8 by decide) (fs' := aF bu 0 0 (-1) ar dq none (T 3)) rfl dX1_init_43 ?_
  rw [mu_mu]
  have hF7 : Fr (fun g => g = 1) M5 (mu M5 a (ob 1 1 (aF bu 0 0 (-1) ar dq none (T 3)))) := Fr.set g7 rfl
  have hR : CRp ([], [], none, [], (0, -1), []) (mu M5 a (ob 1 1 (aF bu 0 0 (-1) ar dq none (T 3)))) T a bu ar dq none (T 3) (fun _ => 0) [] := ⟨mu_s, ⟨mu_o (Ne.symm hab) g8, Nat.zero_le _, fun i c hc => by cases hc⟩, ⟨⟨[], hA5.fr hF7 (by decide) (by decide) (f1 ar)⟩, Nat.zero_le _, (fun r h => by cases h), List.nodup_nil⟩, ⟨hD.fr hF7 (by decide), rfl, Nat.zero_le _, fun i c R h _ => by cases h⟩, Or.inl ⟨rfl, rfl⟩, (hM4.1.fr hF6 (by decide)).fr hF7 (by decide), by simp, hF7.z (by decide) (hF6.z (by decide) h04)⟩
  exact x_vret hC hk dX1_init_46 (Nat.le_of_ble_eq_true rfl) (Nat.le_of_ble_eq_true rfl) ⟨rfl, ⟨_, _, _, _, _, _, _, hR⟩, (hF1.tr hF3).tr (((hF4.wk fun g e => by subst e; exact ⟨by decide, by decide, by decide⟩).tr (hF6.wk fun g e => by subst e; exact ⟨by decide, by decide, by decide⟩)).tr (hF7.wk fun g e => by subst e; exact ⟨by decide, by decide, by decide⟩))⟩
end CPA

