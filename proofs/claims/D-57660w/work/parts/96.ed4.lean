/-! ===== save, restore, truncate, append ===== -/
/-- the analyzer's fields set anew -/
theorem CRp.put {S : X_S} {M : X_M} {T : X_T} {a bu ar dq : Nat} {sv : Option Nat} {fm : Nat} {bf : Nat → Int32} {H : List Nat} (h : CRp S M T a bu ar dq sv fm bf H) {ar' fm' : Nat} {sv' : Option Nat} {R' : List Rcd} {V' : Option (List Rcd)} {B' : List Nat} {E' : Int32 × Int32} {t' : List Nat} (hB : B'.length ≤ 900 ∧ ∀ (i c : Nat), B'[i]? = some c → c < 256 ∧ bf i = sb_b c) (hA : AM M T ar' R' ∧ WfR R') (hV : (V' = none ∧ sv' = none) ∨ ∃ s R, V' = some R ∧ sv' = some s ∧ AM M T s R ∧ WfR R) (hf : SM M fm' t') (hnd : (ar' :: H ++ sv'.toList).Nodup) : CRp (R', sH S, V', B', E', t') (mu M a (ob 1 1 (aF bu (nI B'.length) E'.1 E'.2 ar' dq sv' fm'))) T a bu ar' dq sv' fm' bf H ∧ Fr (fun g => g = 1) M (mu M a (ob 1 1 (aF bu (nI B'.length) E'.1 E'.2 ar' dq sv' fm'))) := by
  obtain ⟨h1, h2, h3, h4, h5, h6, h7, h8⟩ := h
  have hF : Fr (fun g => g = 1) M (mu M a (ob 1 1 (aF bu (nI B'.length) E'.1 E'.2 ar' dq sv' fm'))) := fr_a h1
  have q0 : ¬ (0 : Nat) = 1 := by decide
  have q2 : ¬ (2 : Nat) = 1 := by decide
  have qA : ∀ c g, PA c g → ¬ g = 1 := fun c g z => by have := z.1; omega
  have hab : a ≠ bu := fun e => by have h9 := h2.1; rw [← e, h1] at h9; cases h9
  refine ⟨⟨mu_s, ⟨mu_o (Ne.symm hab) h2.1, hB⟩, ⟨hA.1.fr hF q0 q2 (qA _), hA.2⟩, ⟨h4.1.fr hF (by decide), h4.2.1, h4.2.2.1, fun i c R z1 z2 => ⟨(h4.2.2.2 i c R z1 z2).1.fr hF q0 q2 (qA c), (h4.2.2.2 i c R z1 z2).2⟩⟩, ?_, hf.fr hF q0, hnd, hF.z q0 h8⟩, hF⟩
  rcases hV with hV | ⟨s, R, y1, y2, y3, y4⟩
  · exact Or.inl hV
  · exact Or.inr ⟨s, R, y1, y2, y3.fr hF q0 q2 (qA s), y4⟩
theorem take_at {B : List Nat} {v i c : Nat} (h : (B.take v)[i]? = some c) : B[i]? = some c := by
  have h1 := (List.getElem?_eq_some_iff.mp h).1
  rw [List.length_take] at h1
  rw [List.getElem?_take_of_lt (by omega)] at h
  exact h
/-- the arithmetic shift's last byte -/
theorem byt_ar (w : Int32) (j : Nat) (hj : j < 4) : (w >>> ((nI 24 - nI (8 * j)) &&& 31)).toInt8.toInt32 = sb_b (byt w j).toBitVec.toNat := by
  have e := (byt_lt w j).2
  show _ = (nI _).toInt8.toInt32
  rw [← e]
  refine congrArg Int8.toInt32 (Int8.toBitVec_inj.mp ?_)
  have hs : ∀ s : Nat, s < 25 → (w >>> (nI s)).toInt8.toBitVec = (us w (nI s) &&& 255).toInt8.toBitVec := by
    intro s hs
    rw [Int32.toBitVec_toInt8, Int32.toBitVec_toInt8, Int32.toBitVec_and, Int32.toBitVec_shiftRight]
    have e1 : ((nI s).toBitVec.smod 32#32).toNat = s := by
      rw [show (nI s).toBitVec = BitVec.ofNat 32 s from rfl]
      revert s
      decide
    have e2 : (us w (nI s)).toBitVec = w.toBitVec >>> s := by
      show (w.toUInt32 >>> ((nI s).toUInt32 &&& Int32.toUInt32 31)).toBitVec = _
      rw [UInt32.toBitVec_shiftRight]
      have e3 : (((nI s).toUInt32 &&& Int32.toUInt32 31).toBitVec % 32).toNat = s := by
        rw [show (nI s).toUInt32 = ⟨BitVec.ofNat 32 s⟩ from rfl]
        revert s
        decide
      show w.toBitVec >>> (((nI s).toUInt32 &&& Int32.toUInt32 31).toBitVec % 32) = _
      rw [BitVec.ushiftRight_eq', e3]
    rw [e2]
    show BitVec.signExtend 8 (w.toBitVec.sshiftRight ((nI s).toBitVec.smod 32#32).toNat) = _
    rw [e1, BitVec.signExtend_eq_setWidth_of_le _ (by decide), BitVec.signExtend_eq_setWidth_of_le _ (by decide)]
    ext i hi
    simp only [BitVec.getElem_setWidth, BitVec.getLsbD_sshiftRight, BitVec.getLsbD_and, BitVec.getLsbD_ushiftRight]
    have h1 : ¬ (32 ≤ i) := by omega
    have h2 : s + i < 32 := by omega
    have h3 : (255#32).getLsbD i = true := (by decide : ∀ i, i < 8 → (255#32).getLsbD i = true) i hi
    simp [h1, h2, h3]
  have h24 : ∀ j, j < 4 → (nI 24 - nI (8 * j)) &&& 31 = nI (24 - 8 * j) := by decide
  rw [h24 j hj]
  exact hs _ (by omega)
section ED4
variable {G : X_G} {M : X_M} {T : X_T} {a : Nat} {S : X_S}
theorem cq_save (hG : GOK G) (hT : T0 G T) (hR : CRep S M T a) : Ct G yX1_save cX1_save 1 (some .int) (xrm 14 22 197) [.ref a] M (CO T a (opSave S).2.2 (opSave S).1 (.int (opSave S).2.1) M) := by
  obtain ⟨bu, ar, dq, sv, fm, bf, H, hR2⟩ := id hR
  obtain ⟨h1, h2, ⟨⟨L, h3⟩, h3w⟩, h4, h5, h6, h7, h8⟩ := id hR2
  obtain ⟨l, m, a1, a2, a4⟩ := h3.rec
  refine ct_open (lv := [_]) hG (by decide +kernel) (Nat.le_of_ble_eq_true rfl) rfl (fun C hC hk => ?_)
  obtain ⟨M0, hM0⟩ : ∃ M0, M0 = M := ⟨M, rfl⟩
  rw [← hM0] at hk
  have hF : Fm M0 M := by rw [hM0]; exact Fr.rf
  subst hM0
  refine x_aload_n hC dX1_save_0 rfl rfl ?_
  refine x_aload_n hC dX1_save_1 rfl rfl ?_
  refine x_get hC 4 h1 rfl (by decide) q233 rfl rfl dX1_save_2 ?_
  refine x_callV (k := 22) (n := 197) (na := 0) hC (ct_arCopy hG hT h8 h3 h3w.1 h3w.2.2) (lw_V q1053 q1054 q1055 q82 q1056) a1 rfl rfl (by decide +kernel) rfl ⟨Nat.le_of_ble_eq_true rfl, Nat.le_of_ble_eq_true rfl⟩ rfl (Nat.le_of_ble_eq_true rfl) (Nat.le_of_ble_eq_true rfl) (Nat.le_of_ble_eq_true rfl) ⟨Nat.le_of_ble_eq_true rfl, Nat.le_of_ble_eq_true rfl⟩ dX1_save_5 ?_
  rintro _ M2 ⟨q, rfl, hq0, hA2, hF2⟩
  have hR3 := hR2.pc hq0 hF2
  have ho := hR2.old hq0
  have hnd := List.nodup_append.mp h7
  obtain ⟨hR4, hF4⟩ := hR3.put (ar' := ar) (fm' := fm) (sv' := some q) (R' := sR S) (V' := some (sR S)) (B' := sB S) (E' := sE S) (t' := sT S) hR3.2.1.2 hR3.2.2.1 (Or.inr ⟨q, sR S, rfl, rfl, ⟨L, hA2⟩, h3w⟩) hR3.2.2.2.2.2.1 (List.nodup_append.mpr ⟨hnd.1, List.nodup_cons.mpr ⟨List.not_mem_nil, List.nodup_nil⟩, fun x hx z hz => by rw [List.mem_singleton.mp hz]; exact ho x (List.mem_append_left _ hx)⟩)
  refine x_put hC 6 hR3.1 (by decide) rfl (by decide) q235 rfl rfl rfl rfl rfl (show 6 < 8 by decide) (fs' := aF bu (nI (sB S).length) (sE S).1 (sE S).2 ar dq (some q) fm) rfl dX1_save_8 ?_
  generalize mu M2 a (ob 1 1 (aF bu (nI (sB S).length) (sE S).1 (sE S).2 ar dq (some q) fm)) = M3 at hR4 hF4 ⊢
  obtain ⟨k1, -, ⟨⟨L', k3⟩, -⟩, -⟩ := id hR4
  obtain ⟨l', m', b1, b2, b4⟩ := k3.rec
  obtain ⟨vl, hl⟩ := b2.rec
  refine x_aload_n hC dX1_save_11 rfl rfl ?_
  refine x_get hC 4 k1 rfl (by decide) q233 rfl rfl dX1_save_12 ?_
  refine x_getN hC 0 b1 rfl (by decide) q203 rfl rfl dX1_save_15 ?_
  refine x_callV0 (na := 0) hC (ct_alSize hG b2) (lw_V q266 q267 q268 q85 q269) hl rfl rfl (by decide +kernel) rfl ⟨Nat.le_of_ble_eq_true rfl, Nat.le_of_ble_eq_true rfl⟩ rfl (Nat.le_of_ble_eq_true rfl) ⟨rfl, rfl⟩ ⟨Nat.le_of_ble_eq_true rfl, Nat.le_of_ble_eq_true rfl⟩ dX1_save_18 ?_
  rintro _ M ⟨rfl, rfl⟩
  exact x_iret hC hk dX1_save_21 (Nat.le_of_ble_eq_true rfl) (Nat.le_of_ble_eq_true rfl) ⟨rfl, by rw [b4]; rfl, ⟨bu, ar, dq, some q, fm, bf, H, hR4⟩, pe_pw ((hF2.wk PC_pe).tr (pe1 hF4))⟩
theorem cq_restore (hG : GOK G) (hT : T0 G T) (hR : CRep S M T a) : Cq G yX1_restore cX1_restore 1 (some .int) (xrm 14 45 400) [.ref a] M (CO T a (opRestore S).2.2 (opRestore S).1 (.int (opRestore S).2.1) M) (CX T a S (opRestore S).1 [xISE] M) := by
  obtain ⟨bu, ar, dq, sv, fm, bf, H, hR2⟩ := id hR
  obtain ⟨h1, h2, h3, h4, h5, h6, h7, h8⟩ := hR2
  refine cq_open (lv := [_]) hG (by decide +kernel) (Nat.le_of_ble_eq_true rfl) rfl (fun C hC hk hx => ?_)
  refine x_aload_n hC dX1_restore_0 rfl rfl ?_
  refine x_get hC 6 h1 rfl (by decide) q235 rfl rfl dX1_restore_1 ?_
  refine x_ifnullV (tgt := 11) hC dX1_restore_4 (by decide) (fun hn => ?_) (fun s hs => ?_)
  · have hV : sV S = none := by
      rcases h5 with h5 | ⟨s, R, y1, y2, y3, y4⟩
      · exact h5.1
      · rw [hn] at y2; cases y2
    refine x_iconst (v := 0) hC dX1_restore_11 (by decide) ?_
    refine x_qS (k := 1) (n := 6) (na := 1) hC (cq_reqISE hG False _) (lw_S q1306 q1307 q81 q1308) (by decide +kernel) rfl ⟨Nat.le_of_ble_eq_true rfl, Nat.le_of_ble_eq_true rfl⟩ rfl (Nat.le_of_ble_eq_true rfl) (Nat.le_of_ble_eq_true rfl) (Nat.le_of_ble_eq_true rfl) ⟨Nat.le_of_ble_eq_true rfl, Nat.le_of_ble_eq_true rfl⟩ dX1_restore_12 ?_ (fun q9 E9 M9 h9 => x_out hC hx (Nat.le_of_ble_eq_true rfl) (Nat.le_of_ble_eq_true rfl) (by obtain ⟨rfl, rfl, h9⟩ := h9; exact CX.same (k := 0) hR (by unfold opRestore; rw [hV]; rfl) rfl))
    rintro _ M ⟨rfl, rfl, h9⟩
    exact h9.elim
  · obtain ⟨R, hV⟩ : ∃ R, sV S = some R := by
      rcases h5 with h5 | ⟨s, R, y1, y2, y3, y4⟩
      · rw [h5.2] at hs; cases hs
      · exact ⟨R, y1⟩
    have hop : opRestore S = (0, nI R.length, (R, hP (sH S) (sR S), sV S, sB S, sE S, sT S)) := by unfold opRestore; rw [hV]; rfl
    refine x_iconst (v := 1) hC dX1_restore_7 (by decide) ?_
    refine x_goto (tgt := 12) hC dX1_restore_8 (by decide) ?_
    refine x_qS (k := 1) (n := 6) (na := 1) hC (cq_reqISE hG True _) (lw_S q1306 q1307 q81 q1308) (by decide +kernel) rfl ⟨Nat.le_of_ble_eq_true rfl, Nat.le_of_ble_eq_true rfl⟩ rfl (Nat.le_of_ble_eq_true rfl) (Nat.le_of_ble_eq_true rfl) (Nat.le_of_ble_eq_true rfl) ⟨Nat.le_of_ble_eq_true rfl, Nat.le_of_ble_eq_true rfl⟩ dX1_restore_12 ?_ (fun q9 E9 M9 h9 => x_out hC hx (Nat.le_of_ble_eq_true rfl) (Nat.le_of_ble_eq_true rfl) (by obtain ⟨rfl, rfl, h9⟩ := h9; exact absurd trivial h9))
    rintro _ M ⟨rfl, rfl, h9⟩
    refine x_aload_n hC dX1_restore_15 rfl rfl ?_
    refine x_callV (k := 23) (n := 203) (na := 0) hC (ct_beginEdit hG hT hR) (lw_V q1973 q1975 qs22 q81 q1976) h1 rfl rfl (by decide +kernel) rfl ⟨Nat.le_of_ble_eq_true rfl, Nat.le_of_ble_eq_true rfl⟩ rfl (Nat.le_of_ble_eq_true rfl) (Nat.le_of_ble_eq_true rfl) (Nat.le_of_ble_eq_true rfl) ⟨Nat.le_of_ble_eq_true rfl, Nat.le_of_ble_eq_true rfl⟩ dX1_restore_16 ?_
    rintro _ M2 ⟨rfl, ⟨bu, ar, dq, sv, fm, bf, H, hR2⟩, hF1⟩
    obtain ⟨k1, k2, k3, k4, k5, k6, k7, k8⟩ := id hR2
    have hV2 : sV (pushS S) = some R := hV
    obtain ⟨s, rfl, ⟨L, k3s⟩, hWR⟩ : ∃ s, sv = some s ∧ AM M2 T s R ∧ WfR R := by
      rcases k5 with k5 | ⟨s, R', y1, y2, y3, y4⟩
      · rw [k5.1] at hV2; cases hV2
      · rw [hV2] at y1; cases y1; exact ⟨s, y2, y3, y4⟩
    obtain ⟨l, m, a1, a2, a4⟩ := k3s.rec
    refine x_aload_n hC dX1_restore_19 rfl rfl ?_
    refine x_aload_n hC dX1_restore_20 rfl rfl ?_
    refine x_get hC 6 k1 rfl (by decide) q235 rfl rfl dX1_restore_21 ?_
    refine x_callV (k := 45) (n := 400) (na := 0) hC (ct_arCopy hG hT k8 k3s hWR.1 hWR.2.2) (lw_V q1053 q1054 q1055 q82 q1056) a1 rfl rfl (by decide +kernel) rfl ⟨Nat.le_of_ble_eq_true rfl, Nat.le_of_ble_eq_true rfl⟩ rfl (Nat.le_of_ble_eq_true rfl) (Nat.le_of_ble_eq_true rfl) (Nat.le_of_ble_eq_true rfl) ⟨Nat.le_of_ble_eq_true rfl, Nat.le_of_ble_eq_true rfl⟩ dX1_restore_24 ?_
    rintro _ M3 ⟨q, rfl, hq0, hA2, hF2⟩
    have hR3 := hR2.pc hq0 hF2
    have ho := hR2.old hq0
    have hnd := List.nodup_cons.mp k7
    obtain ⟨hR4, hF4⟩ := hR3.put (ar' := q) (fm' := fm) (sv' := some s) (R' := R) (V' := sV S) (B' := sB S) (E' := sE S) (t' := sT S) hR3.2.1.2 ⟨⟨L, hA2⟩, hWR⟩ hR3.2.2.2.2.1 hR3.2.2.2.2.2.1 (List.nodup_cons.mpr ⟨fun z => ho q (List.mem_cons_of_mem _ z) rfl, hnd.2⟩)
    refine x_put hC 4 hR3.1 (by decide) rfl (by decide) q233 rfl rfl rfl rfl rfl (show 4 < 8 by decide) (fs' := aF bu (nI (sB S).length) (sE S).1 (sE S).2 q dq (some s) fm) rfl dX1_restore_27 ?_
    generalize mu M3 a (ob 1 1 (aF bu (nI (sB S).length) (sE S).1 (sE S).2 q dq (some s) fm)) = M4 at hR4 hF4 ⊢
    obtain ⟨k1, -, ⟨⟨L', k3⟩, -⟩, -⟩ := id hR4
    obtain ⟨l', m', b1, b2, b4⟩ := k3.rec
    obtain ⟨vl, hl⟩ := b2.rec
    refine x_aload_n hC dX1_restore_30 rfl rfl ?_
    refine x_get hC 4 k1 rfl (by decide) q233 rfl rfl dX1_restore_31 ?_
    refine x_getN hC 0 b1 rfl (by decide) q203 rfl rfl dX1_restore_34 ?_
    refine x_callV0 (na := 0) hC (ct_alSize hG b2) (lw_V q266 q267 q268 q85 q269) hl rfl rfl (by decide +kernel) rfl ⟨Nat.le_of_ble_eq_true rfl, Nat.le_of_ble_eq_true rfl⟩ rfl (Nat.le_of_ble_eq_true rfl) ⟨rfl, rfl⟩ ⟨Nat.le_of_ble_eq_true rfl, Nat.le_of_ble_eq_true rfl⟩ dX1_restore_37 ?_
    rintro _ M ⟨rfl, rfl⟩
    exact x_iret hC hk dX1_restore_40 (Nat.le_of_ble_eq_true rfl) (Nat.le_of_ble_eq_true rfl) ⟨by rw [hop], by rw [hop, b4], by rw [hop]; exact ⟨bu, q, dq, some s, fm, bf, H, hR4⟩, pe_pw ((hF1.tr (hF2.wk PC_pe)).tr (pe1 hF4))⟩
theorem cq_truncate (hG : GOK G) (hR : CRep S M T a) (x : Int32) : Cq G yX1_truncate cX1_truncate 2 (some .int) (xrm 8 1 6) [.ref a, .int x] M (CO T a (opTruncate S x).2.2 (opTruncate S x).1 (.int (opTruncate S x).2.1) M) (CX T a S (opTruncate S x).1 [xIAE] M) := by
  obtain ⟨bu, ar, dq, sv, fm, bf, H, hR2⟩ := id hR
  obtain ⟨h1, h2, h3, h4, h5, h6, h7, h8⟩ := id hR2
  refine cq_open (lv := [_, _]) hG (by decide +kernel) (Nat.le_of_ble_eq_true rfl) rfl (fun C hC hk hx => ?_)
  refine x_iload_n hC dX1_truncate_0 rfl rfl ?_
  refine x_iconst (v := 0) hC dX1_truncate_1 (by decide) ?_
  refine x_aload_n hC dX1_truncate_2 rfl rfl ?_
  refine x_get hC 1 h1 rfl (by decide) q230 rfl rfl dX1_truncate_3 ?_
  refine x_callS0 (na := 3) hC (ct_isBetween hG _ _ _ _) (lw_S q641 q642 q81 q643) (by decide +kernel) rfl ⟨Nat.le_of_ble_eq_true rfl, Nat.le_of_ble_eq_true rfl⟩ rfl (Nat.le_of_ble_eq_true rfl) ⟨rfl, rfl⟩ ⟨Nat.le_of_ble_eq_true rfl, Nat.le_of_ble_eq_true rfl⟩ dX1_truncate_6 ?_
  rintro _ M ⟨rfl, rfl⟩
  refine x_qS (k := 1) (n := 6) (na := 1) hC (cq_reqIAE hG _ _) (lw_S q1337 q1338 q81 q1339) (by decide +kernel) rfl ⟨Nat.le_of_ble_eq_true rfl, Nat.le_of_ble_eq_true rfl⟩ rfl (Nat.le_of_ble_eq_true rfl) (Nat.le_of_ble_eq_true rfl) (Nat.le_of_ble_eq_true rfl) ⟨Nat.le_of_ble_eq_true rfl, Nat.le_of_ble_eq_true rfl⟩ dX1_truncate_9 ?_ (fun q9 E9 M9 h9 => x_out hC hx (Nat.le_of_ble_eq_true rfl) (Nat.le_of_ble_eq_true rfl) (by obtain ⟨rfl, rfl, h9⟩ := h9; exact CX.same (k := 0) hR (by unfold opTruncate; rw [if_neg h9]; rfl) rfl))
  rintro _ M ⟨rfl, rfl, h9⟩
  have hop : opTruncate S x = (0, x, (sR S, sH S, sV S, (sB S).take x.toNatClampNeg, sE S, sT S)) := by unfold opTruncate; rw [if_pos h9]
  obtain ⟨v, rfl, v2, v3⟩ := nIz (by have := h2.2.1; omega) h9
  rw [v2] at hop
  have hlv : ((sB S).take v).length = v := by rw [List.length_take]; omega
  obtain ⟨hR4, hF4⟩ := hR2.put (ar' := ar) (fm' := fm) (sv' := sv) (R' := sR S) (V' := sV S) (B' := (sB S).take v) (E' := sE S) (t' := sT S) ⟨by rw [hlv]; have := h2.2.1; omega, fun i c hc => h2.2.2 i c (take_at hc)⟩ h3 h5 h6 h7
  rw [hlv] at hR4 hF4
  refine x_aload_n hC dX1_truncate_12 rfl rfl ?_
  refine x_iload_n hC dX1_truncate_13 rfl rfl ?_
  refine x_put hC 1 h1 (by decide) rfl (by decide) q230 rfl rfl rfl rfl rfl (show 1 < 8 by decide) (fs' := aF bu (nI v) (sE S).1 (sE S).2 ar dq sv fm) rfl dX1_truncate_14 ?_
  refine x_iload_n hC dX1_truncate_17 rfl rfl ?_
  exact x_iret hC hk dX1_truncate_18 (Nat.le_of_ble_eq_true rfl) (Nat.le_of_ble_eq_true rfl) ⟨by rw [hop], by rw [hop], by rw [hop]; exact ⟨bu, ar, dq, sv, fm, bf, H, hR4⟩, pe_pw (pe1 hF4)⟩
theorem sb_nar : ∀ c, c < 256 → vp_nar .byte (sb_b c) = sb_b c := by decide +kernel
/-- the shift of byte j -/
abbrev shv (j : Nat) : Int32 := nI 24 - nI (8 * j)
/-- the bytes of the first n places of the words g -/
def btN (g : Nat → Int32) (n : Nat) : List Nat := (List.range n).map fun k => (byt (g (k / 4)) (k % 4)).toBitVec.toNat
theorem btN_len {g : Nat → Int32} {n : Nat} : (btN g n).length = n := by unfold btN; rw [List.length_map, List.length_range]
theorem btN_at {g : Nat → Int32} {n k c : Nat} (h : (btN g n)[k]? = some c) : k < n ∧ c = (byt (g (k / 4)) (k % 4)).toBitVec.toNat := by
  have h1 := (List.getElem?_eq_some_iff.mp h).1
  rw [btN_len] at h1
  unfold btN at h
  rw [List.getElem?_map, List.getElem?_range h1] at h
  cases h
  exact ⟨h1, rfl⟩
theorem ct_appendWords (hG : GOK G) {bu ar dq fm w L : Nat} {sv : Option Nat} {e1 e2 : Int32} {bf g : Nat → Int32} (hab : a ≠ bu) (h1 : M a = some (ob 1 1 (aF bu (nI L) e1 e2 ar dq sv fm))) (h2 : M bu = some (ba 1 900 bf)) (hw : M w = some (ia 0 5 g)) (hL : L + 20 ≤ 900) : Ct G yX1_appendWords cX1_appendWords 7 none (xrm 1 0 0) [.ref a, .ref w] M (fun z M' => z = none ∧ Fr (fun g => g = 1) M M' ∧ M' a = some (ob 1 1 (aF bu (nI (L + 20)) e1 e2 ar dq sv fm)) ∧ ∃ bf', M' bu = some (ba 1 900 bf') ∧ (∀ k, k < L → bf' k = bf k) ∧ ∀ k, k < 20 → bf' (L + k) = sb_b (byt (g (k / 4)) (k % 4)).toBitVec.toNat) := by
  refine ct_open (lv := [_, _, _, _, _, _, _]) hG (by decide +kernel) (Nat.le_of_ble_eq_true rfl) rfl (fun C hC hk => ?_)
  obtain ⟨M0, hM0⟩ : ∃ M0, M0 = M := ⟨M, rfl⟩
  rw [← hM0] at hk
  have hF : Fm M0 M := by rw [hM0]; exact Fr.rf
  subst hM0
  refine x_aload_n hC dX1_appendWords_0 rfl rfl ?_
  refine x_astore_n (lv' := [_, _, _, _, _, _, _]) hC dX1_appendWords_1 rfl (by decide) rfl ?_
  refine x_aload_n hC dX1_appendWords_2 rfl rfl ?_
  refine x_alen hC hw dX1_appendWords_3 ?_
  dsimp only
  refine x_istore_n (lv' := [_, _, _, _, _, _, _]) hC dX1_appendWords_4 rfl (by decide) rfl ?_
  refine x_iconst (v := nI 0) hC dX1_appendWords_5 (by decide) ?_
  refine x_istore (lv' := [_, _, _, _, _, _, _]) hC dX1_appendWords_6 (by decide) rfl ?_
  refine x_up (n := 5) (I := fun i => ∀ M1 bf' w5 w6, Fr (fun g => g = 1) M0 M1 → M1 a = some (ob 1 1 (aF bu (nI (L + 4 * i)) e1 e2 ar dq sv fm)) → M1 bu = some (ba 1 900 bf') → (∀ k, k < L → bf' k = bf k) → (∀ k, k < 4 * i → bf' (L + k) = sb_b (byt (g (k / 4)) (k % 4)).toBitVec.toNat) → Wg G C M1 0 0 8 [some (.ref a), some (.ref w), some (.ref w), some (.int (nI 5)), some (.int (nI i)), w5, w6] []) (fun i hi ih M1 bf1 w5 w6 hF k1 k2 k3 k4 => ?_) 0 (Nat.zero_le _) M0 bf none none Fr.rf h1 h2 (fun _ _ => rfl) (fun k hk => absurd hk (Nat.not_lt_zero _))
  refine x_iload hC dX1_appendWords_8 rfl ?_
  refine x_iload_n hC dX1_appendWords_10 rfl rfl ?_
  refine x_icmp_geN (tgt := 66) hC (by omega) (by omega) dX1_appendWords_11 (by decide) (fun c => ?_) (fun c => ?_)
  · have e : i = 5 := by omega
    subst e
    exact x_vret hC hk dX1_appendWords_66 (Nat.le_of_ble_eq_true rfl) (Nat.le_of_ble_eq_true rfl) ⟨rfl, hF, k1, bf1, k2, k3, k4⟩
  · refine x_aload_n hC dX1_appendWords_14 rfl rfl ?_
    refine x_iload hC dX1_appendWords_15 rfl ?_
    refine x_ialdN hC (hF.z (by decide) hw) c (by first | decide | omega) dX1_appendWords_17 ?_
    refine x_istore (lv' := [_, _, _, _, _, _, _]) hC dX1_appendWords_18 (by decide) rfl ?_
    refine x_bipush (v := shv 0) hC dX1_appendWords_20 (by decide) ?_
    refine x_istore (lv' := [_, _, _, _, _, _, _]) hC dX1_appendWords_22 (by decide) rfl ?_
    refine x_up (n := 4) (I := fun j => ∀ M2 bf', Fr (fun g => g = 1) M0 M2 → M2 a = some (ob 1 1 (aF bu (nI (L + (4 * i + j))) e1 e2 ar dq sv fm)) → M2 bu = some (ba 1 900 bf') → (∀ k, k < L → bf' k = bf k) → (∀ k, k < 4 * i + j → bf' (L + k) = sb_b (byt (g (k / 4)) (k % 4)).toBitVec.toNat) → Wg G C M2 0 0 24 [some (.ref a), some (.ref w), some (.ref w), some (.int (nI 5)), some (.int (nI i)), some (.int (g i)), some (.int (shv j))] []) (fun j hj ih2 M2 bf2 hF2 l1 l2 l3 l4 => ?_) 0 (Nat.zero_le _) M1 bf1 hF k1 k2 k3 k4
    refine x_iload hC dX1_appendWords_24 rfl ?_
    refine x_if_lt (tgt := 60) hC dX1_appendWords_26 (by decide) (fun d => ?_) (fun d => ?_)
    · have e : j = 4 := by
        have : ∀ j, j < 4 → ¬ shv j < 0 := by decide
        rcases Nat.lt_or_ge j 4 with h | h
        · exact absurd d (this j h)
        · omega
      subst e
      refine x_iincN (lv' := [_, _, _, _, _, _, _]) (b := 1) hC dX1_appendWords_60 rfl (by decide) (by decide) rfl ?_
      refine x_goto (tgt := 8) hC dX1_appendWords_63 (by decide) ?_
      exact ih c M2 bf2 _ _ hF2 l1 l2 l3 l4
    · have hj4 : j < 4 := by
        rcases Nat.lt_or_ge j 4 with h | h
        · exact h
        · exact absurd (by rw [show j = 4 by omega]; decide) d
      refine x_aload_n hC dX1_appendWords_29 rfl rfl ?_
      refine x_get hC 0 l1 rfl (by decide) q229 rfl rfl dX1_appendWords_30 ?_
      refine x_aload_n hC dX1_appendWords_33 rfl rfl ?_
      refine x_get hC 1 l1 rfl (by decide) q230 rfl rfl dX1_appendWords_34 ?_
      refine x_iload hC dX1_appendWords_37 rfl ?_
      refine x_iload hC dX1_appendWords_39 rfl ?_
      refine x_ishr hC dX1_appendWords_41 ?_
      refine x_i2b hC dX1_appendWords_42 (byt_ar (g i) j hj4) ?_
      refine x_bastN hC l2 (by first | decide | assumption) (by omega) (by first | decide | omega) dX1_appendWords_43 ?_
      have hsb : vp_nar .byte (sb_b (byt (g i) j).toBitVec.toNat) = sb_b (byt (g i) j).toBitVec.toNat := sb_nar _ (byt_lt (g i) j).1
      rw [hsb]
      have l1' := mu_o (e := ba 1 900 (upd bf2 (L + (4 * i + j)) (sb_b (byt (g i) j).toBitVec.toNat))) hab l1
      have hF3 : Fr (fun g => g = 1) M2 (mu M2 bu (ba 1 900 (upd bf2 (L + (4 * i + j)) (sb_b (byt (g i) j).toBitVec.toNat)))) := Fr.set l2 rfl
      refine x_aload_n hC dX1_appendWords_44 rfl rfl ?_
      refine x_dup hC dX1_appendWords_45 rfl ?_
      refine x_get hC 1 l1' rfl (by decide) q230 rfl rfl dX1_appendWords_46 ?_
      refine x_iconst (v := nI 1) hC dX1_appendWords_49 (by decide) ?_
      refine x_iaddN hC dX1_appendWords_50 ?_
      refine x_put hC 1 l1' (by decide) rfl (by decide) q230 rfl rfl rfl rfl rfl (show 1 < 8 by decide) (fs' := aF bu (nI (L + (4 * i + j) + 1)) e1 e2 ar dq sv fm) rfl dX1_appendWords_51 ?_
      refine x_iinc (lv' := [_, _, _, _, _, _, _]) (v := -8) hC dX1_appendWords_54 rfl (by decide) (by decide) rfl ?_
      rw [show shv j + -8 = shv (j + 1) from (by decide : ∀ j, j < 4 → shv j + -8 = shv (j + 1)) j hj4]
      refine x_goto (tgt := 24) hC dX1_appendWords_57 (by decide) ?_
      refine ih2 hj4 _ (upd bf2 (L + (4 * i + j)) (sb_b (byt (g i) j).toBitVec.toNat)) ((hF2.tr hF3).tr (fr_a l1')) (by rw [mu_s]; rfl) (mu_o (Ne.symm hab) mu_s) (fun k hk => by rw [upd_n (by omega)]; exact l3 k hk) (fun k hk => ?_)
      rcases Nat.lt_or_ge k (4 * i + j) with h | h
      · rw [upd_n (by omega)]
        exact l4 k h
      · have e : k = 4 * i + j := by omega
        subst e
        rw [upd_s, show (4 * i + j) / 4 = i by omega, show (4 * i + j) % 4 = j by omega]
theorem cq_append (hG : GOK G) (hR : CRep S M T a) (w0 w1 w2 w3 w4 : Int32) : Cq G yX1_append cX1_append 6 (some .int) (xrm 8 2 11) [.ref a, .int w0, .int w1, .int w2, .int w3, .int w4] M (CO T a (opAppend S w0 w1 w2 w3 w4).2.2 (opAppend S w0 w1 w2 w3 w4).1 (.int (opAppend S w0 w1 w2 w3 w4).2.1) M) (CX T a S (opAppend S w0 w1 w2 w3 w4).1 [xISE] M) := by
  obtain ⟨bu, ar, dq, sv, fm, bf, H, hR2⟩ := id hR
  obtain ⟨h1, h2, h3, h4, h5, h6, h7, h8⟩ := id hR2
  have h900 := h2.2.1
  refine cq_open (lv := [_, _, _, _, _, _]) hG (by decide +kernel) (Nat.le_of_ble_eq_true rfl) rfl (fun C hC hk hx => ?_)
  refine x_aload_n hC dX1_append_0 rfl rfl ?_
  refine x_get hC 1 h1 rfl (by decide) q230 rfl rfl dX1_append_1 ?_
  refine x_bipush (v := nI 20) hC dX1_append_4 (by decide) ?_
  refine x_iaddN hC dX1_append_6 ?_
  refine x_sipush (v := nI 900) hC dX1_append_7 (by decide) ?_
  refine x_icmp_gtN (tgt := 17) hC (by omega) (by omega) dX1_append_10 (by decide) (fun c => ?_) (fun c => ?_)
  · refine x_iconst (v := 0) hC dX1_append_17 (by decide) ?_
    refine x_qS (k := 1) (n := 6) (na := 1) hC (cq_reqISE hG False _) (lw_S q1306 q1307 q81 q1308) (by decide +kernel) rfl ⟨Nat.le_of_ble_eq_true rfl, Nat.le_of_ble_eq_true rfl⟩ rfl (Nat.le_of_ble_eq_true rfl) (Nat.le_of_ble_eq_true rfl) (Nat.le_of_ble_eq_true rfl) ⟨Nat.le_of_ble_eq_true rfl, Nat.le_of_ble_eq_true rfl⟩ dX1_append_18 ?_ (fun q9 E9 M9 h9 => x_out hC hx (Nat.le_of_ble_eq_true rfl) (Nat.le_of_ble_eq_true rfl) (by obtain ⟨rfl, rfl, h9⟩ := h9; exact CX.same (k := 0) hR (by unfold opAppend; rw [if_neg (by omega)]; rfl) rfl))
    rintro _ M ⟨rfl, rfl, h9⟩
    exact h9.elim
  · have hop : opAppend S w0 w1 w2 w3 w4 = (0, nI ((sB S).length + 20), (sR S, sH S, sV S, sB S ++ bt4 w0 ++ bt4 w1 ++ bt4 w2 ++ bt4 w3 ++ bt4 w4, sE S, sT S)) := by unfold opAppend; rw [if_pos c]
    refine x_iconst (v := 1) hC dX1_append_13 (by decide) ?_
    refine x_goto (tgt := 18) hC dX1_append_14 (by decide) ?_
    refine x_qS (k := 1) (n := 6) (na := 1) hC (cq_reqISE hG True _) (lw_S q1306 q1307 q81 q1308) (by decide +kernel) rfl ⟨Nat.le_of_ble_eq_true rfl, Nat.le_of_ble_eq_true rfl⟩ rfl (Nat.le_of_ble_eq_true rfl) (Nat.le_of_ble_eq_true rfl) (Nat.le_of_ble_eq_true rfl) ⟨Nat.le_of_ble_eq_true rfl, Nat.le_of_ble_eq_true rfl⟩ dX1_append_18 ?_ (fun q9 E9 M9 h9 => x_out hC hx (Nat.le_of_ble_eq_true rfl) (Nat.le_of_ble_eq_true rfl) (by obtain ⟨rfl, rfl, h9⟩ := h9; exact absurd trivial h9))
    rintro _ M1 ⟨rfl, hM, h9⟩
    subst hM
    refine x_aload_n hC dX1_append_21 rfl rfl ?_
    refine x_iconst (v := 5) hC dX1_append_22 (by decide) ?_
    refine x_newi hC 5 3 q1328 (by decide) rfl (by decide) (Nat.le_of_ble_eq_true rfl) (Nat.le_of_ble_eq_true rfl) dX1_append_23 (fun q hq => ?_)
    refine x_dup hC dX1_append_25 rfl ?_
    refine x_iconst (v := nI 0) hC dX1_append_26 (by decide) ?_
    refine x_iload_n hC dX1_append_27 rfl rfl ?_
    refine x_iastN hC mu_s (by first | decide | assumption) (by decide) (by first | decide | omega) dX1_append_28 ?_
    rw [mu_mu]
    refine x_dup hC dX1_append_29 rfl ?_
    refine x_iconst (v := nI 1) hC dX1_append_30 (by decide) ?_
    refine x_iload_n hC dX1_append_31 rfl rfl ?_
    refine x_iastN hC mu_s (by first | decide | assumption) (by decide) (by first | decide | omega) dX1_append_32 ?_
    rw [mu_mu]
    refine x_dup hC dX1_append_33 rfl ?_
    refine x_iconst (v := nI 2) hC dX1_append_34 (by decide) ?_
    refine x_iload_n hC dX1_append_35 rfl rfl ?_
    refine x_iastN hC mu_s (by first | decide | assumption) (by decide) (by first | decide | omega) dX1_append_36 ?_
    rw [mu_mu]
    refine x_dup hC dX1_append_37 rfl ?_
    refine x_iconst (v := nI 3) hC dX1_append_38 (by decide) ?_
    refine x_iload hC dX1_append_39 rfl ?_
    refine x_iastN hC mu_s (by first | decide | assumption) (by decide) (by first | decide | omega) dX1_append_41 ?_
    rw [mu_mu]
    refine x_dup hC dX1_append_42 rfl ?_
    refine x_iconst (v := nI 4) hC dX1_append_43 (by decide) ?_
    refine x_iload hC dX1_append_44 rfl ?_
    refine x_iastN hC mu_s (by first | decide | assumption) (by decide) (by first | decide | omega) dX1_append_46 ?_
    rw [mu_mu]
    refine x_freeze 0 (fun k => if k = 0 then w0 else if k = 1 then w1 else if k = 2 then w2 else if k = 3 then w3 else w4) mu_s (by decide) (fun k hk => ?_) ?_
    · have : ∀ k, k < 5 → k = 0 ∨ k = 1 ∨ k = 2 ∨ k = 3 ∨ k = 4 := by decide
      rcases this k hk with e | e | e | e | e <;> subst e <;> rfl
    rw [mu_mu]
    have hF1 : Fr (fun g => g = 3) M1 (mu M1 q (ia 0 5 fun k => if k = 0 then w0 else if k = 1 then w1 else if k = 2 then w2 else if k = 3 then w3 else w4)) := Fr.new hq
    have hq2 := mu_s (M := M1) (a := q) (e := ia 0 5 fun k => if k = 0 then w0 else if k = 1 then w1 else if k = 2 then w2 else if k = 3 then w3 else w4)
    generalize (mu M1 q (ia 0 5 fun k => if k = 0 then w0 else if k = 1 then w1 else if k = 2 then w2 else if k = 3 then w3 else w4)) = M2 at hF1 hq2 ⊢
    have hR3 := hR2.fr hF1 (by decide) (by decide) (by decide) (by decide) (fun g z => by omega)
    have hab : a ≠ bu := fun e => by have h9 := h2.1; rw [← e, h1] at h9; cases h9
    refine x_callV0 (na := 1) hC (ct_appendWords hG hab hR3.1 hR3.2.1.1 hq2 (by omega)) (lw_V q1324 q1326 qs5 q81 q1327) hR3.1 rfl rfl (by decide +kernel) rfl ⟨Nat.le_of_ble_eq_true rfl, Nat.le_of_ble_eq_true rfl⟩ rfl (Nat.le_of_ble_eq_true rfl) ⟨rfl, rfl⟩ ⟨Nat.le_of_ble_eq_true rfl, Nat.le_of_ble_eq_true rfl⟩ dX1_append_47 ?_
    rintro _ M3 ⟨rfl, hF2, k1, bf', k2, k3, k4⟩
    refine x_aload_n hC dX1_append_50 rfl rfl ?_
    refine x_get hC 1 k1 rfl (by decide) q230 rfl rfl dX1_append_51 ?_
    refine x_iret hC hk dX1_append_54 (Nat.le_of_ble_eq_true rfl) (Nat.le_of_ble_eq_true rfl) ⟨by rw [hop], by rw [hop], ?_, pe_pw ((pe3 hF1).tr (pe1 hF2))⟩
    rw [hop]
    have eb : sB S ++ bt4 w0 ++ bt4 w1 ++ bt4 w2 ++ bt4 w3 ++ bt4 w4 = sB S ++ btN (fun k => if k = 0 then w0 else if k = 1 then w1 else if k = 2 then w2 else if k = 3 then w3 else w4) 20 := by
      simp only [List.append_assoc]
      rfl
    rw [eb]
    obtain ⟨-, r2, r3, r4, r5, r6, r7, r8⟩ := hR3
    have q0 : ¬ (0 : Nat) = 1 := by decide
    have q2 : ¬ (2 : Nat) = 1 := by decide
    have qA : ∀ c g, PA c g → ¬ g = 1 := fun c g z => by have := z.1; omega
    refine ⟨bu, ar, dq, sv, fm, bf', H, ?_, ⟨k2, ?_, ?_⟩, ⟨r3.1.fr hF2 q0 q2 (qA _), r3.2⟩, ⟨r4.1.fr hF2 (by decide), r4.2.1, r4.2.2.1, fun i c R z1 z2 => ⟨(r4.2.2.2 i c R z1 z2).1.fr hF2 q0 q2 (qA c), (r4.2.2.2 i c R z1 z2).2⟩⟩, ?_, r6.fr hF2 q0, r7, hF2.z q0 r8⟩
    · show M3 a = some (ob 1 1 (aF bu (nI (sB S ++ btN _ 20).length) (sE S).1 (sE S).2 ar dq sv fm))
      rw [List.length_append, btN_len]
      exact k1
    · show (sB S ++ btN _ 20).length ≤ 900
      rw [List.length_append, btN_len]
      exact c
    · intro i c hc
      have hc2 : (sB S ++ btN (fun k => if k = 0 then w0 else if k = 1 then w1 else if k = 2 then w2 else if k = 3 then w3 else w4) 20)[i]? = some c := hc
      rcases Nat.lt_or_ge i (sB S).length with hi | hi
      · rw [List.getElem?_append_left hi] at hc2
        rw [k3 i hi]
        exact r2.2.2 i c hc2
      · rw [List.getElem?_append_right hi] at hc2
        obtain ⟨z1, z2⟩ := btN_at hc2
        have := k4 (i - (sB S).length) z1
        rw [show (sB S).length + (i - (sB S).length) = i by omega, ← z2] at this
        exact ⟨by rw [z2]; exact (byt_lt _ _).1, this⟩
    · rcases r5 with r5 | ⟨s, R, y1, y2, y3, y4⟩
      · exact Or.inl r5
      · exact Or.inr ⟨s, R, y1, y2, y3.fr hF2 q0 q2 (qA s), y4⟩
end ED4

