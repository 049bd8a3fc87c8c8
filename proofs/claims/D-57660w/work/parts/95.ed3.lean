/-! ===== the component's other edits ===== -/
theorem wf_del {R : List Rcd} (hW : WfR R) (i : Nat) : WfR (R.eraseIdx i) := by
  refine ⟨?_, fun q hq => hW.2.1 q (List.mem_of_mem_eraseIdx hq), ?_⟩
  · have := List.length_eraseIdx_le (l := R) (i := i)
    have := hW.1
    omega
  · exact List.Nodup.sublist (List.Sublist.map _ (List.eraseIdx_sublist R i)) hW.2.2
theorem dq_last {α : Type} {H : List α} (h : H.length ≠ 0) : ∃ H' x, H = H' ++ [x] := by
  rcases List.eq_nil_or_concat H with e | ⟨L, b, e⟩
  · rw [e] at h; exact absurd rfl h
  · exact ⟨L, b, by rw [e, List.concat_eq_append]⟩
theorem CRp.old {S : X_S} {M : X_M} {T : X_T} {a bu ar dq : Nat} {sv : Option Nat} {fm : Nat} {bf : Nat → Int32} {H : List Nat} (h : CRp S M T a bu ar dq sv fm bf H) {q : Nat} (hq : M q = none) : ∀ c, c ∈ ar :: H ++ sv.toList → c ≠ q := by
  obtain ⟨h1, h2, h3, h4, h5, h6, h7, h8⟩ := h
  have nq : ∀ {c : Nat} {R : List Rcd}, AM M T c R → c ≠ q := fun {c R} h e => by
    obtain ⟨vs, hv⟩ := h.ob
    rw [e, hq] at hv
    cases hv
  intro c hc
  rcases List.mem_append.mp hc with hc | hc
  · rcases List.mem_cons.mp hc with hc | hc
    · rw [hc]; exact nq h3.1
    · obtain ⟨i, hi⟩ := List.getElem?_of_mem hc
      have hi1 := (List.getElem?_eq_some_iff.mp hi).1
      exact nq (h4.2.2.2 i c _ hi (List.getElem?_eq_getElem (by omega))).1
  · rcases h5 with h5 | ⟨s, R, y1, y2, y3, y4⟩
    · rw [h5.2] at hc; cases hc
    · rw [y2] at hc
      rw [List.mem_singleton.mp hc]
      exact nq y3
/-- a new archive was made: nothing old is touched -/
theorem CRp.pc {S : X_S} {M M' : X_M} {T : X_T} {a bu ar dq : Nat} {sv : Option Nat} {fm : Nat} {bf : Nat → Int32} {H : List Nat} (h : CRp S M T a bu ar dq sv fm bf H) {q : Nat} (hq : M q = none) (hF : Fr (PC q) M M') : CRp S M' T a bu ar dq sv fm bf H := by
  have ho := h.old hq
  obtain ⟨h1, h2, h3, h4, h5, h6, h7, h8⟩ := h
  have n1 : ¬ PC q 1 := fun z => z.elim (fun h => by cases h) (fun z => by have := z.1; omega)
  have n4 : ¬ PC q 4 := fun z => z.elim (fun h => by cases h) (fun z => by have := z.1; omega)
  refine ⟨hF.z n1 h1, ⟨hF.z n1 h2.1, h2.2⟩, ⟨h3.1.fr hF PC_0 PC_2 (PC_x (ho _ (List.mem_append_left _ List.mem_cons_self))), h3.2⟩, ⟨h4.1.fr hF n4, h4.2.1, h4.2.2.1, fun i c R z1 z2 => ⟨(h4.2.2.2 i c R z1 z2).1.fr hF PC_0 PC_2 (PC_x (ho _ (List.mem_append_left _ (List.mem_cons_of_mem _ (List.mem_of_getElem? z1))))), (h4.2.2.2 i c R z1 z2).2⟩⟩, ?_, h6.fr hF PC_0, h7, hF.z PC_0 h8⟩
  rcases h5 with h5 | ⟨s, R, z1, z2, z3, z4⟩
  · exact Or.inl h5
  · exact Or.inr ⟨s, R, z1, z2, z3.fr hF PC_0 PC_2 (PC_x (ho _ (List.mem_append_right _ (by rw [z2]; exact List.mem_singleton.mpr rfl)))), z4⟩
/-- the analyzer's own fields were set -/
theorem fr_a {M : X_M} {a : Nat} {vs ws : List Value} (h : M a = some (ob 1 1 vs)) : Fr (fun g => g = 1) M (mu M a (ob 1 1 ws)) := Fr.set h rfl
theorem pe1 {M M' : X_M} (h : Fr (fun g => g = 1) M M') : Fr PE M M' := h.wk (pe_eq (by decide))
section ED3
variable {G : X_G} {M : X_M} {T : X_T} {a : Nat} {S : X_S}
theorem cq_removeRecording (hG : GOK G) (hT : T0 G T) (hR : CRep S M T a) (x : Int32) : Cq G yX1_removeRecording cX1_removeRecording 2 (some .int) (xrm 14 23 203) [.ref a, .int x] M (CO T a (opRemR S x).2.2 (opRemR S x).1 (.int (opRemR S x).2.1) M) (CX T a S (opRemR S x).1 [xIOB] M) := by
  obtain ⟨vs, ha⟩ := hR.rec
  have hwf := hR.wf
  refine cq_open (lv := [_, _]) hG (by decide +kernel) (Nat.le_of_ble_eq_true rfl) rfl (fun C hC hk hx => ?_)
  refine x_aload_n hC dX1_removeRecording_0 rfl rfl ?_
  refine x_iload_n hC dX1_removeRecording_1 rfl rfl ?_
  refine x_qV (k := 1) (n := 6) (na := 1) hC (cq_get hG hR _) (lw_V q1534 q1536 qs13 q81 q1537) ha rfl rfl (by decide +kernel) rfl ⟨Nat.le_of_ble_eq_true rfl, Nat.le_of_ble_eq_true rfl⟩ rfl (Nat.le_of_ble_eq_true rfl) (Nat.le_of_ble_eq_true rfl) (Nat.le_of_ble_eq_true rfl) ⟨Nat.le_of_ble_eq_true rfl, Nat.le_of_ble_eq_true rfl⟩ dX1_removeRecording_2 ?_ (fun q9 E9 M9 h9 => x_out hC hx (Nat.le_of_ble_eq_true rfl) (Nat.le_of_ble_eq_true rfl) (by obtain ⟨rfl, rfl, h9⟩ := h9; exact CX.same (k := 0) hR (by unfold opRemR; rw [Decidable.not_not.mp h9]; rfl) rfl))
  rintro _ M1 ⟨hM1, q, r, hrc, rfl, hRA, hWf⟩
  subst hM1
  obtain ⟨c, rfl, hci, hcc⟩ := rc_at hrc
  have hop : opRemR S (nI c) = (0, nI ((sR S).length - 1), ((sR S).eraseIdx c, (pushS S).2)) := by unfold opRemR; rw [hrc, hcc]; rfl
  have hcl : c < (sR S).length := (List.getElem?_eq_some_iff.mp hci).1
  refine x_pop hC dX1_removeRecording_5 rfl ?_
  refine x_aload_n hC dX1_removeRecording_6 rfl rfl ?_
  refine x_callV (k := 23) (n := 203) (na := 0) hC (ct_beginEdit hG hT hR) (lw_V q1973 q1975 qs22 q81 q1976) ha rfl rfl (by decide +kernel) rfl ⟨Nat.le_of_ble_eq_true rfl, Nat.le_of_ble_eq_true rfl⟩ rfl (Nat.le_of_ble_eq_true rfl) (Nat.le_of_ble_eq_true rfl) (Nat.le_of_ble_eq_true rfl) ⟨Nat.le_of_ble_eq_true rfl, Nat.le_of_ble_eq_true rfl⟩ dX1_removeRecording_7 ?_
  rintro _ M2 ⟨rfl, ⟨bu, ar, dq, sv, fm, bf, H, hR2⟩, hF1⟩
  obtain ⟨h1, -, ⟨⟨L, h3⟩, h3w⟩, -⟩ := id hR2
  have h3' : AMl M2 T ar (sR S) L := h3
  obtain ⟨l, m, a1, -, -⟩ := h3.rec
  refine x_aload_n hC dX1_removeRecording_10 rfl rfl ?_
  refine x_get hC 4 h1 rfl (by decide) q233 rfl rfl dX1_removeRecording_11 ?_
  refine x_iload_n hC dX1_removeRecording_14 rfl rfl ?_
  refine x_callV0 (na := 1) hC (ct_arRemove hG h3' hwf.1 hwf.2.2 hci) (lw_V q2074 q2075 q2076 q82 q2077) a1 rfl rfl (by decide +kernel) rfl ⟨Nat.le_of_ble_eq_true rfl, Nat.le_of_ble_eq_true rfl⟩ rfl (Nat.le_of_ble_eq_true rfl) ⟨rfl, rfl⟩ ⟨Nat.le_of_ble_eq_true rfl, Nat.le_of_ble_eq_true rfl⟩ dX1_removeRecording_15 ?_
  rintro _ M3 ⟨rfl, hA, hF2⟩
  have hR3 := hR2.arch hF2 ⟨_, hA⟩ (wf_del hwf c)
  obtain ⟨l2, m2, b1, b2, b4⟩ := hA.rec
  obtain ⟨vl, hl⟩ := b2.rec
  refine x_aload_n hC dX1_removeRecording_18 rfl rfl ?_
  refine x_get hC 4 hR3.1 rfl (by decide) q233 rfl rfl dX1_removeRecording_19 ?_
  refine x_getN hC 0 b1 rfl (by decide) q203 rfl rfl dX1_removeRecording_22 ?_
  refine x_callV0 (na := 0) hC (ct_alSize hG b2) (lw_V q266 q267 q268 q85 q269) hl rfl rfl (by decide +kernel) rfl ⟨Nat.le_of_ble_eq_true rfl, Nat.le_of_ble_eq_true rfl⟩ rfl (Nat.le_of_ble_eq_true rfl) ⟨rfl, rfl⟩ ⟨Nat.le_of_ble_eq_true rfl, Nat.le_of_ble_eq_true rfl⟩ dX1_removeRecording_25 ?_
  rintro _ M ⟨rfl, rfl⟩
  exact x_iret hC hk dX1_removeRecording_28 (Nat.le_of_ble_eq_true rfl) (Nat.le_of_ble_eq_true rfl) ⟨by rw [hop], by rw [hop, b4, List.length_eraseIdx, if_pos hcl], by rw [hop]; exact ⟨bu, ar, dq, sv, fm, bf, H, hR3⟩, pe_pw (hF1.tr (hF2.wk PA_pe))⟩
theorem cq_undo (hG : GOK G) (hR : CRep S M T a) : Cq G yX1_undo cX1_undo 1 (some .int) (xrm 14 1 6) [.ref a] M (CO T a (opUndo S).2.2 (opUndo S).1 (.int (opUndo S).2.1) M) (CX T a S (opUndo S).1 [xISE] M) := by
  obtain ⟨bu, ar, dq, sv, fm, bf, H, hR2⟩ := id hR
  obtain ⟨h1, h2, h3, h4, h5, h6, h7, h80⟩ := hR2
  obtain ⟨vq, hq⟩ := h4.1.rec
  have hl := h4.2.1
  refine cq_open (lv := [_]) hG (by decide +kernel) (Nat.le_of_ble_eq_true rfl) rfl (fun C hC hk hx => ?_)
  refine x_aload_n hC dX1_undo_0 rfl rfl ?_
  refine x_get hC 5 h1 rfl (by decide) q234 rfl rfl dX1_undo_1 ?_
  refine x_callV0 (na := 0) hC (ct_dqEmpty hG h4.1) (lw_V q2264 q2265 q2266 q88 q2267) hq rfl rfl (by decide +kernel) rfl ⟨Nat.le_of_ble_eq_true rfl, Nat.le_of_ble_eq_true rfl⟩ rfl (Nat.le_of_ble_eq_true rfl) ⟨rfl, rfl⟩ ⟨Nat.le_of_ble_eq_true rfl, Nat.le_of_ble_eq_true rfl⟩ dX1_undo_4 ?_
  rintro _ M ⟨rfl, rfl⟩
  refine x_if_neB (tgt := 14) hC dX1_undo_7 (by decide) (fun d => ?_) (fun d => ?_)
  · refine x_iconst (v := 0) hC dX1_undo_14 (by decide) ?_
    refine x_qS (k := 1) (n := 6) (na := 1) hC (cq_reqISE hG False _) (lw_S q1306 q1307 q81 q1308) (by decide +kernel) rfl ⟨Nat.le_of_ble_eq_true rfl, Nat.le_of_ble_eq_true rfl⟩ rfl (Nat.le_of_ble_eq_true rfl) (Nat.le_of_ble_eq_true rfl) (Nat.le_of_ble_eq_true rfl) ⟨Nat.le_of_ble_eq_true rfl, Nat.le_of_ble_eq_true rfl⟩ dX1_undo_15 ?_ (fun q9 E9 M9 h9 => x_out hC hx (Nat.le_of_ble_eq_true rfl) (Nat.le_of_ble_eq_true rfl) (by obtain ⟨rfl, rfl, h8⟩ := h9; exact CX.same (k := 0) hR (by unfold opUndo; rw [if_pos (by rw [← hl]; exact d)]; rfl) rfl))
    rintro _ M ⟨rfl, rfl, h8⟩
    exact h8.elim
  · refine x_iconst (v := 1) hC dX1_undo_10 (by decide) ?_
    refine x_goto (tgt := 15) hC dX1_undo_11 (by decide) ?_
    have hop : opUndo S = (0, nI ((sH S).length - 1), ((sH S).getD ((sH S).length - 1) [], (sH S).dropLast, sV S, sB S, sE S, sT S)) := by unfold opUndo; rw [if_neg (by rw [← hl]; exact d)]
    refine x_qS (k := 1) (n := 6) (na := 1) hC (cq_reqISE hG True _) (lw_S q1306 q1307 q81 q1308) (by decide +kernel) rfl ⟨Nat.le_of_ble_eq_true rfl, Nat.le_of_ble_eq_true rfl⟩ rfl (Nat.le_of_ble_eq_true rfl) (Nat.le_of_ble_eq_true rfl) (Nat.le_of_ble_eq_true rfl) ⟨Nat.le_of_ble_eq_true rfl, Nat.le_of_ble_eq_true rfl⟩ dX1_undo_15 ?_ (fun q9 E9 M9 h9 => x_out hC hx (Nat.le_of_ble_eq_true rfl) (Nat.le_of_ble_eq_true rfl) (by obtain ⟨rfl, rfl, h8⟩ := h9; exact absurd trivial h8))
    rintro _ M ⟨rfl, rfl, h8⟩
    obtain ⟨H', y, rfl⟩ := dq_last d
    obtain ⟨Hs, R, hHs⟩ := dq_last (H := sH S) (by rw [← hl]; exact d)
    have hl2 : H'.length = Hs.length := by rw [hHs, List.length_append, List.length_append, List.length_singleton, List.length_singleton] at hl; omega
    have hy := h4.2.2.2 H'.length y R (by rw [List.getElem?_append_right (Nat.le_refl _), Nat.sub_self]; rfl) (by rw [hHs, hl2, List.getElem?_append_right (Nat.le_refl _), Nat.sub_self]; rfl)
    have hn1 : (sH S).length - 1 = Hs.length := by rw [hHs, List.length_append]; rfl
    have hS2 : opUndo S = (0, nI Hs.length, (R, Hs, sV S, sB S, sE S, sT S)) := by
      rw [hop, hn1, List.getD_eq_getElem?_getD, hHs, List.getElem?_append_right (Nat.le_refl _), Nat.sub_self, List.dropLast_concat]
      rfl
    refine x_aload_n hC dX1_undo_18 rfl rfl ?_
    refine x_aload_n hC dX1_undo_19 rfl rfl ?_
    refine x_get hC 5 h1 rfl (by decide) q234 rfl rfl dX1_undo_20 ?_
    refine x_callV0 (na := 0) hC (ct_dqRemL hG (by decide) h4.1) (lw_V q2268 q2269 q2270 q88 q2271) hq rfl rfl (by decide +kernel) rfl ⟨Nat.le_of_ble_eq_true rfl, Nat.le_of_ble_eq_true rfl⟩ rfl (Nat.le_of_ble_eq_true rfl) ⟨rfl, rfl⟩ ⟨Nat.le_of_ble_eq_true rfl, Nat.le_of_ble_eq_true rfl⟩ dX1_undo_23 ?_
    rintro _ M2 ⟨rfl, hD, hF⟩
    have p0 : ¬ (0 : Nat) = 4 := by decide
    have p2 : ¬ (2 : Nat) = 4 := by decide
    have pA : ∀ c g, PA c g → ¬ g = 4 := fun c g z => by have := z.1; omega
    have hA := hy.1.fr hF p0 p2 (pA y)
    obtain ⟨vy, hyo⟩ := hA.ob
    refine x_castS hC hyo rfl rfl q134 dX1_undo_26 ?_
    have h1' := hF.z (by decide) h1
    refine x_put hC 4 h1' (by decide) rfl (by decide) q233 rfl rfl rfl rfl rfl (show 4 < 8 by decide) (fs' := aF bu (nI (sB S).length) (sE S).1 (sE S).2 y dq sv fm) rfl dX1_undo_29 ?_
    have hF1 : Fr (fun g => g = 1) M2 (mu M2 a (ob 1 1 (aF bu (nI (sB S).length) (sE S).1 (sE S).2 y dq sv fm))) := fr_a h1'
    have hab : a ≠ bu := fun e => by have h9 := h2.1; rw [← e, h1] at h9; cases h9
    have hba := mu_o (e := ob 1 1 (aF bu (nI (sB S).length) (sE S).1 (sE S).2 y dq sv fm)) (Ne.symm hab) (hF.z (by decide) h2.1)
    have h1'' := mu_s (M := M2) (a := a) (e := ob 1 1 (aF bu (nI (sB S).length) (sE S).1 (sE S).2 y dq sv fm))
    generalize mu M2 a (ob 1 1 (aF bu (nI (sB S).length) (sE S).1 (sE S).2 y dq sv fm)) = M3 at hF1 hba h1'' ⊢
    have hD3 := hD.fr hF1 (by decide)
    obtain ⟨vq3, hq3⟩ := hD3.rec
    refine x_aload_n hC dX1_undo_32 rfl rfl ?_
    refine x_get hC 5 h1'' rfl (by decide) q234 rfl rfl dX1_undo_33 ?_
    refine x_callV0 (na := 0) hC (ct_dqSize hG hD3) (lw_V q1977 q1978 q1979 q88 q1980) hq3 rfl rfl (by decide +kernel) rfl ⟨Nat.le_of_ble_eq_true rfl, Nat.le_of_ble_eq_true rfl⟩ rfl (Nat.le_of_ble_eq_true rfl) ⟨rfl, rfl⟩ ⟨Nat.le_of_ble_eq_true rfl, Nat.le_of_ble_eq_true rfl⟩ dX1_undo_36 ?_
    rintro _ M ⟨rfl, rfl⟩
    have q0 : ¬ (0 : Nat) = 1 := by decide
    have q2 : ¬ (2 : Nat) = 1 := by decide
    have qA : ∀ c g, PA c g → ¬ g = 1 := fun c g z => by have := z.1; omega
    have tr : ∀ {c : Nat} {R : List Rcd}, AM _ T c R → AM _ T c R := fun {c R} h => (h.fr hF p0 p2 (pA c)).fr hF1 q0 q2 (qA c)
    have hnd := List.nodup_cons.mp h7
    have hnd2 := List.nodup_append.mp hnd.2
    have hnd3 := List.nodup_append.mp hnd2.1
    refine x_iret hC hk dX1_undo_39 (Nat.le_of_ble_eq_true rfl) (Nat.le_of_ble_eq_true rfl) ⟨by rw [hS2], by rw [hS2, hl2], ?_, pe_pw ((hF.wk (pe_eq (by decide))).tr (pe1 hF1))⟩
    rw [hS2]
    refine ⟨bu, y, dq, sv, fm, bf, H', h1'', ⟨hba, h2.2⟩, ⟨tr hy.1, hy.2⟩, ⟨hD3, hl2, by have := h4.2.2.1; rw [hHs, List.length_append] at this; exact Nat.le_of_succ_le this, ?_⟩, ?_, (h6.fr hF p0).fr hF1 q0, ?_, hF1.z q0 (hF.z p0 h80)⟩
    · intro i c R' z1 z2
      have z3 := (List.getElem?_eq_some_iff.mp z1).1
      have z5 : (sH S)[i]? = some R' := by rw [hHs, List.getElem?_append_left (by omega)]; exact z2
      have z4 := h4.2.2.2 i c R' (by rw [List.getElem?_append_left z3]; exact z1) z5
      exact ⟨tr z4.1, z4.2⟩
    · rcases h5 with h5 | ⟨s, R, y1, y2, y3, y4⟩
      · exact Or.inl h5
      · exact Or.inr ⟨s, R, y1, y2, tr y3, y4⟩
    · refine List.nodup_cons.mpr ⟨fun z => ?_, List.nodup_append.mpr ⟨hnd3.1, hnd2.2.1, fun x hx z hz => hnd2.2.2 x (List.mem_append_left _ hx) z hz⟩⟩
      rcases List.mem_append.mp z with z | z
      · exact hnd3.2.2 y z y (List.mem_singleton.mpr rfl) rfl
      · exact hnd2.2.2 y (List.mem_append_right _ (List.mem_singleton.mpr rfl)) y z rfl
end ED3

