/-! ===== the reference's operations: text buffer, history, saved archive ===== -/
/-- the history behind one more state -/
def hP (H : List (List Rcd)) (R : List Rcd) : List (List Rcd) := if H.length = 8 then H.drop 1 ++ [R] else H ++ [R]
theorem hP_len {H : List (List Rcd)} {R : List Rcd} (h : H.length ≤ 8) : (hP H R).length = if H.length = 8 then 8 else H.length + 1 := by
  unfold hP
  split
  next h8 => rw [List.length_append, List.length_drop, h8]; rfl
  next => rw [List.length_append]; rfl
abbrev pushS (S : X_S) : X_S := (sR S, hP (sH S) (sR S), sV S, sB S, sE S, sT S)
theorem hist_push {H : List (List Rcd)} {R0 : List Rcd} {h s : Nat → Int32} (hH : ∀ j R, H[j]? = some R → RepR R (fun q => h (433 * j + q)) ∧ WfR R) (h8 : H.length ≤ 8) (hR : RepR R0 s) (hW : WfR R0) : ∀ j R, (hP H R0)[j]? = some R → RepR R (fun q => rmb h s H.length (433 * j + q)) ∧ WfR R := by
  intro j R hj
  unfold hP at hj
  unfold rmb
  split at hj
  next h9 =>
    rw [if_pos h9]
    have hl : (H.drop 1).length = 7 := by rw [List.length_drop, h9]
    rcases Nat.lt_or_ge j 7 with h7 | h7
    · rw [List.getElem?_append_left (by omega), List.getElem?_drop] at hj
      obtain ⟨k1, k2⟩ := hH (1 + j) R hj
      refine ⟨k1.cong k2 fun q hq => ?_, k2⟩
      rw [pot_out (by omega)]
      unfold hsh
      rw [if_pos (by omega)]
      congr 1
      omega
    · rw [List.getElem?_append_right (by omega), hl] at hj
      have h10 : j - 7 = 0 := by
        rcases Nat.eq_zero_or_pos (j - 7) with h11 | h11
        · exact h11
        · rw [List.getElem?_eq_none (by rw [List.length_singleton]; exact h11)] at hj; cases hj
      rw [h10] at hj
      cases hj
      have h12 : j = 7 := by omega
      subst h12
      exact ⟨hR.cong hW fun q hq => pot_in hq, hW⟩
  next h9 =>
    rw [if_neg h9]
    rcases Nat.lt_or_ge j H.length with h7 | h7
    · rw [List.getElem?_append_left h7] at hj
      obtain ⟨k1, k2⟩ := hH j R hj
      exact ⟨k1.cong k2 fun q hq => pot_out (by omega), k2⟩
    · rw [List.getElem?_append_right h7] at hj
      have h10 : j - H.length = 0 := by
        rcases Nat.eq_zero_or_pos (j - H.length) with h11 | h11
        · exact h11
        · rw [List.getElem?_eq_none (by rw [List.length_singleton]; exact h11)] at hj; cases hj
      rw [h10] at hj
      cases hj
      have h12 : j = H.length := by omega
      subst h12
      exact ⟨hR.cong hW fun q hq => pot_in hq, hW⟩
theorem MRep.push {S : X_S} {V : Nat → Int32} {A : Nat → Nat → Int32} (hS : MRep S V A) : MRep (pushS S) (upd V 1 (nI (if (sH S).length = 8 then 8 else (sH S).length + 1))) (va_up A 2 (rmb (A 2) (A 0) (sH S).length)) := by
  obtain ⟨k1, k2, k3, k4, k5, k6⟩ := hS
  have hl := hP_len (R := sR S) k2.2.1
  refine ⟨k1, ⟨?_, ?_, ?_⟩, k3, k4, k5, k6⟩
  · show nI _ = nI (hP (sH S) (sR S)).length
    rw [hl]
  · show (hP (sH S) (sR S)).length ≤ 8
    rw [hl]
    split <;> omega
  · exact hist_push k2.2.2 k2.2.1 k1.1 k1.2
/-- another archive -/
theorem MRep.setR {S : X_S} {V : Nat → Int32} {A : Nat → Nat → Int32} (h : MRep S V A) {R : List Rcd} {f : Nat → Int32} (hR : RepR R f) (hW : WfR R) : MRep (R, S.2) V (va_up A 0 f) := ⟨⟨hR, hW⟩, h.2⟩
/-- the buffer emptied -/
theorem MRep.clr {S : X_S} {V : Nat → Int32} {A : Nat → Nat → Int32} (h : MRep S V A) : MRep (sR S, sH S, sV S, [], sE S, sT S) (upd V 2 0) A := ⟨h.1, h.2.1, h.2.2.1, ⟨rfl, Nat.zero_le _, fun i c h => by cases h⟩, h.2.2.2.2⟩
def opUndo (S : X_S) : Int32 × Int32 × X_S := if (sH S).length = 0 then (1, 0, S) else (0, nI ((sH S).length - 1), ((sH S).getD ((sH S).length - 1) [], (sH S).dropLast, sV S, sB S, sE S, sT S))
def opSave (S : X_S) : Int32 × Int32 × X_S := (0, nI (sR S).length, (sR S, sH S, some (sR S), sB S, sE S, sT S))
def opRestore (S : X_S) : Int32 × Int32 × X_S := (sV S).elim (1, 0, S) fun R => (0, nI R.length, (R, hP (sH S) (sR S), sV S, sB S, sE S, sT S))
section M18
variable {G : X_G} {M : X_M} {m : Nat} {P : Nat → Nat} {V : Nat → Int32} {A : Nat → Nat → Int32} {S : X_S} {R : List Rcd} {i k j : Nat} {r s : Rcd}
/-- what remembering leaves -/
def PRem (M : X_M) (m : Nat) (P : Nat → Nat) (V : Nat → Int32) (A : Nat → Nat → Int32) (S : X_S) : Option Value → X_M → Prop := fun r M' => r = none ∧ ∃ x f, Mdl M' m P (upd V 1 x) (va_up A 2 f) ∧ Fm M M' ∧ MRep (pushS S) (upd V 1 x) (va_up A 2 f)
theorem ct_rememberS (hG : GOK G) (hm : Mdl M m P V A) (hS : MRep S V A) : Ct G yX3_remember cX3_remember 2 none (xrm 1 0 0) [.ref m] M (PRem M m P V A S) :=
  (ct_remember hG hm hS.2.1.1 hS.2.1.2.1).mono fun _ _ h => ⟨h.1, _, _, h.2.1, h.2.2, hS.push⟩
theorem ct_append (hG : GOK G) (hm : Mdl M m P V A) (hS : MRep S V A) (w0 w1 w2 w3 w4 : Int32) : Ct G yX3_append cX3_append 6 (some .int) (xrm 3 0 0) [.ref m, .int w0, .int w1, .int w2, .int w3, .int w4] M (MOi M m P (opAppend S w0 w1 w2 w3 w4).2.2 (opAppend S w0 w1 w2 w3 w4).1 (opAppend S w0 w1 w2 w3 w4).2.1) := by
  refine ct_open (lv := [_, _, _, _, _, _]) hG (by decide +kernel) (Nat.le_of_ble_eq_true rfl) rfl (fun C hC hk => ?_)
  have hF : Fm M M := Fr.rf
  unfold opAppend at hk
  obtain ⟨k1, k2, k3, hB, k5, k6⟩ := hS
  have hB9 := hB.2.1
  refine x_aload_n hC dX3_append_0 rfl rfl ?_
  refine x_aload_n hC dX3_append_1 rfl rfl ?_
  refine x_get hC 12 hm.1 rfl (by decide) q2342 rfl rfl dX3_append_2 ?_
  rw [hB.1]
  refine x_bipush (v := nI 20) hC dX3_append_5 (by decide) ?_
  refine x_iaddN hC dX3_append_7 ?_
  refine x_sipush (v := nI 900) hC dX3_append_8 (by decide) ?_
  refine x_icmp_gtN (tgt := 18) hC (by omega) (by omega) dX3_append_11 (by decide) (fun c1 => ?_) (fun c1 => ?_)
  · rw [if_neg (by omega)] at hk
    refine x_iconst (v := 0) hC dX3_append_18 (by decide) ?_
    refine x_callV0 (na := 1) hC (ct_good hG hm False) (lw_V q2402 q2404 qs30 q89 q2405) hm.1 rfl rfl (by decide +kernel) rfl ⟨Nat.le_of_ble_eq_true rfl, Nat.le_of_ble_eq_true rfl⟩ rfl (Nat.le_of_ble_eq_true rfl) ⟨rfl, rfl⟩ ⟨Nat.le_of_ble_eq_true rfl, Nat.le_of_ble_eq_true rfl⟩ dX3_append_19 ?_
    rintro _ M ⟨rfl, hm, hF1⟩
    have hF := hF.tr hF1
    refine x_if_ne (tgt := 27) hC dX3_append_22 (by decide) (fun c2 => ?_) (fun c2 => ?_)
    · exact absurd rfl c2
    · refine x_iconst (v := -1) hC dX3_append_25 (by decide) ?_
      exact x_iret hC hk dX3_append_26 (Nat.le_of_ble_eq_true rfl) (Nat.le_of_ble_eq_true rfl) ⟨_, _, _, rfl, (fun h => absurd h (show ¬ (1 : Int32) = 0 by decide)), hm, hF, MRep.k6 ⟨k1, k2, k3, hB, k5, k6⟩, rfl⟩
  · rw [if_pos (by omega)] at hk
    refine x_iconst (v := 1) hC dX3_append_14 (by decide) ?_
    refine x_goto (tgt := 19) hC dX3_append_15 (by decide) ?_
    refine x_callV0 (na := 1) hC (ct_good hG hm True) (lw_V q2402 q2404 qs30 q89 q2405) hm.1 rfl rfl (by decide +kernel) rfl ⟨Nat.le_of_ble_eq_true rfl, Nat.le_of_ble_eq_true rfl⟩ rfl (Nat.le_of_ble_eq_true rfl) ⟨rfl, rfl⟩ ⟨Nat.le_of_ble_eq_true rfl, Nat.le_of_ble_eq_true rfl⟩ dX3_append_19 ?_
    rintro _ M ⟨rfl, hm, hF1⟩
    have hF := hF.tr hF1
    refine x_if_ne (tgt := 27) hC dX3_append_22 (by decide) (fun c2 => ?_) (fun c2 => ?_)
    · refine x_aload_n hC dX3_append_27 rfl rfl ?_
      refine x_iload_n hC dX3_append_28 rfl rfl ?_
      refine x_callV0 (na := 1) hC (ct_take hG hm w0 hB.1 (by omega)) (lw_V q2406 q2408 qs31 q89 q2409) hm.1 rfl rfl (by decide +kernel) rfl ⟨Nat.le_of_ble_eq_true rfl, Nat.le_of_ble_eq_true rfl⟩ rfl (Nat.le_of_ble_eq_true rfl) ⟨rfl, rfl⟩ ⟨Nat.le_of_ble_eq_true rfl, Nat.le_of_ble_eq_true rfl⟩ dX3_append_29 ?_
      rintro _ M ⟨rfl, hm, hF1⟩
      have hF := hF.tr hF1
      refine x_aload_n hC dX3_append_32 rfl rfl ?_
      refine x_iload_n hC dX3_append_33 rfl rfl ?_
      refine x_callV0 (na := 1) hC (ct_take hG hm w1 upd_s (by omega)) (lw_V q2406 q2408 qs31 q89 q2409) hm.1 rfl rfl (by decide +kernel) rfl ⟨Nat.le_of_ble_eq_true rfl, Nat.le_of_ble_eq_true rfl⟩ rfl (Nat.le_of_ble_eq_true rfl) ⟨rfl, rfl⟩ ⟨Nat.le_of_ble_eq_true rfl, Nat.le_of_ble_eq_true rfl⟩ dX3_append_34 ?_
      rintro _ M ⟨rfl, hm, hF1⟩
      have hF := hF.tr hF1
      refine x_aload_n hC dX3_append_37 rfl rfl ?_
      refine x_iload_n hC dX3_append_38 rfl rfl ?_
      refine x_callV0 (na := 1) hC (ct_take hG hm w2 upd_s (by omega)) (lw_V q2406 q2408 qs31 q89 q2409) hm.1 rfl rfl (by decide +kernel) rfl ⟨Nat.le_of_ble_eq_true rfl, Nat.le_of_ble_eq_true rfl⟩ rfl (Nat.le_of_ble_eq_true rfl) ⟨rfl, rfl⟩ ⟨Nat.le_of_ble_eq_true rfl, Nat.le_of_ble_eq_true rfl⟩ dX3_append_39 ?_
      rintro _ M ⟨rfl, hm, hF1⟩
      have hF := hF.tr hF1
      refine x_aload_n hC dX3_append_42 rfl rfl ?_
      refine x_iload hC dX3_append_43 rfl ?_
      refine x_callV0 (na := 1) hC (ct_take hG hm w3 upd_s (by omega)) (lw_V q2406 q2408 qs31 q89 q2409) hm.1 rfl rfl (by decide +kernel) rfl ⟨Nat.le_of_ble_eq_true rfl, Nat.le_of_ble_eq_true rfl⟩ rfl (Nat.le_of_ble_eq_true rfl) ⟨rfl, rfl⟩ ⟨Nat.le_of_ble_eq_true rfl, Nat.le_of_ble_eq_true rfl⟩ dX3_append_45 ?_
      rintro _ M ⟨rfl, hm, hF1⟩
      have hF := hF.tr hF1
      refine x_aload_n hC dX3_append_48 rfl rfl ?_
      refine x_iload hC dX3_append_49 rfl ?_
      refine x_callV0 (na := 1) hC (ct_take hG hm w4 upd_s (by omega)) (lw_V q2406 q2408 qs31 q89 q2409) hm.1 rfl rfl (by decide +kernel) rfl ⟨Nat.le_of_ble_eq_true rfl, Nat.le_of_ble_eq_true rfl⟩ rfl (Nat.le_of_ble_eq_true rfl) ⟨rfl, rfl⟩ ⟨Nat.le_of_ble_eq_true rfl, Nat.le_of_ble_eq_true rfl⟩ dX3_append_51 ?_
      rintro _ M ⟨rfl, hm, hF1⟩
      have hF := hF.tr hF1
      have hb := buf_take (w := w4) (buf_take (w := w3) (buf_take (w := w2) (buf_take (w := w1) (buf_take (w := w0) hB.2.2))))
      simp only [List.length_append, bt4_len] at hb
      have hl : (sB S ++ bt4 w0 ++ bt4 w1 ++ bt4 w2 ++ bt4 w3 ++ bt4 w4).length = (sB S).length + 4 + 4 + 4 + 4 + 4 := by simp only [List.length_append, bt4_len]
      refine x_aload_n hC dX3_append_54 rfl rfl ?_
      refine x_get hC 12 hm.1 rfl (by decide) q2342 rfl rfl dX3_append_55 ?_
      refine x_iret hC hk dX3_append_58 (Nat.le_of_ble_eq_true rfl) (Nat.le_of_ble_eq_true rfl) ⟨_, _, _, rfl, (fun _ => rfl), hm, hF, ⟨k1, k2, k3, ⟨?_, ?_, hb⟩, k5, k6⟩, rfl⟩
      · show nI _ = nI (sB S ++ bt4 w0 ++ bt4 w1 ++ bt4 w2 ++ bt4 w3 ++ bt4 w4).length
        rw [hl]
      · show (sB S ++ bt4 w0 ++ bt4 w1 ++ bt4 w2 ++ bt4 w3 ++ bt4 w4).length ≤ 900
        rw [hl]
        omega
    · exact absurd c2 (by decide)
theorem ct_truncate (hG : GOK G) (hm : Mdl M m P V A) (hS : MRep S V A) (x : Int32) : Ct G yX3_truncate cX3_truncate 2 (some .int) (xrm 3 0 0) [.ref m, .int x] M (MOi M m P (opTruncate S x).2.2 (opTruncate S x).1 (opTruncate S x).2.1) := by
  refine ct_open (lv := [_, _]) hG (by decide +kernel) (Nat.le_of_ble_eq_true rfl) rfl (fun C hC hk => ?_)
  have hF : Fm M M := Fr.rf
  unfold opTruncate at hk
  obtain ⟨k1, k2, k3, hB, k5, k6⟩ := hS
  have hB9 := hB.2.1
  refine x_aload_n hC dX3_truncate_0 rfl rfl ?_
  refine x_iload_n hC dX3_truncate_1 rfl rfl ?_
  refine x_iconst (v := 0) hC dX3_truncate_2 (by decide) ?_
  refine x_aload_n hC dX3_truncate_3 rfl rfl ?_
  refine x_get hC 12 hm.1 rfl (by decide) q2342 rfl rfl dX3_truncate_4 ?_
  rw [hB.1]
  refine x_callS0 (na := 3) hC (ct_isIn hG _ _ _ _) (lw_S q2414 q2415 q89 q2416) (by decide +kernel) rfl ⟨Nat.le_of_ble_eq_true rfl, Nat.le_of_ble_eq_true rfl⟩ rfl (Nat.le_of_ble_eq_true rfl) ⟨rfl, rfl⟩ ⟨Nat.le_of_ble_eq_true rfl, Nat.le_of_ble_eq_true rfl⟩ dX3_truncate_7 ?_
  rintro _ M ⟨rfl, rfl⟩
  refine x_callV0 (na := 1) hC (ct_good hG hm _) (lw_V q2402 q2404 qs30 q89 q2405) hm.1 rfl rfl (by decide +kernel) rfl ⟨Nat.le_of_ble_eq_true rfl, Nat.le_of_ble_eq_true rfl⟩ rfl (Nat.le_of_ble_eq_true rfl) ⟨rfl, rfl⟩ ⟨Nat.le_of_ble_eq_true rfl, Nat.le_of_ble_eq_true rfl⟩ dX3_truncate_10 ?_
  rintro _ M ⟨rfl, hm, hF1⟩
  have hF := hF.tr hF1
  refine x_if_neB (tgt := 18) hC dX3_truncate_13 (by decide) (fun c => ?_) (fun c => ?_)
  · rw [if_pos c] at hk
    obtain ⟨e1, e2⟩ := i_nat c.1
    have c2 := c.2
    generalize x.toNatClampNeg = q at *
    subst e1
    rw [nI_leI e2 (by omega)] at c2
    refine x_aload_n hC dX3_truncate_18 rfl rfl ?_
    refine x_iload_n hC dX3_truncate_19 rfl rfl ?_
    refine x_mput hC hm 12 2 (by decide) q2342 rfl rfl rfl rfl rfl rfl dX3_truncate_20 (fun M hm hF1 => ?_)
    have hF := hF.tr hF1
    refine x_aload_n hC dX3_truncate_23 rfl rfl ?_
    refine x_get hC 12 hm.1 rfl (by decide) q2342 rfl rfl dX3_truncate_24 ?_
    refine x_iret hC hk dX3_truncate_27 (Nat.le_of_ble_eq_true rfl) (Nat.le_of_ble_eq_true rfl) ⟨_, _, _, rfl, (fun _ => rfl), hm, hF, ⟨k1, k2, k3, ⟨?_, ?_, ?_⟩, k5, k6⟩, (upd_n (by decide)).trans (upd_s.trans (if_pos c))⟩
    · show nI q = nI ((sB S).take q).length
      rw [List.length_take, Nat.min_eq_left c2]
    · show ((sB S).take q).length ≤ 900
      rw [List.length_take, Nat.min_eq_left c2]
      omega
    · intro i c0 h
      rw [List.getElem?_take] at h
      split at h
      · exact hB.2.2 i c0 h
      · cases h
  · rw [if_neg c] at hk
    refine x_iconst (v := -1) hC dX3_truncate_16 (by decide) ?_
    exact x_iret hC hk dX3_truncate_17 (Nat.le_of_ble_eq_true rfl) (Nat.le_of_ble_eq_true rfl) ⟨_, _, _, rfl, (fun h => absurd h (show ¬ (1 : Int32) = 0 by decide)), hm, hF, MRep.k6 ⟨k1, k2, k3, hB, k5, k6⟩, upd_s.trans (if_neg c)⟩
theorem ct_save (hG : GOK G) (hm : Mdl M m P V A) (hS : MRep S V A) : Ct G yX3_save cX3_save 2 (some .int) (xrm 3 0 0) [.ref m] M (MOi M m P (opSave S).2.2 (opSave S).1 (opSave S).2.1) := by
  refine ct_open (lv := [_, _]) hG (by decide +kernel) (Nat.le_of_ble_eq_true rfl) rfl (fun C hC hk => ?_)
  have hF : Fm M M := Fr.rf
  obtain ⟨k1, k2, k3, hB, k5, k6⟩ := hS
  refine x_aload_n hC dX3_save_0 rfl rfl ?_
  refine x_iconst (v := 0) hC dX3_save_1 (by decide) ?_
  refine x_mput hC hm 16 6 (by decide) q2346 rfl rfl rfl rfl rfl rfl dX3_save_2 (fun M hm hF1 => ?_)
  have hF := hF.tr hF1
  refine x_iconst (v := nI 0) hC dX3_save_5 (by decide) ?_
  refine x_istore_n (lv' := [_, _]) hC dX3_save_6 rfl (by decide) rfl ?_
  refine x_up (n := 433) (I := fun k => ∀ M1, Mdl M1 m P (upd V 6 0) (va_up A 3 (fil (A 3) (A 0) 0 k)) → Fm _ M1 → Wg G C M1 0 0 7 [some (.ref m), some (.int (nI k))] []) (fun k hk2 ih M hm hF => ?_) 0 (Nat.zero_le _) M (hm.to rfl (by rw [fil_0, up_id])) hF
  refine x_iload_n hC dX3_save_7 rfl rfl ?_
  refine x_sipush (v := nI 433) hC dX3_save_8 (by decide) ?_
  refine x_icmp_geN (tgt := 32) hC (by omega) (by omega) dX3_save_11 (by decide) (fun c1 => ?_) (fun c1 => ?_)
  · have hk3 : k = 433 := by omega
    subst hk3
    refine x_aload_n hC dX3_save_32 rfl rfl ?_
    refine x_iconst (v := 1) hC dX3_save_33 (by decide) ?_
    refine x_mput hC hm 4 0 (by decide) q2334 rfl rfl rfl rfl rfl rfl dX3_save_34 (fun M hm hF1 => ?_)
    have hF := hF.tr hF1
    refine x_aload_n hC dX3_save_37 rfl rfl ?_
    refine x_get hC 0 hm.1 rfl (by decide) q2330 rfl rfl dX3_save_38 ?_
    refine x_iconst (v := nI 0) hC dX3_save_41 (by decide) ?_
    refine x_ialdN hC (hm.arr 0 (by decide)) (show _ < 433 from (by omega)) (by decide) dX3_save_42 ?_
    refine x_iret hC hk dX3_save_43 (Nat.le_of_ble_eq_true rfl) (Nat.le_of_ble_eq_true rfl) ⟨_, _, _, rfl, (fun _ => k1.1.1), hm, hF, ⟨k1, k2, ⟨rfl, fun R h => ?_⟩, hB, k5, k6⟩, rfl⟩
    cases h
    exact ⟨k1.1.cong k1.2 fun q hq => fil_in (f := A 3) (g := A 0) (Nat.zero_le _) hq, k1.2⟩
  · refine x_aload_n hC dX3_save_14 rfl rfl ?_
    refine x_get hC 3 hm.1 rfl (by decide) q2333 rfl rfl dX3_save_15 ?_
    refine x_iload_n hC dX3_save_18 rfl rfl ?_
    refine x_aload_n hC dX3_save_19 rfl rfl ?_
    refine x_get hC 0 hm.1 rfl (by decide) q2330 rfl rfl dX3_save_20 ?_
    refine x_iload_n hC dX3_save_23 rfl rfl ?_
    refine x_ialdN hC (hm.arr 0 (by decide)) (show _ < 433 from (by omega)) (by decide) dX3_save_24 ?_
    refine x_miastN hC hm 3 (by decide) (show _ < 433 from (by omega)) (by decide) dX3_save_25 (fun M hm hF1 => ?_)
    have hF := hF.tr hF1
    refine x_iincN (lv' := [_, _]) (b := 1) hC dX3_save_26 rfl (by decide) (by decide) rfl ?_
    refine x_goto (tgt := 7) hC dX3_save_29 (by decide) ?_
    exact ih c1 _ (hm.to rfl (by rw [up_up]; congr 1; exact fil_up (Nat.zero_le _) rfl)) hF
theorem ct_undo (hG : GOK G) (hm : Mdl M m P V A) (hS : MRep S V A) : Ct G yX3_undo cX3_undo 2 (some .int) (xrm 3 0 0) [.ref m] M (MOi M m P (opUndo S).2.2 (opUndo S).1 (opUndo S).2.1) := by
  refine ct_open (lv := [_, _]) hG (by decide +kernel) (Nat.le_of_ble_eq_true rfl) rfl (fun C hC hk => ?_)
  have hF : Fm M M := Fr.rf
  unfold opUndo at hk
  obtain ⟨k1, k2, k3, hB, k5, k6⟩ := hS
  have h8 := k2.2.1
  refine x_aload_n hC dX3_undo_0 rfl rfl ?_
  refine x_aload_n hC dX3_undo_1 rfl rfl ?_
  refine x_get hC 11 hm.1 rfl (by decide) q2341 rfl rfl dX3_undo_2 ?_
  rw [k2.1]
  refine x_if_le (tgt := 12) hC dX3_undo_5 (by decide) (fun c1 => ?_) (fun c1 => ?_)
  · have h0 : (sH S).length = 0 := by
      have h := c1
      rw [show (0 : Int32) = nI 0 from rfl, nI_leI (by omega) (by decide)] at h
      omega
    rw [if_pos h0] at hk
    refine x_iconst (v := 0) hC dX3_undo_12 (by decide) ?_
    refine x_callV0 (na := 1) hC (ct_good hG hm False) (lw_V q2402 q2404 qs30 q89 q2405) hm.1 rfl rfl (by decide +kernel) rfl ⟨Nat.le_of_ble_eq_true rfl, Nat.le_of_ble_eq_true rfl⟩ rfl (Nat.le_of_ble_eq_true rfl) ⟨rfl, rfl⟩ ⟨Nat.le_of_ble_eq_true rfl, Nat.le_of_ble_eq_true rfl⟩ dX3_undo_13 ?_
    rintro _ M ⟨rfl, hm, hF1⟩
    have hF := hF.tr hF1
    refine x_if_ne (tgt := 21) hC dX3_undo_16 (by decide) (fun c2 => ?_) (fun c2 => ?_)
    · exact absurd rfl c2
    · refine x_iconst (v := -1) hC dX3_undo_19 (by decide) ?_
      exact x_iret hC hk dX3_undo_20 (Nat.le_of_ble_eq_true rfl) (Nat.le_of_ble_eq_true rfl) ⟨_, _, _, rfl, (fun h => absurd h (show ¬ (1 : Int32) = 0 by decide)), hm, hF, MRep.k6 ⟨k1, k2, k3, hB, k5, k6⟩, rfl⟩
  · have h0 : ¬ (sH S).length = 0 := fun h => c1 (by rw [h]; decide)
    rw [if_neg h0] at hk
    refine x_iconst (v := 1) hC dX3_undo_8 (by decide) ?_
    refine x_goto (tgt := 13) hC dX3_undo_9 (by decide) ?_
    refine x_callV0 (na := 1) hC (ct_good hG hm True) (lw_V q2402 q2404 qs30 q89 q2405) hm.1 rfl rfl (by decide +kernel) rfl ⟨Nat.le_of_ble_eq_true rfl, Nat.le_of_ble_eq_true rfl⟩ rfl (Nat.le_of_ble_eq_true rfl) ⟨rfl, rfl⟩ ⟨Nat.le_of_ble_eq_true rfl, Nat.le_of_ble_eq_true rfl⟩ dX3_undo_13 ?_
    rintro _ M ⟨rfl, hm, hF1⟩
    have hF := hF.tr hF1
    refine x_if_ne (tgt := 21) hC dX3_undo_16 (by decide) (fun c2 => ?_) (fun c2 => ?_)
    · refine x_aload_n hC dX3_undo_21 rfl rfl ?_
      refine x_dup hC dX3_undo_22 rfl ?_
      refine x_get hC 11 hm.1 rfl (by decide) q2341 rfl rfl dX3_undo_23 ?_
      rw [show upd V 6 (if True then 0 else 1) 1 = nI (sH S).length from k2.1]
      refine x_iconst (v := nI 1) hC dX3_undo_26 (by decide) ?_
      refine x_isubN hC dX3_undo_27 (by omega) ?_
      refine x_mput hC hm 11 1 (by decide) q2341 rfl rfl rfl rfl rfl rfl dX3_undo_28 (fun M hm hF1 => ?_)
      have hF := hF.tr hF1
      refine x_iconst (v := nI 0) hC dX3_undo_31 (by decide) ?_
      refine x_istore_n (lv' := [_, _]) hC dX3_undo_32 rfl (by decide) rfl ?_
      refine x_up (n := 433) (I := fun k => ∀ M1, Mdl M1 m P (upd (upd V 6 (if True then 0 else 1)) 1 (nI ((sH S).length - 1))) (va_up A 0 (fil (A 0) (fun q => A 2 (433 * ((sH S).length - 1) + q)) 0 k)) → Fm _ M1 → Wg G C M1 0 0 33 [some (.ref m), some (.int (nI k))] []) (fun k hk2 ih M hm hF => ?_) 0 (Nat.zero_le _) M (hm.to rfl (by rw [fil_0, up_id])) hF
      refine x_iload_n hC dX3_undo_33 rfl rfl ?_
      refine x_sipush (v := nI 433) hC dX3_undo_34 (by decide) ?_
      refine x_icmp_geN (tgt := 67) hC (by omega) (by omega) dX3_undo_37 (by decide) (fun c3 => ?_) (fun c3 => ?_)
      · have hk3 : k = 433 := by omega
        subst hk3
        have hlast : (sH S)[(sH S).length - 1]? = some ((sH S).getD ((sH S).length - 1) []) := by
          rw [List.getD_eq_getElem?_getD, List.getElem?_eq_getElem (by omega)]; rfl
        obtain ⟨r1, r2⟩ := k2.2.2 _ _ hlast
        refine x_aload_n hC dX3_undo_67 rfl rfl ?_
        refine x_get hC 11 hm.1 rfl (by decide) q2341 rfl rfl dX3_undo_68 ?_
        refine x_iret hC hk dX3_undo_71 (Nat.le_of_ble_eq_true rfl) (Nat.le_of_ble_eq_true rfl) ⟨_, _, _, rfl, (fun _ => rfl), hm, hF, ⟨⟨r1.cong r2 fun q hq => fil_in (f := A 0) (g := fun q => A 2 (433 * ((sH S).length - 1) + q)) (Nat.zero_le _) hq, r2⟩, ⟨?_, ?_, ?_⟩, k3, hB, k5, k6⟩, rfl⟩
        · show nI _ = nI (sH S).dropLast.length
          rw [List.length_dropLast]
        · show (sH S).dropLast.length ≤ 8
          rw [List.length_dropLast]
          omega
        · intro j R hj
          rw [List.getElem?_dropLast] at hj
          split at hj
          · exact k2.2.2 j R hj
          · cases hj
      · refine x_aload_n hC dX3_undo_40 rfl rfl ?_
        refine x_get hC 0 hm.1 rfl (by decide) q2330 rfl rfl dX3_undo_41 ?_
        refine x_iload_n hC dX3_undo_44 rfl rfl ?_
        refine x_aload_n hC dX3_undo_45 rfl rfl ?_
        refine x_get hC 2 hm.1 rfl (by decide) q2332 rfl rfl dX3_undo_46 ?_
        refine x_sipush (v := nI 433) hC dX3_undo_49 (by decide) ?_
        refine x_aload_n hC dX3_undo_52 rfl rfl ?_
        refine x_get hC 11 hm.1 rfl (by decide) q2341 rfl rfl dX3_undo_53 ?_
        rw [show upd (upd V 6 (if True then 0 else 1)) 1 (nI ((sH S).length - 1)) 1 = nI ((sH S).length - 1) from rfl]
        refine x_imulN hC dX3_undo_56 ?_
        refine x_iload_n hC dX3_undo_57 rfl rfl ?_
        refine x_iaddN hC dX3_undo_58 ?_
        refine x_ialdN hC (hm.arr 2 (by decide)) (show _ < 3464 from (by omega)) (by decide) dX3_undo_59 ?_
        refine x_miastN hC hm 0 (by decide) (show _ < 433 from (by omega)) (by decide) dX3_undo_60 (fun M hm hF1 => ?_)
        have hF := hF.tr hF1
        refine x_iincN (lv' := [_, _]) (b := 1) hC dX3_undo_61 rfl (by decide) (by decide) rfl ?_
        refine x_goto (tgt := 33) hC dX3_undo_64 (by decide) ?_
        exact ih c3 _ (hm.to rfl (by rw [up_up]; congr 1; exact fil_up (Nat.zero_le _) rfl)) hF
    · exact absurd c2 (by decide)
theorem ct_restore (hG : GOK G) (hm : Mdl M m P V A) (hS : MRep S V A) : Ct G yX3_restore cX3_restore 2 (some .int) (xrm 3 0 0) [.ref m] M (MOi M m P (opRestore S).2.2 (opRestore S).1 (opRestore S).2.1) := by
  refine ct_open (lv := [_, _]) hG (by decide +kernel) (Nat.le_of_ble_eq_true rfl) rfl (fun C hC hk => ?_)
  have hF : Fm M M := Fr.rf
  have h3 := hS.2.2.1
  refine x_aload_n hC dX3_restore_0 rfl rfl ?_
  refine x_aload_n hC dX3_restore_1 rfl rfl ?_
  refine x_get hC 4 hm.1 rfl (by decide) q2334 rfl rfl dX3_restore_2 ?_
  rw [h3.1]
  refine x_callV0 (na := 1) hC (ct_good hG hm _) (lw_V q2402 q2404 qs30 q89 q2405) hm.1 rfl rfl (by decide +kernel) rfl ⟨Nat.le_of_ble_eq_true rfl, Nat.le_of_ble_eq_true rfl⟩ rfl (Nat.le_of_ble_eq_true rfl) ⟨rfl, rfl⟩ ⟨Nat.le_of_ble_eq_true rfl, Nat.le_of_ble_eq_true rfl⟩ dX3_restore_5 ?_
  rintro _ M ⟨rfl, hm, hF1⟩
  have hF := hF.tr hF1
  have hS6 := hS.k6 (x := if (sV S).isSome = true then 0 else 1)
  refine x_if_neB (tgt := 13) hC dX3_restore_8 (by decide) (fun c => ?_) (fun c => ?_)
  · cases hv : sV S with
    | none => rw [hv] at c; cases c
    | some R =>
      have hop : opRestore S = (0, nI R.length, (R, hP (sH S) (sR S), sV S, sB S, sE S, sT S)) := by unfold opRestore; rw [hv]; rfl
      rw [hop] at hk
      obtain ⟨r1, r2⟩ := h3.2 R hv
      refine x_aload_n hC dX3_restore_13 rfl rfl ?_
      refine x_callV0 (na := 0) hC (ct_rememberS hG hm hS6) (lw_V q2759 q2761 qs74 q89 q2762) hm.1 rfl rfl (by decide +kernel) rfl ⟨Nat.le_of_ble_eq_true rfl, Nat.le_of_ble_eq_true rfl⟩ rfl (Nat.le_of_ble_eq_true rfl) ⟨rfl, rfl⟩ ⟨Nat.le_of_ble_eq_true rfl, Nat.le_of_ble_eq_true rfl⟩ dX3_restore_14 ?_
      rintro _ M ⟨rfl, x, f, hm, hF1, hS7⟩
      have hF := hF.tr hF1
      refine x_iconst (v := nI 0) hC dX3_restore_17 (by decide) ?_
      refine x_istore_n (lv' := [_, _]) hC dX3_restore_18 rfl (by decide) rfl ?_
      refine x_up (n := 433) (I := fun k => ∀ M1, Mdl M1 m P (upd (upd V 6 (if (sV S).isSome = true then 0 else 1)) 1 x) (va_up (va_up A 2 f) 0 (fil (A 0) (A 3) 0 k)) → Fm _ M1 → Wg G C M1 0 0 19 [some (.ref m), some (.int (nI k))] []) (fun k hk2 ih M hm hF => ?_) 0 (Nat.zero_le _) M (hm.to rfl (by rw [fil_0, show A 0 = va_up A 2 f 0 from rfl, up_id])) hF
      refine x_iload_n hC dX3_restore_19 rfl rfl ?_
      refine x_sipush (v := nI 433) hC dX3_restore_20 (by decide) ?_
      refine x_icmp_geN (tgt := 44) hC (by omega) (by omega) dX3_restore_23 (by decide) (fun c3 => ?_) (fun c3 => ?_)
      · have hk3 : k = 433 := by omega
        subst hk3
        have rr : RepR R (fil (A 0) (A 3) 0 433) := r1.cong r2 fun q hq => fil_in (f := A 0) (Nat.zero_le _) hq
        refine x_aload_n hC dX3_restore_44 rfl rfl ?_
        refine x_get hC 0 hm.1 rfl (by decide) q2330 rfl rfl dX3_restore_45 ?_
        refine x_iconst (v := nI 0) hC dX3_restore_48 (by decide) ?_
        refine x_ialdN hC (hm.arr 0 (by decide)) (show _ < 433 from (by omega)) (by decide) dX3_restore_49 ?_
        exact x_iret hC hk dX3_restore_50 (Nat.le_of_ble_eq_true rfl) (Nat.le_of_ble_eq_true rfl) ⟨_, _, _, rfl, (fun _ => rr.1), hm, hF, hS7.setR rr r2, (upd_n (by decide)).trans (upd_s.trans (if_pos c))⟩
      · refine x_aload_n hC dX3_restore_26 rfl rfl ?_
        refine x_get hC 0 hm.1 rfl (by decide) q2330 rfl rfl dX3_restore_27 ?_
        refine x_iload_n hC dX3_restore_30 rfl rfl ?_
        refine x_aload_n hC dX3_restore_31 rfl rfl ?_
        refine x_get hC 3 hm.1 rfl (by decide) q2333 rfl rfl dX3_restore_32 ?_
        refine x_iload_n hC dX3_restore_35 rfl rfl ?_
        refine x_ialdN hC (hm.arr 3 (by decide)) (show _ < 433 from (by omega)) (by decide) dX3_restore_36 ?_
        refine x_miastN hC hm 0 (by decide) (show _ < 433 from (by omega)) (by decide) dX3_restore_37 (fun M hm hF1 => ?_)
        have hF := hF.tr hF1
        refine x_iincN (lv' := [_, _]) (b := 1) hC dX3_restore_38 rfl (by decide) (by decide) rfl ?_
        refine x_goto (tgt := 19) hC dX3_restore_41 (by decide) ?_
        exact ih c3 _ (hm.to rfl (by rw [up_up]; congr 1; exact fil_up (Nat.zero_le _) rfl)) hF
  · cases hv : sV S with
    | none =>
      have hop : opRestore S = (1, 0, S) := by unfold opRestore; rw [hv]; rfl
      rw [hop] at hk
      refine x_iconst (v := -1) hC dX3_restore_11 (by decide) ?_
      exact x_iret hC hk dX3_restore_12 (Nat.le_of_ble_eq_true rfl) (Nat.le_of_ble_eq_true rfl) ⟨_, _, _, rfl, (fun h => absurd h (show ¬ (1 : Int32) = 0 by decide)), hm, hF, hS6, upd_s.trans (if_neg c)⟩
    | some R => exact absurd (by rw [hv]; rfl) c
end M18

