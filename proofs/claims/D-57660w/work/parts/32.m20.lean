/-! ===== the reference's edits that replace all samples ===== -/
def opReverse (S : X_S) (x : Int32) : Int32 × Int32 × X_S := (rc (sR S) x).elim (1, 0, S) fun r => edit S x r (fun k => rg r (rz r - 1 - k))
def opShift (S : X_S) (x s : Int32) : Int32 × Int32 × X_S := (rc (sR S) x).elim (1, 0, S) fun r => if inI (rz r) s then edit S x r (fun k => rg r (k ^^^ s.toNatClampNeg)) else (2, 0, S)
def opQuant (S : X_S) (x st : Int32) : Int32 × Int32 × X_S := (rc (sR S) x).elim (1, 0, S) fun r => if 1 ≤ st ∧ st ≤ 999 then edit S x r (fun k => clip (st * fdiv (rg r k) st)) else (2, 0, S)
def opKeepP (S : X_S) (x c : Int32) : Int32 × Int32 × X_S := (rc (sR S) x).elim (1, 0, S) fun r => if 0 ≤ c ∧ c ≤ nI (rz r) then edit S x r (syS (coP r c.toNatClampNeg) (rz r)) else (2, 0, S)
def opKeepA (S : X_S) (x t : Int32) : Int32 × Int32 × X_S := (rc (sR S) x).elim (1, 0, S) fun r => if isT t then edit S x r (syS (fun i => if iabs (cfN (rg r) (rz r) i) < t then 0 else cfN (rg r) (rz r) i) (rz r)) else (2, 0, S)
def opScale (S : X_S) (x lo hi fc : Int32) : Int32 × Int32 × X_S := (rc (sR S) x).elim (1, 0, S) fun r => if (0 ≤ lo ∧ hi < nI (rz r) ∧ lo ≤ hi) ∧ (-9 ≤ fc ∧ fc ≤ 9) then edit S x r (syS (fun i => cfN (rg r) (rz r) i * (if lo ≤ chg (nI i) (rz r) ∧ chg (nI i) (rz r) ≤ hi then fc else 1)) (rz r)) else (2, 0, S)
def opRemB (S : X_S) (x lo hi : Int32) : Int32 × Int32 × X_S := (rc (sR S) x).elim (1, 0, S) fun r => if 0 ≤ lo ∧ hi < nI (rz r) ∧ lo ≤ hi then edit S x r (syS (fun i => if lo ≤ chg (nI i) (rz r) ∧ chg (nI i) (rz r) ≤ hi then 0 else cfN (rg r) (rz r) i) (rz r)) else (2, 0, S)
theorem MRep.kq {S : X_S} {V : Nat → Int32} {A A' : Nat → Nat → Int32} (h : MRep S V A) (hA : ∀ q, q < 6 → A' q = A q) : MRep S V A' :=
  h.keep (fun q hq => rfl) (hA 0 (by decide)) (hA 2 (by decide)) (hA 3 (by decide)) (hA 4 (by decide)) (hA 5 (by decide))
section M20
variable {G : X_G} {M : X_M} {m : Nat} {P : Nat → Nat} {V : Nat → Int32} {A : Nat → Nat → Int32} {S : X_S} {R : List Rcd} {i k j : Nat} {r s : Rcd}
theorem ct_rem (hG : GOK G) (hm : Mdl M m P V A) (hS : MRep S V A) : Ct G yX3_remember cX3_remember 2 none (xrm 1 0 0) [.ref m] M (fun r M' => r = none ∧ ∃ V' A', Mdl M' m P V' A' ∧ Fm M M' ∧ MRep (pushS S) V' A' ∧ V' 6 = V 6 ∧ A' 0 = A 0 ∧ V' 2 = V 2 ∧ A' 4 = A 4) :=
  (ct_rememberS hG hm hS).mono fun _ _ h => by
    obtain ⟨h1, x, f, h2, h3, h4⟩ := h
    exact ⟨h1, _, _, h2, h3, h4, upd_n (by decide), va_up_n (by decide), upd_n (by decide), va_up_n (by decide)⟩
theorem fil_all {f g : Nat → Int32} {n : Nat} : ∀ l, l < n → fil f g 0 n l = g l := fun _ hl => fil_in (Nat.zero_le _) hl
theorem syS_lim {co : Nat → Int32} {n k : Nat} : lim (syS co n k) := clip_lim _
theorem ct_reverse (hG : GOK G) (hm : Mdl M m P V A) (hS : MRep S V A) (x : Int32) : Ct G yX3_reverse cX3_reverse 3 (some .int) (xrm 8 0 0) [.ref m, .int x] M (MOi M m P (opReverse S x).2.2 (opReverse S x).1 (opReverse S x).2.1) := by
  refine ct_open (lv := [_, _, _]) hG (by decide +kernel) (Nat.le_of_ble_eq_true rfl) rfl (fun C hC hk => ?_)
  have hF : Fm M M := Fr.rf
  unfold opReverse at hk
  refine x_aload_n hC dX3_reverse_0 rfl rfl ?_
  refine x_aload_n hC dX3_reverse_1 rfl rfl ?_
  refine x_iload_n hC dX3_reverse_2 rfl rfl ?_
  refine x_callV0 (na := 1) hC (ct_isRecording hG hm _) (lw_V q2491 q2493 qs44 q89 q2494) hm.1 rfl rfl (by decide +kernel) rfl ⟨Nat.le_of_ble_eq_true rfl, Nat.le_of_ble_eq_true rfl⟩ rfl (Nat.le_of_ble_eq_true rfl) ⟨rfl, rfl⟩ ⟨Nat.le_of_ble_eq_true rfl, Nat.le_of_ble_eq_true rfl⟩ dX3_reverse_3 ?_
  rintro _ M ⟨rfl, rfl⟩
  refine x_callV0 (na := 1) hC (ct_good hG hm _) (lw_V q2402 q2404 qs30 q89 q2405) hm.1 rfl rfl (by decide +kernel) rfl ⟨Nat.le_of_ble_eq_true rfl, Nat.le_of_ble_eq_true rfl⟩ rfl (Nat.le_of_ble_eq_true rfl) ⟨rfl, rfl⟩ ⟨Nat.le_of_ble_eq_true rfl, Nat.le_of_ble_eq_true rfl⟩ dX3_reverse_6 ?_
  rintro _ M ⟨rfl, hm, hF1⟩
  have hF := hF.tr hF1
  refine x_if_neB (tgt := 14) hC dX3_reverse_9 (by decide) (fun c => ?_) (fun c => ?_)
  · obtain ⟨i, r, hx, rfl, hw⟩ := rc_ok hS.1.1 hS.1.2 c
    have hci : (nI i).toNatClampNeg = i := nI_clamp (by have := hw.c6; omega)
    rw [hx] at hk
    dsimp only [Option.elim, edit] at hk
    rw [hci] at hk
    have h6 := hw.n6
    refine x_aload_n hC dX3_reverse_14 rfl rfl ?_
    refine x_callV0 (na := 0) hC (ct_rem hG hm hS.k6) (lw_V q2759 q2761 qs74 q89 q2762) hm.1 rfl rfl (by decide +kernel) rfl ⟨Nat.le_of_ble_eq_true rfl, Nat.le_of_ble_eq_true rfl⟩ rfl (Nat.le_of_ble_eq_true rfl) ⟨rfl, rfl⟩ ⟨Nat.le_of_ble_eq_true rfl, Nat.le_of_ble_eq_true rfl⟩ dX3_reverse_15 ?_
    rintro _ M ⟨rfl, V7, A7, hm, hF1, hS7, h76, h70, -, -⟩
    have hF := hF.tr hF1
    have hw7 : Rw (sR S) (A7 0) i r := by rw [h70]; exact hw
    refine x_iconst (v := nI 0) hC dX3_reverse_18 (by decide) ?_
    refine x_istore_n (lv' := [_, _, _]) hC dX3_reverse_19 rfl (by decide) rfl ?_
    refine x_up (n := rz r) (I := fun k => ∀ M1 g9, (∀ l, rz r - k ≤ l → l < rz r → g9 l = rg r (rz r - 1 - l)) → Mdl M1 m P V7 (va_up A7 9 g9) → Fm _ M1 → Wg G C M1 0 0 20 [some (.ref m), some (.int (nI i)), some (.int (nI k))] []) (fun k hk2 ih M g9 hg hm hF => ?_) 0 (Nat.zero_le _) M (A7 9) (fun l h1 h2 => by omega) (hm.to rfl (by rw [up_id])) hF
    have hw8 : Rw (sR S) (va_up A7 9 g9 0) i r := hw7
    refine x_iload_n hC dX3_reverse_20 rfl rfl ?_
    refine x_aload_n hC dX3_reverse_21 rfl rfl ?_
    refine x_iload_n hC dX3_reverse_22 rfl rfl ?_
    refine x_callV0 (na := 1) hC (ct_sizeR hG hm hw8) (lw_V q2495 q2497 qs45 q89 q2498) hm.1 rfl rfl (by decide +kernel) rfl ⟨Nat.le_of_ble_eq_true rfl, Nat.le_of_ble_eq_true rfl⟩ rfl (Nat.le_of_ble_eq_true rfl) ⟨rfl, rfl⟩ ⟨Nat.le_of_ble_eq_true rfl, Nat.le_of_ble_eq_true rfl⟩ dX3_reverse_23 ?_
    rintro _ M ⟨rfl, rfl⟩
    refine x_icmp_geN (tgt := 55) hC (by omega) (by omega) dX3_reverse_26 (by decide) (fun c1 => ?_) (fun c1 => ?_)
    · refine x_aload_n hC dX3_reverse_55 rfl rfl ?_
      refine x_iload_n hC dX3_reverse_56 rfl rfl ?_
      refine x_callV0 (na := 1) hC (ct_replaceR hG hm (hS7.kA (by decide)) hw8 (g := fun k => rg r (rz r - 1 - k)) (fun l hl => ⟨hg l (by omega) hl, hw.lim (by omega)⟩)) (lw_V q2795 q2797 qs76 q89 q2798) hm.1 rfl rfl (by decide +kernel) rfl ⟨Nat.le_of_ble_eq_true rfl, Nat.le_of_ble_eq_true rfl⟩ rfl (Nat.le_of_ble_eq_true rfl) ⟨rfl, rfl⟩ ⟨Nat.le_of_ble_eq_true rfl, Nat.le_of_ble_eq_true rfl⟩ dX3_reverse_57 ?_
      rintro _ M ⟨rfl, A9, hm, hF1, hS9⟩
      have hF := hF.tr hF1
      exact x_iret hC hk dX3_reverse_60 (Nat.le_of_ble_eq_true rfl) (Nat.le_of_ble_eq_true rfl) ⟨_, _, _, rfl, (fun _ => rfl), hm, hF, hS9, h76.trans (upd_s.trans (if_pos c))⟩
    · refine x_aload_n hC dX3_reverse_29 rfl rfl ?_
      refine x_get hC 10 hm.1 rfl (by decide) q2340 rfl rfl dX3_reverse_30 ?_
      refine x_aload_n hC dX3_reverse_33 rfl rfl ?_
      refine x_iload_n hC dX3_reverse_34 rfl rfl ?_
      refine x_callV0 (na := 1) hC (ct_sizeR hG hm hw8) (lw_V q2495 q2497 qs45 q89 q2498) hm.1 rfl rfl (by decide +kernel) rfl ⟨Nat.le_of_ble_eq_true rfl, Nat.le_of_ble_eq_true rfl⟩ rfl (Nat.le_of_ble_eq_true rfl) ⟨rfl, rfl⟩ ⟨Nat.le_of_ble_eq_true rfl, Nat.le_of_ble_eq_true rfl⟩ dX3_reverse_35 ?_
      rintro _ M ⟨rfl, rfl⟩
      refine x_iconst (v := nI 1) hC dX3_reverse_38 (by decide) ?_
      refine x_isubN hC dX3_reverse_39 (by omega) ?_
      refine x_iload_n hC dX3_reverse_40 rfl rfl ?_
      refine x_isubN hC dX3_reverse_41 (by omega) ?_
      refine x_aload_n hC dX3_reverse_42 rfl rfl ?_
      refine x_iload_n hC dX3_reverse_43 rfl rfl ?_
      refine x_iload_n hC dX3_reverse_44 rfl rfl ?_
      refine x_callV0 (na := 2) hC (ct_atR hG hm hw8 c1) (lw_V q2515 q2517 qs47 q89 q2518) hm.1 rfl rfl (by decide +kernel) rfl ⟨Nat.le_of_ble_eq_true rfl, Nat.le_of_ble_eq_true rfl⟩ rfl (Nat.le_of_ble_eq_true rfl) ⟨rfl, rfl⟩ ⟨Nat.le_of_ble_eq_true rfl, Nat.le_of_ble_eq_true rfl⟩ dX3_reverse_45 ?_
      rintro _ M ⟨rfl, rfl⟩
      refine x_miastN hC hm 9 (by decide) (show _ < 64 from (by omega)) (by decide) dX3_reverse_48 (fun M hm hF1 => ?_)
      have hF := hF.tr hF1
      refine x_iincN (lv' := [_, _, _]) (b := 1) hC dX3_reverse_49 rfl (by decide) (by decide) rfl ?_
      refine x_goto (tgt := 20) hC dX3_reverse_52 (by decide) ?_
      refine ih c1 M (upd g9 (rz r - 1 - k) (rg r k)) (fun l h1 h2 => ?_) (hm.to rfl (by rw [up_up]; rfl)) hF
      by_cases e : l = rz r - 1 - k
      · rw [e, upd_s, show rz r - 1 - (rz r - 1 - k) = k by omega]
      · rw [upd_n e]
        exact hg l (by omega) h2
  · rw [rc_no hS.1.1 hS.1.2 c] at hk
    refine x_iconst (v := -1) hC dX3_reverse_12 (by decide) ?_
    exact x_iret hC hk dX3_reverse_13 (Nat.le_of_ble_eq_true rfl) (Nat.le_of_ble_eq_true rfl) ⟨_, _, _, rfl, (fun h => absurd h (show ¬ (1 : Int32) = 0 by decide)), hm, hF, hS.k6, upd_s.trans (if_neg c)⟩
theorem ct_shift (hG : GOK G) (hm : Mdl M m P V A) (hS : MRep S V A) (x z : Int32) : Ct G yX3_shift cX3_shift 5 (some .int) (xrm 8 0 0) [.ref m, .int x, .int z] M (MOi M m P (opShift S x z).2.2 (opShift S x z).1 (opShift S x z).2.1) := by
  refine ct_open (lv := [_, _, _, _, _]) hG (by decide +kernel) (Nat.le_of_ble_eq_true rfl) rfl (fun C hC hk => ?_)
  have hF : Fm M M := Fr.rf
  unfold opShift at hk
  refine x_aload_n hC dX3_shift_0 rfl rfl ?_
  refine x_iload_n hC dX3_shift_1 rfl rfl ?_
  refine x_callV0 (na := 1) hC (ct_isRecording hG hm _) (lw_V q2491 q2493 qs44 q89 q2494) hm.1 rfl rfl (by decide +kernel) rfl ⟨Nat.le_of_ble_eq_true rfl, Nat.le_of_ble_eq_true rfl⟩ rfl (Nat.le_of_ble_eq_true rfl) ⟨rfl, rfl⟩ ⟨Nat.le_of_ble_eq_true rfl, Nat.le_of_ble_eq_true rfl⟩ dX3_shift_2 ?_
  rintro _ M ⟨rfl, rfl⟩
  refine x_istore_n (lv' := [_, _, _, _, _]) hC dX3_shift_5 rfl (by decide) rfl ?_
  refine x_aload_n hC dX3_shift_6 rfl rfl ?_
  refine x_iload_n hC dX3_shift_7 rfl rfl ?_
  refine x_iload_n hC dX3_shift_8 rfl rfl ?_
  refine x_if_eqB (tgt := 31) hC dX3_shift_9 (by decide) (fun c1 => ?_) (fun c1 => ?_)
  · rw [rc_no hS.1.1 hS.1.2 c1] at hk
    refine x_iconst (v := 0) hC dX3_shift_31 (by decide) ?_
    refine x_callV0 (na := 2) hC (ct_good2 hG hm _ False) (lw_V q2540 q2542 qs49 q89 q2543) hm.1 rfl rfl (by decide +kernel) rfl ⟨Nat.le_of_ble_eq_true rfl, Nat.le_of_ble_eq_true rfl⟩ rfl (Nat.le_of_ble_eq_true rfl) ⟨rfl, rfl⟩ ⟨Nat.le_of_ble_eq_true rfl, Nat.le_of_ble_eq_true rfl⟩ dX3_shift_32 ?_
    rintro _ M ⟨rfl, hm, hF1⟩
    have hF := hF.tr hF1
    refine x_if_neB (tgt := 40) hC dX3_shift_35 (by decide) (fun c => ?_) (fun c => ?_)
    · exact absurd c.1 c1
    · refine x_iconst (v := -1) hC dX3_shift_38 (by decide) ?_
      exact x_iret hC hk dX3_shift_39 (Nat.le_of_ble_eq_true rfl) (Nat.le_of_ble_eq_true rfl) ⟨_, _, _, rfl, (fun h => absurd h (show ¬ (1 : Int32) = 0 by decide)), hm, hF, hS.k6, upd_s.trans (if_neg c1)⟩
  · obtain ⟨i, r, hx, rfl, hw⟩ := rc_ok hS.1.1 hS.1.2 c1
    have hci : (nI i).toNatClampNeg = i := nI_clamp (by have := hw.c6; omega)
    have h6 := hw.n6
    rw [hx] at hk
    dsimp only [Option.elim] at hk
    refine x_iload_n hC dX3_shift_12 rfl rfl ?_
    refine x_iconst (v := 0) hC dX3_shift_13 (by decide) ?_
    refine x_aload_n hC dX3_shift_14 rfl rfl ?_
    refine x_iload_n hC dX3_shift_15 rfl rfl ?_
    refine x_callV0 (na := 1) hC (ct_sizeR hG hm hw) (lw_V q2495 q2497 qs45 q89 q2498) hm.1 rfl rfl (by decide +kernel) rfl ⟨Nat.le_of_ble_eq_true rfl, Nat.le_of_ble_eq_true rfl⟩ rfl (Nat.le_of_ble_eq_true rfl) ⟨rfl, rfl⟩ ⟨Nat.le_of_ble_eq_true rfl, Nat.le_of_ble_eq_true rfl⟩ dX3_shift_16 ?_
    rintro _ M ⟨rfl, rfl⟩
    refine x_iconst (v := 1) hC dX3_shift_19 (by decide) ?_
    refine x_isub hC dX3_shift_20 ?_
    refine x_callS0 (na := 3) hC (ct_isIn hG _ _ _ _) (lw_S q2414 q2415 q89 q2416) (by decide +kernel) rfl ⟨Nat.le_of_ble_eq_true rfl, Nat.le_of_ble_eq_true rfl⟩ rfl (Nat.le_of_ble_eq_true rfl) ⟨rfl, rfl⟩ ⟨Nat.le_of_ble_eq_true rfl, Nat.le_of_ble_eq_true rfl⟩ dX3_shift_21 ?_
    rintro _ M ⟨rfl, rfl⟩
    refine x_if_eqB (tgt := 31) hC dX3_shift_24 (by decide) (fun c2 => ?_) (fun c2 => ?_)
    · rw [if_neg c2] at hk
      refine x_iconst (v := 0) hC dX3_shift_31 (by decide) ?_
      refine x_callV0 (na := 2) hC (ct_good2 hG hm _ False) (lw_V q2540 q2542 qs49 q89 q2543) hm.1 rfl rfl (by decide +kernel) rfl ⟨Nat.le_of_ble_eq_true rfl, Nat.le_of_ble_eq_true rfl⟩ rfl (Nat.le_of_ble_eq_true rfl) ⟨rfl, rfl⟩ ⟨Nat.le_of_ble_eq_true rfl, Nat.le_of_ble_eq_true rfl⟩ dX3_shift_32 ?_
      rintro _ M ⟨rfl, hm, hF1⟩
      have hF := hF.tr hF1
      refine x_if_neB (tgt := 40) hC dX3_shift_35 (by decide) (fun c => ?_) (fun c => ?_)
      · exact absurd c.2 id
      · refine x_iconst (v := -1) hC dX3_shift_38 (by decide) ?_
        exact x_iret hC hk dX3_shift_39 (Nat.le_of_ble_eq_true rfl) (Nat.le_of_ble_eq_true rfl) ⟨_, _, _, rfl, (fun h => absurd h (show ¬ (2 : Int32) = 0 by decide)), hm, hF, hS.k6, upd_s.trans ((if_pos c1).trans (if_neg id))⟩
    · rw [if_pos c2] at hk
      refine x_iconst (v := 1) hC dX3_shift_27 (by decide) ?_
      refine x_goto (tgt := 32) hC dX3_shift_28 (by decide) ?_
      refine x_callV0 (na := 2) hC (ct_good2 hG hm _ True) (lw_V q2540 q2542 qs49 q89 q2543) hm.1 rfl rfl (by decide +kernel) rfl ⟨Nat.le_of_ble_eq_true rfl, Nat.le_of_ble_eq_true rfl⟩ rfl (Nat.le_of_ble_eq_true rfl) ⟨rfl, rfl⟩ ⟨Nat.le_of_ble_eq_true rfl, Nat.le_of_ble_eq_true rfl⟩ dX3_shift_32 ?_
      rintro _ M ⟨rfl, hm, hF1⟩
      have hF := hF.tr hF1
      refine x_if_neB (tgt := 40) hC dX3_shift_35 (by decide) (fun c => ?_) (fun c => ?_)
      · obtain ⟨q, q1, rfl, q3⟩ := inI_at (by omega) c2
        dsimp only [edit] at hk
        rw [hci, q3] at hk
        refine x_aload_n hC dX3_shift_40 rfl rfl ?_
        refine x_callV0 (na := 0) hC (ct_rem hG hm hS.k6) (lw_V q2759 q2761 qs74 q89 q2762) hm.1 rfl rfl (by decide +kernel) rfl ⟨Nat.le_of_ble_eq_true rfl, Nat.le_of_ble_eq_true rfl⟩ rfl (Nat.le_of_ble_eq_true rfl) ⟨rfl, rfl⟩ ⟨Nat.le_of_ble_eq_true rfl, Nat.le_of_ble_eq_true rfl⟩ dX3_shift_41 ?_
        rintro _ M ⟨rfl, V7, A7, hm, hF1, hS7, h76, h70, -, -⟩
        have hF := hF.tr hF1
        have hw7 : Rw (sR S) (A7 0) i r := by rw [h70]; exact hw
        refine x_iconst (v := nI 0) hC dX3_shift_44 (by decide) ?_
        refine x_istore (lv' := [_, _, _, _, _]) hC dX3_shift_45 (by decide) rfl ?_
        have hxx : ∀ a b : Nat, a ^^^ q = b → b ^^^ q = a := fun a b h => by rw [← h, Nat.xor_assoc, Nat.xor_self, Nat.xor_zero]
        refine x_up (n := rz r) (I := fun k => ∀ M1 g9, (∀ l, l < rz r → l ^^^ q < k → g9 l = rg r (l ^^^ q)) → Mdl M1 m P V7 (va_up A7 9 g9) → Fm _ M1 → Wg G C M1 0 0 47 [some (.ref m), some (.int (nI i)), some (.int (nI q)), some (.int (xB (isR (A 0) (nI i)))), some (.int (nI k))] []) (fun k hk2 ih M g9 hg hm hF => ?_) 0 (Nat.zero_le _) M (A7 9) (fun l h1 h2 => by omega) (hm.to rfl (by rw [up_id])) hF
        have hw8 : Rw (sR S) (va_up A7 9 g9 0) i r := hw7
        refine x_iload hC dX3_shift_47 rfl ?_
        refine x_aload_n hC dX3_shift_49 rfl rfl ?_
        refine x_iload_n hC dX3_shift_50 rfl rfl ?_
        refine x_callV0 (na := 1) hC (ct_sizeR hG hm hw8) (lw_V q2495 q2497 qs45 q89 q2498) hm.1 rfl rfl (by decide +kernel) rfl ⟨Nat.le_of_ble_eq_true rfl, Nat.le_of_ble_eq_true rfl⟩ rfl (Nat.le_of_ble_eq_true rfl) ⟨rfl, rfl⟩ ⟨Nat.le_of_ble_eq_true rfl, Nat.le_of_ble_eq_true rfl⟩ dX3_shift_51 ?_
        rintro _ M ⟨rfl, rfl⟩
        refine x_icmp_geN (tgt := 79) hC (by omega) (by omega) dX3_shift_54 (by decide) (fun c3 => ?_) (fun c3 => ?_)
        · refine x_aload_n hC dX3_shift_79 rfl rfl ?_
          refine x_iload_n hC dX3_shift_80 rfl rfl ?_
          refine x_callV0 (na := 1) hC (ct_replaceR hG hm (hS7.kA (by decide)) hw8 (g := fun k => rg r (k ^^^ q)) (fun l hl => ⟨hg l hl (by have := hw.xor q q1 l hl; omega), hw.lim (hw.xor q q1 l hl)⟩)) (lw_V q2795 q2797 qs76 q89 q2798) hm.1 rfl rfl (by decide +kernel) rfl ⟨Nat.le_of_ble_eq_true rfl, Nat.le_of_ble_eq_true rfl⟩ rfl (Nat.le_of_ble_eq_true rfl) ⟨rfl, rfl⟩ ⟨Nat.le_of_ble_eq_true rfl, Nat.le_of_ble_eq_true rfl⟩ dX3_shift_81 ?_
          rintro _ M ⟨rfl, A9, hm, hF1, hS9⟩
          have hF := hF.tr hF1
          exact x_iret hC hk dX3_shift_84 (Nat.le_of_ble_eq_true rfl) (Nat.le_of_ble_eq_true rfl) ⟨_, _, _, rfl, (fun _ => rfl), hm, hF, hS9, h76.trans (upd_s.trans ((if_pos c1).trans (if_pos trivial)))⟩
        · have hkq := hw.xor q q1 k c3
          refine x_aload_n hC dX3_shift_57 rfl rfl ?_
          refine x_get hC 10 hm.1 rfl (by decide) q2340 rfl rfl dX3_shift_58 ?_
          refine x_iload hC dX3_shift_61 rfl ?_
          refine x_iload_n hC dX3_shift_63 rfl rfl ?_
          refine x_ixor hC dX3_shift_64 ?_
          rw [nI_xor]
          refine x_aload_n hC dX3_shift_65 rfl rfl ?_
          refine x_iload_n hC dX3_shift_66 rfl rfl ?_
          refine x_iload hC dX3_shift_67 rfl ?_
          refine x_callV0 (na := 2) hC (ct_atR hG hm hw8 c3) (lw_V q2515 q2517 qs47 q89 q2518) hm.1 rfl rfl (by decide +kernel) rfl ⟨Nat.le_of_ble_eq_true rfl, Nat.le_of_ble_eq_true rfl⟩ rfl (Nat.le_of_ble_eq_true rfl) ⟨rfl, rfl⟩ ⟨Nat.le_of_ble_eq_true rfl, Nat.le_of_ble_eq_true rfl⟩ dX3_shift_69 ?_
          rintro _ M ⟨rfl, rfl⟩
          refine x_miastN hC hm 9 (by decide) (show _ < 64 from (by omega)) (by decide) dX3_shift_72 (fun M hm hF1 => ?_)
          have hF := hF.tr hF1
          refine x_iincN (lv' := [_, _, _, _, _]) (b := 1) hC dX3_shift_73 rfl (by decide) (by decide) rfl ?_
          refine x_goto (tgt := 47) hC dX3_shift_76 (by decide) ?_
          refine ih c3 M (upd g9 (k ^^^ q) (rg r k)) (fun l h1 h2 => ?_) (hm.to rfl (by rw [up_up]; rfl)) hF
          by_cases e : l = k ^^^ q
          · rw [e, upd_s, hxx k _ rfl]
          · rw [upd_n e]
            refine hg l h1 ?_
            rcases Nat.lt_or_ge (l ^^^ q) k with h3 | h3
            · exact h3
            · exact absurd (hxx l k (by omega)).symm e
      · exact absurd ⟨c1, trivial⟩ c
theorem ct_quantize (hG : GOK G) (hm : Mdl M m P V A) (hS : MRep S V A) (x st : Int32) : Ct G yX3_quantize cX3_quantize 4 (some .int) (xrm 8 0 0) [.ref m, .int x, .int st] M (MOi M m P (opQuant S x st).2.2 (opQuant S x st).1 (opQuant S x st).2.1) := by
  refine ct_open (lv := [_, _, _, _]) hG (by decide +kernel) (Nat.le_of_ble_eq_true rfl) rfl (fun C hC hk => ?_)
  have hF : Fm M M := Fr.rf
  unfold opQuant at hk
  refine x_aload_n hC dX3_quantize_0 rfl rfl ?_
  refine x_aload_n hC dX3_quantize_1 rfl rfl ?_
  refine x_iload_n hC dX3_quantize_2 rfl rfl ?_
  refine x_callV0 (na := 1) hC (ct_isRecording hG hm _) (lw_V q2491 q2493 qs44 q89 q2494) hm.1 rfl rfl (by decide +kernel) rfl ⟨Nat.le_of_ble_eq_true rfl, Nat.le_of_ble_eq_true rfl⟩ rfl (Nat.le_of_ble_eq_true rfl) ⟨rfl, rfl⟩ ⟨Nat.le_of_ble_eq_true rfl, Nat.le_of_ble_eq_true rfl⟩ dX3_quantize_3 ?_
  rintro _ M ⟨rfl, rfl⟩
  refine x_iload_n hC dX3_quantize_6 rfl rfl ?_
  refine x_iconst (v := 1) hC dX3_quantize_7 (by decide) ?_
  refine x_sipush (v := 999) hC dX3_quantize_8 (by decide) ?_
  refine x_callS0 (na := 3) hC (ct_isIn hG _ _ _ _) (lw_S q2414 q2415 q89 q2416) (by decide +kernel) rfl ⟨Nat.le_of_ble_eq_true rfl, Nat.le_of_ble_eq_true rfl⟩ rfl (Nat.le_of_ble_eq_true rfl) ⟨rfl, rfl⟩ ⟨Nat.le_of_ble_eq_true rfl, Nat.le_of_ble_eq_true rfl⟩ dX3_quantize_11 ?_
  rintro _ M ⟨rfl, rfl⟩
  refine x_callV0 (na := 2) hC (ct_good2 hG hm _ _) (lw_V q2540 q2542 qs49 q89 q2543) hm.1 rfl rfl (by decide +kernel) rfl ⟨Nat.le_of_ble_eq_true rfl, Nat.le_of_ble_eq_true rfl⟩ rfl (Nat.le_of_ble_eq_true rfl) ⟨rfl, rfl⟩ ⟨Nat.le_of_ble_eq_true rfl, Nat.le_of_ble_eq_true rfl⟩ dX3_quantize_14 ?_
  rintro _ M ⟨rfl, hm, hF1⟩
  have hF := hF.tr hF1
  by_cases c1 : isR (A 0) x
  · obtain ⟨i, r, hx, rfl, hw⟩ := rc_ok hS.1.1 hS.1.2 c1
    have hci : (nI i).toNatClampNeg = i := nI_clamp (by have := hw.c6; omega)
    have h6 := hw.n6
    rw [hx] at hk
    dsimp only [Option.elim] at hk
    by_cases c2 : 1 ≤ st ∧ st ≤ 999
    · rw [if_pos c2] at hk
      dsimp only [edit] at hk
      rw [hci] at hk
      have hst : ¬ st = 0 := fun h => by rw [h] at c2; exact absurd c2.1 (by decide)
      refine x_if_neB (tgt := 22) hC dX3_quantize_17 (by decide) (fun c => ?_) (fun c => ?_)
      · refine x_aload_n hC dX3_quantize_22 rfl rfl ?_
        refine x_callV0 (na := 0) hC (ct_rem hG hm hS.k6) (lw_V q2759 q2761 qs74 q89 q2762) hm.1 rfl rfl (by decide +kernel) rfl ⟨Nat.le_of_ble_eq_true rfl, Nat.le_of_ble_eq_true rfl⟩ rfl (Nat.le_of_ble_eq_true rfl) ⟨rfl, rfl⟩ ⟨Nat.le_of_ble_eq_true rfl, Nat.le_of_ble_eq_true rfl⟩ dX3_quantize_23 ?_
        rintro _ M ⟨rfl, V7, A7, hm, hF1, hS7, h76, h70, -, -⟩
        have hF := hF.tr hF1
        have hw7 : Rw (sR S) (A7 0) i r := by rw [h70]; exact hw
        refine x_iconst (v := nI 0) hC dX3_quantize_26 (by decide) ?_
        refine x_istore_n (lv' := [_, _, _, _]) hC dX3_quantize_27 rfl (by decide) rfl ?_
        refine x_up (n := rz r) (I := fun k => ∀ M1, Mdl M1 m P V7 (va_up A7 9 (fil (A7 9) (fun k => clip (st * fdiv (rg r k) st)) 0 k)) → Fm _ M1 → Wg G C M1 0 0 28 [some (.ref m), some (.int (nI i)), some (.int st), some (.int (nI k))] []) (fun k hk2 ih M hm hF => ?_) 0 (Nat.zero_le _) M (hm.to rfl (by rw [fil_0, up_id])) hF
        have hw8 : Rw (sR S) (va_up A7 9 (fil (A7 9) (fun k => clip (st * fdiv (rg r k) st)) 0 k) 0) i r := hw7
        refine x_iload_n hC dX3_quantize_28 rfl rfl ?_
        refine x_aload_n hC dX3_quantize_29 rfl rfl ?_
        refine x_iload_n hC dX3_quantize_30 rfl rfl ?_
        refine x_callV0 (na := 1) hC (ct_sizeR hG hm hw8) (lw_V q2495 q2497 qs45 q89 q2498) hm.1 rfl rfl (by decide +kernel) rfl ⟨Nat.le_of_ble_eq_true rfl, Nat.le_of_ble_eq_true rfl⟩ rfl (Nat.le_of_ble_eq_true rfl) ⟨rfl, rfl⟩ ⟨Nat.le_of_ble_eq_true rfl, Nat.le_of_ble_eq_true rfl⟩ dX3_quantize_31 ?_
        rintro _ M ⟨rfl, rfl⟩
        refine x_icmp_geN (tgt := 64) hC (by omega) (by omega) dX3_quantize_34 (by decide) (fun c3 => ?_) (fun c3 => ?_)
        · have hk3 : k = rz r := by omega
          subst hk3
          refine x_aload_n hC dX3_quantize_64 rfl rfl ?_
          refine x_iload_n hC dX3_quantize_65 rfl rfl ?_
          refine x_callV0 (na := 1) hC (ct_replaceR hG hm (hS7.kA (by decide)) hw8 (g := fun k => clip (st * fdiv (rg r k) st)) (fun l hl => ⟨by rw [va_up_s]; exact fil_all l hl, clip_lim _⟩)) (lw_V q2795 q2797 qs76 q89 q2798) hm.1 rfl rfl (by decide +kernel) rfl ⟨Nat.le_of_ble_eq_true rfl, Nat.le_of_ble_eq_true rfl⟩ rfl (Nat.le_of_ble_eq_true rfl) ⟨rfl, rfl⟩ ⟨Nat.le_of_ble_eq_true rfl, Nat.le_of_ble_eq_true rfl⟩ dX3_quantize_66 ?_
          rintro _ M ⟨rfl, A9, hm, hF1, hS9⟩
          have hF := hF.tr hF1
          exact x_iret hC hk dX3_quantize_69 (Nat.le_of_ble_eq_true rfl) (Nat.le_of_ble_eq_true rfl) ⟨_, _, _, rfl, (fun _ => rfl), hm, hF, hS9, h76.trans (upd_s.trans ((if_pos c1).trans (if_pos c2)))⟩
        · refine x_aload_n hC dX3_quantize_37 rfl rfl ?_
          refine x_get hC 10 hm.1 rfl (by decide) q2340 rfl rfl dX3_quantize_38 ?_
          refine x_iload_n hC dX3_quantize_41 rfl rfl ?_
          refine x_iload_n hC dX3_quantize_42 rfl rfl ?_
          refine x_aload_n hC dX3_quantize_43 rfl rfl ?_
          refine x_iload_n hC dX3_quantize_44 rfl rfl ?_
          refine x_iload_n hC dX3_quantize_45 rfl rfl ?_
          refine x_callV0 (na := 2) hC (ct_atR hG hm hw8 c3) (lw_V q2515 q2517 qs47 q89 q2518) hm.1 rfl rfl (by decide +kernel) rfl ⟨Nat.le_of_ble_eq_true rfl, Nat.le_of_ble_eq_true rfl⟩ rfl (Nat.le_of_ble_eq_true rfl) ⟨rfl, rfl⟩ ⟨Nat.le_of_ble_eq_true rfl, Nat.le_of_ble_eq_true rfl⟩ dX3_quantize_46 ?_
          rintro _ M ⟨rfl, rfl⟩
          refine x_iload_n hC dX3_quantize_49 rfl rfl ?_
          refine x_callS0 (na := 2) hC (ct_floorDiv hG _ _ hst _) (lw_S q2745 q1946 q103 q1947) (by decide +kernel) rfl ⟨Nat.le_of_ble_eq_true rfl, Nat.le_of_ble_eq_true rfl⟩ rfl (Nat.le_of_ble_eq_true rfl) ⟨rfl, rfl⟩ ⟨Nat.le_of_ble_eq_true rfl, Nat.le_of_ble_eq_true rfl⟩ dX3_quantize_50 ?_
          rintro _ M ⟨rfl, rfl⟩
          refine x_imul hC dX3_quantize_53 ?_
          refine x_callS0 (na := 1) hC (ct_clipped hG _ _) (lw_S q2746 q2747 q89 q2748) (by decide +kernel) rfl ⟨Nat.le_of_ble_eq_true rfl, Nat.le_of_ble_eq_true rfl⟩ rfl (Nat.le_of_ble_eq_true rfl) ⟨rfl, rfl⟩ ⟨Nat.le_of_ble_eq_true rfl, Nat.le_of_ble_eq_true rfl⟩ dX3_quantize_54 ?_
          rintro _ M ⟨rfl, rfl⟩
          refine x_miastN hC hm 9 (by decide) (show _ < 64 from (by omega)) (by decide) dX3_quantize_57 (fun M hm hF1 => ?_)
          have hF := hF.tr hF1
          refine x_iincN (lv' := [_, _, _, _]) (b := 1) hC dX3_quantize_58 rfl (by decide) (by decide) rfl ?_
          refine x_goto (tgt := 28) hC dX3_quantize_61 (by decide) ?_
          exact ih c3 _ (hm.to rfl (by rw [up_up]; congr 1; exact fil_up (Nat.zero_le _) rfl)) hF
      · exact absurd ⟨c1, c2⟩ c
    · rw [if_neg c2] at hk
      refine x_if_neB (tgt := 22) hC dX3_quantize_17 (by decide) (fun c => ?_) (fun c => ?_)
      · exact absurd c.2 c2
      · refine x_iconst (v := -1) hC dX3_quantize_20 (by decide) ?_
        exact x_iret hC hk dX3_quantize_21 (Nat.le_of_ble_eq_true rfl) (Nat.le_of_ble_eq_true rfl) ⟨_, _, _, rfl, (fun h => absurd h (show ¬ (2 : Int32) = 0 by decide)), hm, hF, hS.k6, upd_s.trans ((if_pos c1).trans (if_neg c2))⟩
  · rw [rc_no hS.1.1 hS.1.2 c1] at hk
    refine x_if_neB (tgt := 22) hC dX3_quantize_17 (by decide) (fun c => ?_) (fun c => ?_)
    · exact absurd c.1 c1
    · refine x_iconst (v := -1) hC dX3_quantize_20 (by decide) ?_
      exact x_iret hC hk dX3_quantize_21 (Nat.le_of_ble_eq_true rfl) (Nat.le_of_ble_eq_true rfl) ⟨_, _, _, rfl, (fun h => absurd h (show ¬ (1 : Int32) = 0 by decide)), hm, hF, hS.k6, upd_s.trans (if_neg c1)⟩
theorem ct_keepPeaks (hG : GOK G) (hm : Mdl M m P V A) (hS : MRep S V A) (x w : Int32) : Ct G yX3_keepPeaks cX3_keepPeaks 4 (some .int) (xrm 8 0 0) [.ref m, .int x, .int w] M (MOi M m P (opKeepP S x w).2.2 (opKeepP S x w).1 (opKeepP S x w).2.1) := by
  refine ct_open (lv := [_, _, _, _]) hG (by decide +kernel) (Nat.le_of_ble_eq_true rfl) rfl (fun C hC hk => ?_)
  have hF : Fm M M := Fr.rf
  unfold opKeepP at hk
  refine x_aload_n hC dX3_keepPeaks_0 rfl rfl ?_
  refine x_iload_n hC dX3_keepPeaks_1 rfl rfl ?_
  refine x_callV0 (na := 1) hC (ct_isRecording hG hm _) (lw_V q2491 q2493 qs44 q89 q2494) hm.1 rfl rfl (by decide +kernel) rfl ⟨Nat.le_of_ble_eq_true rfl, Nat.le_of_ble_eq_true rfl⟩ rfl (Nat.le_of_ble_eq_true rfl) ⟨rfl, rfl⟩ ⟨Nat.le_of_ble_eq_true rfl, Nat.le_of_ble_eq_true rfl⟩ dX3_keepPeaks_2 ?_
  rintro _ M ⟨rfl, rfl⟩
  refine x_istore_n (lv' := [_, _, _, _]) hC dX3_keepPeaks_5 rfl (by decide) rfl ?_
  refine x_aload_n hC dX3_keepPeaks_6 rfl rfl ?_
  refine x_iload_n hC dX3_keepPeaks_7 rfl rfl ?_
  refine x_iload_n hC dX3_keepPeaks_8 rfl rfl ?_
  refine x_if_eqB (tgt := 25) hC dX3_keepPeaks_9 (by decide) (fun c1 => ?_) (fun c1 => ?_)
  · rw [rc_no hS.1.1 hS.1.2 c1] at hk
    refine x_iconst (v := 0) hC dX3_keepPeaks_25 (by decide) ?_
    refine x_callV0 (na := 2) hC (ct_good2 hG hm _ False) (lw_V q2540 q2542 qs49 q89 q2543) hm.1 rfl rfl (by decide +kernel) rfl ⟨Nat.le_of_ble_eq_true rfl, Nat.le_of_ble_eq_true rfl⟩ rfl (Nat.le_of_ble_eq_true rfl) ⟨rfl, rfl⟩ ⟨Nat.le_of_ble_eq_true rfl, Nat.le_of_ble_eq_true rfl⟩ dX3_keepPeaks_26 ?_
    rintro _ M ⟨rfl, hm, hF1⟩
    have hF := hF.tr hF1
    refine x_if_neB (tgt := 34) hC dX3_keepPeaks_29 (by decide) (fun c => ?_) (fun c => ?_)
    · exact absurd c.1 c1
    · refine x_iconst (v := -1) hC dX3_keepPeaks_32 (by decide) ?_
      exact x_iret hC hk dX3_keepPeaks_33 (Nat.le_of_ble_eq_true rfl) (Nat.le_of_ble_eq_true rfl) ⟨_, _, _, rfl, (fun h => absurd h (show ¬ (1 : Int32) = 0 by decide)), hm, hF, hS.k6, upd_s.trans (if_neg c1)⟩
  · obtain ⟨i, r, hx, rfl, hw⟩ := rc_ok hS.1.1 hS.1.2 c1
    have hci : (nI i).toNatClampNeg = i := nI_clamp (by have := hw.c6; omega)
    have h6 := hw.n6
    rw [hx] at hk
    dsimp only [Option.elim] at hk
    refine x_aload_n hC dX3_keepPeaks_12 rfl rfl ?_
    refine x_iload_n hC dX3_keepPeaks_13 rfl rfl ?_
    refine x_iload_n hC dX3_keepPeaks_14 rfl rfl ?_
    refine x_callV0 (na := 2) hC (ct_isCount hG hm hw.c6 hw.hn _) (lw_V q2729 q2731 qs69 q89 q2732) hm.1 rfl rfl (by decide +kernel) rfl ⟨Nat.le_of_ble_eq_true rfl, Nat.le_of_ble_eq_true rfl⟩ rfl (Nat.le_of_ble_eq_true rfl) ⟨rfl, rfl⟩ ⟨Nat.le_of_ble_eq_true rfl, Nat.le_of_ble_eq_true rfl⟩ dX3_keepPeaks_15 ?_
    rintro _ M ⟨rfl, rfl⟩
    refine x_if_eqB (tgt := 25) hC dX3_keepPeaks_18 (by decide) (fun c2 => ?_) (fun c2 => ?_)
    · rw [if_neg c2] at hk
      refine x_iconst (v := 0) hC dX3_keepPeaks_25 (by decide) ?_
      refine x_callV0 (na := 2) hC (ct_good2 hG hm _ False) (lw_V q2540 q2542 qs49 q89 q2543) hm.1 rfl rfl (by decide +kernel) rfl ⟨Nat.le_of_ble_eq_true rfl, Nat.le_of_ble_eq_true rfl⟩ rfl (Nat.le_of_ble_eq_true rfl) ⟨rfl, rfl⟩ ⟨Nat.le_of_ble_eq_true rfl, Nat.le_of_ble_eq_true rfl⟩ dX3_keepPeaks_26 ?_
      rintro _ M ⟨rfl, hm, hF1⟩
      have hF := hF.tr hF1
      refine x_if_neB (tgt := 34) hC dX3_keepPeaks_29 (by decide) (fun c => ?_) (fun c => ?_)
      · exact absurd c.2 id
      · refine x_iconst (v := -1) hC dX3_keepPeaks_32 (by decide) ?_
        exact x_iret hC hk dX3_keepPeaks_33 (Nat.le_of_ble_eq_true rfl) (Nat.le_of_ble_eq_true rfl) ⟨_, _, _, rfl, (fun h => absurd h (show ¬ (2 : Int32) = 0 by decide)), hm, hF, hS.k6, upd_s.trans ((if_pos c1).trans (if_neg id))⟩
    · rw [if_pos c2] at hk
      refine x_iconst (v := 1) hC dX3_keepPeaks_21 (by decide) ?_
      refine x_goto (tgt := 26) hC dX3_keepPeaks_22 (by decide) ?_
      refine x_callV0 (na := 2) hC (ct_good2 hG hm _ True) (lw_V q2540 q2542 qs49 q89 q2543) hm.1 rfl rfl (by decide +kernel) rfl ⟨Nat.le_of_ble_eq_true rfl, Nat.le_of_ble_eq_true rfl⟩ rfl (Nat.le_of_ble_eq_true rfl) ⟨rfl, rfl⟩ ⟨Nat.le_of_ble_eq_true rfl, Nat.le_of_ble_eq_true rfl⟩ dX3_keepPeaks_26 ?_
      rintro _ M ⟨rfl, hm, hF1⟩
      have hF := hF.tr hF1
      refine x_if_neB (tgt := 34) hC dX3_keepPeaks_29 (by decide) (fun c => ?_) (fun c => ?_)
      · obtain ⟨q, rfl, q2, q3⟩ := nIz (by omega) c2
        dsimp only [edit] at hk
        rw [hci, q2] at hk
        refine x_aload_n hC dX3_keepPeaks_34 rfl rfl ?_
        refine x_callV0 (na := 0) hC (ct_rem hG hm hS.k6) (lw_V q2759 q2761 qs74 q89 q2762) hm.1 rfl rfl (by decide +kernel) rfl ⟨Nat.le_of_ble_eq_true rfl, Nat.le_of_ble_eq_true rfl⟩ rfl (Nat.le_of_ble_eq_true rfl) ⟨rfl, rfl⟩ ⟨Nat.le_of_ble_eq_true rfl, Nat.le_of_ble_eq_true rfl⟩ dX3_keepPeaks_35 ?_
        rintro _ M ⟨rfl, V7, A7, hm, hF1, hS7, h76, h70, -, -⟩
        have hF := hF.tr hF1
        have hw7 : Rw (sR S) (A7 0) i r := by rw [h70]; exact hw
        refine x_aload_n hC dX3_keepPeaks_38 rfl rfl ?_
        refine x_iload_n hC dX3_keepPeaks_39 rfl rfl ?_
        refine x_iload_n hC dX3_keepPeaks_40 rfl rfl ?_
        refine x_callV0 (na := 2) hC (ct_makeOfPeaks hG hm hw7 q3) (lw_V q2737 q2739 qs71 q89 q2740) hm.1 rfl rfl (by decide +kernel) rfl ⟨Nat.le_of_ble_eq_true rfl, Nat.le_of_ble_eq_true rfl⟩ rfl (Nat.le_of_ble_eq_true rfl) ⟨rfl, rfl⟩ ⟨Nat.le_of_ble_eq_true rfl, Nat.le_of_ble_eq_true rfl⟩ dX3_keepPeaks_41 ?_
        rintro _ M ⟨rfl, g6, g8, g9, hm, hF1, hg⟩
        have hF := hF.tr hF1
        have hw8 : Rw (sR S) (va_up (va_up (va_up A7 6 g6) 8 g8) 9 g9 0) i r := hw7
        refine x_aload_n hC dX3_keepPeaks_44 rfl rfl ?_
        refine x_iload_n hC dX3_keepPeaks_45 rfl rfl ?_
        refine x_callV0 (na := 1) hC (ct_replaceR hG hm (hS7.kq (fun q hq => by rw [va_up_n (by omega), va_up_n (by omega), va_up_n (by omega)])) hw8 (g := syS (coP r q) (rz r)) (fun l hl => ⟨hg l hl, syS_lim⟩)) (lw_V q2795 q2797 qs76 q89 q2798) hm.1 rfl rfl (by decide +kernel) rfl ⟨Nat.le_of_ble_eq_true rfl, Nat.le_of_ble_eq_true rfl⟩ rfl (Nat.le_of_ble_eq_true rfl) ⟨rfl, rfl⟩ ⟨Nat.le_of_ble_eq_true rfl, Nat.le_of_ble_eq_true rfl⟩ dX3_keepPeaks_46 ?_
        rintro _ M ⟨rfl, A9, hm, hF1, hS9⟩
        have hF := hF.tr hF1
        exact x_iret hC hk dX3_keepPeaks_49 (Nat.le_of_ble_eq_true rfl) (Nat.le_of_ble_eq_true rfl) ⟨_, _, _, rfl, (fun _ => rfl), hm, hF, hS9, h76.trans (upd_s.trans ((if_pos c1).trans (if_pos trivial)))⟩
      · exact absurd ⟨c1, trivial⟩ c
end M20

