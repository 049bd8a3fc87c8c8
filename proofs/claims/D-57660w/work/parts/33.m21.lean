/-! ===== the reference's edits that replace all samples, second part ===== -/
theorem lim_i {x : Int32} : lim x ↔ -9999 ≤ x.toInt ∧ x.toInt ≤ 9999 := by
  unfold lim
  rw [Int32.le_iff_toInt_le, Int32.le_iff_toInt_le, show (-9999 : Int32).toInt = -9999 by decide, show (9999 : Int32).toInt = 9999 by decide]
theorem iabs_i {x : Int32} (h : lim x) : (iabs x).toInt = (x.toInt.natAbs : Int) := by
  have h1 := lim_i.mp h
  unfold iabs
  by_cases h0 : 0 ≤ x
  · have h2 := Int32.le_iff_toInt_le.mp h0
    rw [if_pos h0, show (0 : Int32).toInt = 0 by decide] at *
    omega
  · have h2 : ¬ (0 : Int32).toInt ≤ x.toInt := fun h => h0 (Int32.le_iff_toInt_le.mpr h)
    rw [show (0 : Int32).toInt = 0 by decide] at h2
    rw [if_neg h0, Int32.toInt_neg, Int.bmod_eq_of_le (by omega) (by omega)]
    omega
theorem imax_i (x y : Int32) : (imax x y).toInt = max x.toInt y.toInt := by
  unfold imax
  split
  next h => have := Int32.lt_iff_toInt_lt.mp h; omega
  next h => have := Int32.not_lt.mp h; have := Int32.le_iff_toInt_le.mp this; omega
theorem mxA_i {g : Nat → Int32} : ∀ {n : Nat}, (∀ k, k < n → lim (g k)) → 0 ≤ (mxA g n).toInt ∧ (mxA g n).toInt ≤ 9999 ∧ ∀ k, k < n → ((g k).toInt.natAbs : Int) ≤ (mxA g n).toInt
  | 0, _ => ⟨show (0 : Int) ≤ (0 : Int32).toInt by decide, show (0 : Int32).toInt ≤ 9999 by decide, fun k hk => absurd hk (Nat.not_lt_zero k)⟩
  | n + 1, h => by
    obtain ⟨h1, h2, h3⟩ := mxA_i (n := n) (fun k hk => h k (by omega))
    have hl := h n (by omega)
    have h4 := iabs_i hl
    have h5 := lim_i.mp hl
    have e : (mxA g (n + 1)).toInt = max (mxA g n).toInt (iabs (g n)).toInt := imax_i _ _
    refine ⟨by omega, by omega, fun k hk => ?_⟩
    by_cases e2 : k = n
    · subst e2; omega
    · have := h3 k (by omega); omega
theorem norm_lim {lv a mx : Int32} (h1 : 1 ≤ lv ∧ lv ≤ 9999) (hm0 : 0 < mx.toInt) (hm : mx.toInt ≤ 9999) (ha : (a.toInt.natAbs : Int) ≤ mx.toInt) : lim (fdiv (lv * a) mx) := by
  have hl1 := Int32.le_iff_toInt_le.mp h1.1
  have hl2 := Int32.le_iff_toInt_le.mp h1.2
  rw [show (1 : Int32).toInt = 1 by decide] at hl1
  rw [show (9999 : Int32).toInt = 9999 by decide] at hl2
  have b1 : (lv.toInt * a.toInt).natAbs ≤ lv.toInt.natAbs * mx.toInt.natAbs := by
    rw [Int.natAbs_mul]
    exact Nat.mul_le_mul_left _ (by omega)
  have b2 : lv.toInt.natAbs * mx.toInt.natAbs ≤ 9999 * 9999 := Nat.mul_le_mul (by omega) (by omega)
  have hx : (lv * a).toInt = lv.toInt * a.toInt := by
    rw [Int32.toInt_mul]
    exact Int.bmod_eq_of_le (by omega) (by omega)
  have hq : ((lv * a).toInt.tdiv mx.toInt).natAbs ≤ lv.toInt.natAbs := by
    rw [Int.natAbs_tdiv, hx]
    exact Nat.div_le_of_le_mul (by rw [Nat.mul_comm]; exact b1)
  have hd : (lv * a / mx).toInt = (lv * a).toInt.tdiv mx.toInt := by
    rw [Int32.toInt_div]
    exact Int.bmod_eq_of_le (by omega) (by omega)
  rw [lim_i]
  unfold fdiv
  split
  next h =>
    have hne : (lv * a / mx).toInt ≠ -lv.toInt := by
      intro e
      refine h.2 (Int32.toInt_inj.mp ?_)
      have e1 : (lv * a / mx * mx).toInt = (lv * a / mx).toInt * mx.toInt := by
        rw [Int32.toInt_mul, e]
        have : (-lv.toInt * mx.toInt).natAbs = lv.toInt.natAbs * mx.toInt.natAbs := by rw [Int.natAbs_mul, Int.natAbs_neg]
        exact Int.bmod_eq_of_le (by omega) (by omega)
      rw [e1]
      have h3 := Int.tdiv_mul_add_tmod (lv * a).toInt mx.toInt
      rw [← hd] at h3
      have h4 : ((lv * a / mx).toInt * mx.toInt).natAbs = lv.toInt.natAbs * mx.toInt.natAbs := by rw [e, Int.natAbs_mul, Int.natAbs_neg]
      have h5 : (lv * a / mx).toInt * mx.toInt ≤ 0 := by
        rw [e]
        exact Int.mul_nonpos_of_nonpos_of_nonneg (by omega) (by omega)
      have h6 : (lv * a).toInt.natAbs ≤ lv.toInt.natAbs * mx.toInt.natAbs := by rw [hx]; exact b1
      have h7 : (lv * a).toInt ≤ 0 := by
        rcases Int.lt_or_le 0 (lv * a).toInt with h8 | h8
        · have h9 : 0 ≤ (lv * a).toInt.tdiv mx.toInt := Int.tdiv_nonneg (by omega) (by omega)
          rw [← hd] at h9
          omega
        · exact h8
      have h8 : (lv * a).toInt.tmod mx.toInt ≤ 0 := by
        have := Int.tmod_nonneg (a := -(lv * a).toInt) mx.toInt (by omega)
        rw [Int.neg_tmod] at this
        omega
      omega
    rw [Int32.toInt_sub, show (1 : Int32).toInt = 1 by decide, Int.bmod_eq_of_le (by omega) (by omega)]
    omega
  next => omega
def opNorm (S : X_S) (x lv : Int32) : Int32 × Int32 × X_S := (rc (sR S) x).elim (1, 0, S) fun r => if 1 ≤ lv ∧ lv ≤ 9999 then (if 0 < mxA (rg r) (rz r) then (0, mxA (rg r) (rz r), setS (pushS S) x.toNatClampNeg (mkR r.1 (rz r) (fun k => fdiv (lv * rg r k) (mxA (rg r) (rz r))))) else (3, 0, S)) else (2, 0, S)
section M21
variable {G : X_G} {M : X_M} {m : Nat} {P : Nat → Nat} {V : Nat → Int32} {A : Nat → Nat → Int32} {S : X_S} {R : List Rcd} {i k j : Nat} {r s : Rcd}
theorem ct_transR (hG : GOK G) (hm : Mdl M m P V A) (hw : Rw R (A 0) i r) : Ct G yX3_transform cX3_transform 3 none (xrm 4 0 0) [.ref m, .int (nI i)] M (Po none M m P V (va_up A 6 (fil (A 6) (cfN (rg r) (rz r)) 0 (rz r)))) := by
  have h := ct_transform hG hm hw.c6 hw.hn hw.n6
  rwa [hw.cfS] at h
theorem ff_at {F co ed : Nat → Int32} {n k : Nat} (h : k < n) : fil (fil F co 0 n) ed 0 k k = co k := by rw [fil_out (by omega), fil_in (Nat.zero_le _) h]
theorem ct_keepAbove (hG : GOK G) (hm : Mdl M m P V A) (hS : MRep S V A) (x t : Int32) : Ct G yX3_keepAbove cX3_keepAbove 4 (some .int) (xrm 8 0 0) [.ref m, .int x, .int t] M (MOi M m P (opKeepA S x t).2.2 (opKeepA S x t).1 (opKeepA S x t).2.1) := by
  refine ct_open (lv := [_, _, _, _]) hG (by decide +kernel) (Nat.le_of_ble_eq_true rfl) rfl (fun C hC hk => ?_)
  have hF : Fm M M := Fr.rf
  unfold opKeepA at hk
  refine x_aload_n hC dX3_keepAbove_0 rfl rfl ?_
  refine x_aload_n hC dX3_keepAbove_1 rfl rfl ?_
  refine x_iload_n hC dX3_keepAbove_2 rfl rfl ?_
  refine x_callV0 (na := 1) hC (ct_isRecording hG hm _) (lw_V q2491 q2493 qs44 q89 q2494) hm.1 rfl rfl (by decide +kernel) rfl ⟨Nat.le_of_ble_eq_true rfl, Nat.le_of_ble_eq_true rfl⟩ rfl (Nat.le_of_ble_eq_true rfl) ⟨rfl, rfl⟩ ⟨Nat.le_of_ble_eq_true rfl, Nat.le_of_ble_eq_true rfl⟩ dX3_keepAbove_3 ?_
  rintro _ M ⟨rfl, rfl⟩
  refine x_iload_n hC dX3_keepAbove_6 rfl rfl ?_
  refine x_callS0 (na := 1) hC (ct_isThreshold hG _ _) (lw_S q2627 q2628 q89 q2629) (by decide +kernel) rfl ⟨Nat.le_of_ble_eq_true rfl, Nat.le_of_ble_eq_true rfl⟩ rfl (Nat.le_of_ble_eq_true rfl) ⟨rfl, rfl⟩ ⟨Nat.le_of_ble_eq_true rfl, Nat.le_of_ble_eq_true rfl⟩ dX3_keepAbove_7 ?_
  rintro _ M ⟨rfl, rfl⟩
  refine x_callV0 (na := 2) hC (ct_good2 hG hm _ _) (lw_V q2540 q2542 qs49 q89 q2543) hm.1 rfl rfl (by decide +kernel) rfl ⟨Nat.le_of_ble_eq_true rfl, Nat.le_of_ble_eq_true rfl⟩ rfl (Nat.le_of_ble_eq_true rfl) ⟨rfl, rfl⟩ ⟨Nat.le_of_ble_eq_true rfl, Nat.le_of_ble_eq_true rfl⟩ dX3_keepAbove_10 ?_
  rintro _ M ⟨rfl, hm, hF1⟩
  have hF := hF.tr hF1
  by_cases c1 : isR (A 0) x
  · obtain ⟨i, r, hx, rfl, hw⟩ := rc_ok hS.1.1 hS.1.2 c1
    have hci : (nI i).toNatClampNeg = i := nI_clamp (by have := hw.c6; omega)
    have h6 := hw.n6
    have h2 := hw.n2
    rw [hx] at hk
    dsimp only [Option.elim] at hk
    by_cases c2 : isT t
    · rw [if_pos c2] at hk
      dsimp only [edit] at hk
      rw [hci] at hk
      refine x_if_neB (tgt := 18) hC dX3_keepAbove_13 (by decide) (fun c => ?_) (fun c => ?_)
      · obtain ⟨ed, hed⟩ : ∃ ed : Nat → Int32, ed = fun l => if iabs (cfN (rg r) (rz r) l) < t then 0 else cfN (rg r) (rz r) l := ⟨_, rfl⟩
        have hed2 : ∀ l, ed l = if iabs (cfN (rg r) (rz r) l) < t then 0 else cfN (rg r) (rz r) l := fun l => by rw [hed]
        rw [← hed] at hk
        refine x_aload_n hC dX3_keepAbove_18 rfl rfl ?_
        refine x_callV0 (na := 0) hC (ct_rem hG hm hS.k6) (lw_V q2759 q2761 qs74 q89 q2762) hm.1 rfl rfl (by decide +kernel) rfl ⟨Nat.le_of_ble_eq_true rfl, Nat.le_of_ble_eq_true rfl⟩ rfl (Nat.le_of_ble_eq_true rfl) ⟨rfl, rfl⟩ ⟨Nat.le_of_ble_eq_true rfl, Nat.le_of_ble_eq_true rfl⟩ dX3_keepAbove_19 ?_
        rintro _ M ⟨rfl, V7, A7, hm, hF1, hS7, h76, h70, -, -⟩
        have hF := hF.tr hF1
        have hw7 : Rw (sR S) (A7 0) i r := by rw [h70]; exact hw
        refine x_aload_n hC dX3_keepAbove_22 rfl rfl ?_
        refine x_iload_n hC dX3_keepAbove_23 rfl rfl ?_
        refine x_callV0 (na := 1) hC (ct_transR hG hm hw7) (lw_V q2611 q2613 qs55 q89 q2614) hm.1 rfl rfl (by decide +kernel) rfl ⟨Nat.le_of_ble_eq_true rfl, Nat.le_of_ble_eq_true rfl⟩ rfl (Nat.le_of_ble_eq_true rfl) ⟨rfl, rfl⟩ ⟨Nat.le_of_ble_eq_true rfl, Nat.le_of_ble_eq_true rfl⟩ dX3_keepAbove_24 ?_
        rintro _ M ⟨rfl, hm, hF1⟩
        have hF := hF.tr hF1
        refine x_iconst (v := nI 0) hC dX3_keepAbove_27 (by decide) ?_
        refine x_istore_n (lv' := [_, _, _, _]) hC dX3_keepAbove_28 rfl (by decide) rfl ?_
        refine x_up (n := rz r) (I := fun k => ∀ M1, Mdl M1 m P V7 (va_up A7 6 (fil (fil (A7 6) (cfN (rg r) (rz r)) 0 (rz r)) ed 0 k)) → Fm _ M1 → Wg G C M1 0 0 29 [some (.ref m), some (.int (nI i)), some (.int t), some (.int (nI k))] []) (fun k hk2 ih M hm hF => ?_) 0 (Nat.zero_le _) M (hm.to rfl (by rw [fil_0])) hF
        have hw8 : Rw (sR S) (va_up A7 6 (fil (fil (A7 6) (cfN (rg r) (rz r)) 0 (rz r)) ed 0 k) 0) i r := hw7
        refine x_iload_n hC dX3_keepAbove_29 rfl rfl ?_
        refine x_aload_n hC dX3_keepAbove_30 rfl rfl ?_
        refine x_iload_n hC dX3_keepAbove_31 rfl rfl ?_
        refine x_callV0 (na := 1) hC (ct_sizeR hG hm hw8) (lw_V q2495 q2497 qs45 q89 q2498) hm.1 rfl rfl (by decide +kernel) rfl ⟨Nat.le_of_ble_eq_true rfl, Nat.le_of_ble_eq_true rfl⟩ rfl (Nat.le_of_ble_eq_true rfl) ⟨rfl, rfl⟩ ⟨Nat.le_of_ble_eq_true rfl, Nat.le_of_ble_eq_true rfl⟩ dX3_keepAbove_32 ?_
        rintro _ M ⟨rfl, rfl⟩
        refine x_icmp_geN (tgt := 73) hC (by omega) (by omega) dX3_keepAbove_35 (by decide) (fun c3 => ?_) (fun c3 => ?_)
        · have hk3 : k = rz r := by omega
          subst hk3
          refine x_aload_n hC dX3_keepAbove_73 rfl rfl ?_
          refine x_aload_n hC dX3_keepAbove_74 rfl rfl ?_
          refine x_iload_n hC dX3_keepAbove_75 rfl rfl ?_
          refine x_callV0 (na := 1) hC (ct_sizeR hG hm hw8) (lw_V q2495 q2497 qs45 q89 q2498) hm.1 rfl rfl (by decide +kernel) rfl ⟨Nat.le_of_ble_eq_true rfl, Nat.le_of_ble_eq_true rfl⟩ rfl (Nat.le_of_ble_eq_true rfl) ⟨rfl, rfl⟩ ⟨Nat.le_of_ble_eq_true rfl, Nat.le_of_ble_eq_true rfl⟩ dX3_keepAbove_76 ?_
          rintro _ M ⟨rfl, rfl⟩
          refine x_callV0 (na := 1) hC (ct_synthesize hG hm (by omega) h6) (lw_V q2741 q2743 qs72 q89 q2744) hm.1 rfl rfl (by decide +kernel) rfl ⟨Nat.le_of_ble_eq_true rfl, Nat.le_of_ble_eq_true rfl⟩ rfl (Nat.le_of_ble_eq_true rfl) ⟨rfl, rfl⟩ ⟨Nat.le_of_ble_eq_true rfl, Nat.le_of_ble_eq_true rfl⟩ dX3_keepAbove_79 ?_
          rintro _ M ⟨rfl, hm, hF1⟩
          have hF := hF.tr hF1
          refine x_aload_n hC dX3_keepAbove_82 rfl rfl ?_
          refine x_iload_n hC dX3_keepAbove_83 rfl rfl ?_
          refine x_callV0 (na := 1) hC (ct_replaceR hG hm (hS7.kq (fun q hq => by rw [va_up_n (by omega), va_up_n (by omega)])) hw8 (g := syS ed (rz r)) (fun l hl => ⟨by rw [va_up_s, fil_all l hl]; exact syS_cong fun q hq => by rw [va_up_s]; exact fil_all q hq, syS_lim⟩)) (lw_V q2795 q2797 qs76 q89 q2798) hm.1 rfl rfl (by decide +kernel) rfl ⟨Nat.le_of_ble_eq_true rfl, Nat.le_of_ble_eq_true rfl⟩ rfl (Nat.le_of_ble_eq_true rfl) ⟨rfl, rfl⟩ ⟨Nat.le_of_ble_eq_true rfl, Nat.le_of_ble_eq_true rfl⟩ dX3_keepAbove_84 ?_
          rintro _ M ⟨rfl, A9, hm, hF1, hS9⟩
          have hF := hF.tr hF1
          exact x_iret hC hk dX3_keepAbove_87 (Nat.le_of_ble_eq_true rfl) (Nat.le_of_ble_eq_true rfl) ⟨_, _, _, rfl, (fun _ => rfl), hm, hF, hS9, h76.trans (upd_s.trans ((if_pos c1).trans (if_pos c2)))⟩
        · have hrd : va_up A7 6 (fil (fil (A7 6) (cfN (rg r) (rz r)) 0 (rz r)) ed 0 k) 6 k = cfN (rg r) (rz r) k := by rw [va_up_s, ff_at c3]
          refine x_aload_n hC dX3_keepAbove_38 rfl rfl ?_
          refine x_get hC 7 hm.1 rfl (by decide) q2337 rfl rfl dX3_keepAbove_39 ?_
          refine x_iload_n hC dX3_keepAbove_42 rfl rfl ?_
          refine x_aload_n hC dX3_keepAbove_43 rfl rfl ?_
          refine x_get hC 7 hm.1 rfl (by decide) q2337 rfl rfl dX3_keepAbove_44 ?_
          refine x_iload_n hC dX3_keepAbove_47 rfl rfl ?_
          refine x_ialdN hC (hm.arr 6 (by decide)) (show _ < 64 from (by omega)) (by decide) dX3_keepAbove_48 ?_
          rw [hrd]
          refine x_callS0 (na := 1) hC (ct_abs hG _ _) (lw_S q2535 q1604 q103 q1605) (by decide +kernel) rfl ⟨Nat.le_of_ble_eq_true rfl, Nat.le_of_ble_eq_true rfl⟩ rfl (Nat.le_of_ble_eq_true rfl) ⟨rfl, rfl⟩ ⟨Nat.le_of_ble_eq_true rfl, Nat.le_of_ble_eq_true rfl⟩ dX3_keepAbove_49 ?_
          rintro _ M ⟨rfl, rfl⟩
          refine x_iload_n hC dX3_keepAbove_52 rfl rfl ?_
          refine x_icmp_ge (tgt := 60) hC dX3_keepAbove_53 (by decide) (fun c4 => ?_) (fun c4 => ?_)
          · refine x_aload_n hC dX3_keepAbove_60 rfl rfl ?_
            refine x_get hC 7 hm.1 rfl (by decide) q2337 rfl rfl dX3_keepAbove_61 ?_
            refine x_iload_n hC dX3_keepAbove_64 rfl rfl ?_
            refine x_ialdN hC (hm.arr 6 (by decide)) (show _ < 64 from (by omega)) (by decide) dX3_keepAbove_65 ?_
            rw [hrd]
            refine x_miastN hC hm 6 (by decide) (show _ < 64 from (by omega)) (by decide) dX3_keepAbove_66 (fun M hm hF1 => ?_)
            have hF := hF.tr hF1
            refine x_iincN (lv' := [_, _, _, _]) (b := 1) hC dX3_keepAbove_67 rfl (by decide) (by decide) rfl ?_
            refine x_goto (tgt := 29) hC dX3_keepAbove_70 (by decide) ?_
            exact ih c3 _ (hm.to rfl (by rw [up_up]; congr 1; exact fil_up (Nat.zero_le _) (by rw [hed2, if_neg (Int32.not_lt.mpr c4)]))) hF
          · refine x_iconst (v := nI 0) hC dX3_keepAbove_56 (by decide) ?_
            refine x_goto (tgt := 66) hC dX3_keepAbove_57 (by decide) ?_
            refine x_miastN hC hm 6 (by decide) (show _ < 64 from (by omega)) (by decide) dX3_keepAbove_66 (fun M hm hF1 => ?_)
            have hF := hF.tr hF1
            refine x_iincN (lv' := [_, _, _, _]) (b := 1) hC dX3_keepAbove_67 rfl (by decide) (by decide) rfl ?_
            refine x_goto (tgt := 29) hC dX3_keepAbove_70 (by decide) ?_
            exact ih c3 _ (hm.to rfl (by rw [up_up]; congr 1; exact fil_up (Nat.zero_le _) (by rw [hed2, if_pos (Int32.not_le.mp c4)]; rfl))) hF
      · exact absurd ⟨c1, c2⟩ c
    · rw [if_neg c2] at hk
      refine x_if_neB (tgt := 18) hC dX3_keepAbove_13 (by decide) (fun c => ?_) (fun c => ?_)
      · exact absurd c.2 c2
      · refine x_iconst (v := -1) hC dX3_keepAbove_16 (by decide) ?_
        exact x_iret hC hk dX3_keepAbove_17 (Nat.le_of_ble_eq_true rfl) (Nat.le_of_ble_eq_true rfl) ⟨_, _, _, rfl, (fun h => absurd h (show ¬ (2 : Int32) = 0 by decide)), hm, hF, hS.k6, upd_s.trans ((if_pos c1).trans (if_neg c2))⟩
  · rw [rc_no hS.1.1 hS.1.2 c1] at hk
    refine x_if_neB (tgt := 18) hC dX3_keepAbove_13 (by decide) (fun c => ?_) (fun c => ?_)
    · exact absurd c.1 c1
    · refine x_iconst (v := -1) hC dX3_keepAbove_16 (by decide) ?_
      exact x_iret hC hk dX3_keepAbove_17 (Nat.le_of_ble_eq_true rfl) (Nat.le_of_ble_eq_true rfl) ⟨_, _, _, rfl, (fun h => absurd h (show ¬ (1 : Int32) = 0 by decide)), hm, hF, hS.k6, upd_s.trans (if_neg c1)⟩
theorem ct_removeBand (hG : GOK G) (hm : Mdl M m P V A) (hS : MRep S V A) (x lo hi : Int32) : Ct G yX3_removeBand cX3_removeBand 6 (some .int) (xrm 8 0 0) [.ref m, .int x, .int lo, .int hi] M (MOi M m P (opRemB S x lo hi).2.2 (opRemB S x lo hi).1 (opRemB S x lo hi).2.1) := by
  refine ct_open (lv := [_, _, _, _, _, _]) hG (by decide +kernel) (Nat.le_of_ble_eq_true rfl) rfl (fun C hC hk => ?_)
  have hF : Fm M M := Fr.rf
  unfold opRemB at hk
  refine x_aload_n hC dX3_removeBand_0 rfl rfl ?_
  refine x_iload_n hC dX3_removeBand_1 rfl rfl ?_
  refine x_callV0 (na := 1) hC (ct_isRecording hG hm _) (lw_V q2491 q2493 qs44 q89 q2494) hm.1 rfl rfl (by decide +kernel) rfl ⟨Nat.le_of_ble_eq_true rfl, Nat.le_of_ble_eq_true rfl⟩ rfl (Nat.le_of_ble_eq_true rfl) ⟨rfl, rfl⟩ ⟨Nat.le_of_ble_eq_true rfl, Nat.le_of_ble_eq_true rfl⟩ dX3_removeBand_2 ?_
  rintro _ M ⟨rfl, rfl⟩
  refine x_istore (lv' := [_, _, _, _, _, _]) hC dX3_removeBand_5 (by decide) rfl ?_
  refine x_aload_n hC dX3_removeBand_7 rfl rfl ?_
  refine x_iload hC dX3_removeBand_8 rfl ?_
  refine x_iload hC dX3_removeBand_10 rfl ?_
  refine x_if_eqB (tgt := 29) hC dX3_removeBand_12 (by decide) (fun c1 => ?_) (fun c1 => ?_)
  · rw [rc_no hS.1.1 hS.1.2 c1] at hk
    refine x_iconst (v := 0) hC dX3_removeBand_29 (by decide) ?_
    refine x_callV0 (na := 2) hC (ct_good2 hG hm _ False) (lw_V q2540 q2542 qs49 q89 q2543) hm.1 rfl rfl (by decide +kernel) rfl ⟨Nat.le_of_ble_eq_true rfl, Nat.le_of_ble_eq_true rfl⟩ rfl (Nat.le_of_ble_eq_true rfl) ⟨rfl, rfl⟩ ⟨Nat.le_of_ble_eq_true rfl, Nat.le_of_ble_eq_true rfl⟩ dX3_removeBand_30 ?_
    rintro _ M ⟨rfl, hm, hF1⟩
    have hF := hF.tr hF1
    refine x_if_neB (tgt := 38) hC dX3_removeBand_33 (by decide) (fun c => ?_) (fun c => ?_)
    · exact absurd c.1 c1
    · refine x_iconst (v := -1) hC dX3_removeBand_36 (by decide) ?_
      exact x_iret hC hk dX3_removeBand_37 (Nat.le_of_ble_eq_true rfl) (Nat.le_of_ble_eq_true rfl) ⟨_, _, _, rfl, (fun h => absurd h (show ¬ (1 : Int32) = 0 by decide)), hm, hF, hS.k6, upd_s.trans (if_neg c1)⟩
  · obtain ⟨i, r, hx, rfl, hw⟩ := rc_ok hS.1.1 hS.1.2 c1
    have hci : (nI i).toNatClampNeg = i := nI_clamp (by have := hw.c6; omega)
    have h6 := hw.n6
    have h2 := hw.n2
    rw [hx] at hk
    dsimp only [Option.elim] at hk
    refine x_aload_n hC dX3_removeBand_15 rfl rfl ?_
    refine x_iload_n hC dX3_removeBand_16 rfl rfl ?_
    refine x_iload_n hC dX3_removeBand_17 rfl rfl ?_
    refine x_iload_n hC dX3_removeBand_18 rfl rfl ?_
    refine x_callV0 (na := 3) hC (ct_isBand hG hm hw.c6 hw.hn _ _) (lw_V q2603 q2605 qs53 q89 q2606) hm.1 rfl rfl (by decide +kernel) rfl ⟨Nat.le_of_ble_eq_true rfl, Nat.le_of_ble_eq_true rfl⟩ rfl (Nat.le_of_ble_eq_true rfl) ⟨rfl, rfl⟩ ⟨Nat.le_of_ble_eq_true rfl, Nat.le_of_ble_eq_true rfl⟩ dX3_removeBand_19 ?_
    rintro _ M ⟨rfl, rfl⟩
    refine x_if_eqB (tgt := 29) hC dX3_removeBand_22 (by decide) (fun c2 => ?_) (fun c2 => ?_)
    · rw [if_neg c2] at hk
      refine x_iconst (v := 0) hC dX3_removeBand_29 (by decide) ?_
      refine x_callV0 (na := 2) hC (ct_good2 hG hm _ False) (lw_V q2540 q2542 qs49 q89 q2543) hm.1 rfl rfl (by decide +kernel) rfl ⟨Nat.le_of_ble_eq_true rfl, Nat.le_of_ble_eq_true rfl⟩ rfl (Nat.le_of_ble_eq_true rfl) ⟨rfl, rfl⟩ ⟨Nat.le_of_ble_eq_true rfl, Nat.le_of_ble_eq_true rfl⟩ dX3_removeBand_30 ?_
      rintro _ M ⟨rfl, hm, hF1⟩
      have hF := hF.tr hF1
      refine x_if_neB (tgt := 38) hC dX3_removeBand_33 (by decide) (fun c => ?_) (fun c => ?_)
      · exact absurd c.2 id
      · refine x_iconst (v := -1) hC dX3_removeBand_36 (by decide) ?_
        exact x_iret hC hk dX3_removeBand_37 (Nat.le_of_ble_eq_true rfl) (Nat.le_of_ble_eq_true rfl) ⟨_, _, _, rfl, (fun h => absurd h (show ¬ (2 : Int32) = 0 by decide)), hm, hF, hS.k6, upd_s.trans ((if_pos c1).trans (if_neg id))⟩
    · rw [if_pos c2] at hk
      refine x_iconst (v := 1) hC dX3_removeBand_25 (by decide) ?_
      refine x_goto (tgt := 30) hC dX3_removeBand_26 (by decide) ?_
      refine x_callV0 (na := 2) hC (ct_good2 hG hm _ True) (lw_V q2540 q2542 qs49 q89 q2543) hm.1 rfl rfl (by decide +kernel) rfl ⟨Nat.le_of_ble_eq_true rfl, Nat.le_of_ble_eq_true rfl⟩ rfl (Nat.le_of_ble_eq_true rfl) ⟨rfl, rfl⟩ ⟨Nat.le_of_ble_eq_true rfl, Nat.le_of_ble_eq_true rfl⟩ dX3_removeBand_30 ?_
      rintro _ M ⟨rfl, hm, hF1⟩
      have hF := hF.tr hF1
      refine x_if_neB (tgt := 38) hC dX3_removeBand_33 (by decide) (fun c => ?_) (fun c => ?_)
      · dsimp only [edit] at hk
        rw [hci] at hk
        obtain ⟨ed, hed⟩ : ∃ ed : Nat → Int32, ed = fun l => if lo ≤ chg (nI l) (rz r) ∧ chg (nI l) (rz r) ≤ hi then 0 else cfN (rg r) (rz r) l := ⟨_, rfl⟩
        have hed2 : ∀ l, ed l = if lo ≤ chg (nI l) (rz r) ∧ chg (nI l) (rz r) ≤ hi then 0 else cfN (rg r) (rz r) l := fun l => by rw [hed]
        rw [← hed] at hk
        refine x_aload_n hC dX3_removeBand_38 rfl rfl ?_
        refine x_callV0 (na := 0) hC (ct_rem hG hm hS.k6) (lw_V q2759 q2761 qs74 q89 q2762) hm.1 rfl rfl (by decide +kernel) rfl ⟨Nat.le_of_ble_eq_true rfl, Nat.le_of_ble_eq_true rfl⟩ rfl (Nat.le_of_ble_eq_true rfl) ⟨rfl, rfl⟩ ⟨Nat.le_of_ble_eq_true rfl, Nat.le_of_ble_eq_true rfl⟩ dX3_removeBand_39 ?_
        rintro _ M ⟨rfl, V7, A7, hm, hF1, hS7, h76, h70, -, -⟩
        have hF := hF.tr hF1
        have hw7 : Rw (sR S) (A7 0) i r := by rw [h70]; exact hw
        refine x_aload_n hC dX3_removeBand_42 rfl rfl ?_
        refine x_iload_n hC dX3_removeBand_43 rfl rfl ?_
        refine x_callV0 (na := 1) hC (ct_transR hG hm hw7) (lw_V q2611 q2613 qs55 q89 q2614) hm.1 rfl rfl (by decide +kernel) rfl ⟨Nat.le_of_ble_eq_true rfl, Nat.le_of_ble_eq_true rfl⟩ rfl (Nat.le_of_ble_eq_true rfl) ⟨rfl, rfl⟩ ⟨Nat.le_of_ble_eq_true rfl, Nat.le_of_ble_eq_true rfl⟩ dX3_removeBand_44 ?_
        rintro _ M ⟨rfl, hm, hF1⟩
        have hF := hF.tr hF1
        refine x_iconst (v := nI 0) hC dX3_removeBand_47 (by decide) ?_
        refine x_istore (lv' := [_, _, _, _, _, _]) hC dX3_removeBand_48 (by decide) rfl ?_
        refine x_up (n := rz r) (I := fun k => ∀ M1, Mdl M1 m P V7 (va_up A7 6 (fil (fil (A7 6) (cfN (rg r) (rz r)) 0 (rz r)) ed 0 k)) → Fm _ M1 → Wg G C M1 0 0 50 [some (.ref m), some (.int (nI i)), some (.int lo), some (.int hi), some (.int (xB (isR (A 0) (nI i)))), some (.int (nI k))] []) (fun k hk2 ih M hm hF => ?_) 0 (Nat.zero_le _) M (hm.to rfl (by rw [fil_0])) hF
        have hw8 : Rw (sR S) (va_up A7 6 (fil (fil (A7 6) (cfN (rg r) (rz r)) 0 (rz r)) ed 0 k) 0) i r := hw7
        refine x_iload hC dX3_removeBand_50 rfl ?_
        refine x_aload_n hC dX3_removeBand_52 rfl rfl ?_
        refine x_iload_n hC dX3_removeBand_53 rfl rfl ?_
        refine x_callV0 (na := 1) hC (ct_sizeR hG hm hw8) (lw_V q2495 q2497 qs45 q89 q2498) hm.1 rfl rfl (by decide +kernel) rfl ⟨Nat.le_of_ble_eq_true rfl, Nat.le_of_ble_eq_true rfl⟩ rfl (Nat.le_of_ble_eq_true rfl) ⟨rfl, rfl⟩ ⟨Nat.le_of_ble_eq_true rfl, Nat.le_of_ble_eq_true rfl⟩ dX3_removeBand_54 ?_
        rintro _ M ⟨rfl, rfl⟩
        refine x_icmp_geN (tgt := 102) hC (by omega) (by omega) dX3_removeBand_57 (by decide) (fun c3 => ?_) (fun c3 => ?_)
        · have hk3 : k = rz r := by omega
          subst hk3
          refine x_aload_n hC dX3_removeBand_102 rfl rfl ?_
          refine x_aload_n hC dX3_removeBand_103 rfl rfl ?_
          refine x_iload_n hC dX3_removeBand_104 rfl rfl ?_
          refine x_callV0 (na := 1) hC (ct_sizeR hG hm hw8) (lw_V q2495 q2497 qs45 q89 q2498) hm.1 rfl rfl (by decide +kernel) rfl ⟨Nat.le_of_ble_eq_true rfl, Nat.le_of_ble_eq_true rfl⟩ rfl (Nat.le_of_ble_eq_true rfl) ⟨rfl, rfl⟩ ⟨Nat.le_of_ble_eq_true rfl, Nat.le_of_ble_eq_true rfl⟩ dX3_removeBand_105 ?_
          rintro _ M ⟨rfl, rfl⟩
          refine x_callV0 (na := 1) hC (ct_synthesize hG hm (by omega) h6) (lw_V q2741 q2743 qs72 q89 q2744) hm.1 rfl rfl (by decide +kernel) rfl ⟨Nat.le_of_ble_eq_true rfl, Nat.le_of_ble_eq_true rfl⟩ rfl (Nat.le_of_ble_eq_true rfl) ⟨rfl, rfl⟩ ⟨Nat.le_of_ble_eq_true rfl, Nat.le_of_ble_eq_true rfl⟩ dX3_removeBand_108 ?_
          rintro _ M ⟨rfl, hm, hF1⟩
          have hF := hF.tr hF1
          refine x_aload_n hC dX3_removeBand_111 rfl rfl ?_
          refine x_iload_n hC dX3_removeBand_112 rfl rfl ?_
          refine x_callV0 (na := 1) hC (ct_replaceR hG hm (hS7.kq (fun q hq => by rw [va_up_n (by omega), va_up_n (by omega)])) hw8 (g := syS ed (rz r)) (fun l hl => ⟨by rw [va_up_s, fil_all l hl]; exact syS_cong fun q hq => by rw [va_up_s]; exact fil_all q hq, syS_lim⟩)) (lw_V q2795 q2797 qs76 q89 q2798) hm.1 rfl rfl (by decide +kernel) rfl ⟨Nat.le_of_ble_eq_true rfl, Nat.le_of_ble_eq_true rfl⟩ rfl (Nat.le_of_ble_eq_true rfl) ⟨rfl, rfl⟩ ⟨Nat.le_of_ble_eq_true rfl, Nat.le_of_ble_eq_true rfl⟩ dX3_removeBand_113 ?_
          rintro _ M ⟨rfl, A9, hm, hF1, hS9⟩
          have hF := hF.tr hF1
          exact x_iret hC hk dX3_removeBand_116 (Nat.le_of_ble_eq_true rfl) (Nat.le_of_ble_eq_true rfl) ⟨_, _, _, rfl, (fun _ => rfl), hm, hF, hS9, h76.trans (upd_s.trans ((if_pos c1).trans (if_pos trivial)))⟩
        · have hrd : va_up A7 6 (fil (fil (A7 6) (cfN (rg r) (rz r)) 0 (rz r)) ed 0 k) 6 k = cfN (rg r) (rz r) k := by rw [va_up_s, ff_at c3]
          refine x_aload_n hC dX3_removeBand_60 rfl rfl ?_
          refine x_get hC 7 hm.1 rfl (by decide) q2337 rfl rfl dX3_removeBand_61 ?_
          refine x_iload hC dX3_removeBand_64 rfl ?_
          refine x_aload_n hC dX3_removeBand_66 rfl rfl ?_
          refine x_iload_n hC dX3_removeBand_67 rfl rfl ?_
          refine x_callV0 (na := 1) hC (ct_sizeR hG hm hw8) (lw_V q2495 q2497 qs45 q89 q2498) hm.1 rfl rfl (by decide +kernel) rfl ⟨Nat.le_of_ble_eq_true rfl, Nat.le_of_ble_eq_true rfl⟩ rfl (Nat.le_of_ble_eq_true rfl) ⟨rfl, rfl⟩ ⟨Nat.le_of_ble_eq_true rfl, Nat.le_of_ble_eq_true rfl⟩ dX3_removeBand_68 ?_
          rintro _ M ⟨rfl, rfl⟩
          refine x_iload hC dX3_removeBand_71 rfl ?_
          refine x_callS0 (na := 2) hC (ct_changes hG (by omega) (by omega) _ _) (lw_S q2580 q2581 q89 q2582) (by decide +kernel) rfl ⟨Nat.le_of_ble_eq_true rfl, Nat.le_of_ble_eq_true rfl⟩ rfl (Nat.le_of_ble_eq_true rfl) ⟨rfl, rfl⟩ ⟨Nat.le_of_ble_eq_true rfl, Nat.le_of_ble_eq_true rfl⟩ dX3_removeBand_73 ?_
          rintro _ M ⟨rfl, rfl⟩
          refine x_iload_n hC dX3_removeBand_76 rfl rfl ?_
          refine x_iload_n hC dX3_removeBand_77 rfl rfl ?_
          refine x_callS0 (na := 3) hC (ct_isIn hG _ _ _ _) (lw_S q2414 q2415 q89 q2416) (by decide +kernel) rfl ⟨Nat.le_of_ble_eq_true rfl, Nat.le_of_ble_eq_true rfl⟩ rfl (Nat.le_of_ble_eq_true rfl) ⟨rfl, rfl⟩ ⟨Nat.le_of_ble_eq_true rfl, Nat.le_of_ble_eq_true rfl⟩ dX3_removeBand_78 ?_
          rintro _ M ⟨rfl, rfl⟩
          refine x_if_eqB (tgt := 88) hC dX3_removeBand_81 (by decide) (fun c4 => ?_) (fun c4 => ?_)
          · refine x_aload_n hC dX3_removeBand_88 rfl rfl ?_
            refine x_get hC 7 hm.1 rfl (by decide) q2337 rfl rfl dX3_removeBand_89 ?_
            refine x_iload hC dX3_removeBand_92 rfl ?_
            refine x_ialdN hC (hm.arr 6 (by decide)) (show _ < 64 from (by omega)) (by decide) dX3_removeBand_94 ?_
            rw [hrd]
            refine x_miastN hC hm 6 (by decide) (show _ < 64 from (by omega)) (by decide) dX3_removeBand_95 (fun M hm hF1 => ?_)
            have hF := hF.tr hF1
            refine x_iincN (lv' := [_, _, _, _, _, _]) (b := 1) hC dX3_removeBand_96 rfl (by decide) (by decide) rfl ?_
            refine x_goto (tgt := 50) hC dX3_removeBand_99 (by decide) ?_
            exact ih c3 _ (hm.to rfl (by rw [up_up]; congr 1; exact fil_up (Nat.zero_le _) (by rw [hed2, if_neg c4]))) hF
          · refine x_iconst (v := nI 0) hC dX3_removeBand_84 (by decide) ?_
            refine x_goto (tgt := 95) hC dX3_removeBand_85 (by decide) ?_
            refine x_miastN hC hm 6 (by decide) (show _ < 64 from (by omega)) (by decide) dX3_removeBand_95 (fun M hm hF1 => ?_)
            have hF := hF.tr hF1
            refine x_iincN (lv' := [_, _, _, _, _, _]) (b := 1) hC dX3_removeBand_96 rfl (by decide) (by decide) rfl ?_
            refine x_goto (tgt := 50) hC dX3_removeBand_99 (by decide) ?_
            exact ih c3 _ (hm.to rfl (by rw [up_up]; congr 1; exact fil_up (Nat.zero_le _) (by rw [hed2, if_pos c4]; rfl))) hF
      · exact absurd ⟨c1, trivial⟩ c
theorem ct_scaleBand (hG : GOK G) (hm : Mdl M m P V A) (hS : MRep S V A) (x lo hi fc : Int32) : Ct G yX3_scaleBand cX3_scaleBand 7 (some .int) (xrm 8 0 0) [.ref m, .int x, .int lo, .int hi, .int fc] M (MOi M m P (opScale S x lo hi fc).2.2 (opScale S x lo hi fc).1 (opScale S x lo hi fc).2.1) := by
  refine ct_open (lv := [_, _, _, _, _, _, _]) hG (by decide +kernel) (Nat.le_of_ble_eq_true rfl) rfl (fun C hC hk => ?_)
  have hF : Fm M M := Fr.rf
  unfold opScale at hk
  refine x_aload_n hC dX3_scaleBand_0 rfl rfl ?_
  refine x_iload_n hC dX3_scaleBand_1 rfl rfl ?_
  refine x_callV0 (na := 1) hC (ct_isRecording hG hm _) (lw_V q2491 q2493 qs44 q89 q2494) hm.1 rfl rfl (by decide +kernel) rfl ⟨Nat.le_of_ble_eq_true rfl, Nat.le_of_ble_eq_true rfl⟩ rfl (Nat.le_of_ble_eq_true rfl) ⟨rfl, rfl⟩ ⟨Nat.le_of_ble_eq_true rfl, Nat.le_of_ble_eq_true rfl⟩ dX3_scaleBand_2 ?_
  rintro _ M ⟨rfl, rfl⟩
  refine x_istore (lv' := [_, _, _, _, _, _, _]) hC dX3_scaleBand_5 (by decide) rfl ?_
  refine x_aload_n hC dX3_scaleBand_7 rfl rfl ?_
  refine x_iload hC dX3_scaleBand_8 rfl ?_
  refine x_iload hC dX3_scaleBand_10 rfl ?_
  refine x_if_eqB (tgt := 41) hC dX3_scaleBand_12 (by decide) (fun c1 => ?_) (fun c1 => ?_)
  · rw [rc_no hS.1.1 hS.1.2 c1] at hk
    refine x_iconst (v := 0) hC dX3_scaleBand_41 (by decide) ?_
    refine x_callV0 (na := 2) hC (ct_good2 hG hm _ False) (lw_V q2540 q2542 qs49 q89 q2543) hm.1 rfl rfl (by decide +kernel) rfl ⟨Nat.le_of_ble_eq_true rfl, Nat.le_of_ble_eq_true rfl⟩ rfl (Nat.le_of_ble_eq_true rfl) ⟨rfl, rfl⟩ ⟨Nat.le_of_ble_eq_true rfl, Nat.le_of_ble_eq_true rfl⟩ dX3_scaleBand_42 ?_
    rintro _ M ⟨rfl, hm, hF1⟩
    have hF := hF.tr hF1
    refine x_if_neB (tgt := 50) hC dX3_scaleBand_45 (by decide) (fun c => ?_) (fun c => ?_)
    · exact absurd c.1 c1
    · refine x_iconst (v := -1) hC dX3_scaleBand_48 (by decide) ?_
      exact x_iret hC hk dX3_scaleBand_49 (Nat.le_of_ble_eq_true rfl) (Nat.le_of_ble_eq_true rfl) ⟨_, _, _, rfl, (fun h => absurd h (show ¬ (1 : Int32) = 0 by decide)), hm, hF, hS.k6, upd_s.trans (if_neg c1)⟩
  · obtain ⟨i, r, hx, rfl, hw⟩ := rc_ok hS.1.1 hS.1.2 c1
    have hci : (nI i).toNatClampNeg = i := nI_clamp (by have := hw.c6; omega)
    have h6 := hw.n6
    have h2 := hw.n2
    rw [hx] at hk
    dsimp only [Option.elim] at hk
    have no : ¬ ((0 ≤ lo ∧ hi < nI (rz r) ∧ lo ≤ hi) ∧ (-9 ≤ fc ∧ fc ≤ 9)) → Wg G C M 0 0 41 [some (.ref m), some (.int (nI i)), some (.int lo), some (.int hi), some (.int fc), some (.int (xB (isR (A 0) (nI i)))), none] [.int (xB (isR (A 0) (nI i))), .ref m] := by
      intro c2
      rw [if_neg c2] at hk
      refine x_iconst (v := 0) hC dX3_scaleBand_41 (by decide) ?_
      refine x_callV0 (na := 2) hC (ct_good2 hG hm _ False) (lw_V q2540 q2542 qs49 q89 q2543) hm.1 rfl rfl (by decide +kernel) rfl ⟨Nat.le_of_ble_eq_true rfl, Nat.le_of_ble_eq_true rfl⟩ rfl (Nat.le_of_ble_eq_true rfl) ⟨rfl, rfl⟩ ⟨Nat.le_of_ble_eq_true rfl, Nat.le_of_ble_eq_true rfl⟩ dX3_scaleBand_42 ?_
      rintro _ M ⟨rfl, hm, hF1⟩
      have hF := hF.tr hF1
      refine x_if_neB (tgt := 50) hC dX3_scaleBand_45 (by decide) (fun c => ?_) (fun c => ?_)
      · exact absurd c.2 id
      · refine x_iconst (v := -1) hC dX3_scaleBand_48 (by decide) ?_
        exact x_iret hC hk dX3_scaleBand_49 (Nat.le_of_ble_eq_true rfl) (Nat.le_of_ble_eq_true rfl) ⟨_, _, _, rfl, (fun h => absurd h (show ¬ (2 : Int32) = 0 by decide)), hm, hF, hS.k6, upd_s.trans ((if_pos c1).trans (if_neg id))⟩
    refine x_aload_n hC dX3_scaleBand_15 rfl rfl ?_
    refine x_iload_n hC dX3_scaleBand_16 rfl rfl ?_
    refine x_iload_n hC dX3_scaleBand_17 rfl rfl ?_
    refine x_iload_n hC dX3_scaleBand_18 rfl rfl ?_
    refine x_callV0 (na := 3) hC (ct_isBand hG hm hw.c6 hw.hn _ _) (lw_V q2603 q2605 qs53 q89 q2606) hm.1 rfl rfl (by decide +kernel) rfl ⟨Nat.le_of_ble_eq_true rfl, Nat.le_of_ble_eq_true rfl⟩ rfl (Nat.le_of_ble_eq_true rfl) ⟨rfl, rfl⟩ ⟨Nat.le_of_ble_eq_true rfl, Nat.le_of_ble_eq_true rfl⟩ dX3_scaleBand_19 ?_
    rintro _ M ⟨rfl, rfl⟩
    refine x_if_eqB (tgt := 41) hC dX3_scaleBand_22 (by decide) (fun c2 => ?_) (fun c2 => ?_)
    · exact no (fun h => c2 h.1)
    · refine x_iload hC dX3_scaleBand_25 rfl ?_
      refine x_bipush (v := -9) hC dX3_scaleBand_27 (by decide) ?_
      refine x_bipush (v := 9) hC dX3_scaleBand_29 (by decide) ?_
      refine x_callS0 (na := 3) hC (ct_isIn hG _ _ _ _) (lw_S q2414 q2415 q89 q2416) (by decide +kernel) rfl ⟨Nat.le_of_ble_eq_true rfl, Nat.le_of_ble_eq_true rfl⟩ rfl (Nat.le_of_ble_eq_true rfl) ⟨rfl, rfl⟩ ⟨Nat.le_of_ble_eq_true rfl, Nat.le_of_ble_eq_true rfl⟩ dX3_scaleBand_31 ?_
      rintro _ M ⟨rfl, rfl⟩
      refine x_if_eqB (tgt := 41) hC dX3_scaleBand_34 (by decide) (fun c2b => ?_) (fun c2b => ?_)
      · exact no (fun h => c2b h.2)
      · rw [if_pos ⟨c2,c2b⟩] at hk
        refine x_iconst (v := 1) hC dX3_scaleBand_37 (by decide) ?_
        refine x_goto (tgt := 42) hC dX3_scaleBand_38 (by decide) ?_
        refine x_callV0 (na := 2) hC (ct_good2 hG hm _ True) (lw_V q2540 q2542 qs49 q89 q2543) hm.1 rfl rfl (by decide +kernel) rfl ⟨Nat.le_of_ble_eq_true rfl, Nat.le_of_ble_eq_true rfl⟩ rfl (Nat.le_of_ble_eq_true rfl) ⟨rfl, rfl⟩ ⟨Nat.le_of_ble_eq_true rfl, Nat.le_of_ble_eq_true rfl⟩ dX3_scaleBand_42 ?_
        rintro _ M ⟨rfl, hm, hF1⟩
        have hF := hF.tr hF1
        refine x_if_neB (tgt := 50) hC dX3_scaleBand_45 (by decide) (fun c => ?_) (fun c => ?_)
        · dsimp only [edit] at hk
          rw [hci] at hk
          obtain ⟨ed, hed⟩ : ∃ ed : Nat → Int32, ed = fun l => cfN (rg r) (rz r) l * (if lo ≤ chg (nI l) (rz r) ∧ chg (nI l) (rz r) ≤ hi then fc else 1) := ⟨_, rfl⟩
          have hed2 : ∀ l, ed l = cfN (rg r) (rz r) l * (if lo ≤ chg (nI l) (rz r) ∧ chg (nI l) (rz r) ≤ hi then fc else 1) := fun l => by rw [hed]
          rw [← hed] at hk
          refine x_aload_n hC dX3_scaleBand_50 rfl rfl ?_
          refine x_callV0 (na := 0) hC (ct_rem hG hm hS.k6) (lw_V q2759 q2761 qs74 q89 q2762) hm.1 rfl rfl (by decide +kernel) rfl ⟨Nat.le_of_ble_eq_true rfl, Nat.le_of_ble_eq_true rfl⟩ rfl (Nat.le_of_ble_eq_true rfl) ⟨rfl, rfl⟩ ⟨Nat.le_of_ble_eq_true rfl, Nat.le_of_ble_eq_true rfl⟩ dX3_scaleBand_51 ?_
          rintro _ M ⟨rfl, V7, A7, hm, hF1, hS7, h76, h70, -, -⟩
          have hF := hF.tr hF1
          have hw7 : Rw (sR S) (A7 0) i r := by rw [h70]; exact hw
          refine x_aload_n hC dX3_scaleBand_54 rfl rfl ?_
          refine x_iload_n hC dX3_scaleBand_55 rfl rfl ?_
          refine x_callV0 (na := 1) hC (ct_transR hG hm hw7) (lw_V q2611 q2613 qs55 q89 q2614) hm.1 rfl rfl (by decide +kernel) rfl ⟨Nat.le_of_ble_eq_true rfl, Nat.le_of_ble_eq_true rfl⟩ rfl (Nat.le_of_ble_eq_true rfl) ⟨rfl, rfl⟩ ⟨Nat.le_of_ble_eq_true rfl, Nat.le_of_ble_eq_true rfl⟩ dX3_scaleBand_56 ?_
          rintro _ M ⟨rfl, hm, hF1⟩
          have hF := hF.tr hF1
          refine x_iconst (v := nI 0) hC dX3_scaleBand_59 (by decide) ?_
          refine x_istore (lv' := [_, _, _, _, _, _, _]) hC dX3_scaleBand_60 (by decide) rfl ?_
          refine x_up (n := rz r) (I := fun k => ∀ M1, Mdl M1 m P V7 (va_up A7 6 (fil (fil (A7 6) (cfN (rg r) (rz r)) 0 (rz r)) ed 0 k)) → Fm _ M1 → Wg G C M1 0 0 62 [some (.ref m), some (.int (nI i)), some (.int lo), some (.int hi), some (.int fc), some (.int (xB (isR (A 0) (nI i)))), some (.int (nI k))] []) (fun k hk2 ih M hm hF => ?_) 0 (Nat.zero_le _) M (hm.to rfl (by rw [fil_0])) hF
          have hw8 : Rw (sR S) (va_up A7 6 (fil (fil (A7 6) (cfN (rg r) (rz r)) 0 (rz r)) ed 0 k) 0) i r := hw7
          refine x_iload hC dX3_scaleBand_62 rfl ?_
          refine x_aload_n hC dX3_scaleBand_64 rfl rfl ?_
          refine x_iload_n hC dX3_scaleBand_65 rfl rfl ?_
          refine x_callV0 (na := 1) hC (ct_sizeR hG hm hw8) (lw_V q2495 q2497 qs45 q89 q2498) hm.1 rfl rfl (by decide +kernel) rfl ⟨Nat.le_of_ble_eq_true rfl, Nat.le_of_ble_eq_true rfl⟩ rfl (Nat.le_of_ble_eq_true rfl) ⟨rfl, rfl⟩ ⟨Nat.le_of_ble_eq_true rfl, Nat.le_of_ble_eq_true rfl⟩ dX3_scaleBand_66 ?_
          rintro _ M ⟨rfl, rfl⟩
          refine x_icmp_geN (tgt := 112) hC (by omega) (by omega) dX3_scaleBand_69 (by decide) (fun c3 => ?_) (fun c3 => ?_)
          · have hk3 : k = rz r := by omega
            subst hk3
            refine x_aload_n hC dX3_scaleBand_112 rfl rfl ?_
            refine x_aload_n hC dX3_scaleBand_113 rfl rfl ?_
            refine x_iload_n hC dX3_scaleBand_114 rfl rfl ?_
            refine x_callV0 (na := 1) hC (ct_sizeR hG hm hw8) (lw_V q2495 q2497 qs45 q89 q2498) hm.1 rfl rfl (by decide +kernel) rfl ⟨Nat.le_of_ble_eq_true rfl, Nat.le_of_ble_eq_true rfl⟩ rfl (Nat.le_of_ble_eq_true rfl) ⟨rfl, rfl⟩ ⟨Nat.le_of_ble_eq_true rfl, Nat.le_of_ble_eq_true rfl⟩ dX3_scaleBand_115 ?_
            rintro _ M ⟨rfl, rfl⟩
            refine x_callV0 (na := 1) hC (ct_synthesize hG hm (by omega) h6) (lw_V q2741 q2743 qs72 q89 q2744) hm.1 rfl rfl (by decide +kernel) rfl ⟨Nat.le_of_ble_eq_true rfl, Nat.le_of_ble_eq_true rfl⟩ rfl (Nat.le_of_ble_eq_true rfl) ⟨rfl, rfl⟩ ⟨Nat.le_of_ble_eq_true rfl, Nat.le_of_ble_eq_true rfl⟩ dX3_scaleBand_118 ?_
            rintro _ M ⟨rfl, hm, hF1⟩
            have hF := hF.tr hF1
            refine x_aload_n hC dX3_scaleBand_121 rfl rfl ?_
            refine x_iload_n hC dX3_scaleBand_122 rfl rfl ?_
            refine x_callV0 (na := 1) hC (ct_replaceR hG hm (hS7.kq (fun q hq => by rw [va_up_n (by omega), va_up_n (by omega)])) hw8 (g := syS ed (rz r)) (fun l hl => ⟨by rw [va_up_s, fil_all l hl]; exact syS_cong fun q hq => by rw [va_up_s]; exact fil_all q hq, syS_lim⟩)) (lw_V q2795 q2797 qs76 q89 q2798) hm.1 rfl rfl (by decide +kernel) rfl ⟨Nat.le_of_ble_eq_true rfl, Nat.le_of_ble_eq_true rfl⟩ rfl (Nat.le_of_ble_eq_true rfl) ⟨rfl, rfl⟩ ⟨Nat.le_of_ble_eq_true rfl, Nat.le_of_ble_eq_true rfl⟩ dX3_scaleBand_123 ?_
            rintro _ M ⟨rfl, A9, hm, hF1, hS9⟩
            have hF := hF.tr hF1
            exact x_iret hC hk dX3_scaleBand_126 (Nat.le_of_ble_eq_true rfl) (Nat.le_of_ble_eq_true rfl) ⟨_, _, _, rfl, (fun _ => rfl), hm, hF, hS9, h76.trans (upd_s.trans ((if_pos c1).trans (if_pos trivial)))⟩
          · have hrd : va_up A7 6 (fil (fil (A7 6) (cfN (rg r) (rz r)) 0 (rz r)) ed 0 k) 6 k = cfN (rg r) (rz r) k := by rw [va_up_s, ff_at c3]
            refine x_aload_n hC dX3_scaleBand_72 rfl rfl ?_
            refine x_get hC 7 hm.1 rfl (by decide) q2337 rfl rfl dX3_scaleBand_73 ?_
            refine x_iload hC dX3_scaleBand_76 rfl ?_
            refine x_dup2_11 hC dX3_scaleBand_78 rfl rfl ?_
            refine x_ialdN hC (hm.arr 6 (by decide)) (show _ < 64 from (by omega)) (by decide) dX3_scaleBand_79 ?_
            rw [hrd]
            refine x_aload_n hC dX3_scaleBand_80 rfl rfl ?_
            refine x_iload_n hC dX3_scaleBand_81 rfl rfl ?_
            refine x_callV0 (na := 1) hC (ct_sizeR hG hm hw8) (lw_V q2495 q2497 qs45 q89 q2498) hm.1 rfl rfl (by decide +kernel) rfl ⟨Nat.le_of_ble_eq_true rfl, Nat.le_of_ble_eq_true rfl⟩ rfl (Nat.le_of_ble_eq_true rfl) ⟨rfl, rfl⟩ ⟨Nat.le_of_ble_eq_true rfl, Nat.le_of_ble_eq_true rfl⟩ dX3_scaleBand_82 ?_
            rintro _ M ⟨rfl, rfl⟩
            refine x_iload hC dX3_scaleBand_85 rfl ?_
            refine x_callS0 (na := 2) hC (ct_changes hG (by omega) (by omega) _ _) (lw_S q2580 q2581 q89 q2582) (by decide +kernel) rfl ⟨Nat.le_of_ble_eq_true rfl, Nat.le_of_ble_eq_true rfl⟩ rfl (Nat.le_of_ble_eq_true rfl) ⟨rfl, rfl⟩ ⟨Nat.le_of_ble_eq_true rfl, Nat.le_of_ble_eq_true rfl⟩ dX3_scaleBand_87 ?_
            rintro _ M ⟨rfl, rfl⟩
            refine x_iload_n hC dX3_scaleBand_90 rfl rfl ?_
            refine x_iload_n hC dX3_scaleBand_91 rfl rfl ?_
            refine x_callS0 (na := 3) hC (ct_isIn hG _ _ _ _) (lw_S q2414 q2415 q89 q2416) (by decide +kernel) rfl ⟨Nat.le_of_ble_eq_true rfl, Nat.le_of_ble_eq_true rfl⟩ rfl (Nat.le_of_ble_eq_true rfl) ⟨rfl, rfl⟩ ⟨Nat.le_of_ble_eq_true rfl, Nat.le_of_ble_eq_true rfl⟩ dX3_scaleBand_92 ?_
            rintro _ M ⟨rfl, rfl⟩
            refine x_if_eqB (tgt := 103) hC dX3_scaleBand_95 (by decide) (fun c4 => ?_) (fun c4 => ?_)
            · refine x_iconst (v := 1) hC dX3_scaleBand_103 (by decide) ?_
              refine x_imul hC dX3_scaleBand_104 ?_
              refine x_miastN hC hm 6 (by decide) (show _ < 64 from (by omega)) (by decide) dX3_scaleBand_105 (fun M hm hF1 => ?_)
              have hF := hF.tr hF1
              refine x_iincN (lv' := [_, _, _, _, _, _, _]) (b := 1) hC dX3_scaleBand_106 rfl (by decide) (by decide) rfl ?_
              refine x_goto (tgt := 62) hC dX3_scaleBand_109 (by decide) ?_
              exact ih c3 _ (hm.to rfl (by rw [up_up]; congr 1; exact fil_up (Nat.zero_le _) (by rw [hed2, if_neg c4]))) hF
            · refine x_iload hC dX3_scaleBand_98 rfl ?_
              refine x_goto (tgt := 104) hC dX3_scaleBand_100 (by decide) ?_
              refine x_imul hC dX3_scaleBand_104 ?_
              refine x_miastN hC hm 6 (by decide) (show _ < 64 from (by omega)) (by decide) dX3_scaleBand_105 (fun M hm hF1 => ?_)
              have hF := hF.tr hF1
              refine x_iincN (lv' := [_, _, _, _, _, _, _]) (b := 1) hC dX3_scaleBand_106 rfl (by decide) (by decide) rfl ?_
              refine x_goto (tgt := 62) hC dX3_scaleBand_109 (by decide) ?_
              exact ih c3 _ (hm.to rfl (by rw [up_up]; congr 1; exact fil_up (Nat.zero_le _) (by rw [hed2, if_pos c4]))) hF
        · exact absurd ⟨c1, trivial⟩ c
theorem mxA_cong {g g' : Nat → Int32} : ∀ {n : Nat}, (∀ k, k < n → g k = g' k) → mxA g n = mxA g' n
  | 0, _ => rfl
  | n + 1, h => by
    unfold mxA
    rw [mxA_cong (fun k hk => h k (by omega)), h n (by omega)]
theorem ct_normalize (hG : GOK G) (hm : Mdl M m P V A) (hS : MRep S V A) (x lv : Int32) : Ct G yX3_normalize cX3_normalize 6 (some .int) (xrm 8 0 0) [.ref m, .int x, .int lv] M (MOi M m P (opNorm S x lv).2.2 (opNorm S x lv).1 (opNorm S x lv).2.1) := by
  refine ct_open (lv := [_, _, _, _, _, _]) hG (by decide +kernel) (Nat.le_of_ble_eq_true rfl) rfl (fun C hC hk => ?_)
  have hF : Fm M M := Fr.rf
  unfold opNorm at hk
  refine x_aload_n hC dX3_normalize_0 rfl rfl ?_
  refine x_iload_n hC dX3_normalize_1 rfl rfl ?_
  refine x_callV0 (na := 1) hC (ct_isRecording hG hm _) (lw_V q2491 q2493 qs44 q89 q2494) hm.1 rfl rfl (by decide +kernel) rfl ⟨Nat.le_of_ble_eq_true rfl, Nat.le_of_ble_eq_true rfl⟩ rfl (Nat.le_of_ble_eq_true rfl) ⟨rfl, rfl⟩ ⟨Nat.le_of_ble_eq_true rfl, Nat.le_of_ble_eq_true rfl⟩ dX3_normalize_2 ?_
  rintro _ M ⟨rfl, rfl⟩
  refine x_istore_n (lv' := [_, _, _, _, _, _]) hC dX3_normalize_5 rfl (by decide) rfl ?_
  refine x_iload_n hC dX3_normalize_6 rfl rfl ?_
  have codes : ∀ (p q r : Prop) [Decidable p] [Decidable q] [Decidable r], (upd V 6 (if p then if q then if r then 0 else 3 else 2 else 1)) 6 = (if p then if q then if r then 0 else 3 else 2 else 1) := fun p q r _ _ _ => upd_s
  refine x_if_eqB (tgt := 18) hC dX3_normalize_7 (by decide) (fun c1 => ?_) (fun c1 => ?_)
  · rw [rc_no hS.1.1 hS.1.2 c1] at hk
    refine x_iconst (v := 0) hC dX3_normalize_18 (by decide) ?_
    refine x_istore (lv' := [_, _, _, _, _, _]) hC dX3_normalize_19 (by decide) rfl ?_
    refine x_aload_n hC dX3_normalize_21 rfl rfl ?_
    refine x_iload_n hC dX3_normalize_22 rfl rfl ?_
    refine x_iload_n hC dX3_normalize_23 rfl rfl ?_
    refine x_iconst (v := 1) hC dX3_normalize_24 (by decide) ?_
    refine x_sipush (v := 9999) hC dX3_normalize_25 (by decide) ?_
    refine x_callS0 (na := 3) hC (ct_isIn hG _ _ _ _) (lw_S q2414 q2415 q89 q2416) (by decide +kernel) rfl ⟨Nat.le_of_ble_eq_true rfl, Nat.le_of_ble_eq_true rfl⟩ rfl (Nat.le_of_ble_eq_true rfl) ⟨rfl, rfl⟩ ⟨Nat.le_of_ble_eq_true rfl, Nat.le_of_ble_eq_true rfl⟩ dX3_normalize_28 ?_
    rintro _ M ⟨rfl, rfl⟩
    refine x_iload hC dX3_normalize_31 rfl ?_
    refine x_if_le (tgt := 40) hC dX3_normalize_33 (by decide) (fun c2 => ?_) (fun c2 => ?_)
    · refine x_iconst (v := 0) hC dX3_normalize_40 (by decide) ?_
      refine x_callV0 (na := 3) hC (ct_good3 hG hm _ _ False) (lw_V q2767 q2769 qs75 q89 q2770) hm.1 rfl rfl (by decide +kernel) rfl ⟨Nat.le_of_ble_eq_true rfl, Nat.le_of_ble_eq_true rfl⟩ rfl (Nat.le_of_ble_eq_true rfl) ⟨rfl, rfl⟩ ⟨Nat.le_of_ble_eq_true rfl, Nat.le_of_ble_eq_true rfl⟩ dX3_normalize_41 ?_
      rintro _ M ⟨rfl, hm, hF1⟩
      have hF := hF.tr hF1
      refine x_if_neB (tgt := 49) hC dX3_normalize_44 (by decide) (fun c => ?_) (fun c => ?_)
      · exact absurd c.1 c1
      · refine x_iconst (v := -1) hC dX3_normalize_47 (by decide) ?_
        exact x_iret hC hk dX3_normalize_48 (Nat.le_of_ble_eq_true rfl) (Nat.le_of_ble_eq_true rfl) ⟨_, _, _, rfl, (fun h => absurd h (show ¬ (1 : Int32) = 0 by decide)), hm, hF, hS.k6, upd_s.trans (if_neg c1)⟩
    · exact absurd (show (0 : Int32) ≤ 0 by decide) c2
  · obtain ⟨i, r, hx, rfl, hw⟩ := rc_ok hS.1.1 hS.1.2 c1
    have hci : (nI i).toNatClampNeg = i := nI_clamp (by have := hw.c6; omega)
    have h6 := hw.n6
    rw [hx] at hk
    dsimp only [Option.elim] at hk
    rw [hci] at hk
    refine x_aload_n hC dX3_normalize_10 rfl rfl ?_
    refine x_iload_n hC dX3_normalize_11 rfl rfl ?_
    refine x_callV0 (na := 1) hC (ct_loudness hG hm hw.c6 hw.hn hw.n6) (lw_V q2819 q2821 qs77 q89 q2822) hm.1 rfl rfl (by decide +kernel) rfl ⟨Nat.le_of_ble_eq_true rfl, Nat.le_of_ble_eq_true rfl⟩ rfl (Nat.le_of_ble_eq_true rfl) ⟨rfl, rfl⟩ ⟨Nat.le_of_ble_eq_true rfl, Nat.le_of_ble_eq_true rfl⟩ dX3_normalize_12 ?_
    rintro _ M ⟨rfl, rfl⟩
    rw [mxA_cong (g' := rg r) hw.hg]
    obtain ⟨m1, m2, m3⟩ := mxA_i (g := rg r) (n := rz r) (fun k hk => hw.lim hk)
    generalize mxA (rg r) (rz r) = mx at hk m1 m2 m3 ⊢
    refine x_goto (tgt := 19) hC dX3_normalize_15 (by decide) ?_
    refine x_istore (lv' := [_, _, _, _, _, _]) hC dX3_normalize_19 (by decide) rfl ?_
    refine x_aload_n hC dX3_normalize_21 rfl rfl ?_
    refine x_iload_n hC dX3_normalize_22 rfl rfl ?_
    refine x_iload_n hC dX3_normalize_23 rfl rfl ?_
    refine x_iconst (v := 1) hC dX3_normalize_24 (by decide) ?_
    refine x_sipush (v := 9999) hC dX3_normalize_25 (by decide) ?_
    refine x_callS0 (na := 3) hC (ct_isIn hG _ _ _ _) (lw_S q2414 q2415 q89 q2416) (by decide +kernel) rfl ⟨Nat.le_of_ble_eq_true rfl, Nat.le_of_ble_eq_true rfl⟩ rfl (Nat.le_of_ble_eq_true rfl) ⟨rfl, rfl⟩ ⟨Nat.le_of_ble_eq_true rfl, Nat.le_of_ble_eq_true rfl⟩ dX3_normalize_28 ?_
    rintro _ M ⟨rfl, rfl⟩
    refine x_iload hC dX3_normalize_31 rfl ?_
    refine x_j1 (fun v => v = xB (0 < mx)) 41 (fun hj => ?_) (fun v hv => ?_)
    · refine x_if_le (tgt := 40) hC dX3_normalize_33 (by decide) (fun c2 => ?_) (fun c2 => ?_)
      · refine x_iconst (v := 0) hC dX3_normalize_40 (by decide) ?_
        exact hj _ (xB_f (Int32.not_lt.mpr c2)).symm
      · refine x_iconst (v := 1) hC dX3_normalize_36 (by decide) ?_
        refine x_goto (tgt := 41) hC dX3_normalize_37 (by decide) ?_
        exact hj _ (xB_t (Int32.not_le.mp c2)).symm
    · subst hv
      refine x_callV0 (na := 3) hC (ct_good3 hG hm _ _ _) (lw_V q2767 q2769 qs75 q89 q2770) hm.1 rfl rfl (by decide +kernel) rfl ⟨Nat.le_of_ble_eq_true rfl, Nat.le_of_ble_eq_true rfl⟩ rfl (Nat.le_of_ble_eq_true rfl) ⟨rfl, rfl⟩ ⟨Nat.le_of_ble_eq_true rfl, Nat.le_of_ble_eq_true rfl⟩ dX3_normalize_41 ?_
      rintro _ M ⟨rfl, hm, hF1⟩
      have hF := hF.tr hF1
      have h76' := codes (isR (A 0) (nI i)) (1 ≤ lv ∧ lv ≤ 9999) (0 < mx)
      rw [if_pos c1] at h76'
      by_cases c2 : 1 ≤ lv ∧ lv ≤ 9999
      · rw [if_pos c2] at hk h76'
        by_cases c3 : 0 < mx
        · rw [if_pos c3] at hk h76'
          have hmx : ¬ mx = 0 := fun h => by rw [h] at c3; exact absurd c3 (by decide)
          have hm0 := Int32.lt_iff_toInt_lt.mp c3
          rw [show (0 : Int32).toInt = 0 by decide] at hm0
          refine x_if_neB (tgt := 49) hC dX3_normalize_44 (by decide) (fun c => ?_) (fun c => ?_)
          · refine x_aload_n hC dX3_normalize_49 rfl rfl ?_
            refine x_callV0 (na := 0) hC (ct_rem hG hm hS.k6) (lw_V q2759 q2761 qs74 q89 q2762) hm.1 rfl rfl (by decide +kernel) rfl ⟨Nat.le_of_ble_eq_true rfl, Nat.le_of_ble_eq_true rfl⟩ rfl (Nat.le_of_ble_eq_true rfl) ⟨rfl, rfl⟩ ⟨Nat.le_of_ble_eq_true rfl, Nat.le_of_ble_eq_true rfl⟩ dX3_normalize_50 ?_
            rintro _ M ⟨rfl, V7, A7, hm, hF1, hS7, h76, h70, -, -⟩
            have hF := hF.tr hF1
            have hw7 : Rw (sR S) (A7 0) i r := by rw [h70]; exact hw
            refine x_iconst (v := nI 0) hC dX3_normalize_53 (by decide) ?_
            refine x_istore (lv' := [_, _, _, _, _, _]) hC dX3_normalize_54 (by decide) rfl ?_
            refine x_up (n := rz r) (I := fun k => ∀ M1, Mdl M1 m P V7 (va_up A7 9 (fil (A7 9) (fun k => fdiv (lv * rg r k) mx) 0 k)) → Fm _ M1 → Wg G C M1 0 0 56 [some (.ref m), some (.int (nI i)), some (.int lv), some (.int (xB (isR (A 0) (nI i)))), some (.int mx), some (.int (nI k))] []) (fun k hk2 ih M hm hF => ?_) 0 (Nat.zero_le _) M (hm.to rfl (by rw [fil_0, up_id])) hF
            have hw8 : Rw (sR S) (va_up A7 9 (fil (A7 9) (fun k => fdiv (lv * rg r k) mx) 0 k) 0) i r := hw7
            refine x_iload hC dX3_normalize_56 rfl ?_
            refine x_aload_n hC dX3_normalize_58 rfl rfl ?_
            refine x_iload_n hC dX3_normalize_59 rfl rfl ?_
            refine x_callV0 (na := 1) hC (ct_sizeR hG hm hw8) (lw_V q2495 q2497 qs45 q89 q2498) hm.1 rfl rfl (by decide +kernel) rfl ⟨Nat.le_of_ble_eq_true rfl, Nat.le_of_ble_eq_true rfl⟩ rfl (Nat.le_of_ble_eq_true rfl) ⟨rfl, rfl⟩ ⟨Nat.le_of_ble_eq_true rfl, Nat.le_of_ble_eq_true rfl⟩ dX3_normalize_60 ?_
            rintro _ M ⟨rfl, rfl⟩
            refine x_icmp_geN (tgt := 93) hC (by omega) (by omega) dX3_normalize_63 (by decide) (fun c4 => ?_) (fun c4 => ?_)
            · have hk3 : k = rz r := by omega
              subst hk3
              refine x_aload_n hC dX3_normalize_93 rfl rfl ?_
              refine x_iload_n hC dX3_normalize_94 rfl rfl ?_
              refine x_callV0 (na := 1) hC (ct_replaceR hG hm (hS7.kA (by decide)) hw8 (g := fun k => fdiv (lv * rg r k) mx) (fun l hl => ⟨by rw [va_up_s]; exact fil_all l hl, norm_lim c2 hm0 m2 (m3 l hl)⟩)) (lw_V q2795 q2797 qs76 q89 q2798) hm.1 rfl rfl (by decide +kernel) rfl ⟨Nat.le_of_ble_eq_true rfl, Nat.le_of_ble_eq_true rfl⟩ rfl (Nat.le_of_ble_eq_true rfl) ⟨rfl, rfl⟩ ⟨Nat.le_of_ble_eq_true rfl, Nat.le_of_ble_eq_true rfl⟩ dX3_normalize_95 ?_
              rintro _ M ⟨rfl, A9, hm, hF1, hS9⟩
              have hF := hF.tr hF1
              refine x_pop hC dX3_normalize_98 rfl ?_
              refine x_iload hC dX3_normalize_99 rfl ?_
              exact x_iret hC hk dX3_normalize_101 (Nat.le_of_ble_eq_true rfl) (Nat.le_of_ble_eq_true rfl) ⟨_, _, _, rfl, (fun _ => rfl), hm, hF, hS9, h76.trans ((upd_s.trans (if_pos c1)).trans ((if_pos c2).trans (if_pos c3)))⟩
            · refine x_aload_n hC dX3_normalize_66 rfl rfl ?_
              refine x_get hC 10 hm.1 rfl (by decide) q2340 rfl rfl dX3_normalize_67 ?_
              refine x_iload hC dX3_normalize_70 rfl ?_
              refine x_iload_n hC dX3_normalize_72 rfl rfl ?_
              refine x_aload_n hC dX3_normalize_73 rfl rfl ?_
              refine x_iload_n hC dX3_normalize_74 rfl rfl ?_
              refine x_iload hC dX3_normalize_75 rfl ?_
              refine x_callV0 (na := 2) hC (ct_atR hG hm hw8 c4) (lw_V q2515 q2517 qs47 q89 q2518) hm.1 rfl rfl (by decide +kernel) rfl ⟨Nat.le_of_ble_eq_true rfl, Nat.le_of_ble_eq_true rfl⟩ rfl (Nat.le_of_ble_eq_true rfl) ⟨rfl, rfl⟩ ⟨Nat.le_of_ble_eq_true rfl, Nat.le_of_ble_eq_true rfl⟩ dX3_normalize_77 ?_
              rintro _ M ⟨rfl, rfl⟩
              refine x_imul hC dX3_normalize_80 ?_
              refine x_iload hC dX3_normalize_81 rfl ?_
              refine x_callS0 (na := 2) hC (ct_floorDiv hG _ _ hmx _) (lw_S q2745 q1946 q103 q1947) (by decide +kernel) rfl ⟨Nat.le_of_ble_eq_true rfl, Nat.le_of_ble_eq_true rfl⟩ rfl (Nat.le_of_ble_eq_true rfl) ⟨rfl, rfl⟩ ⟨Nat.le_of_ble_eq_true rfl, Nat.le_of_ble_eq_true rfl⟩ dX3_normalize_83 ?_
              rintro _ M ⟨rfl, rfl⟩
              refine x_miastN hC hm 9 (by decide) (show _ < 64 from (by omega)) (by decide) dX3_normalize_86 (fun M hm hF1 => ?_)
              have hF := hF.tr hF1
              refine x_iincN (lv' := [_, _, _, _, _, _]) (b := 1) hC dX3_normalize_87 rfl (by decide) (by decide) rfl ?_
              refine x_goto (tgt := 56) hC dX3_normalize_90 (by decide) ?_
              exact ih c4 _ (hm.to rfl (by rw [up_up]; congr 1; exact fil_up (Nat.zero_le _) rfl)) hF
          · exact absurd ⟨c1, c2, c3⟩ c
        · rw [if_neg c3] at hk h76'
          refine x_if_neB (tgt := 49) hC dX3_normalize_44 (by decide) (fun c => ?_) (fun c => ?_)
          · exact absurd c.2.2 c3
          · refine x_iconst (v := -1) hC dX3_normalize_47 (by decide) ?_
            exact x_iret hC hk dX3_normalize_48 (Nat.le_of_ble_eq_true rfl) (Nat.le_of_ble_eq_true rfl) ⟨_, _, _, rfl, (fun h => absurd h (show ¬ (3 : Int32) = 0 by decide)), hm, hF, hS.k6, (upd_s.trans (if_pos c1)).trans ((if_pos c2).trans (if_neg c3))⟩
      · rw [if_neg c2] at hk h76'
        refine x_if_neB (tgt := 49) hC dX3_normalize_44 (by decide) (fun c => ?_) (fun c => ?_)
        · exact absurd c.2.1 c2
        · refine x_iconst (v := -1) hC dX3_normalize_47 (by decide) ?_
          exact x_iret hC hk dX3_normalize_48 (Nat.le_of_ble_eq_true rfl) (Nat.le_of_ble_eq_true rfl) ⟨_, _, _, rfl, (fun h => absurd h (show ¬ (2 : Int32) = 0 by decide)), hm, hF, hS.k6, (upd_s.trans (if_pos c1)).trans (if_neg c2)⟩
end M21

