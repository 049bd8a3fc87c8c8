/-! ===== the reference's operations that only read, third part ===== -/
/-- the energy of the tones whose numbers of changes lie there -/
def bnd (g : Nat → Int32) (n : Nat) (lo hi : Int32) : Int64 := jS (fun i => if lo ≤ chg (nI i) n ∧ chg (nI i) n ≤ hi then sq (cfN g n i) else 0) n
abbrev bdw (g : Nat → Int32) (n w a : Nat) : Int64 := bnd g n (nI a) (nI (a + w - 1))
def opMeanLoud (S : X_S) (x : Int32) : Int32 × UInt64 := (rc (sR S) x).elim (1, 0) fun r => (0, FP.ddiv (FP.i2d (iS (fun k => iabs (rg r k)) (rz r))) (FP.i2d (nI (rz r))))
def opAbove (S : X_S) (x t : Int32) : Int32 × Int32 := (rc (sR S) x).elim (1, 0) fun r => if isT t then (0, iS (fun i => xB (t ≤ iabs (cfN (rg r) (rz r) i))) (rz r)) else (2, 0)
def opBand (S : X_S) (x lo hi : Int32) : Int32 × Int64 := (rc (sR S) x).elim (1, 0) fun r => if 0 ≤ lo ∧ hi < nI (rz r) ∧ lo ≤ hi then (0, bnd (rg r) (rz r) lo hi) else (2, 0)
def opStrong (S : X_S) (x w : Int32) : Int32 × Int32 := (rc (sR S) x).elim (1, 0) fun r => if 1 ≤ w ∧ w ≤ nI (rz r) then (0, nI (amx (fun a b => decide (bdw (rg r) (rz r) w.toNatClampNeg a < bdw (rg r) (rz r) w.toNatClampNeg b)) (rz r + 1 - w.toNatClampNeg))) else (2, 0)
def opMeanSeq (S : X_S) (x : Int32) : Int32 × UInt64 := (rc (sR S) x).elim (1, 0) fun r => (0, if jS (fun i => sq (cfN (rg r) (rz r) i)) (rz r) = 0 then FP.dconst0 else FP.ddiv (FP.l2d (jS (fun i => (chg (nI i) (rz r)).toInt64 * sq (cfN (rg r) (rz r) i)) (rz r))) (FP.l2d (jS (fun i => sq (cfN (rg r) (rz r) i)) (rz r))))
section M14
variable {G : X_G} {M : X_M} {m : Nat} {P : Nat → Nat} {V : Nat → Int32} {A : Nat → Nat → Int32} {S : X_S} {R : List Rcd} {i k : Nat} {r : Rcd}
theorem ct_jmax (hG : GOK G) (x y : Int64) (M : X_M) : Ct G yJ17_max_2 cJ17_max_2 4 (some .long) (xrm 1 0 0) [.long x, .long y] M (Pr (.long (jmax x y)) M) := by
  refine ct_open (lv := [some (.long x), none, some (.long y), none]) hG (by decide +kernel) (Nat.le_of_ble_eq_true rfl) rfl (fun C hC hk => ?_)
  refine x_lload_n hC dJ17_max_2_0 rfl rfl ?_
  refine x_lload_n hC dJ17_max_2_1 rfl rfl ?_
  refine x_lcmp hC dJ17_max_2_2 ?_
  refine x_if_lt (tgt := 10) hC dJ17_max_2_3 (by decide) (fun c => ?_) (fun c => ?_)
  · rw [lg_cmp_lt] at c
    refine x_lload_n hC dJ17_max_2_10 rfl rfl ?_
    exact x_lret hC hk dJ17_max_2_11 (Nat.le_of_ble_eq_true rfl) (Nat.le_of_ble_eq_true rfl) ⟨by rw [jmax, if_pos c], rfl⟩
  · rw [lg_cmp_lt] at c
    refine x_lload_n hC dJ17_max_2_6 rfl rfl ?_
    refine x_goto (tgt := 11) hC dJ17_max_2_7 (by decide) ?_
    exact x_lret hC hk dJ17_max_2_11 (Nat.le_of_ble_eq_true rfl) (Nat.le_of_ble_eq_true rfl) ⟨by rw [jmax, if_neg c], rfl⟩
theorem ct_loudestPlace (hG : GOK G) (hm : Mdl M m P V A) (hS : MRep S V A) (x : Int32) : Ct G yX3_loudestPlace cX3_loudestPlace 4 (some .int) (xrm 4 0 0) [.ref m, .int x] M (MOi M m P S (opLoudPl S x).1 (opLoudPl S x).2) := by
  refine ct_open (lv := [_, _, _, _]) hG (by decide +kernel) (Nat.le_of_ble_eq_true rfl) rfl (fun C hC hk => ?_)
  have hF : Fm M M := Fr.rf
  unfold opLoudPl at hk
  refine x_aload_n hC dX3_loudestPlace_0 rfl rfl ?_
  refine x_aload_n hC dX3_loudestPlace_1 rfl rfl ?_
  refine x_iload_n hC dX3_loudestPlace_2 rfl rfl ?_
  refine x_callV0 (na := 1) hC (ct_isRecording hG hm _) (lw_V q2491 q2493 qs44 q89 q2494) hm.1 rfl rfl (by decide +kernel) rfl ⟨Nat.le_of_ble_eq_true rfl, Nat.le_of_ble_eq_true rfl⟩ rfl (Nat.le_of_ble_eq_true rfl) ⟨rfl, rfl⟩ ⟨Nat.le_of_ble_eq_true rfl, Nat.le_of_ble_eq_true rfl⟩ dX3_loudestPlace_3 ?_
  rintro _ M ⟨rfl, rfl⟩
  refine x_callV0 (na := 1) hC (ct_good hG hm _) (lw_V q2402 q2404 qs30 q89 q2405) hm.1 rfl rfl (by decide +kernel) rfl ⟨Nat.le_of_ble_eq_true rfl, Nat.le_of_ble_eq_true rfl⟩ rfl (Nat.le_of_ble_eq_true rfl) ⟨rfl, rfl⟩ ⟨Nat.le_of_ble_eq_true rfl, Nat.le_of_ble_eq_true rfl⟩ dX3_loudestPlace_6 ?_
  rintro _ M ⟨rfl, hm, hF1⟩
  have hF := hF.tr hF1
  refine x_if_neB (tgt := 14) hC dX3_loudestPlace_9 (by decide) (fun c => ?_) (fun c => ?_)
  · obtain ⟨i, r, hx, rfl, hw⟩ := rc_ok hS.1.1 hS.1.2 c
    rw [hx] at hk
    refine x_iconst (v := nI 0) hC dX3_loudestPlace_14 (by decide) ?_
    refine x_istore_n (lv' := [_, _, _, _]) hC dX3_loudestPlace_15 rfl (by decide) rfl ?_
    refine x_iconst (v := nI 1) hC dX3_loudestPlace_16 (by decide) ?_
    refine x_istore_n (lv' := [_, _, _, _]) hC dX3_loudestPlace_17 rfl (by decide) rfl ?_
    have h6 := hw.n6
    have h2 := hw.n2
    suffices lp : ∀ k, k ≤ rz r - 1 → Wg G C M 0 0 18 [some (.ref m), some (.int (nI i)), some (.int (nI (amx (fun a b => decide (iabs (rg r a) < iabs (rg r b))) (k + 1)))), some (.int (nI (k + 1)))] [] by
      have h0 := lp 0 (Nat.zero_le _)
      rw [show amx (fun a b => decide (iabs (rg r a) < iabs (rg r b))) (0 + 1) = 0 by unfold amx; split <;> rfl] at h0
      exact h0
    refine x_up (n := rz r - 1) (I := fun k => Wg G C M 0 0 18 [some (.ref m), some (.int (nI i)), some (.int (nI (amx (fun a b => decide (iabs (rg r a) < iabs (rg r b))) (k + 1)))), some (.int (nI (k + 1)))] []) (fun k hk2 ih => ?_)
    refine x_iload_n hC dX3_loudestPlace_18 rfl rfl ?_
    refine x_aload_n hC dX3_loudestPlace_19 rfl rfl ?_
    refine x_iload_n hC dX3_loudestPlace_20 rfl rfl ?_
    refine x_callV0 (na := 1) hC (ct_sizeR hG hm hw) (lw_V q2495 q2497 qs45 q89 q2498) hm.1 rfl rfl (by decide +kernel) rfl ⟨Nat.le_of_ble_eq_true rfl, Nat.le_of_ble_eq_true rfl⟩ rfl (Nat.le_of_ble_eq_true rfl) ⟨rfl, rfl⟩ ⟨Nat.le_of_ble_eq_true rfl, Nat.le_of_ble_eq_true rfl⟩ dX3_loudestPlace_21 ?_
    rintro _ M ⟨rfl, rfl⟩
    refine x_icmp_geN (tgt := 60) hC (by omega) (by omega) dX3_loudestPlace_24 (by decide) (fun c1 => ?_) (fun c1 => ?_)
    · refine x_iload_n hC dX3_loudestPlace_60 rfl rfl ?_
      exact x_iret hC hk dX3_loudestPlace_61 (Nat.le_of_ble_eq_true rfl) (Nat.le_of_ble_eq_true rfl) ⟨_, _, _, rfl, (fun _ => by rw [show k + 1 = rz r by omega]; rfl), hm, hF, hS.k6, upd_s.trans (if_pos c)⟩
    · have hal := amx_lt (lt := fun a b => decide (iabs (rg r a) < iabs (rg r b))) (k := k + 1) (by omega)
      have hst : amx (fun a b => decide (iabs (rg r a) < iabs (rg r b))) (k + 1 + 1) = if iabs (rg r (amx (fun a b => decide (iabs (rg r a) < iabs (rg r b))) (k + 1))) < iabs (rg r (k + 1)) then k + 1 else amx (fun a b => decide (iabs (rg r a) < iabs (rg r b))) (k + 1) := by
        rw [amx]
        simp only [decide_eq_true_eq]
      have ih2 := ih (by omega)
      rw [hst] at ih2
      generalize amx (fun a b => decide (iabs (rg r a) < iabs (rg r b))) (k + 1) = w at hal ih2 ⊢
      refine x_aload_n hC dX3_loudestPlace_27 rfl rfl ?_
      refine x_iload_n hC dX3_loudestPlace_28 rfl rfl ?_
      refine x_iload_n hC dX3_loudestPlace_29 rfl rfl ?_
      refine x_callV0 (na := 2) hC (ct_atR hG hm hw c1) (lw_V q2515 q2517 qs47 q89 q2518) hm.1 rfl rfl (by decide +kernel) rfl ⟨Nat.le_of_ble_eq_true rfl, Nat.le_of_ble_eq_true rfl⟩ rfl (Nat.le_of_ble_eq_true rfl) ⟨rfl, rfl⟩ ⟨Nat.le_of_ble_eq_true rfl, Nat.le_of_ble_eq_true rfl⟩ dX3_loudestPlace_30 ?_
      rintro _ M ⟨rfl, rfl⟩
      refine x_callS0 (na := 1) hC (ct_abs hG _ _) (lw_S q2535 q1604 q103 q1605) (by decide +kernel) rfl ⟨Nat.le_of_ble_eq_true rfl, Nat.le_of_ble_eq_true rfl⟩ rfl (Nat.le_of_ble_eq_true rfl) ⟨rfl, rfl⟩ ⟨Nat.le_of_ble_eq_true rfl, Nat.le_of_ble_eq_true rfl⟩ dX3_loudestPlace_33 ?_
      rintro _ M ⟨rfl, rfl⟩
      refine x_aload_n hC dX3_loudestPlace_36 rfl rfl ?_
      refine x_iload_n hC dX3_loudestPlace_37 rfl rfl ?_
      refine x_iload_n hC dX3_loudestPlace_38 rfl rfl ?_
      refine x_callV0 (na := 2) hC (ct_atR hG hm hw (by omega)) (lw_V q2515 q2517 qs47 q89 q2518) hm.1 rfl rfl (by decide +kernel) rfl ⟨Nat.le_of_ble_eq_true rfl, Nat.le_of_ble_eq_true rfl⟩ rfl (Nat.le_of_ble_eq_true rfl) ⟨rfl, rfl⟩ ⟨Nat.le_of_ble_eq_true rfl, Nat.le_of_ble_eq_true rfl⟩ dX3_loudestPlace_39 ?_
      rintro _ M ⟨rfl, rfl⟩
      refine x_callS0 (na := 1) hC (ct_abs hG _ _) (lw_S q2535 q1604 q103 q1605) (by decide +kernel) rfl ⟨Nat.le_of_ble_eq_true rfl, Nat.le_of_ble_eq_true rfl⟩ rfl (Nat.le_of_ble_eq_true rfl) ⟨rfl, rfl⟩ ⟨Nat.le_of_ble_eq_true rfl, Nat.le_of_ble_eq_true rfl⟩ dX3_loudestPlace_42 ?_
      rintro _ M ⟨rfl, rfl⟩
      refine x_icmp_le (tgt := 52) hC dX3_loudestPlace_45 (by decide) (fun c2 => ?_) (fun c2 => ?_)
      · refine x_iload_n hC dX3_loudestPlace_52 rfl rfl ?_
        refine x_istore_n (lv' := [_, _, _, _]) hC dX3_loudestPlace_53 rfl (by decide) rfl ?_
        refine x_iincN (lv' := [_, _, _, _]) (b := 1) hC dX3_loudestPlace_54 rfl (by decide) (by decide) rfl ?_
        refine x_goto (tgt := 18) hC dX3_loudestPlace_57 (by decide) ?_
        rw [if_neg (Int32.not_lt.mpr c2)] at ih2
        exact ih2
      · refine x_iload_n hC dX3_loudestPlace_48 rfl rfl ?_
        refine x_goto (tgt := 53) hC dX3_loudestPlace_49 (by decide) ?_
        refine x_istore_n (lv' := [_, _, _, _]) hC dX3_loudestPlace_53 rfl (by decide) rfl ?_
        refine x_iincN (lv' := [_, _, _, _]) (b := 1) hC dX3_loudestPlace_54 rfl (by decide) (by decide) rfl ?_
        refine x_goto (tgt := 18) hC dX3_loudestPlace_57 (by decide) ?_
        rw [if_pos (Int32.not_le.mp c2)] at ih2
        exact ih2
  · rw [rc_no hS.1.1 hS.1.2 c] at hk
    refine x_iconst (v := -1) hC dX3_loudestPlace_12 (by decide) ?_
    exact x_iret hC hk dX3_loudestPlace_13 (Nat.le_of_ble_eq_true rfl) (Nat.le_of_ble_eq_true rfl) ⟨_, _, _, rfl, (fun h => absurd h (show ¬ (1 : Int32) = 0 by decide)), hm, hF, hS.k6, upd_s.trans (if_neg c)⟩
theorem ct_samplesBetween (hG : GOK G) (hm : Mdl M m P V A) (hS : MRep S V A) (x lo hi : Int32) : Ct G yX3_samplesBetween cX3_samplesBetween 6 (some .int) (xrm 4 0 0) [.ref m, .int x, .int lo, .int hi] M (MOi M m P S (opBetw S x lo hi).1 (opBetw S x lo hi).2) := by
  refine ct_open (lv := [_, _, _, _, _, _]) hG (by decide +kernel) (Nat.le_of_ble_eq_true rfl) rfl (fun C hC hk => ?_)
  have hF : Fm M M := Fr.rf
  unfold opBetw at hk
  refine x_aload_n hC dX3_samplesBetween_0 rfl rfl ?_
  refine x_aload_n hC dX3_samplesBetween_1 rfl rfl ?_
  refine x_iload_n hC dX3_samplesBetween_2 rfl rfl ?_
  refine x_callV0 (na := 1) hC (ct_isRecording hG hm _) (lw_V q2491 q2493 qs44 q89 q2494) hm.1 rfl rfl (by decide +kernel) rfl ⟨Nat.le_of_ble_eq_true rfl, Nat.le_of_ble_eq_true rfl⟩ rfl (Nat.le_of_ble_eq_true rfl) ⟨rfl, rfl⟩ ⟨Nat.le_of_ble_eq_true rfl, Nat.le_of_ble_eq_true rfl⟩ dX3_samplesBetween_3 ?_
  rintro _ M ⟨rfl, rfl⟩
  refine x_iload_n hC dX3_samplesBetween_6 rfl rfl ?_
  refine x_iload_n hC dX3_samplesBetween_7 rfl rfl ?_
  refine x_j2 (fun v => v = xB (lo ≤ hi)) 16 (fun hj => ?_) (fun v hv => ?_)
  · refine x_icmp_gt (tgt := 15) hC dX3_samplesBetween_8 (by decide) (fun c2 => ?_) (fun c2 => ?_)
    · refine x_iconst (v := 0) hC dX3_samplesBetween_15 (by decide) ?_
      exact hj _ (xB_f (Int32.not_le.mpr c2)).symm
    · refine x_iconst (v := 1) hC dX3_samplesBetween_11 (by decide) ?_
      refine x_goto (tgt := 16) hC dX3_samplesBetween_12 (by decide) ?_
      exact hj _ (xB_t (Int32.not_lt.mp c2)).symm
  · subst hv
    refine x_callV0 (na := 2) hC (ct_good2 hG hm _ _) (lw_V q2540 q2542 qs49 q89 q2543) hm.1 rfl rfl (by decide +kernel) rfl ⟨Nat.le_of_ble_eq_true rfl, Nat.le_of_ble_eq_true rfl⟩ rfl (Nat.le_of_ble_eq_true rfl) ⟨rfl, rfl⟩ ⟨Nat.le_of_ble_eq_true rfl, Nat.le_of_ble_eq_true rfl⟩ dX3_samplesBetween_16 ?_
    rintro _ M ⟨rfl, hm, hF1⟩
    have hF := hF.tr hF1
    refine x_if_neB (tgt := 24) hC dX3_samplesBetween_19 (by decide) (fun c => ?_) (fun c => ?_)
    · obtain ⟨i, r, hx, rfl, hw⟩ := rc_ok hS.1.1 hS.1.2 c.1
      rw [hx] at hk
      dsimp only [Option.elim] at hk
      rw [if_pos c.2] at hk
      have h6 := hw.n6
      refine x_iconst (v := nI 0) hC dX3_samplesBetween_24 (by decide) ?_
      refine x_istore (lv' := [_, _, _, _, _, _]) hC dX3_samplesBetween_25 (by decide) rfl ?_
      refine x_iconst (v := nI 0) hC dX3_samplesBetween_27 (by decide) ?_
      refine x_istore (lv' := [_, _, _, _, _, _]) hC dX3_samplesBetween_28 (by decide) rfl ?_
      refine x_up (n := rz r) (I := fun k => Wg G C M 0 0 30 [some (.ref m), some (.int (nI i)), some (.int lo), some (.int hi), some (.int (iS (fun k => xB (lo ≤ rg r k ∧ rg r k ≤ hi)) k)), some (.int (nI k))] []) (fun k hk2 ih => ?_) 0 (Nat.zero_le _)
      refine x_iload hC dX3_samplesBetween_30 rfl ?_
      refine x_aload_n hC dX3_samplesBetween_32 rfl rfl ?_
      refine x_iload_n hC dX3_samplesBetween_33 rfl rfl ?_
      refine x_callV0 (na := 1) hC (ct_sizeR hG hm hw) (lw_V q2495 q2497 qs45 q89 q2498) hm.1 rfl rfl (by decide +kernel) rfl ⟨Nat.le_of_ble_eq_true rfl, Nat.le_of_ble_eq_true rfl⟩ rfl (Nat.le_of_ble_eq_true rfl) ⟨rfl, rfl⟩ ⟨Nat.le_of_ble_eq_true rfl, Nat.le_of_ble_eq_true rfl⟩ dX3_samplesBetween_34 ?_
      rintro _ M ⟨rfl, rfl⟩
      refine x_icmp_geN (tgt := 71) hC (by omega) (by omega) dX3_samplesBetween_37 (by decide) (fun c1 => ?_) (fun c1 => ?_)
      · refine x_iload hC dX3_samplesBetween_71 rfl ?_
        exact x_iret hC hk dX3_samplesBetween_73 (Nat.le_of_ble_eq_true rfl) (Nat.le_of_ble_eq_true rfl) ⟨_, _, _, rfl, (fun _ => by rw [show k = rz r by omega]), hm, hF, hS.k6, upd_s.trans ((if_pos c.1).trans (if_pos c.2))⟩
      · refine x_iload hC dX3_samplesBetween_40 rfl ?_
        refine x_aload_n hC dX3_samplesBetween_42 rfl rfl ?_
        refine x_iload_n hC dX3_samplesBetween_43 rfl rfl ?_
        refine x_iload hC dX3_samplesBetween_44 rfl ?_
        refine x_callV0 (na := 2) hC (ct_atR hG hm hw c1) (lw_V q2515 q2517 qs47 q89 q2518) hm.1 rfl rfl (by decide +kernel) rfl ⟨Nat.le_of_ble_eq_true rfl, Nat.le_of_ble_eq_true rfl⟩ rfl (Nat.le_of_ble_eq_true rfl) ⟨rfl, rfl⟩ ⟨Nat.le_of_ble_eq_true rfl, Nat.le_of_ble_eq_true rfl⟩ dX3_samplesBetween_46 ?_
        rintro _ M ⟨rfl, rfl⟩
        refine x_iload_n hC dX3_samplesBetween_49 rfl rfl ?_
        refine x_iload_n hC dX3_samplesBetween_50 rfl rfl ?_
        refine x_callS0 (na := 3) hC (ct_isIn hG _ _ _ _) (lw_S q2414 q2415 q89 q2416) (by decide +kernel) rfl ⟨Nat.le_of_ble_eq_true rfl, Nat.le_of_ble_eq_true rfl⟩ rfl (Nat.le_of_ble_eq_true rfl) ⟨rfl, rfl⟩ ⟨Nat.le_of_ble_eq_true rfl, Nat.le_of_ble_eq_true rfl⟩ dX3_samplesBetween_51 ?_
        rintro _ M ⟨rfl, rfl⟩
        refine x_j1 (fun v => v = xB (lo ≤ rg r k ∧ rg r k ≤ hi)) 62 (fun hj => ?_) (fun v hv => ?_)
        · refine x_if_eqB (tgt := 61) hC dX3_samplesBetween_54 (by decide) (fun c2 => ?_) (fun c2 => ?_)
          · refine x_iconst (v := 0) hC dX3_samplesBetween_61 (by decide) ?_
            exact hj _ (xB_f c2).symm
          · refine x_iconst (v := 1) hC dX3_samplesBetween_57 (by decide) ?_
            refine x_goto (tgt := 62) hC dX3_samplesBetween_58 (by decide) ?_
            exact hj _ (xB_t c2).symm
        · subst hv
          refine x_iadd hC dX3_samplesBetween_62 ?_
          refine x_istore (lv' := [_, _, _, _, _, _]) hC dX3_samplesBetween_63 (by decide) rfl ?_
          refine x_iincN (lv' := [_, _, _, _, _, _]) (b := 1) hC dX3_samplesBetween_65 rfl (by decide) (by decide) rfl ?_
          refine x_goto (tgt := 30) hC dX3_samplesBetween_68 (by decide) ?_
          exact ih c1
    · refine x_iconst (v := -1) hC dX3_samplesBetween_22 (by decide) ?_
      refine x_iret hC hk dX3_samplesBetween_23 (Nat.le_of_ble_eq_true rfl) (Nat.le_of_ble_eq_true rfl) ⟨_, _, _, rfl, (fun h => ?_), hm, hF, hS.k6, ?_⟩
      · exfalso
        revert h
        by_cases c1 : isR (A 0) x
        · obtain ⟨i, r, hx, rfl, hw⟩ := rc_ok hS.1.1 hS.1.2 c1
          rw [hx]
          dsimp only [Option.elim]
          rw [if_neg (fun h => c ⟨c1, h⟩)]
          decide
        · rw [rc_no hS.1.1 hS.1.2 c1]
          exact (show ¬ (1 : Int32) = 0 by decide)
      · refine upd_s.trans ?_
        by_cases c1 : isR (A 0) x
        · obtain ⟨i, r, hx, rfl, hw⟩ := rc_ok hS.1.1 hS.1.2 c1
          rw [hx, if_pos c1, if_neg (fun h => c ⟨c1, h⟩)]
          dsimp only [Option.elim]
          rw [if_neg (fun h => c ⟨c1, h⟩)]
        · rw [rc_no hS.1.1 hS.1.2 c1, if_neg c1]; rfl
theorem ct_meanLoudness (hG : GOK G) (hm : Mdl M m P V A) (hS : MRep S V A) (x : Int32) : Ct G yX3_meanLoudness cX3_meanLoudness 4 (some .double) (xrm 4 0 0) [.ref m, .int x] M (MOd M m P S (opMeanLoud S x).1 (opMeanLoud S x).2) := by
  refine ct_open (lv := [_, _, _, _]) hG (by decide +kernel) (Nat.le_of_ble_eq_true rfl) rfl (fun C hC hk => ?_)
  have hF : Fm M M := Fr.rf
  unfold opMeanLoud at hk
  refine x_aload_n hC dX3_meanLoudness_0 rfl rfl ?_
  refine x_aload_n hC dX3_meanLoudness_1 rfl rfl ?_
  refine x_iload_n hC dX3_meanLoudness_2 rfl rfl ?_
  refine x_callV0 (na := 1) hC (ct_isRecording hG hm _) (lw_V q2491 q2493 qs44 q89 q2494) hm.1 rfl rfl (by decide +kernel) rfl ⟨Nat.le_of_ble_eq_true rfl, Nat.le_of_ble_eq_true rfl⟩ rfl (Nat.le_of_ble_eq_true rfl) ⟨rfl, rfl⟩ ⟨Nat.le_of_ble_eq_true rfl, Nat.le_of_ble_eq_true rfl⟩ dX3_meanLoudness_3 ?_
  rintro _ M ⟨rfl, rfl⟩
  refine x_callV0 (na := 1) hC (ct_good hG hm _) (lw_V q2402 q2404 qs30 q89 q2405) hm.1 rfl rfl (by decide +kernel) rfl ⟨Nat.le_of_ble_eq_true rfl, Nat.le_of_ble_eq_true rfl⟩ rfl (Nat.le_of_ble_eq_true rfl) ⟨rfl, rfl⟩ ⟨Nat.le_of_ble_eq_true rfl, Nat.le_of_ble_eq_true rfl⟩ dX3_meanLoudness_6 ?_
  rintro _ M ⟨rfl, hm, hF1⟩
  have hF := hF.tr hF1
  refine x_if_neB (tgt := 14) hC dX3_meanLoudness_9 (by decide) (fun c => ?_) (fun c => ?_)
  · obtain ⟨i, r, hx, rfl, hw⟩ := rc_ok hS.1.1 hS.1.2 c
    rw [hx] at hk
    have h6 := hw.n6
    have h2 := hw.n2
    refine x_iconst (v := nI 0) hC dX3_meanLoudness_14 (by decide) ?_
    refine x_istore_n (lv' := [_, _, _, _]) hC dX3_meanLoudness_15 rfl (by decide) rfl ?_
    refine x_iconst (v := nI 0) hC dX3_meanLoudness_16 (by decide) ?_
    refine x_istore_n (lv' := [_, _, _, _]) hC dX3_meanLoudness_17 rfl (by decide) rfl ?_
    refine x_up (n := rz r) (I := fun k => Wg G C M 0 0 18 [some (.ref m), some (.int (nI i)), some (.int (iS (fun k => iabs (rg r k)) k)), some (.int (nI k))] []) (fun k hk2 ih => ?_) 0 (Nat.zero_le _)
    refine x_iload_n hC dX3_meanLoudness_18 rfl rfl ?_
    refine x_aload_n hC dX3_meanLoudness_19 rfl rfl ?_
    refine x_iload_n hC dX3_meanLoudness_20 rfl rfl ?_
    refine x_callV0 (na := 1) hC (ct_sizeR hG hm hw) (lw_V q2495 q2497 qs45 q89 q2498) hm.1 rfl rfl (by decide +kernel) rfl ⟨Nat.le_of_ble_eq_true rfl, Nat.le_of_ble_eq_true rfl⟩ rfl (Nat.le_of_ble_eq_true rfl) ⟨rfl, rfl⟩ ⟨Nat.le_of_ble_eq_true rfl, Nat.le_of_ble_eq_true rfl⟩ dX3_meanLoudness_21 ?_
    rintro _ M ⟨rfl, rfl⟩
    refine x_icmp_geN (tgt := 45) hC (by omega) (by omega) dX3_meanLoudness_24 (by decide) (fun c1 => ?_) (fun c1 => ?_)
    · have hk3 : k = rz r := by omega
      subst hk3
      refine x_iload_n hC dX3_meanLoudness_45 rfl rfl ?_
      refine x_i2d hC dX3_meanLoudness_46 ?_
      refine x_aload_n hC dX3_meanLoudness_47 rfl rfl ?_
      refine x_iload_n hC dX3_meanLoudness_48 rfl rfl ?_
      refine x_callV0 (na := 1) hC (ct_sizeR hG hm hw) (lw_V q2495 q2497 qs45 q89 q2498) hm.1 rfl rfl (by decide +kernel) rfl ⟨Nat.le_of_ble_eq_true rfl, Nat.le_of_ble_eq_true rfl⟩ rfl (Nat.le_of_ble_eq_true rfl) ⟨rfl, rfl⟩ ⟨Nat.le_of_ble_eq_true rfl, Nat.le_of_ble_eq_true rfl⟩ dX3_meanLoudness_49 ?_
      rintro _ M ⟨rfl, rfl⟩
      refine x_i2d hC dX3_meanLoudness_52 ?_
      refine x_ddiv hC dX3_meanLoudness_53 (i2d_n64 _ _ (fun h => by have h3 := (nI_eq (b := 0) (by omega) (by decide)).mp h; omega)) ?_
      exact x_dret hC hk dX3_meanLoudness_54 (Nat.le_of_ble_eq_true rfl) (Nat.le_of_ble_eq_true rfl) ⟨_, _, _, rfl, (fun _ => rfl), hm, hF, hS.k6, upd_s.trans (if_pos c)⟩
    · refine x_iload_n hC dX3_meanLoudness_27 rfl rfl ?_
      refine x_aload_n hC dX3_meanLoudness_28 rfl rfl ?_
      refine x_iload_n hC dX3_meanLoudness_29 rfl rfl ?_
      refine x_iload_n hC dX3_meanLoudness_30 rfl rfl ?_
      refine x_callV0 (na := 2) hC (ct_atR hG hm hw c1) (lw_V q2515 q2517 qs47 q89 q2518) hm.1 rfl rfl (by decide +kernel) rfl ⟨Nat.le_of_ble_eq_true rfl, Nat.le_of_ble_eq_true rfl⟩ rfl (Nat.le_of_ble_eq_true rfl) ⟨rfl, rfl⟩ ⟨Nat.le_of_ble_eq_true rfl, Nat.le_of_ble_eq_true rfl⟩ dX3_meanLoudness_31 ?_
      rintro _ M ⟨rfl, rfl⟩
      refine x_callS0 (na := 1) hC (ct_abs hG _ _) (lw_S q2535 q1604 q103 q1605) (by decide +kernel) rfl ⟨Nat.le_of_ble_eq_true rfl, Nat.le_of_ble_eq_true rfl⟩ rfl (Nat.le_of_ble_eq_true rfl) ⟨rfl, rfl⟩ ⟨Nat.le_of_ble_eq_true rfl, Nat.le_of_ble_eq_true rfl⟩ dX3_meanLoudness_34 ?_
      rintro _ M ⟨rfl, rfl⟩
      refine x_iadd hC dX3_meanLoudness_37 ?_
      refine x_istore_n (lv' := [_, _, _, _]) hC dX3_meanLoudness_38 rfl (by decide) rfl ?_
      refine x_iincN (lv' := [_, _, _, _]) (b := 1) hC dX3_meanLoudness_39 rfl (by decide) (by decide) rfl ?_
      refine x_goto (tgt := 18) hC dX3_meanLoudness_42 (by decide) ?_
      exact ih c1
  · rw [rc_no hS.1.1 hS.1.2 c] at hk
    refine x_dconst0 hC dX3_meanLoudness_12 ?_
    exact x_dret hC hk dX3_meanLoudness_13 (Nat.le_of_ble_eq_true rfl) (Nat.le_of_ble_eq_true rfl) ⟨_, _, _, rfl, (fun h => absurd h (show ¬ (1 : Int32) = 0 by decide)), hm, hF, hS.k6, upd_s.trans (if_neg c)⟩
theorem ct_tonesAbove (hG : GOK G) (hm : Mdl M m P V A) (hS : MRep S V A) (x t : Int32) : Ct G yX3_tonesAbove cX3_tonesAbove 3 (some .int) (xrm 5 0 0) [.ref m, .int x, .int t] M (MOi M m P S (opAbove S x t).1 (opAbove S x t).2) := by
  refine ct_open (lv := [_, _, _]) hG (by decide +kernel) (Nat.le_of_ble_eq_true rfl) rfl (fun C hC hk => ?_)
  have hF : Fm M M := Fr.rf
  unfold opAbove at hk
  refine x_aload_n hC dX3_tonesAbove_0 rfl rfl ?_
  refine x_aload_n hC dX3_tonesAbove_1 rfl rfl ?_
  refine x_iload_n hC dX3_tonesAbove_2 rfl rfl ?_
  refine x_callV0 (na := 1) hC (ct_isRecording hG hm _) (lw_V q2491 q2493 qs44 q89 q2494) hm.1 rfl rfl (by decide +kernel) rfl ⟨Nat.le_of_ble_eq_true rfl, Nat.le_of_ble_eq_true rfl⟩ rfl (Nat.le_of_ble_eq_true rfl) ⟨rfl, rfl⟩ ⟨Nat.le_of_ble_eq_true rfl, Nat.le_of_ble_eq_true rfl⟩ dX3_tonesAbove_3 ?_
  rintro _ M ⟨rfl, rfl⟩
  refine x_iload_n hC dX3_tonesAbove_6 rfl rfl ?_
  refine x_callS0 (na := 1) hC (ct_isThreshold hG _ _) (lw_S q2627 q2628 q89 q2629) (by decide +kernel) rfl ⟨Nat.le_of_ble_eq_true rfl, Nat.le_of_ble_eq_true rfl⟩ rfl (Nat.le_of_ble_eq_true rfl) ⟨rfl, rfl⟩ ⟨Nat.le_of_ble_eq_true rfl, Nat.le_of_ble_eq_true rfl⟩ dX3_tonesAbove_7 ?_
  rintro _ M ⟨rfl, rfl⟩
  refine x_callV0 (na := 2) hC (ct_good2 hG hm _ _) (lw_V q2540 q2542 qs49 q89 q2543) hm.1 rfl rfl (by decide +kernel) rfl ⟨Nat.le_of_ble_eq_true rfl, Nat.le_of_ble_eq_true rfl⟩ rfl (Nat.le_of_ble_eq_true rfl) ⟨rfl, rfl⟩ ⟨Nat.le_of_ble_eq_true rfl, Nat.le_of_ble_eq_true rfl⟩ dX3_tonesAbove_10 ?_
  rintro _ M ⟨rfl, hm, hF1⟩
  have hF := hF.tr hF1
  by_cases c1 : isR (A 0) x
  · obtain ⟨i, r, hx, rfl, hw⟩ := rc_ok hS.1.1 hS.1.2 c1
    rw [hx] at hk
    dsimp only [Option.elim] at hk
    by_cases c2 : isT t
    · rw [if_pos c2] at hk
      refine x_if_eqB (tgt := 25) hC dX3_tonesAbove_13 (by decide) (fun c => ?_) (fun c => ?_)
      · exact absurd ⟨c1, c2⟩ c
      · refine x_aload_n hC dX3_tonesAbove_16 rfl rfl ?_
        refine x_iload_n hC dX3_tonesAbove_17 rfl rfl ?_
        refine x_iload_n hC dX3_tonesAbove_18 rfl rfl ?_
        refine x_callV0 (na := 2) hC (ct_above hG hm hw.c6 hw.hn hw.n6 _) (lw_V q2631 q2633 qs57 q89 q2634) hm.1 rfl rfl (by decide +kernel) rfl ⟨Nat.le_of_ble_eq_true rfl, Nat.le_of_ble_eq_true rfl⟩ rfl (Nat.le_of_ble_eq_true rfl) ⟨rfl, rfl⟩ ⟨Nat.le_of_ble_eq_true rfl, Nat.le_of_ble_eq_true rfl⟩ dX3_tonesAbove_19 ?_
        rintro _ M ⟨rfl, rfl⟩
        refine x_goto (tgt := 26) hC dX3_tonesAbove_22 (by decide) ?_
        exact x_iret hC hk dX3_tonesAbove_26 (Nat.le_of_ble_eq_true rfl) (Nat.le_of_ble_eq_true rfl) ⟨_, _, _, rfl, (fun _ => by rw [hw.cfS]), hm, hF, hS.k6, upd_s.trans ((if_pos c1).trans (if_pos c2))⟩
    · rw [if_neg c2] at hk
      refine x_if_eqB (tgt := 25) hC dX3_tonesAbove_13 (by decide) (fun c => ?_) (fun c => ?_)
      · refine x_iconst (v := -1) hC dX3_tonesAbove_25 (by decide) ?_
        exact x_iret hC hk dX3_tonesAbove_26 (Nat.le_of_ble_eq_true rfl) (Nat.le_of_ble_eq_true rfl) ⟨_, _, _, rfl, (fun h => absurd h (show ¬ (2 : Int32) = 0 by decide)), hm, hF, hS.k6, upd_s.trans ((if_pos c1).trans (if_neg c2))⟩
      · exact absurd c.2 c2
  · rw [rc_no hS.1.1 hS.1.2 c1] at hk
    refine x_if_eqB (tgt := 25) hC dX3_tonesAbove_13 (by decide) (fun c => ?_) (fun c => ?_)
    · refine x_iconst (v := -1) hC dX3_tonesAbove_25 (by decide) ?_
      exact x_iret hC hk dX3_tonesAbove_26 (Nat.le_of_ble_eq_true rfl) (Nat.le_of_ble_eq_true rfl) ⟨_, _, _, rfl, (fun h => absurd h (show ¬ (1 : Int32) = 0 by decide)), hm, hF, hS.k6, upd_s.trans (if_neg c1)⟩
    · exact absurd c.1 c1
/-- what a method leaves that writes the coefficients -/
abbrev Pg6 (v : Value) (M : X_M) (m : Nat) (P : Nat → Nat) (V : Nat → Int32) (A : Nat → Nat → Int32) : Option Value → X_M → Prop := fun r M' => r = some v ∧ ∃ g, Mdl M' m P V (va_up A 6 g) ∧ Fm M M'
theorem cf_at (hw : Rw R (A 0) i r) (hk : k < rz r) : va_up A 6 (fil (A 6) (cfS (A 0) i (rz r)) 0 (rz r)) 6 k = cfN (rg r) (rz r) k := by
  rw [va_up_s, fil_in (Nat.zero_le _) hk, hw.cfS]
theorem ct_band (hG : GOK G) (hm : Mdl M m P V A) (hw : Rw R (A 0) i r) (lo hi : Int32) : Ct G yX3_band cX3_band 7 (some .long) (xrm 5 0 0) [.ref m, .int (nI i), .int lo, .int hi] M (Pg6 (.long (bnd (rg r) (rz r) lo hi)) M m P V A) := by
  refine ct_open (lv := [_, _, _, _, _, _, _]) hG (by decide +kernel) (Nat.le_of_ble_eq_true rfl) rfl (fun C hC hk => ?_)
  have hF : Fm M M := Fr.rf
  have h6 := hw.n6
  have h2 := hw.n2
  refine x_aload_n hC dX3_band_0 rfl rfl ?_
  refine x_iload_n hC dX3_band_1 rfl rfl ?_
  refine x_callV0 (na := 1) hC (ct_transform hG hm hw.c6 hw.hn hw.n6) (lw_V q2611 q2613 qs55 q89 q2614) hm.1 rfl rfl (by decide +kernel) rfl ⟨Nat.le_of_ble_eq_true rfl, Nat.le_of_ble_eq_true rfl⟩ rfl (Nat.le_of_ble_eq_true rfl) ⟨rfl, rfl⟩ ⟨Nat.le_of_ble_eq_true rfl, Nat.le_of_ble_eq_true rfl⟩ dX3_band_2 ?_
  rintro _ M ⟨rfl, hm, hF1⟩
  have hF := hF.tr hF1
  have hw1 : Rw R (va_up A 6 (fil (A 6) (cfS (A 0) i (rz r)) 0 (rz r)) 0) i r := hw
  refine x_lconst (v := 0) hC dX3_band_5 (by decide) ?_
  refine x_lstore (lv' := [_, _, _, _, _, _, _]) hC dX3_band_6 (by decide) rfl ?_
  refine x_iconst (v := nI 0) hC dX3_band_8 (by decide) ?_
  refine x_istore (lv' := [_, _, _, _, _, _, _]) hC dX3_band_9 (by decide) rfl ?_
  refine x_up (n := rz r) (I := fun k => Wg G C M 0 0 11 [some (.ref m), some (.int (nI i)), some (.int lo), some (.int hi), some (.long (jS (fun i => if lo ≤ chg (nI i) (rz r) ∧ chg (nI i) (rz r) ≤ hi then sq (cfN (rg r) (rz r) i) else 0) k)), none, some (.int (nI k))] []) (fun k hk2 ih => ?_) 0 (Nat.zero_le _)
  refine x_iload hC dX3_band_11 rfl ?_
  refine x_aload_n hC dX3_band_13 rfl rfl ?_
  refine x_iload_n hC dX3_band_14 rfl rfl ?_
  refine x_callV0 (na := 1) hC (ct_sizeR hG hm hw1) (lw_V q2495 q2497 qs45 q89 q2498) hm.1 rfl rfl (by decide +kernel) rfl ⟨Nat.le_of_ble_eq_true rfl, Nat.le_of_ble_eq_true rfl⟩ rfl (Nat.le_of_ble_eq_true rfl) ⟨rfl, rfl⟩ ⟨Nat.le_of_ble_eq_true rfl, Nat.le_of_ble_eq_true rfl⟩ dX3_band_15 ?_
  rintro _ M ⟨rfl, rfl⟩
  refine x_icmp_geN (tgt := 64) hC (by omega) (by omega) dX3_band_18 (by decide) (fun c1 => ?_) (fun c1 => ?_)
  · refine x_lload hC dX3_band_64 rfl ?_
    exact x_lret hC hk dX3_band_66 (Nat.le_of_ble_eq_true rfl) (Nat.le_of_ble_eq_true rfl) ⟨by rw [show k = rz r by omega]; rfl, _, hm, hF⟩
  · have hs : jS (fun i => if lo ≤ chg (nI i) (rz r) ∧ chg (nI i) (rz r) ≤ hi then sq (cfN (rg r) (rz r) i) else 0) (k + 1) = jS (fun i => if lo ≤ chg (nI i) (rz r) ∧ chg (nI i) (rz r) ≤ hi then sq (cfN (rg r) (rz r) i) else 0) k + if lo ≤ chg (nI k) (rz r) ∧ chg (nI k) (rz r) ≤ hi then sq (cfN (rg r) (rz r) k) else 0 := rfl
    have ih2 := ih c1
    rw [hs] at ih2
    refine x_lload hC dX3_band_21 rfl ?_
    refine x_aload_n hC dX3_band_23 rfl rfl ?_
    refine x_iload_n hC dX3_band_24 rfl rfl ?_
    refine x_callV0 (na := 1) hC (ct_sizeR hG hm hw1) (lw_V q2495 q2497 qs45 q89 q2498) hm.1 rfl rfl (by decide +kernel) rfl ⟨Nat.le_of_ble_eq_true rfl, Nat.le_of_ble_eq_true rfl⟩ rfl (Nat.le_of_ble_eq_true rfl) ⟨rfl, rfl⟩ ⟨Nat.le_of_ble_eq_true rfl, Nat.le_of_ble_eq_true rfl⟩ dX3_band_25 ?_
    rintro _ M ⟨rfl, rfl⟩
    refine x_iload hC dX3_band_28 rfl ?_
    refine x_callS0 (na := 2) hC (ct_changes hG (by omega) (by omega) _ _) (lw_S q2580 q2581 q89 q2582) (by decide +kernel) rfl ⟨Nat.le_of_ble_eq_true rfl, Nat.le_of_ble_eq_true rfl⟩ rfl (Nat.le_of_ble_eq_true rfl) ⟨rfl, rfl⟩ ⟨Nat.le_of_ble_eq_true rfl, Nat.le_of_ble_eq_true rfl⟩ dX3_band_30 ?_
    rintro _ M ⟨rfl, rfl⟩
    refine x_iload_n hC dX3_band_33 rfl rfl ?_
    refine x_iload_n hC dX3_band_34 rfl rfl ?_
    refine x_callS0 (na := 3) hC (ct_isIn hG _ _ _ _) (lw_S q2414 q2415 q89 q2416) (by decide +kernel) rfl ⟨Nat.le_of_ble_eq_true rfl, Nat.le_of_ble_eq_true rfl⟩ rfl (Nat.le_of_ble_eq_true rfl) ⟨rfl, rfl⟩ ⟨Nat.le_of_ble_eq_true rfl, Nat.le_of_ble_eq_true rfl⟩ dX3_band_35 ?_
    rintro _ M ⟨rfl, rfl⟩
    refine x_if_eqB (tgt := 54) hC dX3_band_38 (by decide) (fun c2 => ?_) (fun c2 => ?_)
    · rw [if_neg c2] at ih2
      refine x_lconst (v := 0) hC dX3_band_54 (by decide) ?_
      refine x_ladd hC dX3_band_55 ?_
      refine x_lstore (lv' := [_, _, _, _, _, _, _]) hC dX3_band_56 (by decide) rfl ?_
      refine x_iincN (lv' := [_, _, _, _, _, _, _]) (b := 1) hC dX3_band_58 rfl (by decide) (by decide) rfl ?_
      refine x_goto (tgt := 11) hC dX3_band_61 (by decide) ?_
      exact ih2
    · rw [if_pos c2] at ih2
      refine x_aload_n hC dX3_band_41 rfl rfl ?_
      refine x_get hC 7 hm.1 rfl (by decide) q2337 rfl rfl dX3_band_42 ?_
      refine x_iload hC dX3_band_45 rfl ?_
      refine x_ialdN hC (hm.arr 6 (by decide)) (show _ < 64 from (by omega)) (by decide) dX3_band_47 ?_
      rw [cf_at hw c1]
      refine x_callS0 (na := 1) hC (ct_square hG _ _) (lw_S q2528 q2529 q89 q2530) (by decide +kernel) rfl ⟨Nat.le_of_ble_eq_true rfl, Nat.le_of_ble_eq_true rfl⟩ rfl (Nat.le_of_ble_eq_true rfl) ⟨rfl, rfl⟩ ⟨Nat.le_of_ble_eq_true rfl, Nat.le_of_ble_eq_true rfl⟩ dX3_band_48 ?_
      rintro _ M ⟨rfl, rfl⟩
      refine x_goto (tgt := 55) hC dX3_band_51 (by decide) ?_
      refine x_ladd hC dX3_band_55 ?_
      refine x_lstore (lv' := [_, _, _, _, _, _, _]) hC dX3_band_56 (by decide) rfl ?_
      refine x_iincN (lv' := [_, _, _, _, _, _, _]) (b := 1) hC dX3_band_58 rfl (by decide) (by decide) rfl ?_
      refine x_goto (tgt := 11) hC dX3_band_61 (by decide) ?_
      exact ih2
end M14

