/-! ===== the reference's operations that only read, fourth part: bands, peaks, comparison ===== -/
theorem pk_sur (co : Nat → Int32) (n : Nat) {i : Nat} (hi : i < n) : ∃ k, k < n ∧ pk co n k = i := by
  by_cases h : i ∈ pks co n n
  · exact (pks_mem co n).mp h
  · exfalso
    have hr := pk_rk co n
    have hin : ∀ a b, a < b → b < n → pk co n a ≠ pk co n b := fun a b hab hb e => by
      have := hr.2 a b hab hb
      rw [e] at this
      rcases this with h1 | h1
      · exact Int32.lt_irrefl h1
      · exact Nat.lt_irrefl _ h1.2
    have h3 : n + 1 ≤ n := by
      refine hol n (n + 1) (fun a => if a < n then pk co n a else i) (fun a ha => ?_) (fun a b hab hb => ?_)
      · split
        next h4 => exact hr.1 a h4
        next => exact hi
      · rw [if_pos (show a < n by omega)]
        split
        next h4 => exact hin a b hab h4
        next => intro e; exact h ((pks_mem co n).mpr ⟨a, by omega, e⟩)
    omega
theorem pkr_lt (co : Nat → Int32) (n : Nat) {k : Nat} (h : k < n) : pk co n k < n := (pk_rk co n).1 k h
/-- two recordings -/
def rc2 (R : List Rcd) (x z : Int32) : Option (Rcd × Rcd) := (rc R x).elim none fun r => (rc R z).elim none fun s => some (r, s)
theorem rc2_no {R : List Rcd} {f : Nat → Int32} (hR : RepR R f) (hW : WfR R) {x z : Int32} (h : ¬ (isR f x ∧ isR f z)) : rc2 R x z = none := by
  unfold rc2
  by_cases h1 : isR f x
  · rw [rc_no hR hW (fun h2 => h ⟨h1, h2⟩)]
    cases rc R x <;> rfl
  · rw [rc_no hR hW h1]; rfl
theorem rc2_ok {R : List Rcd} {f : Nat → Int32} (hR : RepR R f) (hW : WfR R) {x z : Int32} (h : isR f x ∧ isR f z) : ∃ c r d s, rc2 R x z = some (r, s) ∧ x = nI c ∧ z = nI d ∧ Rw R f c r ∧ Rw R f d s := by
  obtain ⟨c, r, h1, h2, h3⟩ := rc_ok hR hW h.1
  obtain ⟨d, s, k1, k2, k3⟩ := rc_ok hR hW h.2
  exact ⟨c, r, d, s, by unfold rc2; rw [h1, k1]; rfl, h2, k2, h3, k3⟩
abbrev apN (r s : Rcd) : Int32 := iS (fun i => iabs (cfN (rg r) (rz r) i - cfN (rg s) (rz s) i)) (rz r)
abbrev crN (r s : Rcd) (sh : Nat) : Int64 := jS (fun k => (rg r k).toInt64 * (rg s (k ^^^ sh)).toInt64) (rz r)
abbrev rd (R : List Rcd) (d : Nat) : Rcd := R.getD d ([], [])
abbrev eN (r : Rcd) : Int64 := jS (fun k => sq (rg r k)) (rz r)
abbrev coE (r : Rcd) : Int64 := jS (fun i => sq (cfN (rg r) (rz r) i)) (rz r)
abbrev pkN (r : Rcd) (k : Nat) : Nat := pk (cfN (rg r) (rz r)) (rz r) k
def nearN (R : List Rcd) (c : Nat) : Option Nat := nrs (fun d => d ≠ c ∧ rz (rd R d) = rz (rd R c)) (fun d => apN (rd R c) (rd R d)) R.length
def opPeak (S : X_S) (x z : Int32) : Int32 × Int32 := (rc (sR S) x).elim (1, 0) fun r => if inI (rz r) z then (0, nI (pkN r z.toNatClampNeg)) else (1, 0)
def opRank (S : X_S) (x z : Int32) : Int32 × Int32 := (rc (sR S) x).elim (1, 0) fun r => if inI (rz r) z then (0, optI (fstI (fun k => pkN r k = z.toNatClampNeg) (rz r) 0)) else (1, 0)
def opPurity (S : X_S) (x : Int32) : Int32 × UInt32 := (rc (sR S) x).elim (1, 0) fun r => (0, if coE r = 0 then FP.fconst0 else FP.fdiv (FP.l2f (sq (cfN (rg r) (rz r) (pkN r 0)))) (FP.l2f (coE r)))
def opDist (S : X_S) (x z : Int32) : Int32 × Int32 := (rc2 (sR S) x z).elim (1, 0) fun p => if rz p.1 = rz p.2 then (0, apN p.1 p.2) else (2, 0)
def opNear (S : X_S) (x : Int32) : Int32 × Int32 := (rc (sR S) x).elim (1, 0) fun _ => (nearN (sR S) x.toNatClampNeg).elim (2, 0) fun d => (0, nI d)
def opCorr (S : X_S) (x z s : Int32) : Int32 × Int64 := (rc2 (sR S) x z).elim (1, 0) fun p => if rz p.1 = rz p.2 ∧ inI (rz p.1) s then (0, crN p.1 p.2 s.toNatClampNeg) else (2, 0)
def opSimil (S : X_S) (x z : Int32) : Int32 × UInt64 := (rc2 (sR S) x z).elim (1, 0) fun p => if rz p.1 = rz p.2 then (0, if jmax (eN p.1) (eN p.2) = 0 then FP.dconst0 else FP.ddiv (FP.l2d (crN p.1 p.2 0)) (FP.l2d (jmax (eN p.1) (eN p.2)))) else (2, 0)
def opShiftB (S : X_S) (x z : Int32) : Int32 × Int32 := (rc2 (sR S) x z).elim (1, 0) fun p => if rz p.1 = rz p.2 then (0, nI (amx (fun a b => decide (crN p.1 p.2 a < crN p.1 p.2 b)) (rz p.1))) else (2, 0)
section M15
variable {G : X_G} {M : X_M} {m : Nat} {P : Nat → Nat} {V : Nat → Int32} {A : Nat → Nat → Int32} {S : X_S} {R : List Rcd} {i k j : Nat} {r s : Rcd}
theorem Rw.len (hw : Rw R (A 0) i r) : ∃ j, (1 ≤ j ∧ j ≤ 6) ∧ rz r = 2 ^ j := by
  obtain ⟨j, h1, h2, h3⟩ := hw.2.2.2.2.2.1
  exact ⟨j, ⟨h1, h2⟩, h3⟩
theorem Rw.xor (hw : Rw R (A 0) i r) : ∀ s, s < rz r → ∀ k, k < rz r → k ^^^ s < rz r := by
  obtain ⟨j, -, h⟩ := hw.len
  rw [h]
  exact fun s hs k hk => Nat.xor_lt_two_pow hk hs
theorem Rw.rd (hw : Rw R (A 0) i r) : R.getD i ([], []) = r := by rw [List.getD_eq_getElem?_getD, hw.2.1]; rfl
theorem ct_bandEnergy (hG : GOK G) (hm : Mdl M m P V A) (hS : MRep S V A) (x lo hi : Int32) : Ct G yX3_bandEnergy cX3_bandEnergy 5 (some .long) (xrm 6 0 0) [.ref m, .int x, .int lo, .int hi] M (MOl M m P S (opBand S x lo hi).1 (opBand S x lo hi).2) := by
  refine ct_open (lv := [_, _, _, _, _]) hG (by decide +kernel) (Nat.le_of_ble_eq_true rfl) rfl (fun C hC hk => ?_)
  have hF : Fm M M := Fr.rf
  unfold opBand at hk
  refine x_aload_n hC dX3_bandEnergy_0 rfl rfl ?_
  refine x_iload_n hC dX3_bandEnergy_1 rfl rfl ?_
  refine x_callV0 (na := 1) hC (ct_isRecording hG hm _) (lw_V q2491 q2493 qs44 q89 q2494) hm.1 rfl rfl (by decide +kernel) rfl ⟨Nat.le_of_ble_eq_true rfl, Nat.le_of_ble_eq_true rfl⟩ rfl (Nat.le_of_ble_eq_true rfl) ⟨rfl, rfl⟩ ⟨Nat.le_of_ble_eq_true rfl, Nat.le_of_ble_eq_true rfl⟩ dX3_bandEnergy_2 ?_
  rintro _ M ⟨rfl, rfl⟩
  refine x_istore (lv' := [_, _, _, _, _]) hC dX3_bandEnergy_5 (by decide) rfl ?_
  refine x_aload_n hC dX3_bandEnergy_7 rfl rfl ?_
  refine x_iload hC dX3_bandEnergy_8 rfl ?_
  refine x_iload hC dX3_bandEnergy_10 rfl ?_
  refine x_if_eqB (tgt := 29) hC dX3_bandEnergy_12 (by decide) (fun c1 => ?_) (fun c1 => ?_)
  · rw [rc_no hS.1.1 hS.1.2 c1] at hk
    refine x_iconst (v := 0) hC dX3_bandEnergy_29 (by decide) ?_
    refine x_callV0 (na := 2) hC (ct_good2 hG hm _ False) (lw_V q2540 q2542 qs49 q89 q2543) hm.1 rfl rfl (by decide +kernel) rfl ⟨Nat.le_of_ble_eq_true rfl, Nat.le_of_ble_eq_true rfl⟩ rfl (Nat.le_of_ble_eq_true rfl) ⟨rfl, rfl⟩ ⟨Nat.le_of_ble_eq_true rfl, Nat.le_of_ble_eq_true rfl⟩ dX3_bandEnergy_30 ?_
    rintro _ M ⟨rfl, hm, hF1⟩
    have hF := hF.tr hF1
    refine x_if_eqB (tgt := 46) hC dX3_bandEnergy_33 (by decide) (fun c => ?_) (fun c => ?_)
    · refine x_ldc2 hC q2523 dX3_bandEnergy_46 ?_
      exact x_lret hC hk dX3_bandEnergy_49 (Nat.le_of_ble_eq_true rfl) (Nat.le_of_ble_eq_true rfl) ⟨_, _, _, rfl, (fun h => absurd h (show ¬ (1 : Int32) = 0 by decide)), hm, hF, hS.k6, upd_s.trans (if_neg c1)⟩
    · exact absurd c.1 c1
  · obtain ⟨i, r, hx, rfl, hw⟩ := rc_ok hS.1.1 hS.1.2 c1
    rw [hx] at hk
    dsimp only [Option.elim] at hk
    refine x_aload_n hC dX3_bandEnergy_15 rfl rfl ?_
    refine x_iload_n hC dX3_bandEnergy_16 rfl rfl ?_
    refine x_iload_n hC dX3_bandEnergy_17 rfl rfl ?_
    refine x_iload_n hC dX3_bandEnergy_18 rfl rfl ?_
    refine x_callV0 (na := 3) hC (ct_isBand hG hm hw.c6 hw.hn _ _) (lw_V q2603 q2605 qs53 q89 q2606) hm.1 rfl rfl (by decide +kernel) rfl ⟨Nat.le_of_ble_eq_true rfl, Nat.le_of_ble_eq_true rfl⟩ rfl (Nat.le_of_ble_eq_true rfl) ⟨rfl, rfl⟩ ⟨Nat.le_of_ble_eq_true rfl, Nat.le_of_ble_eq_true rfl⟩ dX3_bandEnergy_19 ?_
    rintro _ M ⟨rfl, rfl⟩
    refine x_if_eqB (tgt := 29) hC dX3_bandEnergy_22 (by decide) (fun c2 => ?_) (fun c2 => ?_)
    · rw [if_neg c2] at hk
      refine x_iconst (v := 0) hC dX3_bandEnergy_29 (by decide) ?_
      refine x_callV0 (na := 2) hC (ct_good2 hG hm _ False) (lw_V q2540 q2542 qs49 q89 q2543) hm.1 rfl rfl (by decide +kernel) rfl ⟨Nat.le_of_ble_eq_true rfl, Nat.le_of_ble_eq_true rfl⟩ rfl (Nat.le_of_ble_eq_true rfl) ⟨rfl, rfl⟩ ⟨Nat.le_of_ble_eq_true rfl, Nat.le_of_ble_eq_true rfl⟩ dX3_bandEnergy_30 ?_
      rintro _ M ⟨rfl, hm, hF1⟩
      have hF := hF.tr hF1
      refine x_if_eqB (tgt := 46) hC dX3_bandEnergy_33 (by decide) (fun c => ?_) (fun c => ?_)
      · refine x_ldc2 hC q2523 dX3_bandEnergy_46 ?_
        exact x_lret hC hk dX3_bandEnergy_49 (Nat.le_of_ble_eq_true rfl) (Nat.le_of_ble_eq_true rfl) ⟨_, _, _, rfl, (fun h => absurd h (show ¬ (2 : Int32) = 0 by decide)), hm, hF, hS.k6, upd_s.trans ((if_pos c1).trans (if_neg id))⟩
      · exact absurd c.2 id
    · rw [if_pos c2] at hk
      refine x_iconst (v := 1) hC dX3_bandEnergy_25 (by decide) ?_
      refine x_goto (tgt := 30) hC dX3_bandEnergy_26 (by decide) ?_
      refine x_callV0 (na := 2) hC (ct_good2 hG hm _ True) (lw_V q2540 q2542 qs49 q89 q2543) hm.1 rfl rfl (by decide +kernel) rfl ⟨Nat.le_of_ble_eq_true rfl, Nat.le_of_ble_eq_true rfl⟩ rfl (Nat.le_of_ble_eq_true rfl) ⟨rfl, rfl⟩ ⟨Nat.le_of_ble_eq_true rfl, Nat.le_of_ble_eq_true rfl⟩ dX3_bandEnergy_30 ?_
      rintro _ M ⟨rfl, hm, hF1⟩
      have hF := hF.tr hF1
      refine x_if_eqB (tgt := 46) hC dX3_bandEnergy_33 (by decide) (fun c => ?_) (fun c => ?_)
      · exact absurd ⟨c1, trivial⟩ c
      · refine x_aload_n hC dX3_bandEnergy_36 rfl rfl ?_
        refine x_iload_n hC dX3_bandEnergy_37 rfl rfl ?_
        refine x_iload_n hC dX3_bandEnergy_38 rfl rfl ?_
        refine x_iload_n hC dX3_bandEnergy_39 rfl rfl ?_
        refine x_callV0 (na := 3) hC (ct_band hG hm hw _ _) (lw_V q2607 q2609 qs54 q89 q2610) hm.1 rfl rfl (by decide +kernel) rfl ⟨Nat.le_of_ble_eq_true rfl, Nat.le_of_ble_eq_true rfl⟩ rfl (Nat.le_of_ble_eq_true rfl) ⟨rfl, rfl⟩ ⟨Nat.le_of_ble_eq_true rfl, Nat.le_of_ble_eq_true rfl⟩ dX3_bandEnergy_40 ?_
        rintro _ M ⟨rfl, g, hm, hF1⟩
        have hF := hF.tr hF1
        refine x_goto (tgt := 49) hC dX3_bandEnergy_43 (by decide) ?_
        exact x_lret hC hk dX3_bandEnergy_49 (Nat.le_of_ble_eq_true rfl) (Nat.le_of_ble_eq_true rfl) ⟨_, _, _, rfl, (fun _ => rfl), hm, hF, hS.k68 (Nat.le_refl 6), upd_s.trans ((if_pos c1).trans (if_pos trivial))⟩
theorem ct_strongest (hG : GOK G) (hm : Mdl M m P V A) (hw : Rw R (A 0) i r) {w : Nat} (hw1 : 1 ≤ w) (hwn : w ≤ rz r) : Ct G yX3_strongest cX3_strongest 5 (some .int) (xrm 6 0 0) [.ref m, .int (nI i), .int (nI w)] M (Pg6 (.int (nI (amx (fun a b => decide (bdw (rg r) (rz r) w a < bdw (rg r) (rz r) w b)) (rz r + 1 - w)))) M m P V A) := by
  refine ct_open (lv := [_, _, _, _, _]) hG (by decide +kernel) (Nat.le_of_ble_eq_true rfl) rfl (fun C hC hk => ?_)
  have hF : Fm M M := Fr.rf
  have h6 := hw.n6
  refine x_iconst (v := nI 0) hC dX3_strongest_0 (by decide) ?_
  refine x_istore_n (lv' := [_, _, _, _, _]) hC dX3_strongest_1 rfl (by decide) rfl ?_
  refine x_iconst (v := nI 1) hC dX3_strongest_2 (by decide) ?_
  refine x_istore (lv' := [_, _, _, _, _]) hC dX3_strongest_3 (by decide) rfl ?_
  suffices lp : ∀ k, k ≤ rz r - w → ∀ M1 g, Mdl M1 m P V (va_up A 6 g) → Fm M M1 → Wg G C M1 0 0 5 [some (.ref m), some (.int (nI i)), some (.int (nI w)), some (.int (nI (amx (fun a b => decide (bdw (rg r) (rz r) w a < bdw (rg r) (rz r) w b)) (k + 1)))), some (.int (nI (k + 1)))] [] by
    have h0 := lp 0 (Nat.zero_le _) M (A 6) (hm.to rfl (by rw [up_id])) hF
    rw [show amx (fun a b => decide (bdw (rg r) (rz r) w a < bdw (rg r) (rz r) w b)) (0 + 1) = 0 by unfold amx; split <;> rfl] at h0
    exact h0
  refine x_up (n := rz r - w) (I := fun k => ∀ M1 g, Mdl M1 m P V (va_up A 6 g) → Fm M M1 → Wg G C M1 0 0 5 [some (.ref m), some (.int (nI i)), some (.int (nI w)), some (.int (nI (amx (fun a b => decide (bdw (rg r) (rz r) w a < bdw (rg r) (rz r) w b)) (k + 1)))), some (.int (nI (k + 1)))] []) (fun k hk2 ih M g hm hF => ?_)
  have hwg : ∀ g, Rw R (va_up A 6 g 0) i r := fun g => hw
  refine x_iload hC dX3_strongest_5 rfl ?_
  refine x_iload_n hC dX3_strongest_7 rfl rfl ?_
  refine x_iaddN hC dX3_strongest_8 ?_
  refine x_aload_n hC dX3_strongest_9 rfl rfl ?_
  refine x_iload_n hC dX3_strongest_10 rfl rfl ?_
  refine x_callV0 (na := 1) hC (ct_sizeR hG hm (hwg _)) (lw_V q2495 q2497 qs45 q89 q2498) hm.1 rfl rfl (by decide +kernel) rfl ⟨Nat.le_of_ble_eq_true rfl, Nat.le_of_ble_eq_true rfl⟩ rfl (Nat.le_of_ble_eq_true rfl) ⟨rfl, rfl⟩ ⟨Nat.le_of_ble_eq_true rfl, Nat.le_of_ble_eq_true rfl⟩ dX3_strongest_11 ?_
  rintro _ M ⟨rfl, rfl⟩
  refine x_icmp_gtN (tgt := 58) hC (by omega) (by omega) dX3_strongest_14 (by decide) (fun c1 => ?_) (fun c1 => ?_)
  · refine x_iload_n hC dX3_strongest_58 rfl rfl ?_
    exact x_iret hC hk dX3_strongest_59 (Nat.le_of_ble_eq_true rfl) (Nat.le_of_ble_eq_true rfl) ⟨by rw [show k + 1 = rz r + 1 - w by omega], g, hm, hF⟩
  · have hal := amx_lt (lt := fun a b => decide (bdw (rg r) (rz r) w a < bdw (rg r) (rz r) w b)) (k := k + 1) (by omega)
    have hst : amx (fun a b => decide (bdw (rg r) (rz r) w a < bdw (rg r) (rz r) w b)) (k + 1 + 1) = if bdw (rg r) (rz r) w (amx (fun a b => decide (bdw (rg r) (rz r) w a < bdw (rg r) (rz r) w b)) (k + 1)) < bdw (rg r) (rz r) w (k + 1) then k + 1 else amx (fun a b => decide (bdw (rg r) (rz r) w a < bdw (rg r) (rz r) w b)) (k + 1) := by
      rw [amx]
      simp only [decide_eq_true_eq]
    have ih2 := ih (by omega)
    rw [hst] at ih2
    generalize amx (fun a b => decide (bdw (rg r) (rz r) w a < bdw (rg r) (rz r) w b)) (k + 1) = u at hal ih2 ⊢
    refine x_aload_n hC dX3_strongest_17 rfl rfl ?_
    refine x_iload_n hC dX3_strongest_18 rfl rfl ?_
    refine x_iload hC dX3_strongest_19 rfl ?_
    refine x_iload hC dX3_strongest_21 rfl ?_
    refine x_iload_n hC dX3_strongest_23 rfl rfl ?_
    refine x_iaddN hC dX3_strongest_24 ?_
    refine x_iconst (v := nI 1) hC dX3_strongest_25 (by decide) ?_
    refine x_isubN hC dX3_strongest_26 (by omega) ?_
    refine x_callV0 (na := 3) hC (ct_band hG hm (hwg _) _ _) (lw_V q2607 q2609 qs54 q89 q2610) hm.1 rfl rfl (by decide +kernel) rfl ⟨Nat.le_of_ble_eq_true rfl, Nat.le_of_ble_eq_true rfl⟩ rfl (Nat.le_of_ble_eq_true rfl) ⟨rfl, rfl⟩ ⟨Nat.le_of_ble_eq_true rfl, Nat.le_of_ble_eq_true rfl⟩ dX3_strongest_27 ?_
    rintro _ M ⟨rfl, g1, hm, hF1⟩
    have hF := hF.tr hF1
    rw [up_up] at hm
    refine x_aload_n hC dX3_strongest_30 rfl rfl ?_
    refine x_iload_n hC dX3_strongest_31 rfl rfl ?_
    refine x_iload_n hC dX3_strongest_32 rfl rfl ?_
    refine x_iload_n hC dX3_strongest_33 rfl rfl ?_
    refine x_iload_n hC dX3_strongest_34 rfl rfl ?_
    refine x_iaddN hC dX3_strongest_35 ?_
    refine x_iconst (v := nI 1) hC dX3_strongest_36 (by decide) ?_
    refine x_isubN hC dX3_strongest_37 (by omega) ?_
    refine x_callV0 (na := 3) hC (ct_band hG hm (hwg _) _ _) (lw_V q2607 q2609 qs54 q89 q2610) hm.1 rfl rfl (by decide +kernel) rfl ⟨Nat.le_of_ble_eq_true rfl, Nat.le_of_ble_eq_true rfl⟩ rfl (Nat.le_of_ble_eq_true rfl) ⟨rfl, rfl⟩ ⟨Nat.le_of_ble_eq_true rfl, Nat.le_of_ble_eq_true rfl⟩ dX3_strongest_38 ?_
    rintro _ M ⟨rfl, g2, hm, hF1⟩
    have hF := hF.tr hF1
    rw [up_up] at hm
    refine x_lcmp hC dX3_strongest_41 ?_
    refine x_if_le (tgt := 50) hC dX3_strongest_42 (by decide) (fun c2 => ?_) (fun c2 => ?_)
    · rw [lg_cmp_le] at c2
      refine x_iload_n hC dX3_strongest_50 rfl rfl ?_
      refine x_istore_n (lv' := [_, _, _, _, _]) hC dX3_strongest_51 rfl (by decide) rfl ?_
      refine x_iincN (lv' := [_, _, _, _, _]) (b := 1) hC dX3_strongest_52 rfl (by decide) (by decide) rfl ?_
      refine x_goto (tgt := 5) hC dX3_strongest_55 (by decide) ?_
      have ih3 := ih2 M g2 hm hF
      rw [if_neg (Int64.not_lt.mpr c2)] at ih3
      exact ih3
    · rw [lg_cmp_le] at c2
      refine x_iload hC dX3_strongest_45 rfl ?_
      refine x_goto (tgt := 51) hC dX3_strongest_47 (by decide) ?_
      refine x_istore_n (lv' := [_, _, _, _, _]) hC dX3_strongest_51 rfl (by decide) rfl ?_
      refine x_iincN (lv' := [_, _, _, _, _]) (b := 1) hC dX3_strongest_52 rfl (by decide) (by decide) rfl ?_
      refine x_goto (tgt := 5) hC dX3_strongest_55 (by decide) ?_
      have ih3 := ih2 M g2 hm hF
      rw [if_pos (Int64.not_le.mp c2)] at ih3
      exact ih3
theorem nIw {w : Int32} {n : Nat} (hn : n < 2 ^ 31) (h : 1 ≤ w ∧ w ≤ nI n) : ∃ v, w = nI v ∧ w.toNatClampNeg = v ∧ 1 ≤ v ∧ v ≤ n := by
  obtain ⟨h1, h2⟩ := i_nat (Int32.le_trans (show (0 : Int32) ≤ 1 by decide) h.1)
  refine ⟨_, h1, rfl, ?_⟩
  rw [h1, nI_leI h2 hn, show (1 : Int32) = nI 1 from rfl, nI_leI (by decide) h2] at h
  exact h
theorem ct_strongestBand (hG : GOK G) (hm : Mdl M m P V A) (hS : MRep S V A) (x w : Int32) : Ct G yX3_strongestBand cX3_strongestBand 4 (some .int) (xrm 7 0 0) [.ref m, .int x, .int w] M (MOi M m P S (opStrong S x w).1 (opStrong S x w).2) := by
  refine ct_open (lv := [_, _, _, _]) hG (by decide +kernel) (Nat.le_of_ble_eq_true rfl) rfl (fun C hC hk => ?_)
  have hF : Fm M M := Fr.rf
  unfold opStrong at hk
  refine x_aload_n hC dX3_strongestBand_0 rfl rfl ?_
  refine x_iload_n hC dX3_strongestBand_1 rfl rfl ?_
  refine x_callV0 (na := 1) hC (ct_isRecording hG hm _) (lw_V q2491 q2493 qs44 q89 q2494) hm.1 rfl rfl (by decide +kernel) rfl ⟨Nat.le_of_ble_eq_true rfl, Nat.le_of_ble_eq_true rfl⟩ rfl (Nat.le_of_ble_eq_true rfl) ⟨rfl, rfl⟩ ⟨Nat.le_of_ble_eq_true rfl, Nat.le_of_ble_eq_true rfl⟩ dX3_strongestBand_2 ?_
  rintro _ M ⟨rfl, rfl⟩
  refine x_istore_n (lv' := [_, _, _, _]) hC dX3_strongestBand_5 rfl (by decide) rfl ?_
  refine x_aload_n hC dX3_strongestBand_6 rfl rfl ?_
  refine x_iload_n hC dX3_strongestBand_7 rfl rfl ?_
  refine x_iload_n hC dX3_strongestBand_8 rfl rfl ?_
  refine x_if_eqB (tgt := 29) hC dX3_strongestBand_9 (by decide) (fun c1 => ?_) (fun c1 => ?_)
  · rw [rc_no hS.1.1 hS.1.2 c1] at hk
    refine x_iconst (v := 0) hC dX3_strongestBand_29 (by decide) ?_
    refine x_callV0 (na := 2) hC (ct_good2 hG hm _ False) (lw_V q2540 q2542 qs49 q89 q2543) hm.1 rfl rfl (by decide +kernel) rfl ⟨Nat.le_of_ble_eq_true rfl, Nat.le_of_ble_eq_true rfl⟩ rfl (Nat.le_of_ble_eq_true rfl) ⟨rfl, rfl⟩ ⟨Nat.le_of_ble_eq_true rfl, Nat.le_of_ble_eq_true rfl⟩ dX3_strongestBand_30 ?_
    rintro _ M ⟨rfl, hm, hF1⟩
    have hF := hF.tr hF1
    refine x_if_eqB (tgt := 45) hC dX3_strongestBand_33 (by decide) (fun c => ?_) (fun c => ?_)
    · refine x_iconst (v := -1) hC dX3_strongestBand_45 (by decide) ?_
      exact x_iret hC hk dX3_strongestBand_46 (Nat.le_of_ble_eq_true rfl) (Nat.le_of_ble_eq_true rfl) ⟨_, _, _, rfl, (fun h => absurd h (show ¬ (1 : Int32) = 0 by decide)), hm, hF, hS.k6, upd_s.trans (if_neg c1)⟩
    · exact absurd c.1 c1
  · obtain ⟨i, r, hx, rfl, hw⟩ := rc_ok hS.1.1 hS.1.2 c1
    rw [hx] at hk
    dsimp only [Option.elim] at hk
    refine x_iload_n hC dX3_strongestBand_12 rfl rfl ?_
    refine x_iconst (v := 1) hC dX3_strongestBand_13 (by decide) ?_
    refine x_aload_n hC dX3_strongestBand_14 rfl rfl ?_
    refine x_iload_n hC dX3_strongestBand_15 rfl rfl ?_
    refine x_callV0 (na := 1) hC (ct_sizeR hG hm hw) (lw_V q2495 q2497 qs45 q89 q2498) hm.1 rfl rfl (by decide +kernel) rfl ⟨Nat.le_of_ble_eq_true rfl, Nat.le_of_ble_eq_true rfl⟩ rfl (Nat.le_of_ble_eq_true rfl) ⟨rfl, rfl⟩ ⟨Nat.le_of_ble_eq_true rfl, Nat.le_of_ble_eq_true rfl⟩ dX3_strongestBand_16 ?_
    rintro _ M ⟨rfl, rfl⟩
    refine x_callS0 (na := 3) hC (ct_isIn hG _ _ _ _) (lw_S q2414 q2415 q89 q2416) (by decide +kernel) rfl ⟨Nat.le_of_ble_eq_true rfl, Nat.le_of_ble_eq_true rfl⟩ rfl (Nat.le_of_ble_eq_true rfl) ⟨rfl, rfl⟩ ⟨Nat.le_of_ble_eq_true rfl, Nat.le_of_ble_eq_true rfl⟩ dX3_strongestBand_19 ?_
    rintro _ M ⟨rfl, rfl⟩
    refine x_if_eqB (tgt := 29) hC dX3_strongestBand_22 (by decide) (fun c2 => ?_) (fun c2 => ?_)
    · rw [if_neg c2] at hk
      refine x_iconst (v := 0) hC dX3_strongestBand_29 (by decide) ?_
      refine x_callV0 (na := 2) hC (ct_good2 hG hm _ False) (lw_V q2540 q2542 qs49 q89 q2543) hm.1 rfl rfl (by decide +kernel) rfl ⟨Nat.le_of_ble_eq_true rfl, Nat.le_of_ble_eq_true rfl⟩ rfl (Nat.le_of_ble_eq_true rfl) ⟨rfl, rfl⟩ ⟨Nat.le_of_ble_eq_true rfl, Nat.le_of_ble_eq_true rfl⟩ dX3_strongestBand_30 ?_
      rintro _ M ⟨rfl, hm, hF1⟩
      have hF := hF.tr hF1
      refine x_if_eqB (tgt := 45) hC dX3_strongestBand_33 (by decide) (fun c => ?_) (fun c => ?_)
      · refine x_iconst (v := -1) hC dX3_strongestBand_45 (by decide) ?_
        exact x_iret hC hk dX3_strongestBand_46 (Nat.le_of_ble_eq_true rfl) (Nat.le_of_ble_eq_true rfl) ⟨_, _, _, rfl, (fun h => absurd h (show ¬ (2 : Int32) = 0 by decide)), hm, hF, hS.k6, upd_s.trans ((if_pos c1).trans (if_neg id))⟩
      · exact absurd c.2 id
    · rw [if_pos c2] at hk
      refine x_iconst (v := 1) hC dX3_strongestBand_25 (by decide) ?_
      refine x_goto (tgt := 30) hC dX3_strongestBand_26 (by decide) ?_
      refine x_callV0 (na := 2) hC (ct_good2 hG hm _ True) (lw_V q2540 q2542 qs49 q89 q2543) hm.1 rfl rfl (by decide +kernel) rfl ⟨Nat.le_of_ble_eq_true rfl, Nat.le_of_ble_eq_true rfl⟩ rfl (Nat.le_of_ble_eq_true rfl) ⟨rfl, rfl⟩ ⟨Nat.le_of_ble_eq_true rfl, Nat.le_of_ble_eq_true rfl⟩ dX3_strongestBand_30 ?_
      rintro _ M ⟨rfl, hm, hF1⟩
      have hF := hF.tr hF1
      refine x_if_eqB (tgt := 45) hC dX3_strongestBand_33 (by decide) (fun c => ?_) (fun c => ?_)
      · exact absurd ⟨c1, trivial⟩ c
      · obtain ⟨v, rfl, hv, hv1, hv2⟩ := nIw (by have := hw.n6; omega) c2
        rw [hv] at hk
        refine x_aload_n hC dX3_strongestBand_36 rfl rfl ?_
        refine x_iload_n hC dX3_strongestBand_37 rfl rfl ?_
        refine x_iload_n hC dX3_strongestBand_38 rfl rfl ?_
        refine x_callV0 (na := 2) hC (ct_strongest hG hm hw hv1 hv2) (lw_V q2619 q2621 qs56 q89 q2622) hm.1 rfl rfl (by decide +kernel) rfl ⟨Nat.le_of_ble_eq_true rfl, Nat.le_of_ble_eq_true rfl⟩ rfl (Nat.le_of_ble_eq_true rfl) ⟨rfl, rfl⟩ ⟨Nat.le_of_ble_eq_true rfl, Nat.le_of_ble_eq_true rfl⟩ dX3_strongestBand_39 ?_
        rintro _ M ⟨rfl, g, hm, hF1⟩
        have hF := hF.tr hF1
        refine x_goto (tgt := 46) hC dX3_strongestBand_42 (by decide) ?_
        exact x_iret hC hk dX3_strongestBand_46 (Nat.le_of_ble_eq_true rfl) (Nat.le_of_ble_eq_true rfl) ⟨_, _, _, rfl, (fun _ => rfl), hm, hF, hS.k68 (Nat.le_refl 6), upd_s.trans ((if_pos c1).trans (if_pos trivial))⟩
end M15

