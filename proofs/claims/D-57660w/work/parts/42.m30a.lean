/-! ===== sums of longs: bounds, order; the number of peaks needed ===== -/
theorem jS_add {f g : Nat → Int64} : ∀ {n : Nat}, jS (fun k => f k + g k) n = jS f n + jS g n
  | 0 => by show (0 : Int64) = 0 + 0; decide
  | n + 1 => by
    show jS (fun k => f k + g k) n + (f n + g n) = jS f n + f n + (jS g n + g n)
    rw [jS_add, Int64.add_assoc, Int64.add_assoc, ← Int64.add_assoc (jS g n), Int64.add_comm (jS g n) (f n), Int64.add_assoc]
theorem jS_0 : ∀ {n : Nat} {f : Nat → Int64}, (∀ k, k < n → f k = 0) → jS f n = 0
  | 0, _, _ => rfl
  | n + 1, f, h => by
    show jS f n + f n = 0
    rw [jS_0 (fun k hk => h k (by omega)), h n (by omega)]
    decide
theorem jS_1 {f : Nat → Int64} {q : Nat} : ∀ {n : Nat}, q < n → (∀ k, k < n → k ≠ q → f k = 0) → jS f n = f q
  | 0, h, _ => by omega
  | n + 1, h, h2 => by
    show jS f n + f n = f q
    by_cases e : q = n
    · rw [jS_0 (fun k hk => h2 k (by omega) (by omega)), e, Int64.zero_add]
    · rw [jS_1 (by omega) (fun k hk => h2 k (by omega)), h2 n (by omega) (by omega), Int64.add_zero]
theorem jS_sw {F : Nat → Nat → Int64} {n : Nat} : ∀ {m : Nat}, jS (fun j => jS (fun i => F j i) n) m = jS (fun i => jS (fun j => F j i) m) n
  | 0 => (jS_0 (n := n) (f := fun _ => 0) (fun _ _ => rfl)).symm
  | m + 1 => by
    show jS (fun j => jS (fun i => F j i) n) m + jS (fun i => F m i) n = jS (fun i => jS (fun j => F j i) m + F m i) n
    rw [jS_sw, jS_add]
/-- the order of the summands doesn't matter -/
theorem jS_pm {h : Nat → Int64} {p : Nat → Nat} {n : Nat} (h1 : ∀ a, a < n → p a < n) (h2 : ∀ a b, a < b → b < n → p a ≠ p b) (h3 : ∀ i, i < n → ∃ k, k < n ∧ p k = i) : jS (fun j => h (p j)) n = jS h n := by
  have e1 : jS (fun j => h (p j)) n = jS (fun j => jS (fun i => if p j = i then h i else 0) n) n := jS_cong fun j hj => by
    rw [jS_1 (q := p j) (h1 j hj) (fun k hk hne => if_neg (fun e => hne e.symm)), if_pos rfl]
  rw [e1, jS_sw]
  refine jS_cong fun i hi => ?_
  obtain ⟨k, k1, k2⟩ := h3 i hi
  rw [jS_1 (q := k) k1 (fun j hj hne => if_neg (fun e => ?_)), if_pos k2]
  rcases Nat.lt_or_gt_of_ne hne with h4 | h4
  · exact h2 j k h4 k1 (by rw [e, k2])
  · exact h2 k j h4 hj (by rw [e, k2])
theorem jS_b {f : Nat → Int64} {B : Nat} : ∀ {n : Nat}, (∀ k, k < n → 0 ≤ (f k).toInt ∧ (f k).toInt ≤ B) → n * B < 2 ^ 63 → 0 ≤ (jS f n).toInt ∧ (jS f n).toInt ≤ (n * B : Nat)
  | 0, _, _ => ⟨show (0 : Int) ≤ (0 : Int64).toInt by decide, by rw [Nat.zero_mul]; exact (show (0 : Int64).toInt ≤ ((0 : Nat) : Int) by decide)⟩
  | n + 1, h, hB => by
    have h1 : (n + 1) * B = n * B + B := Nat.succ_mul n B
    obtain ⟨h3, h4⟩ := jS_b (n := n) (fun k hk => h k (by omega)) (by omega)
    obtain ⟨h5, h6⟩ := h n (by omega)
    show 0 ≤ (jS f n + f n).toInt ∧ (jS f n + f n).toInt ≤ (((n + 1) * B : Nat) : Int)
    rw [Int64.toInt_add, Int.bmod_eq_of_le (by omega) (by omega)]
    omega
theorem sq_i {x : Int32} {B : Nat} (h : x.toInt.natAbs ≤ B) (hB : B < 2 ^ 31) : 0 ≤ (sq x).toInt ∧ (sq x).toInt ≤ (B * B : Nat) := by
  unfold sq
  have h1 : x.toInt64.toInt = x.toInt := Int32.toInt_toInt64 x
  have h2 : x.toInt.natAbs * x.toInt.natAbs ≤ B * B := Nat.mul_le_mul h h
  have h3 : x.toInt * x.toInt = ((x.toInt.natAbs * x.toInt.natAbs : Nat) : Int) := Int.natAbs_mul_self.symm
  have h4 : B * B ≤ (2 ^ 31 - 1) * (2 ^ 31 - 1) := Nat.mul_le_mul (by omega) (by omega)
  rw [Int64.toInt_mul, h1, h3, Int.bmod_eq_of_le (by omega) (by omega)]
  omega
/-- the energy of the first peaks -/
abbrev pkE (r : Rcd) (k : Nat) : Int64 := jS (fun j => sq (cfN (rg r) (rz r) (pkN r j))) k
def opNeed (S : X_S) (x p : Int32) : Int32 × Int32 := (rc (sR S) x).elim (1, 0) fun r => if 0 ≤ p ∧ p ≤ 100 then (0, optI (fstI (fun k => p.toInt64 * coE r ≤ 100 * pkE r k) (rz r + 1) 0)) else (2, 0)
section M30A
variable {G : X_G} {M : X_M} {m : Nat} {P : Nat → Nat} {V : Nat → Int32} {A : Nat → Nat → Int32} {S : X_S} {R : List Rcd} {i k j : Nat} {r s : Rcd}
theorem coE_b (hw : Rw R (A 0) i r) : 0 ≤ (coE r).toInt ∧ (coE r).toInt ≤ 26209156096000 + 64000000000000 := by
  have h6 := hw.n6
  have h := jS_b (f := fun i => sq (cfN (rg r) (rz r) i)) (B := 639936 * 639936) (n := rz r) (fun k hk => sq_i (cf_b h6 (fun l hl => hw.lim hl)) (by decide)) (by omega)
  unfold coE
  omega
theorem pkE_all (hw : Rw R (A 0) i r) : pkE r (rz r) = coE r := by
  have hr := pk_rk (cfN (rg r) (rz r)) (rz r)
  refine jS_pm (h := fun i => sq (cfN (rg r) (rz r) i)) hr.1 (fun a b hab hb e => ?_) (fun i hi => pk_sur _ _ hi)
  have := hr.2 a b hab hb
  rw [show pk (cfN (rg r) (rz r)) (rz r) a = pk (cfN (rg r) (rz r)) (rz r) b from e] at this
  rcases this with h1 | h1
  · exact Int32.lt_irrefl h1
  · exact Nat.lt_irrefl _ h1.2
theorem need_ok (hw : Rw R (A 0) i r) {p : Int32} (hp : 0 ≤ p ∧ p ≤ 100) : p.toInt64 * coE r ≤ 100 * pkE r (rz r) := by
  rw [pkE_all hw]
  obtain ⟨h1, h2⟩ := coE_b hw
  have h3 := Int32.le_iff_toInt_le.mp hp.1
  have h4 := Int32.le_iff_toInt_le.mp hp.2
  rw [show (0 : Int32).toInt = 0 by decide] at h3
  rw [show (100 : Int32).toInt = 100 by decide] at h4
  have h5 : p.toInt64.toInt = p.toInt := Int32.toInt_toInt64 p
  generalize coE r = E at *
  have h6 : p.toInt * E.toInt ≤ 100 * E.toInt := Int.mul_le_mul_of_nonneg_right h4 h1
  have h7 : 0 ≤ p.toInt * E.toInt := Int.mul_nonneg h3 h1
  rw [Int64.le_iff_toInt_le, Int64.toInt_mul, Int64.toInt_mul, h5, show (100 : Int64).toInt = 100 by decide, Int.bmod_eq_of_le (by omega) (by omega), Int.bmod_eq_of_le (by omega) (by omega)]
  exact h6
theorem ct_needed (hG : GOK G) (hm : Mdl M m P V A) (hw : Rw R (A 0) i r) {p : Int32} (hp : 0 ≤ p ∧ p ≤ 100) : Ct G yX3_needed cX3_needed 8 (some .int) (xrm 6 0 0) [.ref m, .int (nI i), .int p] M (fun r0 M' => r0 = some (.int (optI (fstI (fun k => p.toInt64 * coE r ≤ 100 * pkE r k) (rz r + 1) 0))) ∧ ∃ A', Mdl M' m P V A' ∧ Fm M M' ∧ ∀ q, q < 6 → A' q = A q) := by
  refine ct_open (lv := [_, _, _, _, _, _, _, _]) hG (by decide +kernel) (Nat.le_of_ble_eq_true rfl) rfl (fun C hC hk => ?_)
  have hF : Fm M M := Fr.rf
  have h6 := hw.n6
  refine x_aload_n hC dX3_needed_0 rfl rfl ?_
  refine x_iload_n hC dX3_needed_1 rfl rfl ?_
  refine x_callV0 (na := 1) hC (ct_peaksR hG hm hw) (lw_V q2647 q2649 qs59 q89 q2650) hm.1 rfl rfl (by decide +kernel) rfl ⟨Nat.le_of_ble_eq_true rfl, Nat.le_of_ble_eq_true rfl⟩ rfl (Nat.le_of_ble_eq_true rfl) ⟨rfl, rfl⟩ ⟨Nat.le_of_ble_eq_true rfl, Nat.le_of_ble_eq_true rfl⟩ dX3_needed_2 ?_
  rintro _ M ⟨rfl, hm, hF1⟩
  have hF := hF.tr hF1
  obtain ⟨A7, hA7⟩ : ∃ A7, A7 = va_up (va_up A 6 (fil (A 6) (cfN (rg r) (rz r)) 0 (rz r))) 8 (fil (A 8) (fun j => nI (pkN r j)) 0 (rz r)) := ⟨_, rfl⟩
  rw [← hA7] at hm
  have e8 : ∀ q, q < rz r → A7 8 q = nI (pkN r q) := fun q hq => by rw [hA7]; exact rk_at hq
  have e6 : ∀ q, q < rz r → A7 6 q = cfN (rg r) (rz r) q := fun q hq => by rw [hA7]; exact rk_co hq
  have hq6 : ∀ q, q < 6 → A7 q = A q := fun q hq => by rw [hA7, va_up_n (by omega), va_up_n (by omega)]
  have hw7 : Rw R (A7 0) i r := by rw [hq6 0 (by decide)]; exact hw
  clear hA7
  refine x_iload_n hC dX3_needed_5 rfl rfl ?_
  refine x_i2l hC dX3_needed_6 rfl ?_
  refine x_aload_n hC dX3_needed_7 rfl rfl ?_
  refine x_aload_n hC dX3_needed_8 rfl rfl ?_
  refine x_iload_n hC dX3_needed_9 rfl rfl ?_
  refine x_callV0 (na := 1) hC (ct_sizeR hG hm hw7) (lw_V q2495 q2497 qs45 q89 q2498) hm.1 rfl rfl (by decide +kernel) rfl ⟨Nat.le_of_ble_eq_true rfl, Nat.le_of_ble_eq_true rfl⟩ rfl (Nat.le_of_ble_eq_true rfl) ⟨rfl, rfl⟩ ⟨Nat.le_of_ble_eq_true rfl, Nat.le_of_ble_eq_true rfl⟩ dX3_needed_10 ?_
  rintro _ M ⟨rfl, rfl⟩
  refine x_callV0 (na := 1) hC (ct_coefficientEnergy hG hm h6) (lw_V q2639 q2641 qs58 q89 q2642) hm.1 rfl rfl (by decide +kernel) rfl ⟨Nat.le_of_ble_eq_true rfl, Nat.le_of_ble_eq_true rfl⟩ rfl (Nat.le_of_ble_eq_true rfl) ⟨rfl, rfl⟩ ⟨Nat.le_of_ble_eq_true rfl, Nat.le_of_ble_eq_true rfl⟩ dX3_needed_13 ?_
  rintro _ M ⟨rfl, rfl⟩
  rw [coE_R (fun k hk => e6 k hk)]
  refine x_lmul hC dX3_needed_16 ?_
  refine x_lstore_n (lv' := [_, _, _, _, _, _, _, _]) hC dX3_needed_17 rfl (by decide) rfl ?_
  refine x_lconst (v := 0) hC dX3_needed_18 (by decide) ?_
  refine x_lstore (lv' := [_, _, _, _, _, _, _, _]) hC dX3_needed_19 (by decide) rfl ?_
  refine x_iconst (v := nI 0) hC dX3_needed_21 (by decide) ?_
  refine x_istore (lv' := [_, _, _, _, _, _, _, _]) hC dX3_needed_22 (by decide) rfl ?_
  have fin : ∀ k, k ≤ rz r → p.toInt64 * coE r ≤ 100 * pkE r k → (∀ l, l < k → ¬ p.toInt64 * coE r ≤ 100 * pkE r l) → Wg G C M 0 0 61 [some (.ref m), some (.int (nI i)), some (.int p), some (.long (p.toInt64 * coE r)), none, some (.long (pkE r k)), none, some (.int (nI k))] [] := by
    intro k hk1 h1 h2
    refine x_iload hC dX3_needed_61 rfl ?_
    exact x_iret hC hk dX3_needed_63 (Nat.le_of_ble_eq_true rfl) (Nat.le_of_ble_eq_true rfl) ⟨by rw [fstI_at (p := fun k => p.toInt64 * coE r ≤ 100 * pkE r k) (b := k) (Nat.zero_le _) (by omega) h1 (fun l _ hl => h2 l hl)]; rfl, A7, hm, hF, hq6⟩
  suffices lp : ∀ d k, k + d = rz r → (∀ l, l < k → ¬ p.toInt64 * coE r ≤ 100 * pkE r l) → Wg G C M 0 0 24 [some (.ref m), some (.int (nI i)), some (.int p), some (.long (p.toInt64 * coE r)), none, some (.long (pkE r k)), none, some (.int (nI k))] [] from lp (rz r) 0 (by omega) (fun l hl => by omega)
  intro d
  induction d with
  | zero =>
    intro k hd hno
    have hd : k = rz r := by omega
    subst hd
    refine x_ldc2 hC q2667 dX3_needed_24 ?_
    refine x_lload hC dX3_needed_27 rfl ?_
    refine x_lmul hC dX3_needed_29 ?_
    refine x_lload_n hC dX3_needed_30 rfl rfl ?_
    refine x_lcmp hC dX3_needed_31 ?_
    refine x_if_ge (tgt := 61) hC dX3_needed_32 (by decide) (fun c1 => ?_) (fun c1 => ?_)
    · exact fin _ (Nat.le_refl _) (need_ok hw hp) hno
    · exact absurd ((lg_cmp_ge _ _).mpr (need_ok hw hp)) c1
  | succ d ih =>
    intro k hd hno
    have hkr : k < rz r := by omega
    have hpb : pkN r k < rz r := pkr_lt (cfN (rg r) (rz r)) (rz r) hkr
    refine x_ldc2 hC q2667 dX3_needed_24 ?_
    refine x_lload hC dX3_needed_27 rfl ?_
    refine x_lmul hC dX3_needed_29 ?_
    refine x_lload_n hC dX3_needed_30 rfl rfl ?_
    refine x_lcmp hC dX3_needed_31 ?_
    refine x_if_ge (tgt := 61) hC dX3_needed_32 (by decide) (fun c1 => ?_) (fun c1 => ?_)
    · exact fin k (by omega) ((lg_cmp_ge _ _).mp c1) hno
    · refine x_lload hC dX3_needed_35 rfl ?_
      refine x_aload_n hC dX3_needed_37 rfl rfl ?_
      refine x_get hC 7 hm.1 rfl (by decide) q2337 rfl rfl dX3_needed_38 ?_
      refine x_aload_n hC dX3_needed_41 rfl rfl ?_
      refine x_get hC 9 hm.1 rfl (by decide) q2339 rfl rfl dX3_needed_42 ?_
      refine x_iload hC dX3_needed_45 rfl ?_
      refine x_ialdN hC (hm.arr 8 (by decide)) (show _ < 64 from (by omega)) (by decide) dX3_needed_47 ?_
      rw [e8 k hkr]
      refine x_ialdN hC (hm.arr 6 (by decide)) (show _ < 64 from (by omega)) (by decide) dX3_needed_48 ?_
      rw [e6 _ hpb]
      refine x_callS0 (na := 1) hC (ct_square hG _ _) (lw_S q2528 q2529 q89 q2530) (by decide +kernel) rfl ⟨Nat.le_of_ble_eq_true rfl, Nat.le_of_ble_eq_true rfl⟩ rfl (Nat.le_of_ble_eq_true rfl) ⟨rfl, rfl⟩ ⟨Nat.le_of_ble_eq_true rfl, Nat.le_of_ble_eq_true rfl⟩ dX3_needed_49 ?_
      rintro _ M ⟨rfl, rfl⟩
      refine x_ladd hC dX3_needed_52 ?_
      refine x_lstore (lv' := [_, _, _, _, _, _, _, _]) hC dX3_needed_53 (by decide) rfl ?_
      refine x_iincN (lv' := [_, _, _, _, _, _, _, _]) (b := 1) hC dX3_needed_55 rfl (by decide) (by decide) rfl ?_
      refine x_goto (tgt := 24) hC dX3_needed_58 (by decide) ?_
      refine ih (k + 1) (by omega) (fun l hl => ?_)
      by_cases e : l = k
      · subst e; exact fun h => c1 ((lg_cmp_ge _ _).mpr h)
      · exact hno l (by omega)
theorem ct_peaksFor (hG : GOK G) (hm : Mdl M m P V A) (hS : MRep S V A) (x p : Int32) : Ct G yX3_peaksFor cX3_peaksFor 3 (some .int) (xrm 7 0 0) [.ref m, .int x, .int p] M (MOi M m P S (opNeed S x p).1 (opNeed S x p).2) := by
  refine ct_open (lv := [_, _, _]) hG (by decide +kernel) (Nat.le_of_ble_eq_true rfl) rfl (fun C hC hk => ?_)
  have hF : Fm M M := Fr.rf
  unfold opNeed at hk
  refine x_aload_n hC dX3_peaksFor_0 rfl rfl ?_
  refine x_aload_n hC dX3_peaksFor_1 rfl rfl ?_
  refine x_iload_n hC dX3_peaksFor_2 rfl rfl ?_
  refine x_callV0 (na := 1) hC (ct_isRecording hG hm _) (lw_V q2491 q2493 qs44 q89 q2494) hm.1 rfl rfl (by decide +kernel) rfl ⟨Nat.le_of_ble_eq_true rfl, Nat.le_of_ble_eq_true rfl⟩ rfl (Nat.le_of_ble_eq_true rfl) ⟨rfl, rfl⟩ ⟨Nat.le_of_ble_eq_true rfl, Nat.le_of_ble_eq_true rfl⟩ dX3_peaksFor_3 ?_
  rintro _ M ⟨rfl, rfl⟩
  refine x_iload_n hC dX3_peaksFor_6 rfl rfl ?_
  refine x_iconst (v := 0) hC dX3_peaksFor_7 (by decide) ?_
  refine x_bipush (v := 100) hC dX3_peaksFor_8 (by decide) ?_
  refine x_callS0 (na := 3) hC (ct_isIn hG _ _ _ _) (lw_S q2414 q2415 q89 q2416) (by decide +kernel) rfl ⟨Nat.le_of_ble_eq_true rfl, Nat.le_of_ble_eq_true rfl⟩ rfl (Nat.le_of_ble_eq_true rfl) ⟨rfl, rfl⟩ ⟨Nat.le_of_ble_eq_true rfl, Nat.le_of_ble_eq_true rfl⟩ dX3_peaksFor_10 ?_
  rintro _ M ⟨rfl, rfl⟩
  refine x_callV0 (na := 2) hC (ct_good2 hG hm _ _) (lw_V q2540 q2542 qs49 q89 q2543) hm.1 rfl rfl (by decide +kernel) rfl ⟨Nat.le_of_ble_eq_true rfl, Nat.le_of_ble_eq_true rfl⟩ rfl (Nat.le_of_ble_eq_true rfl) ⟨rfl, rfl⟩ ⟨Nat.le_of_ble_eq_true rfl, Nat.le_of_ble_eq_true rfl⟩ dX3_peaksFor_13 ?_
  rintro _ M ⟨rfl, hm, hF1⟩
  have hF := hF.tr hF1
  by_cases c1 : isR (A 0) x
  · obtain ⟨i, r, hx, rfl, hw⟩ := rc_ok hS.1.1 hS.1.2 c1
    rw [hx] at hk
    dsimp only [Option.elim] at hk
    by_cases c2 : 0 ≤ p ∧ p ≤ 100
    · rw [if_pos c2] at hk
      refine x_if_eqB (tgt := 28) hC dX3_peaksFor_16 (by decide) (fun c => ?_) (fun c => ?_)
      · exact absurd ⟨c1, c2⟩ c
      · refine x_aload_n hC dX3_peaksFor_19 rfl rfl ?_
        refine x_iload_n hC dX3_peaksFor_20 rfl rfl ?_
        refine x_iload_n hC dX3_peaksFor_21 rfl rfl ?_
        refine x_callV0 (na := 2) hC (ct_needed hG hm hw c2) (lw_V q2663 q2665 qs61 q89 q2666) hm.1 rfl rfl (by decide +kernel) rfl ⟨Nat.le_of_ble_eq_true rfl, Nat.le_of_ble_eq_true rfl⟩ rfl (Nat.le_of_ble_eq_true rfl) ⟨rfl, rfl⟩ ⟨Nat.le_of_ble_eq_true rfl, Nat.le_of_ble_eq_true rfl⟩ dX3_peaksFor_22 ?_
        rintro _ M ⟨rfl, A', hm, hF1, hA⟩
        have hF := hF.tr hF1
        refine x_goto (tgt := 29) hC dX3_peaksFor_25 (by decide) ?_
        exact x_iret hC hk dX3_peaksFor_29 (Nat.le_of_ble_eq_true rfl) (Nat.le_of_ble_eq_true rfl) ⟨_, _, _, rfl, (fun _ => rfl), hm, hF, hS.kk hA, upd_s.trans ((if_pos c1).trans (if_pos c2))⟩
    · rw [if_neg c2] at hk
      refine x_if_eqB (tgt := 28) hC dX3_peaksFor_16 (by decide) (fun c => ?_) (fun c => ?_)
      · refine x_iconst (v := -1) hC dX3_peaksFor_28 (by decide) ?_
        exact x_iret hC hk dX3_peaksFor_29 (Nat.le_of_ble_eq_true rfl) (Nat.le_of_ble_eq_true rfl) ⟨_, _, _, rfl, (fun h => absurd h (show ¬ (2 : Int32) = 0 by decide)), hm, hF, hS.k6, upd_s.trans ((if_pos c1).trans (if_neg c2))⟩
      · exact absurd c.2 c2
  · rw [rc_no hS.1.1 hS.1.2 c1] at hk
    refine x_if_eqB (tgt := 28) hC dX3_peaksFor_16 (by decide) (fun c => ?_) (fun c => ?_)
    · refine x_iconst (v := -1) hC dX3_peaksFor_28 (by decide) ?_
      exact x_iret hC hk dX3_peaksFor_29 (Nat.le_of_ble_eq_true rfl) (Nat.le_of_ble_eq_true rfl) ⟨_, _, _, rfl, (fun h => absurd h (show ¬ (1 : Int32) = 0 by decide)), hm, hF, hS.k6, upd_s.trans (if_neg c1)⟩
    · exact absurd c.1 c1
end M30A

