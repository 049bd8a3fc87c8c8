/-! ===== the reference's operations that only read, second part ===== -/
/-- the bits of x from behind -/
def rev : Nat → Nat → Nat
  | 0, _ => 0
  | j + 1, x => (x % 2) * 2 ^ j + rev j (x / 2)
/-- the index whose function changes its sign s times -/
def sqI (j s : Nat) : Nat := rev j (s ^^^ (s / 2))
theorem sqI_ok : ∀ j, j < 7 → 1 ≤ j → ∀ s, s < 2 ^ j → sqI j s < 2 ^ j ∧ chg (nI (sqI j s)) (2 ^ j) = nI s := by decide +kernel
theorem isL_pw {n : Int32} (h : isL n) : ∃ j, (j < 7 ∧ 1 ≤ j) ∧ n = nI (2 ^ j) ∧ n.toNatClampNeg = 2 ^ j := by
  have h0 : 0 ≤ n := Int32.le_trans (show (0 : Int32) ≤ 2 by decide) h.1.1
  obtain ⟨h1, h2⟩ := i_nat h0
  have h3 : n.toNatClampNeg < 65 := by
    have h4 := Int32.le_iff_toInt_le.mp h.1.2
    have h5 : n.toNatClampNeg = n.toInt.toNat := rfl
    have h6 : (64 : Int32).toInt = 64 := by decide
    omega
  obtain ⟨j, j1, j2, j3⟩ := pw2 _ h3 (by rw [← h1]; exact h)
  exact ⟨j, ⟨j1, j2⟩, by rw [← j3]; exact h1, j3⟩
theorem pw_le {j : Nat} (h : j < 7) : 0 < 2 ^ j ∧ 2 ^ j ≤ 64 := ⟨Nat.pow_pos (by decide), Nat.le_trans (Nat.pow_le_pow_right (by decide) (show j ≤ 6 by omega)) (by decide)⟩
def opIdxSeq (n x : Int32) : Int32 × Int32 := if isL n ∧ (0 ≤ x ∧ x ≤ n - 1) then (0, optI (fstI (fun i => chg (nI i) n.toNatClampNeg = x) n.toNatClampNeg 0)) else (1, 0)
theorem bt4_len (w : Int32) : (bt4 w).length = 4 := by simp [bt4]
theorem buf_take {B : List Nat} {f : Nat → Int32} {w : Int32} (h : ∀ i c, B[i]? = some c → c < 256 ∧ f i = nI c) : ∀ i c, (B ++ bt4 w)[i]? = some c → c < 256 ∧ pot f (byt w) B.length 4 i = nI c := by
  intro i c hc
  rcases Nat.lt_or_ge i B.length with hi | hi
  · rw [List.getElem?_append_left hi] at hc
    rw [pot_out (by omega)]
    exact h i c hc
  · rw [List.getElem?_append_right hi] at hc
    have hl := (List.getElem?_eq_some_iff.mp hc).1
    rw [bt4_len] at hl
    have e : (bt4 w)[i - B.length]? = some (byt w (i - B.length)).toBitVec.toNat := by simp [bt4, hl]
    rw [e] at hc
    cases hc
    have hb := byt_lt w (i - B.length)
    refine ⟨hb.1, ?_⟩
    have h2 := pot_in (f := f) (g := byt w) (b := B.length) hl
    rw [show B.length + (i - B.length) = i by omega] at h2
    rw [h2]
    exact hb.2
section M12
variable {G : X_G} {M : X_M} {m : Nat} {P : Nat → Nat} {V : Nat → Int32} {A : Nat → Nat → Int32} {S : X_S} {R : List Rcd} {i k : Nat} {r : Rcd}
theorem ct_sizeR (hG : GOK G) (hm : Mdl M m P V A) (hw : Rw R (A 0) i r) : Ct G yX3_size cX3_size 2 (some .int) (xrm 2 0 0) [.ref m, .int (nI i)] M (Pr (.int (nI (rz r))) M) := ct_size hG hm hw.c6 hw.hn
theorem ct_atR (hG : GOK G) (hm : Mdl M m P V A) (hw : Rw R (A 0) i r) (hk : k < rz r) : Ct G yX3_at cX3_at 3 (some .int) (xrm 2 0 0) [.ref m, .int (nI i), .int (nI k)] M (Pr (.int (rg r k)) M) := by
  have h := ct_at hG hm hw.c6 (k := k) (by have := hw.n6; omega)
  rwa [hw.hg k hk] at h
theorem ct_sumR (hG : GOK G) (hm : Mdl M m P V A) (hw : Rw R (A 0) i r) (x : Int32) : Ct G yX3_sum cX3_sum 5 (some .int) (xrm 3 0 0) [.ref m, .int (nI i), .int x] M (Pr (.int (iS (fun k => rg r k * sg x (nI k)) (rz r))) M) := by
  have h := ct_sum hG hm hw.c6 hw.hn hw.n6 x
  rwa [hw.cf x] at h
theorem ct_energyR (hG : GOK G) (hm : Mdl M m P V A) (hw : Rw R (A 0) i r) : Ct G yX3_energyOf cX3_energyOf 5 (some .long) (xrm 3 0 0) [.ref m, .int (nI i)] M (Pr (.long (jS (fun k => sq (rg r k)) (rz r))) M) := by
  have h := ct_energyOf hG hm hw.c6 hw.hn hw.n6
  rwa [jS_cong (g' := fun k => sq (rg r k)) (fun k hk => by rw [hw.hg k hk])] at h
theorem ct_walsh (hG : GOK G) (hm : Mdl M m P V A) (hS : MRep S V A) (n x z : Int32) : Ct G yX3_walsh cX3_walsh 4 (some .int) (xrm 3 0 0) [.ref m, .int n, .int x, .int z] M (MOi M m P S (opWalsh n x z).1 (opWalsh n x z).2) := by
  refine ct_open (lv := [_, _, _, _]) hG (by decide +kernel) (Nat.le_of_ble_eq_true rfl) rfl (fun C hC hk => ?_)
  have hF : Fm M M := Fr.rf
  unfold opWalsh at hk
  have bad : ∀ w3 w2, ¬ (isL n ∧ (0 ≤ x ∧ x ≤ n - 1) ∧ (0 ≤ z ∧ z ≤ n - 1)) → w3 = some (.int z) → w2 = some (.int x) → Wg G C M 0 0 34 [some (.ref m), some (.int n), w2, w3] [.ref m] := by
    rintro w3 w2 hn rfl rfl
    rw [if_neg hn] at hk
    refine x_iconst (v := 0) hC dX3_walsh_34 (by decide) ?_
    refine x_callV0 (na := 1) hC (ct_good hG hm False) (lw_V q2402 q2404 qs30 q89 q2405) hm.1 rfl rfl (by decide +kernel) rfl ⟨Nat.le_of_ble_eq_true rfl, Nat.le_of_ble_eq_true rfl⟩ rfl (Nat.le_of_ble_eq_true rfl) ⟨rfl, rfl⟩ ⟨Nat.le_of_ble_eq_true rfl, Nat.le_of_ble_eq_true rfl⟩ dX3_walsh_35 ?_
    rintro _ M ⟨rfl, hm, hF1⟩
    have hF := hF.tr hF1
    refine x_if_eq (tgt := 49) hC dX3_walsh_38 (by decide) (fun c1 => ?_) (fun c1 => ?_)
    · refine x_iconst (v := -1) hC dX3_walsh_49 (by decide) ?_
      exact x_iret hC hk dX3_walsh_50 (Nat.le_of_ble_eq_true rfl) (Nat.le_of_ble_eq_true rfl) ⟨_, _, _, rfl, (fun h => absurd h (show ¬ (1 : Int32) = 0 by decide)), hm, hF, hS.k6, rfl⟩
    · exact absurd rfl c1
  refine x_aload_n hC dX3_walsh_0 rfl rfl ?_
  refine x_iload_n hC dX3_walsh_1 rfl rfl ?_
  refine x_callS0 (na := 1) hC (ct_isLength hG _ _) (lw_S q2468 q2469 q89 q2470) (by decide +kernel) rfl ⟨Nat.le_of_ble_eq_true rfl, Nat.le_of_ble_eq_true rfl⟩ rfl (Nat.le_of_ble_eq_true rfl) ⟨rfl, rfl⟩ ⟨Nat.le_of_ble_eq_true rfl, Nat.le_of_ble_eq_true rfl⟩ dX3_walsh_2 ?_
  rintro _ M ⟨rfl, rfl⟩
  refine x_if_eqB (tgt := 34) hC dX3_walsh_5 (by decide) (fun c1 => ?_) (fun c1 => ?_)
  · exact bad _ _ (fun h => c1 h.1) rfl rfl
  · refine x_iload_n hC dX3_walsh_8 rfl rfl ?_
    refine x_iconst (v := 0) hC dX3_walsh_9 (by decide) ?_
    refine x_iload_n hC dX3_walsh_10 rfl rfl ?_
    refine x_iconst (v := 1) hC dX3_walsh_11 (by decide) ?_
    refine x_isub hC dX3_walsh_12 ?_
    refine x_callS0 (na := 3) hC (ct_isIn hG _ _ _ _) (lw_S q2414 q2415 q89 q2416) (by decide +kernel) rfl ⟨Nat.le_of_ble_eq_true rfl, Nat.le_of_ble_eq_true rfl⟩ rfl (Nat.le_of_ble_eq_true rfl) ⟨rfl, rfl⟩ ⟨Nat.le_of_ble_eq_true rfl, Nat.le_of_ble_eq_true rfl⟩ dX3_walsh_13 ?_
    rintro _ M ⟨rfl, rfl⟩
    refine x_if_eqB (tgt := 34) hC dX3_walsh_16 (by decide) (fun c2 => ?_) (fun c2 => ?_)
    · exact bad _ _ (fun h => c2 h.2.1) rfl rfl
    · refine x_iload_n hC dX3_walsh_19 rfl rfl ?_
      refine x_iconst (v := 0) hC dX3_walsh_20 (by decide) ?_
      refine x_iload_n hC dX3_walsh_21 rfl rfl ?_
      refine x_iconst (v := 1) hC dX3_walsh_22 (by decide) ?_
      refine x_isub hC dX3_walsh_23 ?_
      refine x_callS0 (na := 3) hC (ct_isIn hG _ _ _ _) (lw_S q2414 q2415 q89 q2416) (by decide +kernel) rfl ⟨Nat.le_of_ble_eq_true rfl, Nat.le_of_ble_eq_true rfl⟩ rfl (Nat.le_of_ble_eq_true rfl) ⟨rfl, rfl⟩ ⟨Nat.le_of_ble_eq_true rfl, Nat.le_of_ble_eq_true rfl⟩ dX3_walsh_24 ?_
      rintro _ M ⟨rfl, rfl⟩
      refine x_if_eqB (tgt := 34) hC dX3_walsh_27 (by decide) (fun c3 => ?_) (fun c3 => ?_)
      · exact bad _ _ (fun h => c3 h.2.2) rfl rfl
      · rw [if_pos ⟨c1, c2, c3⟩] at hk
        refine x_iconst (v := 1) hC dX3_walsh_30 (by decide) ?_
        refine x_goto (tgt := 35) hC dX3_walsh_31 (by decide) ?_
        refine x_callV0 (na := 1) hC (ct_good hG hm True) (lw_V q2402 q2404 qs30 q89 q2405) hm.1 rfl rfl (by decide +kernel) rfl ⟨Nat.le_of_ble_eq_true rfl, Nat.le_of_ble_eq_true rfl⟩ rfl (Nat.le_of_ble_eq_true rfl) ⟨rfl, rfl⟩ ⟨Nat.le_of_ble_eq_true rfl, Nat.le_of_ble_eq_true rfl⟩ dX3_walsh_35 ?_
        rintro _ M ⟨rfl, hm, hF1⟩
        have hF := hF.tr hF1
        refine x_if_eq (tgt := 49) hC dX3_walsh_38 (by decide) (fun c4 => ?_) (fun c4 => ?_)
        · exact absurd c4 (by decide)
        · refine x_iload_n hC dX3_walsh_41 rfl rfl ?_
          refine x_iload_n hC dX3_walsh_42 rfl rfl ?_
          refine x_callS0 (na := 2) hC (ct_sign hG _ _ _) (lw_S q2572 q2573 q89 q2574) (by decide +kernel) rfl ⟨Nat.le_of_ble_eq_true rfl, Nat.le_of_ble_eq_true rfl⟩ rfl (Nat.le_of_ble_eq_true rfl) ⟨rfl, rfl⟩ ⟨Nat.le_of_ble_eq_true rfl, Nat.le_of_ble_eq_true rfl⟩ dX3_walsh_43 ?_
          rintro _ M ⟨rfl, rfl⟩
          refine x_goto (tgt := 50) hC dX3_walsh_46 (by decide) ?_
          exact x_iret hC hk dX3_walsh_50 (Nat.le_of_ble_eq_true rfl) (Nat.le_of_ble_eq_true rfl) ⟨_, _, _, rfl, (fun _ => rfl), hm, hF, hS.k6, rfl⟩
theorem ct_sequency (hG : GOK G) (hm : Mdl M m P V A) (hS : MRep S V A) (n x : Int32) : Ct G yX3_sequency cX3_sequency 3 (some .int) (xrm 4 0 0) [.ref m, .int n, .int x] M (MOi M m P S (opSeq n x).1 (opSeq n x).2) := by
  refine ct_open (lv := [_, _, _]) hG (by decide +kernel) (Nat.le_of_ble_eq_true rfl) rfl (fun C hC hk => ?_)
  have hF : Fm M M := Fr.rf
  unfold opSeq at hk
  have bad : ¬ (isL n ∧ (0 ≤ x ∧ x ≤ n - 1)) → Wg G C M 0 0 23 [some (.ref m), some (.int n), some (.int x)] [.ref m] := by
    intro hn
    rw [if_neg hn] at hk
    refine x_iconst (v := 0) hC dX3_sequency_23 (by decide) ?_
    refine x_callV0 (na := 1) hC (ct_good hG hm False) (lw_V q2402 q2404 qs30 q89 q2405) hm.1 rfl rfl (by decide +kernel) rfl ⟨Nat.le_of_ble_eq_true rfl, Nat.le_of_ble_eq_true rfl⟩ rfl (Nat.le_of_ble_eq_true rfl) ⟨rfl, rfl⟩ ⟨Nat.le_of_ble_eq_true rfl, Nat.le_of_ble_eq_true rfl⟩ dX3_sequency_24 ?_
    rintro _ M ⟨rfl, hm, hF1⟩
    have hF := hF.tr hF1
    refine x_if_eq (tgt := 38) hC dX3_sequency_27 (by decide) (fun c1 => ?_) (fun c1 => ?_)
    · refine x_iconst (v := -1) hC dX3_sequency_38 (by decide) ?_
      exact x_iret hC hk dX3_sequency_39 (Nat.le_of_ble_eq_true rfl) (Nat.le_of_ble_eq_true rfl) ⟨_, _, _, rfl, (fun h => absurd h (show ¬ (1 : Int32) = 0 by decide)), hm, hF, hS.k6, rfl⟩
    · exact absurd rfl c1
  refine x_aload_n hC dX3_sequency_0 rfl rfl ?_
  refine x_iload_n hC dX3_sequency_1 rfl rfl ?_
  refine x_callS0 (na := 1) hC (ct_isLength hG _ _) (lw_S q2468 q2469 q89 q2470) (by decide +kernel) rfl ⟨Nat.le_of_ble_eq_true rfl, Nat.le_of_ble_eq_true rfl⟩ rfl (Nat.le_of_ble_eq_true rfl) ⟨rfl, rfl⟩ ⟨Nat.le_of_ble_eq_true rfl, Nat.le_of_ble_eq_true rfl⟩ dX3_sequency_2 ?_
  rintro _ M ⟨rfl, rfl⟩
  refine x_if_eqB (tgt := 23) hC dX3_sequency_5 (by decide) (fun c1 => ?_) (fun c1 => ?_)
  · exact bad (fun h => c1 h.1)
  · refine x_iload_n hC dX3_sequency_8 rfl rfl ?_
    refine x_iconst (v := 0) hC dX3_sequency_9 (by decide) ?_
    refine x_iload_n hC dX3_sequency_10 rfl rfl ?_
    refine x_iconst (v := 1) hC dX3_sequency_11 (by decide) ?_
    refine x_isub hC dX3_sequency_12 ?_
    refine x_callS0 (na := 3) hC (ct_isIn hG _ _ _ _) (lw_S q2414 q2415 q89 q2416) (by decide +kernel) rfl ⟨Nat.le_of_ble_eq_true rfl, Nat.le_of_ble_eq_true rfl⟩ rfl (Nat.le_of_ble_eq_true rfl) ⟨rfl, rfl⟩ ⟨Nat.le_of_ble_eq_true rfl, Nat.le_of_ble_eq_true rfl⟩ dX3_sequency_13 ?_
    rintro _ M ⟨rfl, rfl⟩
    refine x_if_eqB (tgt := 23) hC dX3_sequency_16 (by decide) (fun c2 => ?_) (fun c2 => ?_)
    · exact bad (fun h => c2 h.2)
    · rw [if_pos ⟨c1, c2⟩] at hk
      obtain ⟨j, ⟨j1, j2⟩, rfl, j4⟩ := isL_pw c1
      have hp := pw_le j1
      rw [j4] at hk
      refine x_iconst (v := 1) hC dX3_sequency_19 (by decide) ?_
      refine x_goto (tgt := 24) hC dX3_sequency_20 (by decide) ?_
      refine x_callV0 (na := 1) hC (ct_good hG hm True) (lw_V q2402 q2404 qs30 q89 q2405) hm.1 rfl rfl (by decide +kernel) rfl ⟨Nat.le_of_ble_eq_true rfl, Nat.le_of_ble_eq_true rfl⟩ rfl (Nat.le_of_ble_eq_true rfl) ⟨rfl, rfl⟩ ⟨Nat.le_of_ble_eq_true rfl, Nat.le_of_ble_eq_true rfl⟩ dX3_sequency_24 ?_
      rintro _ M ⟨rfl, hm, hF1⟩
      have hF := hF.tr hF1
      refine x_if_eq (tgt := 38) hC dX3_sequency_27 (by decide) (fun c4 => ?_) (fun c4 => ?_)
      · exact absurd c4 (by decide)
      · refine x_iload_n hC dX3_sequency_30 rfl rfl ?_
        refine x_iload_n hC dX3_sequency_31 rfl rfl ?_
        refine x_callS0 (na := 2) hC (ct_changes hG (by omega) hp.1 _ _) (lw_S q2580 q2581 q89 q2582) (by decide +kernel) rfl ⟨Nat.le_of_ble_eq_true rfl, Nat.le_of_ble_eq_true rfl⟩ rfl (Nat.le_of_ble_eq_true rfl) ⟨rfl, rfl⟩ ⟨Nat.le_of_ble_eq_true rfl, Nat.le_of_ble_eq_true rfl⟩ dX3_sequency_32 ?_
        rintro _ M ⟨rfl, rfl⟩
        refine x_goto (tgt := 39) hC dX3_sequency_35 (by decide) ?_
        exact x_iret hC hk dX3_sequency_39 (Nat.le_of_ble_eq_true rfl) (Nat.le_of_ble_eq_true rfl) ⟨_, _, _, rfl, (fun _ => rfl), hm, hF, hS.k6, rfl⟩
theorem fstI_at {p : Nat → Prop} [DecidablePred p] : ∀ {d k b : Nat}, k ≤ b → b < k + d → p b → (∀ j, k ≤ j → j < b → ¬ p j) → fstI p d k = some b
  | 0, k, b, h1, h2, _, _ => by omega
  | d + 1, k, b, h1, h2, h3, h4 => by
    unfold fstI
    by_cases e : k = b
    · subst e; rw [if_pos h3]
    · rw [if_neg (h4 k (Nat.le_refl k) (by omega))]
      exact fstI_at (by omega) (by omega) h3 (fun j h5 h6 => h4 j (by omega) h6)
theorem ct_indexOfSequency (hG : GOK G) (hm : Mdl M m P V A) (hS : MRep S V A) (n x : Int32) : Ct G yX3_indexOfSequency cX3_indexOfSequency 4 (some .int) (xrm 4 0 0) [.ref m, .int n, .int x] M (MOi M m P S (opIdxSeq n x).1 (opIdxSeq n x).2) := by
  refine ct_open (lv := [_, _, _, _]) hG (by decide +kernel) (Nat.le_of_ble_eq_true rfl) rfl (fun C hC hk => ?_)
  have hF : Fm M M := Fr.rf
  unfold opIdxSeq at hk
  have bad : ¬ (isL n ∧ (0 ≤ x ∧ x ≤ n - 1)) → Wg G C M 0 0 23 [some (.ref m), some (.int n), some (.int x), none] [.ref m] := by
    intro hn
    rw [if_neg hn] at hk
    refine x_iconst (v := 0) hC dX3_indexOfSequency_23 (by decide) ?_
    refine x_callV0 (na := 1) hC (ct_good hG hm False) (lw_V q2402 q2404 qs30 q89 q2405) hm.1 rfl rfl (by decide +kernel) rfl ⟨Nat.le_of_ble_eq_true rfl, Nat.le_of_ble_eq_true rfl⟩ rfl (Nat.le_of_ble_eq_true rfl) ⟨rfl, rfl⟩ ⟨Nat.le_of_ble_eq_true rfl, Nat.le_of_ble_eq_true rfl⟩ dX3_indexOfSequency_24 ?_
    rintro _ M ⟨rfl, hm, hF1⟩
    have hF := hF.tr hF1
    refine x_if_ne (tgt := 32) hC dX3_indexOfSequency_27 (by decide) (fun c1 => ?_) (fun c1 => ?_)
    · exact absurd rfl c1
    · refine x_iconst (v := -1) hC dX3_indexOfSequency_30 (by decide) ?_
      exact x_iret hC hk dX3_indexOfSequency_31 (Nat.le_of_ble_eq_true rfl) (Nat.le_of_ble_eq_true rfl) ⟨_, _, _, rfl, (fun h => absurd h (show ¬ (1 : Int32) = 0 by decide)), hm, hF, hS.k6, rfl⟩
  refine x_aload_n hC dX3_indexOfSequency_0 rfl rfl ?_
  refine x_iload_n hC dX3_indexOfSequency_1 rfl rfl ?_
  refine x_callS0 (na := 1) hC (ct_isLength hG _ _) (lw_S q2468 q2469 q89 q2470) (by decide +kernel) rfl ⟨Nat.le_of_ble_eq_true rfl, Nat.le_of_ble_eq_true rfl⟩ rfl (Nat.le_of_ble_eq_true rfl) ⟨rfl, rfl⟩ ⟨Nat.le_of_ble_eq_true rfl, Nat.le_of_ble_eq_true rfl⟩ dX3_indexOfSequency_2 ?_
  rintro _ M ⟨rfl, rfl⟩
  refine x_if_eqB (tgt := 23) hC dX3_indexOfSequency_5 (by decide) (fun c1 => ?_) (fun c1 => ?_)
  · exact bad (fun h => c1 h.1)
  · refine x_iload_n hC dX3_indexOfSequency_8 rfl rfl ?_
    refine x_iconst (v := 0) hC dX3_indexOfSequency_9 (by decide) ?_
    refine x_iload_n hC dX3_indexOfSequency_10 rfl rfl ?_
    refine x_iconst (v := 1) hC dX3_indexOfSequency_11 (by decide) ?_
    refine x_isub hC dX3_indexOfSequency_12 ?_
    refine x_callS0 (na := 3) hC (ct_isIn hG _ _ _ _) (lw_S q2414 q2415 q89 q2416) (by decide +kernel) rfl ⟨Nat.le_of_ble_eq_true rfl, Nat.le_of_ble_eq_true rfl⟩ rfl (Nat.le_of_ble_eq_true rfl) ⟨rfl, rfl⟩ ⟨Nat.le_of_ble_eq_true rfl, Nat.le_of_ble_eq_true rfl⟩ dX3_indexOfSequency_13 ?_
    rintro _ M ⟨rfl, rfl⟩
    refine x_if_eqB (tgt := 23) hC dX3_indexOfSequency_16 (by decide) (fun c2 => ?_) (fun c2 => ?_)
    · exact bad (fun h => c2 h.2)
    · rw [if_pos ⟨c1, c2⟩] at hk
      obtain ⟨j, ⟨j1, j2⟩, rfl, j4⟩ := isL_pw c1
      have hp := pw_le j1
      rw [j4] at hk
      obtain ⟨s, s1, rfl, s3⟩ := inI_at (n := 2 ^ j) (by omega) c2
      have hq := sqI_ok j j1 j2 s s1
      refine x_iconst (v := 1) hC dX3_indexOfSequency_19 (by decide) ?_
      refine x_goto (tgt := 24) hC dX3_indexOfSequency_20 (by decide) ?_
      refine x_callV0 (na := 1) hC (ct_good hG hm True) (lw_V q2402 q2404 qs30 q89 q2405) hm.1 rfl rfl (by decide +kernel) rfl ⟨Nat.le_of_ble_eq_true rfl, Nat.le_of_ble_eq_true rfl⟩ rfl (Nat.le_of_ble_eq_true rfl) ⟨rfl, rfl⟩ ⟨Nat.le_of_ble_eq_true rfl, Nat.le_of_ble_eq_true rfl⟩ dX3_indexOfSequency_24 ?_
      rintro _ M ⟨rfl, hm, hF1⟩
      have hF := hF.tr hF1
      refine x_if_ne (tgt := 32) hC dX3_indexOfSequency_27 (by decide) (fun c4 => ?_) (fun c4 => ?_)
      · refine x_iconst (v := nI 0) hC dX3_indexOfSequency_32 (by decide) ?_
        refine x_istore_n (lv' := [_, _, _, _]) hC dX3_indexOfSequency_33 rfl (by decide) rfl ?_
        suffices lp : ∀ d k, k + d = sqI j s → (∀ l, l < k → ¬ chg (nI l) (2 ^ j) = nI s) → Wg G C M 0 0 34 [some (.ref m), some (.int (nI (2 ^ j))), some (.int (nI s)), some (.int (nI k))] [] from lp (sqI j s) 0 (by omega) (fun l hl => by omega)
        intro d
        induction d with
        | zero =>
          intro k hd hno
          have hd : k = sqI j s := by omega
          subst hd
          refine x_iload_n hC dX3_indexOfSequency_34 rfl rfl ?_
          refine x_iload_n hC dX3_indexOfSequency_35 rfl rfl ?_
          refine x_callS0 (na := 2) hC (ct_changes hG (by omega) hp.1 _ _) (lw_S q2580 q2581 q89 q2582) (by decide +kernel) rfl ⟨Nat.le_of_ble_eq_true rfl, Nat.le_of_ble_eq_true rfl⟩ rfl (Nat.le_of_ble_eq_true rfl) ⟨rfl, rfl⟩ ⟨Nat.le_of_ble_eq_true rfl, Nat.le_of_ble_eq_true rfl⟩ dX3_indexOfSequency_36 ?_
          rintro _ M ⟨rfl, rfl⟩
          refine x_iload_n hC dX3_indexOfSequency_39 rfl rfl ?_
          refine x_icmp_eq (tgt := 49) hC dX3_indexOfSequency_40 (by decide) (fun c5 => ?_) (fun c5 => ?_)
          · refine x_iload_n hC dX3_indexOfSequency_49 rfl rfl ?_
            exact x_iret hC hk dX3_indexOfSequency_50 (Nat.le_of_ble_eq_true rfl) (Nat.le_of_ble_eq_true rfl) ⟨_, _, _, rfl, (fun _ => by dsimp only; rw [fstI_at (Nat.zero_le _) (by omega) hq.2 (fun l _ hl => hno l hl)]; rfl), hm, hF, hS.k6, rfl⟩
          · exact absurd hq.2 c5
        | succ d ih =>
          intro k hd hno
          refine x_iload_n hC dX3_indexOfSequency_34 rfl rfl ?_
          refine x_iload_n hC dX3_indexOfSequency_35 rfl rfl ?_
          refine x_callS0 (na := 2) hC (ct_changes hG (by omega) hp.1 _ _) (lw_S q2580 q2581 q89 q2582) (by decide +kernel) rfl ⟨Nat.le_of_ble_eq_true rfl, Nat.le_of_ble_eq_true rfl⟩ rfl (Nat.le_of_ble_eq_true rfl) ⟨rfl, rfl⟩ ⟨Nat.le_of_ble_eq_true rfl, Nat.le_of_ble_eq_true rfl⟩ dX3_indexOfSequency_36 ?_
          rintro _ M ⟨rfl, rfl⟩
          refine x_iload_n hC dX3_indexOfSequency_39 rfl rfl ?_
          refine x_icmp_eq (tgt := 49) hC dX3_indexOfSequency_40 (by decide) (fun c5 => ?_) (fun c5 => ?_)
          · refine x_iload_n hC dX3_indexOfSequency_49 rfl rfl ?_
            exact x_iret hC hk dX3_indexOfSequency_50 (Nat.le_of_ble_eq_true rfl) (Nat.le_of_ble_eq_true rfl) ⟨_, _, _, rfl, (fun _ => by dsimp only; rw [fstI_at (Nat.zero_le _) (by omega) c5 (fun l _ hl => hno l hl)]; rfl), hm, hF, hS.k6, rfl⟩
          · refine x_iincN (lv' := [_, _, _, _]) (b := 1) hC dX3_indexOfSequency_43 rfl (by decide) (by decide) rfl ?_
            refine x_goto (tgt := 34) hC dX3_indexOfSequency_46 (by decide) ?_
            exact ih (k + 1) (by omega) (fun l hl => by
              by_cases e : l = k
              · subst e; exact c5
              · exact hno l (by omega))
      · exact absurd c4 (by decide)
theorem ct_tones (hG : GOK G) (hm : Mdl M m P V A) (hS : MRep S V A) (x : Int32) : Ct G yX3_tones cX3_tones 4 (some .int) (xrm 4 0 0) [.ref m, .int x] M (MOi M m P S (opTones S x).1 (opTones S x).2) := by
  refine ct_open (lv := [_, _, _, _]) hG (by decide +kernel) (Nat.le_of_ble_eq_true rfl) rfl (fun C hC hk => ?_)
  have hF : Fm M M := Fr.rf
  unfold opTones at hk
  refine x_aload_n hC dX3_tones_0 rfl rfl ?_
  refine x_aload_n hC dX3_tones_1 rfl rfl ?_
  refine x_iload_n hC dX3_tones_2 rfl rfl ?_
  refine x_callV0 (na := 1) hC (ct_isRecording hG hm _) (lw_V q2491 q2493 qs44 q89 q2494) hm.1 rfl rfl (by decide +kernel) rfl ⟨Nat.le_of_ble_eq_true rfl, Nat.le_of_ble_eq_true rfl⟩ rfl (Nat.le_of_ble_eq_true rfl) ⟨rfl, rfl⟩ ⟨Nat.le_of_ble_eq_true rfl, Nat.le_of_ble_eq_true rfl⟩ dX3_tones_3 ?_
  rintro _ M ⟨rfl, rfl⟩
  refine x_callV0 (na := 1) hC (ct_good hG hm _) (lw_V q2402 q2404 qs30 q89 q2405) hm.1 rfl rfl (by decide +kernel) rfl ⟨Nat.le_of_ble_eq_true rfl, Nat.le_of_ble_eq_true rfl⟩ rfl (Nat.le_of_ble_eq_true rfl) ⟨rfl, rfl⟩ ⟨Nat.le_of_ble_eq_true rfl, Nat.le_of_ble_eq_true rfl⟩ dX3_tones_6 ?_
  rintro _ M ⟨rfl, hm, hF1⟩
  have hF := hF.tr hF1
  refine x_if_neB (tgt := 14) hC dX3_tones_9 (by decide) (fun c => ?_) (fun c => ?_)
  · obtain ⟨i, r, hx, rfl, hw⟩ := rc_ok hS.1.1 hS.1.2 c
    rw [hx] at hk
    refine x_iconst (v := nI 0) hC dX3_tones_14 (by decide) ?_
    refine x_istore_n (lv' := [_, _, _, _]) hC dX3_tones_15 rfl (by decide) rfl ?_
    refine x_iconst (v := nI 0) hC dX3_tones_16 (by decide) ?_
    refine x_istore_n (lv' := [_, _, _, _]) hC dX3_tones_17 rfl (by decide) rfl ?_
    refine x_up (n := rz r) (I := fun k => Wg G C M 0 0 18 [some (.ref m), some (.int (nI i)), some (.int (iS (fun i => xB (cfN (rg r) (rz r) i ≠ 0)) k)), some (.int (nI k))] []) (fun k hk2 ih => ?_) 0 (Nat.zero_le _)
    have h6 := hw.n6
    refine x_iload_n hC dX3_tones_18 rfl rfl ?_
    refine x_aload_n hC dX3_tones_19 rfl rfl ?_
    refine x_iload_n hC dX3_tones_20 rfl rfl ?_
    refine x_callV0 (na := 1) hC (ct_sizeR hG hm hw) (lw_V q2495 q2497 qs45 q89 q2498) hm.1 rfl rfl (by decide +kernel) rfl ⟨Nat.le_of_ble_eq_true rfl, Nat.le_of_ble_eq_true rfl⟩ rfl (Nat.le_of_ble_eq_true rfl) ⟨rfl, rfl⟩ ⟨Nat.le_of_ble_eq_true rfl, Nat.le_of_ble_eq_true rfl⟩ dX3_tones_21 ?_
    rintro _ M ⟨rfl, rfl⟩
    refine x_icmp_geN (tgt := 50) hC (by omega) (by omega) dX3_tones_24 (by decide) (fun c1 => ?_) (fun c1 => ?_)
    · refine x_iload_n hC dX3_tones_50 rfl rfl ?_
      exact x_iret hC hk dX3_tones_51 (Nat.le_of_ble_eq_true rfl) (Nat.le_of_ble_eq_true rfl) ⟨_, _, _, rfl, (fun _ => by rw [show k = rz r by omega]; rfl), hm, hF, hS.k6, upd_s.trans (if_pos c)⟩
    · refine x_iload_n hC dX3_tones_27 rfl rfl ?_
      refine x_aload_n hC dX3_tones_28 rfl rfl ?_
      refine x_iload_n hC dX3_tones_29 rfl rfl ?_
      refine x_iload_n hC dX3_tones_30 rfl rfl ?_
      refine x_callV0 (na := 2) hC (ct_sumR hG hm hw _) (lw_V q2591 q2593 qs52 q89 q2594) hm.1 rfl rfl (by decide +kernel) rfl ⟨Nat.le_of_ble_eq_true rfl, Nat.le_of_ble_eq_true rfl⟩ rfl (Nat.le_of_ble_eq_true rfl) ⟨rfl, rfl⟩ ⟨Nat.le_of_ble_eq_true rfl, Nat.le_of_ble_eq_true rfl⟩ dX3_tones_31 ?_
      rintro _ M ⟨rfl, rfl⟩
      refine x_j1 (fun v => v = xB (cfN (rg r) (rz r) k ≠ 0)) 42 (fun hj => ?_) (fun v hv => ?_)
      · refine x_if_ne (tgt := 41) hC dX3_tones_34 (by decide) (fun c2 => ?_) (fun c2 => ?_)
        · refine x_iconst (v := 1) hC dX3_tones_41 (by decide) ?_
          exact hj _ (by rw [xB_t c2])
        · refine x_iconst (v := 0) hC dX3_tones_37 (by decide) ?_
          refine x_goto (tgt := 42) hC dX3_tones_38 (by decide) ?_
          exact hj _ (by rw [xB_f (Decidable.not_not.mpr c2)])
      · subst hv
        refine x_iadd hC dX3_tones_42 ?_
        refine x_istore_n (lv' := [_, _, _, _]) hC dX3_tones_43 rfl (by decide) rfl ?_
        refine x_iincN (lv' := [_, _, _, _]) (b := 1) hC dX3_tones_44 rfl (by decide) (by decide) rfl ?_
        refine x_goto (tgt := 18) hC dX3_tones_47 (by decide) ?_
        exact ih c1
  · rw [rc_no hS.1.1 hS.1.2 c] at hk
    refine x_iconst (v := -1) hC dX3_tones_12 (by decide) ?_
    exact x_iret hC hk dX3_tones_13 (Nat.le_of_ble_eq_true rfl) (Nat.le_of_ble_eq_true rfl) ⟨_, _, _, rfl, (fun h => absurd h (show ¬ (1 : Int32) = 0 by decide)), hm, hF, hS.k6, upd_s.trans (if_neg c)⟩
end M12

