/-! ===== the reference's edits within a row ===== -/
theorem fdiv_lim {x y : Int32} (hy : 0 < y.toInt) (hy2 : y.toInt ≤ 9999) (hx : x.toInt.natAbs ≤ 9999 * y.toInt.natAbs) : lim (fdiv x y) := by
  have hq : (x.toInt.tdiv y.toInt).natAbs ≤ 9999 := by
    rw [Int.natAbs_tdiv]
    exact Nat.div_le_of_le_mul (by rw [Nat.mul_comm]; exact hx)
  have hd : (x / y).toInt = x.toInt.tdiv y.toInt := by
    rw [Int32.toInt_div]
    exact Int.bmod_eq_of_le (by omega) (by omega)
  rw [lim_i]
  unfold fdiv
  split
  next h =>
    have hne : (x / y).toInt ≠ -9999 := by
      intro e
      refine h.2 (Int32.toInt_inj.mp ?_)
      have e1 : (x / y * y).toInt = (x / y).toInt * y.toInt := by
        rw [Int32.toInt_mul, e]
        exact Int.bmod_eq_of_le (by omega) (by omega)
      rw [e1]
      have h3 := Int.tdiv_mul_add_tmod x.toInt y.toInt
      rw [← hd, e] at h3
      rw [e]
      have h7 : x.toInt ≤ 0 := by
        rcases Int.lt_or_le 0 x.toInt with h8 | h8
        · have h9 : 0 ≤ x.toInt.tdiv y.toInt := Int.tdiv_nonneg (by omega) (by omega)
          rw [← hd] at h9
          omega
        · exact h8
      have h8 : x.toInt.tmod y.toInt ≤ 0 := by
        have := Int.tmod_nonneg (a := -x.toInt) y.toInt (by omega)
        rw [Int.neg_tmod] at this
        omega
      omega
    rw [Int32.toInt_sub, show (1 : Int32).toInt = 1 by decide, Int.bmod_eq_of_le (by omega) (by omega)]
    omega
  next => omega
theorem half_lim {a b : Int32} (ha : lim a) (hb : lim b) : lim (fdiv (a + b) 2) := by
  have h1 := lim_i.mp ha
  have h2 := lim_i.mp hb
  refine fdiv_lim (by decide) (by decide) ?_
  rw [Int32.toInt_add, Int.bmod_eq_of_le (by omega) (by omega), show (2 : Int32).toInt = 2 by decide]
  omega
abbrev putR (S : X_S) (x : Int32) (r' : Rcd) : X_S := setS (pushS S) x.toNatClampNeg r'
def opSetS (S : X_S) (x z v : Int32) : Int32 × Int32 × X_S := (rc (sR S) x).elim (1, 0, S) fun r => if inI (rz r) z then (if lim v then (0, rg r z.toNatClampNeg, putR S x (mkR r.1 (rz r) (upd (rg r) z.toNatClampNeg v))) else (2, 0, S)) else (1, 0, S)
def opAdd (S : X_S) (x z fc : Int32) : Int32 × Int32 × X_S := (rc2 (sR S) x z).elim (1, 0, S) fun p => if rz p.1 = rz p.2 ∧ (-9 ≤ fc ∧ fc ≤ 9) then (0, iS (fun k => xB (¬ rg p.1 k + fc * rg p.2 k = clip (rg p.1 k + fc * rg p.2 k))) (rz p.1), putR S x (mkR p.1.1 (rz p.1) (fun k => clip (rg p.1 k + fc * rg p.2 k)))) else (2, 0, S)
def opAppR (S : X_S) (x z : Int32) : Int32 × Int32 × X_S := (rc2 (sR S) x z).elim (1, 0, S) fun p => if rz p.1 = rz p.2 then (if rz p.1 < 64 then (0, nI (2 * rz p.1), putR S x (mkR p.1.1 (2 * rz p.1) (fun k => if k < rz p.1 then rg p.1 k else rg p.2 (k - rz p.1)))) else (3, 0, S)) else (2, 0, S)
def opInter (S : X_S) (x z : Int32) : Int32 × Int32 × X_S := (rc2 (sR S) x z).elim (1, 0, S) fun p => if rz p.1 = rz p.2 then (if rz p.1 < 64 then (0, nI (2 * rz p.1), putR S x (mkR p.1.1 (2 * rz p.1) (fun k => if k % 2 = 0 then rg p.1 (k / 2) else rg p.2 (k / 2)))) else (3, 0, S)) else (2, 0, S)
def opStretch (S : X_S) (x : Int32) : Int32 × Int32 × X_S := (rc (sR S) x).elim (1, 0, S) fun r => if rz r < 64 then (0, nI (2 * rz r), putR S x (mkR r.1 (2 * rz r) (fun k => rg r (k / 2)))) else (2, 0, S)
def opFold (S : X_S) (x : Int32) : Int32 × Int32 × X_S := (rc (sR S) x).elim (1, 0, S) fun r => if 2 < rz r then (0, nI (rz r / 2), putR S x (mkR r.1 (rz r / 2) (fun k => fdiv (rg r k + rg r (rz r / 2 + k)) 2))) else (2, 0, S)
section M22
variable {G : X_G} {M : X_M} {m : Nat} {P : Nat → Nat} {V : Nat → Int32} {A : Nat → Nat → Int32} {S : X_S} {R : List Rcd} {i k j : Nat} {r s : Rcd}
/-- an edit within a row -/
theorem MRep.row (hS : MRep S V A) (hw : Rw (sR S) (A 0) i r) {n' : Nat} {g f' : Nat → Int32} (hn : ∃ j, 1 ≤ j ∧ j ≤ 6 ∧ n' = 2 ^ j) (hg : ∀ k, k < n' → lim (g k)) (h1 : ∀ q, ¬ (8 + 72 * i ≤ q ∧ q < 73 + 72 * i) → f' q = A 0 q) (h2 : f' (8 + 72 * i) = nI n') (h3 : ∀ k, k < n' → f' (9 + 72 * i + k) = g k) : MRep (setS S i (mkR r.1 n' g)) V (va_up A 0 f') := by
  have hl := hw.2.2.2.1
  obtain ⟨p1, p2, p3, p4⟩ := hw.2.2.1
  refine hS.setR (rep_set hS.1.1 hS.1.2 ⟨?_, ?_, ?_, ?_⟩ (fun q hq => h1 q (by omega))) (wf_set hS.1.2 (wf_mk hw.2.2.2 hn hg) (congrArg Prod.fst hw.rd).symm)
  · rw [h1 _ (by omega)]; exact p1
  · intro j hj
    have hj : j < r.1.length := hj
    rw [h1 _ (by omega)]
    exact p2 j hj
  · rw [h2]
    show nI n' = nI (rz (mkR r.1 n' g))
    rw [mkR_z]
  · intro k hk
    have hk : k < n' := by simpa using hk
    rw [h3 k hk]
    exact (mkR_g (nm := r.1) hk).symm
theorem Rw.dbl (hw : Rw R (A 0) i r) (h : rz r < 64) : ∃ j, 1 ≤ j ∧ j ≤ 6 ∧ 2 * rz r = 2 ^ j := by
  obtain ⟨j, ⟨h1, h2⟩, h3⟩ := hw.len
  refine ⟨j + 1, by omega, ?_, by rw [h3, Nat.pow_succ, Nat.mul_comm]⟩
  rcases Nat.lt_or_ge j 6 with h4 | h4
  · omega
  · have : j = 6 := by omega
    subst this
    rw [h3] at h
    exact absurd h (by decide)
theorem Rw.d64 (hw : Rw R (A 0) i r) (h : rz r < 64) : 2 * rz r ≤ 64 := by
  obtain ⟨j, h1, h2, h3⟩ := hw.dbl h
  rw [h3]
  exact Nat.pow_le_pow_right (by decide) h2
theorem Rw.hlf (hw : Rw R (A 0) i r) (h : 2 < rz r) : (∃ j, 1 ≤ j ∧ j ≤ 6 ∧ rz r / 2 = 2 ^ j) ∧ rz r = 2 * (rz r / 2) := by
  obtain ⟨j, ⟨h1, h2⟩, h3⟩ := hw.len
  obtain ⟨q, rfl⟩ : ∃ q, j = q + 1 := ⟨j - 1, by omega⟩
  rw [Nat.pow_succ] at h3
  have h4 : rz r / 2 = 2 ^ q := by omega
  refine ⟨⟨q, ?_, by omega, h4⟩, by omega⟩
  rcases Nat.eq_zero_or_pos q with h5 | h5
  · subst h5
    rw [h3] at h
    exact absurd h (by decide)
  · exact h5
theorem ct_setSample (hG : GOK G) (hm : Mdl M m P V A) (hS : MRep S V A) (x z v : Int32) : Ct G yX3_setSample cX3_setSample 6 (some .int) (xrm 8 0 0) [.ref m, .int x, .int z, .int v] M (MOi M m P (opSetS S x z v).2.2 (opSetS S x z v).1 (opSetS S x z v).2.1) := by
  refine ct_open (lv := [_, _, _, _, _, _]) hG (by decide +kernel) (Nat.le_of_ble_eq_true rfl) rfl (fun C hC hk => ?_)
  have hF : Fm M M := Fr.rf
  unfold opSetS at hk
  refine x_aload_n hC dX3_setSample_0 rfl rfl ?_
  refine x_aload_n hC dX3_setSample_1 rfl rfl ?_
  refine x_iload_n hC dX3_setSample_2 rfl rfl ?_
  refine x_iload_n hC dX3_setSample_3 rfl rfl ?_
  refine x_callV0 (na := 2) hC (ct_isPlace hG hm _ _ (plc_iff hS)) (lw_V q2511 q2513 qs46 q89 q2514) hm.1 rfl rfl (by decide +kernel) rfl ⟨Nat.le_of_ble_eq_true rfl, Nat.le_of_ble_eq_true rfl⟩ rfl (Nat.le_of_ble_eq_true rfl) ⟨rfl, rfl⟩ ⟨Nat.le_of_ble_eq_true rfl, Nat.le_of_ble_eq_true rfl⟩ dX3_setSample_4 ?_
  rintro _ M ⟨rfl, rfl⟩
  refine x_iload_n hC dX3_setSample_7 rfl rfl ?_
  refine x_sipush (v := -9999) hC dX3_setSample_8 (by decide) ?_
  refine x_sipush (v := 9999) hC dX3_setSample_11 (by decide) ?_
  refine x_callS0 (na := 3) hC (ct_isIn hG _ _ _ _) (lw_S q2414 q2415 q89 q2416) (by decide +kernel) rfl ⟨Nat.le_of_ble_eq_true rfl, Nat.le_of_ble_eq_true rfl⟩ rfl (Nat.le_of_ble_eq_true rfl) ⟨rfl, rfl⟩ ⟨Nat.le_of_ble_eq_true rfl, Nat.le_of_ble_eq_true rfl⟩ dX3_setSample_14 ?_
  rintro _ M ⟨rfl, rfl⟩
  refine x_callV0 (na := 2) hC (ct_good2 hG hm _ _) (lw_V q2540 q2542 qs49 q89 q2543) hm.1 rfl rfl (by decide +kernel) rfl ⟨Nat.le_of_ble_eq_true rfl, Nat.le_of_ble_eq_true rfl⟩ rfl (Nat.le_of_ble_eq_true rfl) ⟨rfl, rfl⟩ ⟨Nat.le_of_ble_eq_true rfl, Nat.le_of_ble_eq_true rfl⟩ dX3_setSample_17 ?_
  rintro _ M ⟨rfl, hm, hF1⟩
  have hF := hF.tr hF1
  by_cases c1 : isR (A 0) x ∧ plc (sR S) x z = true
  · obtain ⟨i, r, k, ⟨he, hi⟩, rfl, rfl, hc2, hk2, hw⟩ := plc_ok hS c1
    have hci : (nI i).toNatClampNeg = i := nI_clamp (by have := hw.c6; omega)
    have h6 := hw.n6
    have hi6 := hw.c6
    rw [he] at hk
    dsimp only [Option.elim, putR] at hk
    rw [if_pos hi, hc2, hci] at hk
    by_cases c2 : lim v
    · rw [if_pos c2] at hk
      refine x_if_neB (tgt := 25) hC dX3_setSample_20 (by decide) (fun c => ?_) (fun c => ?_)
      · refine x_aload_n hC dX3_setSample_25 rfl rfl ?_
        refine x_callV0 (na := 0) hC (ct_rem hG hm hS.k6) (lw_V q2759 q2761 qs74 q89 q2762) hm.1 rfl rfl (by decide +kernel) rfl ⟨Nat.le_of_ble_eq_true rfl, Nat.le_of_ble_eq_true rfl⟩ rfl (Nat.le_of_ble_eq_true rfl) ⟨rfl, rfl⟩ ⟨Nat.le_of_ble_eq_true rfl, Nat.le_of_ble_eq_true rfl⟩ dX3_setSample_26 ?_
        rintro _ M ⟨rfl, V7, A7, hm, hF1, hS7, h76, h70, -, -⟩
        have hF := hF.tr hF1
        have hw7 : Rw (sR S) (A7 0) i r := by rw [h70]; exact hw
        refine x_iload_n hC dX3_setSample_29 rfl rfl ?_
        refine x_callS0 (na := 1) hC (ct_row hG _ _) (lw_S q2457 q2458 q89 q2459) (by decide +kernel) rfl ⟨Nat.le_of_ble_eq_true rfl, Nat.le_of_ble_eq_true rfl⟩ rfl (Nat.le_of_ble_eq_true rfl) ⟨rfl, rfl⟩ ⟨Nat.le_of_ble_eq_true rfl, Nat.le_of_ble_eq_true rfl⟩ dX3_setSample_30 ?_
        rintro _ M ⟨rfl, rfl⟩
        refine x_bipush (v := nI 8) hC dX3_setSample_33 (by decide) ?_
        refine x_iaddN hC dX3_setSample_35 ?_
        refine x_iload_n hC dX3_setSample_36 rfl rfl ?_
        refine x_iaddN hC dX3_setSample_37 ?_
        refine x_istore (lv' := [_, _, _, _, _, _]) hC dX3_setSample_38 (by decide) rfl ?_
        refine x_aload_n hC dX3_setSample_40 rfl rfl ?_
        refine x_get hC 0 hm.1 rfl (by decide) q2330 rfl rfl dX3_setSample_41 ?_
        refine x_iload hC dX3_setSample_44 rfl ?_
        refine x_ialdN hC (hm.arr 0 (by decide)) (show _ < 433 from (by omega)) (by decide) dX3_setSample_46 ?_
        rw [show A7 0 (1 + 72 * i + 8 + k) = rg r k by rw [show 1 + 72 * i + 8 + k = 9 + 72 * i + k by omega]; exact hw7.hg k hk2]
        refine x_istore (lv' := [_, _, _, _, _, _]) hC dX3_setSample_47 (by decide) rfl ?_
        refine x_aload_n hC dX3_setSample_49 rfl rfl ?_
        refine x_get hC 0 hm.1 rfl (by decide) q2330 rfl rfl dX3_setSample_50 ?_
        refine x_iload hC dX3_setSample_53 rfl ?_
        refine x_iload_n hC dX3_setSample_55 rfl rfl ?_
        refine x_miastN hC hm 0 (by decide) (show _ < 433 from (by omega)) (by decide) dX3_setSample_56 (fun M hm hF1 => ?_)
        have hF := hF.tr hF1
        refine x_iload hC dX3_setSample_57 rfl ?_
        refine x_iret hC hk dX3_setSample_59 (Nat.le_of_ble_eq_true rfl) (Nat.le_of_ble_eq_true rfl) ⟨_, _, _, rfl, (fun _ => rfl), hm, hF, hS7.row hw7 hw.2.2.2.2.2.1 (fun l hl => ?_) (fun q hq => upd_n (by omega)) ?_ (fun l hl => ?_), h76.trans (upd_s.trans ((if_pos c1).trans (if_pos c2)))⟩
        · by_cases e : l = k
          · subst e; rw [upd_s]; exact c2
          · rw [upd_n e]; exact hw.lim hl
        · rw [upd_n (by omega)]; exact hw7.hn
        · by_cases e : l = k
          · subst e; rw [show 9 + 72 * i + l = 1 + 72 * i + 8 + l by omega, upd_s, upd_s]
          · rw [upd_n (by omega), upd_n e]; exact hw7.hg l hl
      · exact absurd ⟨c1, c2⟩ c
    · rw [if_neg c2] at hk
      refine x_if_neB (tgt := 25) hC dX3_setSample_20 (by decide) (fun c => ?_) (fun c => ?_)
      · exact absurd c.2 c2
      · refine x_iconst (v := -1) hC dX3_setSample_23 (by decide) ?_
        exact x_iret hC hk dX3_setSample_24 (Nat.le_of_ble_eq_true rfl) (Nat.le_of_ble_eq_true rfl) ⟨_, _, _, rfl, (fun h => absurd h (show ¬ (2 : Int32) = 0 by decide)), hm, hF, hS.k6, upd_s.trans ((if_pos c1).trans (if_neg c2))⟩
  · rw [plc_no hS c1] at hk
    refine x_if_neB (tgt := 25) hC dX3_setSample_20 (by decide) (fun c => ?_) (fun c => ?_)
    · exact absurd c.1 c1
    · refine x_iconst (v := -1) hC dX3_setSample_23 (by decide) ?_
      exact x_iret hC hk dX3_setSample_24 (Nat.le_of_ble_eq_true rfl) (Nat.le_of_ble_eq_true rfl) ⟨_, _, _, rfl, (fun h => absurd h (show ¬ (1 : Int32) = 0 by decide)), hm, hF, hS.k6, upd_s.trans (if_neg c1)⟩
theorem ct_stretch (hG : GOK G) (hm : Mdl M m P V A) (hS : MRep S V A) (x : Int32) : Ct G yX3_stretch cX3_stretch 7 (some .int) (xrm 8 0 0) [.ref m, .int x] M (MOi M m P (opStretch S x).2.2 (opStretch S x).1 (opStretch S x).2.1) := by
  refine ct_open (lv := [_, _, _, _, _, _, _]) hG (by decide +kernel) (Nat.le_of_ble_eq_true rfl) rfl (fun C hC hk => ?_)
  obtain ⟨M0, hM0⟩ : ∃ M0, M0 = M := ⟨M, rfl⟩
  rw [← hM0] at hk
  have hF : Fm M0 M := by rw [hM0]; exact Fr.rf
  unfold opStretch at hk
  refine x_aload_n hC dX3_stretch_0 rfl rfl ?_
  refine x_iload_n hC dX3_stretch_1 rfl rfl ?_
  refine x_callV0 (na := 1) hC (ct_isRecording hG hm _) (lw_V q2491 q2493 qs44 q89 q2494) hm.1 rfl rfl (by decide +kernel) rfl ⟨Nat.le_of_ble_eq_true rfl, Nat.le_of_ble_eq_true rfl⟩ rfl (Nat.le_of_ble_eq_true rfl) ⟨rfl, rfl⟩ ⟨Nat.le_of_ble_eq_true rfl, Nat.le_of_ble_eq_true rfl⟩ dX3_stretch_2 ?_
  rintro _ M ⟨rfl, rfl⟩
  refine x_istore_n (lv' := [_, _, _, _, _, _, _]) hC dX3_stretch_5 rfl (by decide) rfl ?_
  refine x_aload_n hC dX3_stretch_6 rfl rfl ?_
  refine x_iload_n hC dX3_stretch_7 rfl rfl ?_
  refine x_iload_n hC dX3_stretch_8 rfl rfl ?_
  refine x_if_eqB (tgt := 26) hC dX3_stretch_9 (by decide) (fun c1 => ?_) (fun c1 => ?_)
  · rw [rc_no hS.1.1 hS.1.2 c1] at hk
    refine x_iconst (v := 0) hC dX3_stretch_26 (by decide) ?_
    refine x_callV0 (na := 2) hC (ct_good2 hG hm _ False) (lw_V q2540 q2542 qs49 q89 q2543) hm.1 rfl rfl (by decide +kernel) rfl ⟨Nat.le_of_ble_eq_true rfl, Nat.le_of_ble_eq_true rfl⟩ rfl (Nat.le_of_ble_eq_true rfl) ⟨rfl, rfl⟩ ⟨Nat.le_of_ble_eq_true rfl, Nat.le_of_ble_eq_true rfl⟩ dX3_stretch_27 ?_
    rintro _ M ⟨rfl, hm, hF1⟩
    have hF := hF.tr hF1
    refine x_if_neB (tgt := 35) hC dX3_stretch_30 (by decide) (fun c => ?_) (fun c => ?_)
    · exact absurd c.1 c1
    · refine x_iconst (v := -1) hC dX3_stretch_33 (by decide) ?_
      exact x_iret hC hk dX3_stretch_34 (Nat.le_of_ble_eq_true rfl) (Nat.le_of_ble_eq_true rfl) ⟨_, _, _, rfl, (fun h => absurd h (show ¬ (1 : Int32) = 0 by decide)), hm, hF, hS.k6, upd_s.trans (if_neg c1)⟩
  · obtain ⟨i, r, hx, rfl, hw⟩ := rc_ok hS.1.1 hS.1.2 c1
    have hci : (nI i).toNatClampNeg = i := nI_clamp (by have := hw.c6; omega)
    have h6 := hw.n6
    have h2 := hw.n2
    have hi6 := hw.c6
    rw [hx] at hk
    dsimp only [Option.elim, putR] at hk
    rw [hci] at hk
    refine x_aload_n hC dX3_stretch_12 rfl rfl ?_
    refine x_iload_n hC dX3_stretch_13 rfl rfl ?_
    refine x_callV0 (na := 1) hC (ct_sizeR hG hm hw) (lw_V q2495 q2497 qs45 q89 q2498) hm.1 rfl rfl (by decide +kernel) rfl ⟨Nat.le_of_ble_eq_true rfl, Nat.le_of_ble_eq_true rfl⟩ rfl (Nat.le_of_ble_eq_true rfl) ⟨rfl, rfl⟩ ⟨Nat.le_of_ble_eq_true rfl, Nat.le_of_ble_eq_true rfl⟩ dX3_stretch_14 ?_
    rintro _ M ⟨rfl, rfl⟩
    refine x_bipush (v := nI 64) hC dX3_stretch_17 (by decide) ?_
    refine x_icmp_geN (tgt := 26) hC (by omega) (by omega) dX3_stretch_19 (by decide) (fun c2 => ?_) (fun c2 => ?_)
    · have c2 := Nat.not_lt.mpr c2
      rw [if_neg c2] at hk
      refine x_iconst (v := 0) hC dX3_stretch_26 (by decide) ?_
      refine x_callV0 (na := 2) hC (ct_good2 hG hm _ False) (lw_V q2540 q2542 qs49 q89 q2543) hm.1 rfl rfl (by decide +kernel) rfl ⟨Nat.le_of_ble_eq_true rfl, Nat.le_of_ble_eq_true rfl⟩ rfl (Nat.le_of_ble_eq_true rfl) ⟨rfl, rfl⟩ ⟨Nat.le_of_ble_eq_true rfl, Nat.le_of_ble_eq_true rfl⟩ dX3_stretch_27 ?_
      rintro _ M ⟨rfl, hm, hF1⟩
      have hF := hF.tr hF1
      refine x_if_neB (tgt := 35) hC dX3_stretch_30 (by decide) (fun c => ?_) (fun c => ?_)
      · exact absurd c.2 id
      · refine x_iconst (v := -1) hC dX3_stretch_33 (by decide) ?_
        exact x_iret hC hk dX3_stretch_34 (Nat.le_of_ble_eq_true rfl) (Nat.le_of_ble_eq_true rfl) ⟨_, _, _, rfl, (fun h => absurd h (show ¬ (2 : Int32) = 0 by decide)), hm, hF, hS.k6, upd_s.trans ((if_pos c1).trans (if_neg id))⟩
    · have h64 := hw.d64 c2
      rw [if_pos c2] at hk
      refine x_iconst (v := 1) hC dX3_stretch_22 (by decide) ?_
      refine x_goto (tgt := 27) hC dX3_stretch_23 (by decide) ?_
      refine x_callV0 (na := 2) hC (ct_good2 hG hm _ True) (lw_V q2540 q2542 qs49 q89 q2543) hm.1 rfl rfl (by decide +kernel) rfl ⟨Nat.le_of_ble_eq_true rfl, Nat.le_of_ble_eq_true rfl⟩ rfl (Nat.le_of_ble_eq_true rfl) ⟨rfl, rfl⟩ ⟨Nat.le_of_ble_eq_true rfl, Nat.le_of_ble_eq_true rfl⟩ dX3_stretch_27 ?_
      rintro _ M ⟨rfl, hm, hF1⟩
      have hF := hF.tr hF1
      refine x_if_neB (tgt := 35) hC dX3_stretch_30 (by decide) (fun c => ?_) (fun c => ?_)
      · refine x_aload_n hC dX3_stretch_35 rfl rfl ?_
        refine x_callV0 (na := 0) hC (ct_rem hG hm hS.k6) (lw_V q2759 q2761 qs74 q89 q2762) hm.1 rfl rfl (by decide +kernel) rfl ⟨Nat.le_of_ble_eq_true rfl, Nat.le_of_ble_eq_true rfl⟩ rfl (Nat.le_of_ble_eq_true rfl) ⟨rfl, rfl⟩ ⟨Nat.le_of_ble_eq_true rfl, Nat.le_of_ble_eq_true rfl⟩ dX3_stretch_36 ?_
        rintro _ M ⟨rfl, V7, A7, hm, hF1, hS7, h76, h70, -, -⟩
        have hF := hF.tr hF1
        have hw7 : Rw (sR S) (A7 0) i r := by rw [h70]; exact hw
        refine x_aload_n hC dX3_stretch_39 rfl rfl ?_
        refine x_iload_n hC dX3_stretch_40 rfl rfl ?_
        refine x_callV0 (na := 1) hC (ct_sizeR hG hm hw7) (lw_V q2495 q2497 qs45 q89 q2498) hm.1 rfl rfl (by decide +kernel) rfl ⟨Nat.le_of_ble_eq_true rfl, Nat.le_of_ble_eq_true rfl⟩ rfl (Nat.le_of_ble_eq_true rfl) ⟨rfl, rfl⟩ ⟨Nat.le_of_ble_eq_true rfl, Nat.le_of_ble_eq_true rfl⟩ dX3_stretch_41 ?_
        rintro _ M ⟨rfl, rfl⟩
        refine x_istore_n (lv' := [_, _, _, _, _, _, _]) hC dX3_stretch_44 rfl (by decide) rfl ?_
        refine x_iload_n hC dX3_stretch_45 rfl rfl ?_
        refine x_callS0 (na := 1) hC (ct_row hG _ _) (lw_S q2457 q2458 q89 q2459) (by decide +kernel) rfl ⟨Nat.le_of_ble_eq_true rfl, Nat.le_of_ble_eq_true rfl⟩ rfl (Nat.le_of_ble_eq_true rfl) ⟨rfl, rfl⟩ ⟨Nat.le_of_ble_eq_true rfl, Nat.le_of_ble_eq_true rfl⟩ dX3_stretch_46 ?_
        rintro _ M ⟨rfl, rfl⟩
        refine x_bipush (v := nI 8) hC dX3_stretch_49 (by decide) ?_
        refine x_iaddN hC dX3_stretch_51 ?_
        refine x_istore (lv' := [_, _, _, _, _, _, _]) hC dX3_stretch_52 (by decide) rfl ?_
        refine x_iload_n hC dX3_stretch_54 rfl rfl ?_
        refine x_iconst (v := nI 1) hC dX3_stretch_55 (by decide) ?_
        refine x_isubN hC dX3_stretch_56 (by omega) ?_
        refine x_istore (lv' := [_, _, _, _, _, _, _]) hC dX3_stretch_57 (by decide) rfl ?_
        have fin : ∀ M1 f, (∀ q, ¬ (9 + 72 * i ≤ q ∧ q < 73 + 72 * i) → f q = A7 0 q) → (∀ l, l < rz r → f (9 + 72 * i + 2 * l) = rg r l ∧ f (9 + 72 * i + 2 * l + 1) = rg r l) → Mdl M1 m P V7 (va_up A7 0 f) → Fm M0 M1 → ∀ w5 w6, Wg G C M1 0 0 112 [some (.ref m), some (.int (nI i)), some (.int (xB (isR (A 0) (nI i)))), some (.int (nI (rz r))), some (.int (nI (1 + 72 * i + 8))), w5, w6] [] := by
          intro M f hf hl hm hF w5 w6
          refine x_aload_n hC dX3_stretch_112 rfl rfl ?_
          refine x_get hC 0 hm.1 rfl (by decide) q2330 rfl rfl dX3_stretch_113 ?_
          refine x_iload_n hC dX3_stretch_116 rfl rfl ?_
          refine x_callS0 (na := 1) hC (ct_row hG _ _) (lw_S q2457 q2458 q89 q2459) (by decide +kernel) rfl ⟨Nat.le_of_ble_eq_true rfl, Nat.le_of_ble_eq_true rfl⟩ rfl (Nat.le_of_ble_eq_true rfl) ⟨rfl, rfl⟩ ⟨Nat.le_of_ble_eq_true rfl, Nat.le_of_ble_eq_true rfl⟩ dX3_stretch_117 ?_
          rintro _ M ⟨rfl, rfl⟩
          refine x_bipush (v := nI 7) hC dX3_stretch_120 (by decide) ?_
          refine x_iaddN hC dX3_stretch_122 ?_
          refine x_iconst (v := nI 2) hC dX3_stretch_123 (by decide) ?_
          refine x_iload_n hC dX3_stretch_124 rfl rfl ?_
          refine x_imulN hC dX3_stretch_125 ?_
          refine x_miastN hC hm 0 (by decide) (show _ < 433 from (by omega)) (by decide) dX3_stretch_126 (fun M hm hF1 => ?_)
          have hF := hF.tr hF1
          refine x_iconst (v := nI 2) hC dX3_stretch_127 (by decide) ?_
          refine x_iload_n hC dX3_stretch_128 rfl rfl ?_
          refine x_imulN hC dX3_stretch_129 ?_
          rw [up_up] at hm
          refine x_iret hC hk dX3_stretch_130 (Nat.le_of_ble_eq_true rfl) (Nat.le_of_ble_eq_true rfl) ⟨_, _, _, rfl, (fun _ => rfl), hm, hF, hS7.row hw7 (hw.dbl c2) (fun l hl => ?_) (fun q hq => ?_) ?_ (fun l hl2 => ?_), h76.trans (upd_s.trans ((if_pos c1).trans (if_pos trivial)))⟩
          · exact hw.lim (by omega)
          · rw [upd_n (by omega)]; exact hf q (by omega)
          · rw [show 8 + 72 * i = 1 + 72 * i + 7 by omega, upd_s]
          · rw [upd_n (by omega)]
            show f (9 + 72 * i + l) = rg r (l / 2)
            rcases Nat.mod_two_eq_zero_or_one l with h9 | h9
            · have := (hl (l / 2) (by omega)).1
              rwa [show 9 + 72 * i + 2 * (l / 2) = 9 + 72 * i + l by omega] at this
            · have := (hl (l / 2) (by omega)).2
              rwa [show 9 + 72 * i + 2 * (l / 2) + 1 = 9 + 72 * i + l by omega] at this
        suffices lp : ∀ d, d < rz r → ∀ M1 f, (∀ q, ¬ (9 + 72 * i ≤ q ∧ q < 73 + 72 * i) → f q = A7 0 q) → (∀ l, l ≤ d → f (9 + 72 * i + l) = rg r l) → (∀ l, d < l → l < rz r → f (9 + 72 * i + 2 * l) = rg r l ∧ f (9 + 72 * i + 2 * l + 1) = rg r l) → Mdl M1 m P V7 (va_up A7 0 f) → Fm M0 M1 → ∀ w6, Wg G C M1 0 0 59 [some (.ref m), some (.int (nI i)), some (.int (xB (isR (A 0) (nI i)))), some (.int (nI (rz r))), some (.int (nI (1 + 72 * i + 8))), some (.int (nI d)), w6] [] from lp (rz r - 1) (by omega) M (A7 0) (fun q hq => rfl) (fun l hl => hw7.hg l (by omega)) (fun l h1 h2 => by omega) (hm.to rfl (by rw [up_id])) hF none
        intro d
        induction d with
        | zero =>
          intro hd M f hf hlo hhi hm hF w6
          refine x_iload hC dX3_stretch_59 rfl ?_
          refine x_if_ltN (tgt := 112) hC (by omega) dX3_stretch_61 (by decide) (fun c4 => ?_) (fun c4 => ?_)
          · exact absurd c4 (by omega)
          · refine x_aload_n hC dX3_stretch_64 rfl rfl ?_
            refine x_get hC 0 hm.1 rfl (by decide) q2330 rfl rfl dX3_stretch_65 ?_
            refine x_iload hC dX3_stretch_68 rfl ?_
            refine x_iload hC dX3_stretch_70 rfl ?_
            refine x_iaddN hC dX3_stretch_72 ?_
            refine x_ialdN hC (hm.arr 0 (by decide)) (show _ < 433 from (by omega)) (by decide) dX3_stretch_73 ?_
            rw [show va_up A7 0 f 0 (1 + 72 * i + 8 + 0) = rg r 0 by rw [va_up_s, ← hlo 0 (Nat.le_refl 0)]; congr 1; omega]
            refine x_istore (lv' := [_, _, _, _, _, _, _]) hC dX3_stretch_74 (by decide) rfl ?_
            refine x_aload_n hC dX3_stretch_76 rfl rfl ?_
            refine x_get hC 0 hm.1 rfl (by decide) q2330 rfl rfl dX3_stretch_77 ?_
            refine x_iload hC dX3_stretch_80 rfl ?_
            refine x_iconst (v := nI 2) hC dX3_stretch_82 (by decide) ?_
            refine x_iload hC dX3_stretch_83 rfl ?_
            refine x_imulN hC dX3_stretch_85 ?_
            refine x_iaddN hC dX3_stretch_86 ?_
            refine x_iload hC dX3_stretch_87 rfl ?_
            refine x_miastN hC hm 0 (by decide) (show _ < 433 from (by omega)) (by decide) dX3_stretch_89 (fun M hm hF1 => ?_)
            have hF := hF.tr hF1
            refine x_aload_n hC dX3_stretch_90 rfl rfl ?_
            refine x_get hC 0 hm.1 rfl (by decide) q2330 rfl rfl dX3_stretch_91 ?_
            refine x_iload hC dX3_stretch_94 rfl ?_
            refine x_iconst (v := nI 2) hC dX3_stretch_96 (by decide) ?_
            refine x_iload hC dX3_stretch_97 rfl ?_
            refine x_imulN hC dX3_stretch_99 ?_
            refine x_iaddN hC dX3_stretch_100 ?_
            refine x_iconst (v := nI 1) hC dX3_stretch_101 (by decide) ?_
            refine x_iaddN hC dX3_stretch_102 ?_
            refine x_iload hC dX3_stretch_103 rfl ?_
            refine x_miastN hC hm 0 (by decide) (show _ < 433 from (by omega)) (by decide) dX3_stretch_105 (fun M hm hF1 => ?_)
            have hF := hF.tr hF1
            rw [up_up, up_up] at hm
            refine x_iinc (lv' := [_, _, _, _, _, _, _]) (v := -1) hC dX3_stretch_106 rfl (by decide) (by decide) rfl ?_
            refine x_goto (tgt := 59) hC dX3_stretch_109 (by decide) ?_
            refine x_iload hC dX3_stretch_59 rfl ?_
            refine x_if_lt (tgt := 112) hC dX3_stretch_61 (by decide) (fun c5 => ?_) (fun c5 => ?_)
            · refine fin M _ (fun q hq => ?_) (fun l hl => ?_) hm hF _ _
              · rw [upd_n (by omega), va_up_s, upd_n (by omega)]
                exact hf q hq
              · rcases Nat.eq_zero_or_pos l with h0 | h0
                · subst h0
                  refine ⟨?_, ?_⟩
                  · rw [upd_n (by omega), va_up_s, show 9 + 72 * i + 2 * 0 = 1 + 72 * i + 8 + 2 * 0 by omega, upd_s]
                  · rw [show 9 + 72 * i + 2 * 0 + 1 = 1 + 72 * i + 8 + 2 * 0 + 1 by omega, upd_s]
                · have := hhi l h0 hl
                  refine ⟨?_, ?_⟩
                  · rw [upd_n (by omega), va_up_s, upd_n (by omega)]; exact this.1
                  · rw [upd_n (by omega), va_up_s, upd_n (by omega)]; exact this.2
            · exact absurd (show nI 0 + -1 < 0 by decide) c5
        | succ d ih =>
          intro hd M f hf hlo hhi hm hF w6
          refine x_iload hC dX3_stretch_59 rfl ?_
          refine x_if_ltN (tgt := 112) hC (by omega) dX3_stretch_61 (by decide) (fun c4 => ?_) (fun c4 => ?_)
          · exact absurd c4 (by omega)
          · refine x_aload_n hC dX3_stretch_64 rfl rfl ?_
            refine x_get hC 0 hm.1 rfl (by decide) q2330 rfl rfl dX3_stretch_65 ?_
            refine x_iload hC dX3_stretch_68 rfl ?_
            refine x_iload hC dX3_stretch_70 rfl ?_
            refine x_iaddN hC dX3_stretch_72 ?_
            refine x_ialdN hC (hm.arr 0 (by decide)) (show _ < 433 from (by omega)) (by decide) dX3_stretch_73 ?_
            rw [show va_up A7 0 f 0 (1 + 72 * i + 8 + (d + 1)) = rg r (d + 1) by rw [va_up_s, ← hlo (d + 1) (Nat.le_refl _)]; congr 1; omega]
            refine x_istore (lv' := [_, _, _, _, _, _, _]) hC dX3_stretch_74 (by decide) rfl ?_
            refine x_aload_n hC dX3_stretch_76 rfl rfl ?_
            refine x_get hC 0 hm.1 rfl (by decide) q2330 rfl rfl dX3_stretch_77 ?_
            refine x_iload hC dX3_stretch_80 rfl ?_
            refine x_iconst (v := nI 2) hC dX3_stretch_82 (by decide) ?_
            refine x_iload hC dX3_stretch_83 rfl ?_
            refine x_imulN hC dX3_stretch_85 ?_
            refine x_iaddN hC dX3_stretch_86 ?_
            refine x_iload hC dX3_stretch_87 rfl ?_
            refine x_miastN hC hm 0 (by decide) (show _ < 433 from (by omega)) (by decide) dX3_stretch_89 (fun M hm hF1 => ?_)
            have hF := hF.tr hF1
            refine x_aload_n hC dX3_stretch_90 rfl rfl ?_
            refine x_get hC 0 hm.1 rfl (by decide) q2330 rfl rfl dX3_stretch_91 ?_
            refine x_iload hC dX3_stretch_94 rfl ?_
            refine x_iconst (v := nI 2) hC dX3_stretch_96 (by decide) ?_
            refine x_iload hC dX3_stretch_97 rfl ?_
            refine x_imulN hC dX3_stretch_99 ?_
            refine x_iaddN hC dX3_stretch_100 ?_
            refine x_iconst (v := nI 1) hC dX3_stretch_101 (by decide) ?_
            refine x_iaddN hC dX3_stretch_102 ?_
            refine x_iload hC dX3_stretch_103 rfl ?_
            refine x_miastN hC hm 0 (by decide) (show _ < 433 from (by omega)) (by decide) dX3_stretch_105 (fun M hm hF1 => ?_)
            have hF := hF.tr hF1
            rw [up_up, up_up] at hm
            refine x_iincM (lv' := [_, _, _, _, _, _, _]) (b := 1) hC dX3_stretch_106 rfl (by decide) (by decide) (by omega) rfl ?_
            refine x_goto (tgt := 59) hC dX3_stretch_109 (by decide) ?_
            refine ih (by omega) M _ (fun q hq => ?_) (fun l hl => ?_) (fun l h1 h2 => ?_) hm hF _
            · rw [upd_n (by omega), va_up_s, upd_n (by omega)]
              exact hf q hq
            · rw [upd_n (by omega), va_up_s, upd_n (by omega)]
              exact hlo l (by omega)
            · by_cases e : l = d + 1
              · subst e
                refine ⟨?_, ?_⟩
                · rw [upd_n (by omega), va_up_s, show 9 + 72 * i + 2 * (d + 1) = 1 + 72 * i + 8 + 2 * (d + 1) by omega, upd_s]
                · rw [show 9 + 72 * i + 2 * (d + 1) + 1 = 1 + 72 * i + 8 + 2 * (d + 1) + 1 by omega, upd_s]
              · have := hhi l (by omega) h2
                refine ⟨?_, ?_⟩
                · rw [upd_n (by omega), va_up_s, upd_n (by omega)]; exact this.1
                · rw [upd_n (by omega), va_up_s, upd_n (by omega)]; exact this.2
      · exact absurd ⟨c1, trivial⟩ c
end M22

