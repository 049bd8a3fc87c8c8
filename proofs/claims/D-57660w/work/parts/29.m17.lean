/-! ===== the reference's operations that only read, last part ===== -/
def opCommon (S : X_S) (x z c : Int32) : Int32 × Int32 := (rc2 (sR S) x z).elim (1, 0) fun p => if rz p.1 = rz p.2 ∧ (0 ≤ c ∧ c ≤ nI (rz p.1)) then (0, iS (fun k => xB (∃ j, j < c.toNatClampNeg ∧ pkN p.1 j = pkN p.2 k)) c.toNatClampNeg) else (2, 0)
/-- the first peaks' coefficients, the others 0 -/
def coP (r : Rcd) (c : Nat) : Nat → Int32 := fun i => if (∃ k, k < rz r ∧ c ≤ k ∧ pkN r k = i) then 0 else cfN (rg r) (rz r) i
def opErrP (S : X_S) (x c : Int32) : Int32 × Int64 := (rc (sR S) x).elim (1, 0) fun r => if 0 ≤ c ∧ c ≤ nI (rz r) then (0, jS (fun k => sq (rg r k - syS (coP r c.toNatClampNeg) (rz r) k)) (rz r)) else (2, 0)
theorem Rw_at {R : List Rcd} {f : Nat → Int32} (hR : RepR R f) (hW : WfR R) {c : Nat} (hc : c < R.length) : Rw R f c (rd R c) := by
  have h : R[c]? = some R[c] := List.getElem?_eq_getElem hc
  have e : rd R c = R[c] := by unfold rd; rw [List.getD_eq_getElem?_getD, h]; rfl
  rw [e]
  exact ⟨⟨hc, hW.1⟩, h, hR.2 c _ h, hW.2.1 _ (List.getElem_mem hc)⟩
section M17
variable {G : X_G} {M : X_M} {m : Nat} {P : Nat → Nat} {V : Nat → Int32} {A : Nat → Nat → Int32} {S : X_S} {R : List Rcd} {i k j : Nat} {r s : Rcd}
theorem ct_corrR (hG : GOK G) (hm : Mdl M m P V A) (hw : Rw R (A 0) i r) (hv : Rw R (A 0) j s) (he : rz r = rz s) {q : Nat} (hq : q < rz r) : Ct G yX3_correlated cX3_correlated 7 (some .long) (xrm 3 0 0) [.ref m, .int (nI i), .int (nI j), .int (nI q)] M (Pr (.long (crN r s q)) M) := by
  have h := ct_correlated hG hm hw.c6 hv.c6 hw.hn hw.n6 (s := q) (fun k hk => Nat.lt_of_lt_of_le (hw.xor q hq k hk) hw.n6)
  rwa [show crS (A 0) i j (rz r) q = crN r s q from jS_cong fun k hk => by rw [hw.hg k hk, hv.hg _ (he ▸ hw.xor q hq k hk)]] at h
theorem ct_similarity (hG : GOK G) (hm : Mdl M m P V A) (hS : MRep S V A) (x z : Int32) : Ct G yX3_similarity cX3_similarity 6 (some .double) (xrm 6 0 0) [.ref m, .int x, .int z] M (MOd M m P S (opSimil S x z).1 (opSimil S x z).2) := by
  refine ct_open (lv := [_, _, _, _, _, _]) hG (by decide +kernel) (Nat.le_of_ble_eq_true rfl) rfl (fun C hC hk => ?_)
  have hF : Fm M M := Fr.rf
  unfold opSimil at hk
  refine x_aload_n hC dX3_similarity_0 rfl rfl ?_
  refine x_iload_n hC dX3_similarity_1 rfl rfl ?_
  refine x_iload_n hC dX3_similarity_2 rfl rfl ?_
  refine x_callV0 (na := 2) hC (ct_areRecordings hG hm _ _) (lw_V q2676 q2678 qs62 q89 q2679) hm.1 rfl rfl (by decide +kernel) rfl ⟨Nat.le_of_ble_eq_true rfl, Nat.le_of_ble_eq_true rfl⟩ rfl (Nat.le_of_ble_eq_true rfl) ⟨rfl, rfl⟩ ⟨Nat.le_of_ble_eq_true rfl, Nat.le_of_ble_eq_true rfl⟩ dX3_similarity_3 ?_
  rintro _ M ⟨rfl, rfl⟩
  refine x_istore_n (lv' := [_, _, _, _, _, _]) hC dX3_similarity_6 rfl (by decide) rfl ?_
  refine x_aload_n hC dX3_similarity_7 rfl rfl ?_
  refine x_iload_n hC dX3_similarity_8 rfl rfl ?_
  refine x_iload_n hC dX3_similarity_9 rfl rfl ?_
  refine x_if_eqB (tgt := 26) hC dX3_similarity_10 (by decide) (fun c1 => ?_) (fun c1 => ?_)
  · rw [rc2_no hS.1.1 hS.1.2 c1] at hk
    refine x_iconst (v := 0) hC dX3_similarity_26 (by decide) ?_
    refine x_callV0 (na := 2) hC (ct_good2 hG hm _ False) (lw_V q2540 q2542 qs49 q89 q2543) hm.1 rfl rfl (by decide +kernel) rfl ⟨Nat.le_of_ble_eq_true rfl, Nat.le_of_ble_eq_true rfl⟩ rfl (Nat.le_of_ble_eq_true rfl) ⟨rfl, rfl⟩ ⟨Nat.le_of_ble_eq_true rfl, Nat.le_of_ble_eq_true rfl⟩ dX3_similarity_27 ?_
    rintro _ M ⟨rfl, hm, hF1⟩
    have hF := hF.tr hF1
    refine x_if_neB (tgt := 35) hC dX3_similarity_30 (by decide) (fun c => ?_) (fun c => ?_)
    · exact absurd c.1 c1
    · refine x_dconst0 hC dX3_similarity_33 ?_
      exact x_dret hC hk dX3_similarity_34 (Nat.le_of_ble_eq_true rfl) (Nat.le_of_ble_eq_true rfl) ⟨_, _, _, rfl, (fun h => absurd h (show ¬ (1 : Int32) = 0 by decide)), hm, hF, hS.k6, upd_s.trans (if_neg c1)⟩
  · obtain ⟨i, r, j, s, hx, rfl, rfl, hw, hv⟩ := rc2_ok hS.1.1 hS.1.2 c1
    rw [hx] at hk
    dsimp only [Option.elim] at hk
    refine x_aload_n hC dX3_similarity_13 rfl rfl ?_
    refine x_iload_n hC dX3_similarity_14 rfl rfl ?_
    refine x_iload_n hC dX3_similarity_15 rfl rfl ?_
    refine x_callV0 (na := 2) hC (ct_alikeR hG hm hw hv) (lw_V q2680 q2682 qs63 q89 q2683) hm.1 rfl rfl (by decide +kernel) rfl ⟨Nat.le_of_ble_eq_true rfl, Nat.le_of_ble_eq_true rfl⟩ rfl (Nat.le_of_ble_eq_true rfl) ⟨rfl, rfl⟩ ⟨Nat.le_of_ble_eq_true rfl, Nat.le_of_ble_eq_true rfl⟩ dX3_similarity_16 ?_
    rintro _ M ⟨rfl, rfl⟩
    refine x_if_eqB (tgt := 26) hC dX3_similarity_19 (by decide) (fun c2 => ?_) (fun c2 => ?_)
    · rw [if_neg c2] at hk
      refine x_iconst (v := 0) hC dX3_similarity_26 (by decide) ?_
      refine x_callV0 (na := 2) hC (ct_good2 hG hm _ False) (lw_V q2540 q2542 qs49 q89 q2543) hm.1 rfl rfl (by decide +kernel) rfl ⟨Nat.le_of_ble_eq_true rfl, Nat.le_of_ble_eq_true rfl⟩ rfl (Nat.le_of_ble_eq_true rfl) ⟨rfl, rfl⟩ ⟨Nat.le_of_ble_eq_true rfl, Nat.le_of_ble_eq_true rfl⟩ dX3_similarity_27 ?_
      rintro _ M ⟨rfl, hm, hF1⟩
      have hF := hF.tr hF1
      refine x_if_neB (tgt := 35) hC dX3_similarity_30 (by decide) (fun c => ?_) (fun c => ?_)
      · exact absurd c.2 id
      · refine x_dconst0 hC dX3_similarity_33 ?_
        exact x_dret hC hk dX3_similarity_34 (Nat.le_of_ble_eq_true rfl) (Nat.le_of_ble_eq_true rfl) ⟨_, _, _, rfl, (fun h => absurd h (show ¬ (2 : Int32) = 0 by decide)), hm, hF, hS.k6, upd_s.trans ((if_pos c1).trans (if_neg id))⟩
    · rw [if_pos c2] at hk
      refine x_iconst (v := 1) hC dX3_similarity_22 (by decide) ?_
      refine x_goto (tgt := 27) hC dX3_similarity_23 (by decide) ?_
      refine x_callV0 (na := 2) hC (ct_good2 hG hm _ True) (lw_V q2540 q2542 qs49 q89 q2543) hm.1 rfl rfl (by decide +kernel) rfl ⟨Nat.le_of_ble_eq_true rfl, Nat.le_of_ble_eq_true rfl⟩ rfl (Nat.le_of_ble_eq_true rfl) ⟨rfl, rfl⟩ ⟨Nat.le_of_ble_eq_true rfl, Nat.le_of_ble_eq_true rfl⟩ dX3_similarity_27 ?_
      rintro _ M ⟨rfl, hm, hF1⟩
      have hF := hF.tr hF1
      refine x_if_neB (tgt := 35) hC dX3_similarity_30 (by decide) (fun c => ?_) (fun c => ?_)
      · refine x_aload_n hC dX3_similarity_35 rfl rfl ?_
        refine x_iload_n hC dX3_similarity_36 rfl rfl ?_
        refine x_callV0 (na := 1) hC (ct_energyR hG hm hw) (lw_V q2524 q2526 qs48 q89 q2527) hm.1 rfl rfl (by decide +kernel) rfl ⟨Nat.le_of_ble_eq_true rfl, Nat.le_of_ble_eq_true rfl⟩ rfl (Nat.le_of_ble_eq_true rfl) ⟨rfl, rfl⟩ ⟨Nat.le_of_ble_eq_true rfl, Nat.le_of_ble_eq_true rfl⟩ dX3_similarity_37 ?_
        rintro _ M ⟨rfl, rfl⟩
        refine x_aload_n hC dX3_similarity_40 rfl rfl ?_
        refine x_iload_n hC dX3_similarity_41 rfl rfl ?_
        refine x_callV0 (na := 1) hC (ct_energyR hG hm hv) (lw_V q2524 q2526 qs48 q89 q2527) hm.1 rfl rfl (by decide +kernel) rfl ⟨Nat.le_of_ble_eq_true rfl, Nat.le_of_ble_eq_true rfl⟩ rfl (Nat.le_of_ble_eq_true rfl) ⟨rfl, rfl⟩ ⟨Nat.le_of_ble_eq_true rfl, Nat.le_of_ble_eq_true rfl⟩ dX3_similarity_42 ?_
        rintro _ M ⟨rfl, rfl⟩
        refine x_callS0 (na := 2) hC (ct_jmax hG _ _ _) (lw_S q2708 q1873 q103 q1874) (by decide +kernel) rfl ⟨Nat.le_of_ble_eq_true rfl, Nat.le_of_ble_eq_true rfl⟩ rfl (Nat.le_of_ble_eq_true rfl) ⟨rfl, rfl⟩ ⟨Nat.le_of_ble_eq_true rfl, Nat.le_of_ble_eq_true rfl⟩ dX3_similarity_45 ?_
        rintro _ M ⟨rfl, rfl⟩
        refine x_lstore (lv' := [_, _, _, _, _, _]) hC dX3_similarity_48 (by decide) rfl ?_
        refine x_lload hC dX3_similarity_50 rfl ?_
        refine x_lconst (v := 0) hC dX3_similarity_52 (by decide) ?_
        refine x_lcmp hC dX3_similarity_53 ?_
        refine x_if_ne (tgt := 61) hC dX3_similarity_54 (by decide) (fun c4 => ?_) (fun c4 => ?_)
        · have c3 : ¬ jmax (eN r) (eN s) = 0 := fun h => c4 ((lg_cmp_eq _ _).mpr h)
          refine x_aload_n hC dX3_similarity_61 rfl rfl ?_
          refine x_iload_n hC dX3_similarity_62 rfl rfl ?_
          refine x_iload_n hC dX3_similarity_63 rfl rfl ?_
          refine x_iconst (v := nI 0) hC dX3_similarity_64 (by decide) ?_
          refine x_callV0 (na := 3) hC (ct_corrR hG hm hw hv c2 (by have := hw.n2; omega)) (lw_V q2700 q2702 qs66 q89 q2703) hm.1 rfl rfl (by decide +kernel) rfl ⟨Nat.le_of_ble_eq_true rfl, Nat.le_of_ble_eq_true rfl⟩ rfl (Nat.le_of_ble_eq_true rfl) ⟨rfl, rfl⟩ ⟨Nat.le_of_ble_eq_true rfl, Nat.le_of_ble_eq_true rfl⟩ dX3_similarity_65 ?_
          rintro _ M ⟨rfl, rfl⟩
          refine x_l2d hC dX3_similarity_68 ?_
          refine x_lload hC dX3_similarity_69 rfl ?_
          refine x_l2d hC dX3_similarity_71 ?_
          refine x_ddiv hC dX3_similarity_72 (l2d_n64 _ _ c3) ?_
          exact x_dret hC hk dX3_similarity_73 (Nat.le_of_ble_eq_true rfl) (Nat.le_of_ble_eq_true rfl) ⟨_, _, _, rfl, (fun _ => (if_neg c3).symm), hm, hF, hS.k6, upd_s.trans ((if_pos c1).trans (if_pos trivial))⟩
        · have c3 : jmax (eN r) (eN s) = 0 := (lg_cmp_eq _ _).mp c4
          refine x_dconst0 hC dX3_similarity_57 ?_
          refine x_goto (tgt := 73) hC dX3_similarity_58 (by decide) ?_
          exact x_dret hC hk dX3_similarity_73 (Nat.le_of_ble_eq_true rfl) (Nat.le_of_ble_eq_true rfl) ⟨_, _, _, rfl, (fun _ => (if_pos c3).symm), hm, hF, hS.k6, upd_s.trans ((if_pos c1).trans (if_pos trivial))⟩
      · exact absurd ⟨c1, trivial⟩ c
theorem ct_bestShift (hG : GOK G) (hm : Mdl M m P V A) (hS : MRep S V A) (x z : Int32) : Ct G yX3_bestShift cX3_bestShift 4 (some .int) (xrm 6 0 0) [.ref m, .int x, .int z] M (MOi M m P S (opShiftB S x z).1 (opShiftB S x z).2) := by
  refine ct_open (lv := [_, _, _, _]) hG (by decide +kernel) (Nat.le_of_ble_eq_true rfl) rfl (fun C hC hk => ?_)
  have hF : Fm M M := Fr.rf
  unfold opShiftB at hk
  refine x_aload_n hC dX3_bestShift_0 rfl rfl ?_
  refine x_iload_n hC dX3_bestShift_1 rfl rfl ?_
  refine x_iload_n hC dX3_bestShift_2 rfl rfl ?_
  refine x_callV0 (na := 2) hC (ct_areRecordings hG hm _ _) (lw_V q2676 q2678 qs62 q89 q2679) hm.1 rfl rfl (by decide +kernel) rfl ⟨Nat.le_of_ble_eq_true rfl, Nat.le_of_ble_eq_true rfl⟩ rfl (Nat.le_of_ble_eq_true rfl) ⟨rfl, rfl⟩ ⟨Nat.le_of_ble_eq_true rfl, Nat.le_of_ble_eq_true rfl⟩ dX3_bestShift_3 ?_
  rintro _ M ⟨rfl, rfl⟩
  refine x_istore_n (lv' := [_, _, _, _]) hC dX3_bestShift_6 rfl (by decide) rfl ?_
  refine x_aload_n hC dX3_bestShift_7 rfl rfl ?_
  refine x_iload_n hC dX3_bestShift_8 rfl rfl ?_
  refine x_iload_n hC dX3_bestShift_9 rfl rfl ?_
  refine x_if_eqB (tgt := 26) hC dX3_bestShift_10 (by decide) (fun c1 => ?_) (fun c1 => ?_)
  · rw [rc2_no hS.1.1 hS.1.2 c1] at hk
    refine x_iconst (v := 0) hC dX3_bestShift_26 (by decide) ?_
    refine x_callV0 (na := 2) hC (ct_good2 hG hm _ False) (lw_V q2540 q2542 qs49 q89 q2543) hm.1 rfl rfl (by decide +kernel) rfl ⟨Nat.le_of_ble_eq_true rfl, Nat.le_of_ble_eq_true rfl⟩ rfl (Nat.le_of_ble_eq_true rfl) ⟨rfl, rfl⟩ ⟨Nat.le_of_ble_eq_true rfl, Nat.le_of_ble_eq_true rfl⟩ dX3_bestShift_27 ?_
    rintro _ M ⟨rfl, hm, hF1⟩
    have hF := hF.tr hF1
    refine x_if_eqB (tgt := 42) hC dX3_bestShift_30 (by decide) (fun c => ?_) (fun c => ?_)
    · refine x_iconst (v := -1) hC dX3_bestShift_42 (by decide) ?_
      exact x_iret hC hk dX3_bestShift_43 (Nat.le_of_ble_eq_true rfl) (Nat.le_of_ble_eq_true rfl) ⟨_, _, _, rfl, (fun h => absurd h (show ¬ (1 : Int32) = 0 by decide)), hm, hF, hS.k6, upd_s.trans (if_neg c1)⟩
    · exact absurd c.1 c1
  · obtain ⟨i, r, j, s, hx, rfl, rfl, hw, hv⟩ := rc2_ok hS.1.1 hS.1.2 c1
    rw [hx] at hk
    dsimp only [Option.elim] at hk
    refine x_aload_n hC dX3_bestShift_13 rfl rfl ?_
    refine x_iload_n hC dX3_bestShift_14 rfl rfl ?_
    refine x_iload_n hC dX3_bestShift_15 rfl rfl ?_
    refine x_callV0 (na := 2) hC (ct_alikeR hG hm hw hv) (lw_V q2680 q2682 qs63 q89 q2683) hm.1 rfl rfl (by decide +kernel) rfl ⟨Nat.le_of_ble_eq_true rfl, Nat.le_of_ble_eq_true rfl⟩ rfl (Nat.le_of_ble_eq_true rfl) ⟨rfl, rfl⟩ ⟨Nat.le_of_ble_eq_true rfl, Nat.le_of_ble_eq_true rfl⟩ dX3_bestShift_16 ?_
    rintro _ M ⟨rfl, rfl⟩
    refine x_if_eqB (tgt := 26) hC dX3_bestShift_19 (by decide) (fun c2 => ?_) (fun c2 => ?_)
    · rw [if_neg c2] at hk
      refine x_iconst (v := 0) hC dX3_bestShift_26 (by decide) ?_
      refine x_callV0 (na := 2) hC (ct_good2 hG hm _ False) (lw_V q2540 q2542 qs49 q89 q2543) hm.1 rfl rfl (by decide +kernel) rfl ⟨Nat.le_of_ble_eq_true rfl, Nat.le_of_ble_eq_true rfl⟩ rfl (Nat.le_of_ble_eq_true rfl) ⟨rfl, rfl⟩ ⟨Nat.le_of_ble_eq_true rfl, Nat.le_of_ble_eq_true rfl⟩ dX3_bestShift_27 ?_
      rintro _ M ⟨rfl, hm, hF1⟩
      have hF := hF.tr hF1
      refine x_if_eqB (tgt := 42) hC dX3_bestShift_30 (by decide) (fun c => ?_) (fun c => ?_)
      · refine x_iconst (v := -1) hC dX3_bestShift_42 (by decide) ?_
        exact x_iret hC hk dX3_bestShift_43 (Nat.le_of_ble_eq_true rfl) (Nat.le_of_ble_eq_true rfl) ⟨_, _, _, rfl, (fun h => absurd h (show ¬ (2 : Int32) = 0 by decide)), hm, hF, hS.k6, upd_s.trans ((if_pos c1).trans (if_neg id))⟩
      · exact absurd c.2 id
    · rw [if_pos c2] at hk
      refine x_iconst (v := 1) hC dX3_bestShift_22 (by decide) ?_
      refine x_goto (tgt := 27) hC dX3_bestShift_23 (by decide) ?_
      refine x_callV0 (na := 2) hC (ct_good2 hG hm _ True) (lw_V q2540 q2542 qs49 q89 q2543) hm.1 rfl rfl (by decide +kernel) rfl ⟨Nat.le_of_ble_eq_true rfl, Nat.le_of_ble_eq_true rfl⟩ rfl (Nat.le_of_ble_eq_true rfl) ⟨rfl, rfl⟩ ⟨Nat.le_of_ble_eq_true rfl, Nat.le_of_ble_eq_true rfl⟩ dX3_bestShift_27 ?_
      rintro _ M ⟨rfl, hm, hF1⟩
      have hF := hF.tr hF1
      refine x_if_eqB (tgt := 42) hC dX3_bestShift_30 (by decide) (fun c => ?_) (fun c => ?_)
      · exact absurd ⟨c1, trivial⟩ c
      · refine x_aload_n hC dX3_bestShift_33 rfl rfl ?_
        refine x_iload_n hC dX3_bestShift_34 rfl rfl ?_
        refine x_iload_n hC dX3_bestShift_35 rfl rfl ?_
        refine x_callV0 (na := 2) hC (ct_shiftOf hG hm hw.c6 hv.c6 hw.hn hw.n6 (by have := hw.n2; omega) (fun q hq k hk => Nat.lt_of_lt_of_le (hw.xor q hq k hk) hw.n6)) (lw_V q2713 q2715 qs67 q89 q2716) hm.1 rfl rfl (by decide +kernel) rfl ⟨Nat.le_of_ble_eq_true rfl, Nat.le_of_ble_eq_true rfl⟩ rfl (Nat.le_of_ble_eq_true rfl) ⟨rfl, rfl⟩ ⟨Nat.le_of_ble_eq_true rfl, Nat.le_of_ble_eq_true rfl⟩ dX3_bestShift_36 ?_
        rintro _ M ⟨rfl, rfl⟩
        refine x_goto (tgt := 43) hC dX3_bestShift_39 (by decide) ?_
        have hcr : ∀ q, q < rz r → crS (A 0) i j (rz r) q = crN r s q := fun q hq => jS_cong fun k hk => by rw [hw.hg k hk, hv.hg _ (c2 ▸ hw.xor q hq k hk)]
        exact x_iret hC hk dX3_bestShift_43 (Nat.le_of_ble_eq_true rfl) (Nat.le_of_ble_eq_true rfl) ⟨_, _, _, rfl, (fun _ => congrArg nI (amx_cong fun a b ha hb => by rw [hcr a ha, hcr b hb])), hm, hF, hS.k6, upd_s.trans ((if_pos c1).trans (if_pos trivial))⟩
theorem ct_nearest (hG : GOK G) (hm : Mdl M m P V A) (hS : MRep S V A) (x : Int32) : Ct G yX3_nearest cX3_nearest 4 (some .int) (xrm 6 0 0) [.ref m, .int x] M (MOi M m P S (opNear S x).1 (opNear S x).2) := by
  refine ct_open (lv := [_, _, _, _]) hG (by decide +kernel) (Nat.le_of_ble_eq_true rfl) rfl (fun C hC hk => ?_)
  have hF : Fm M M := Fr.rf
  unfold opNear at hk
  refine x_aload_n hC dX3_nearest_0 rfl rfl ?_
  refine x_iload_n hC dX3_nearest_1 rfl rfl ?_
  refine x_callV0 (na := 1) hC (ct_isRecording hG hm _) (lw_V q2491 q2493 qs44 q89 q2494) hm.1 rfl rfl (by decide +kernel) rfl ⟨Nat.le_of_ble_eq_true rfl, Nat.le_of_ble_eq_true rfl⟩ rfl (Nat.le_of_ble_eq_true rfl) ⟨rfl, rfl⟩ ⟨Nat.le_of_ble_eq_true rfl, Nat.le_of_ble_eq_true rfl⟩ dX3_nearest_2 ?_
  rintro _ M ⟨rfl, rfl⟩
  refine x_istore_n (lv' := [_, _, _, _]) hC dX3_nearest_5 rfl (by decide) rfl ?_
  refine x_iload_n hC dX3_nearest_6 rfl rfl ?_
  refine x_if_eqB (tgt := 18) hC dX3_nearest_7 (by decide) (fun c1 => ?_) (fun c1 => ?_)
  · refine x_iconst (v := -1) hC dX3_nearest_18 (by decide) ?_
    refine x_istore_n (lv' := [_, _, _, _]) hC dX3_nearest_19 rfl (by decide) rfl ?_
    refine x_aload_n hC dX3_nearest_20 rfl rfl ?_
    refine x_iload_n hC dX3_nearest_21 rfl rfl ?_
    refine x_iload_n hC dX3_nearest_22 rfl rfl ?_
    refine x_iconst (v := -1) hC dX3_nearest_23 (by decide) ?_
    refine x_icmp_eq (tgt := 31) hC dX3_nearest_24 (by decide) (fun c2 => ?_) (fun c2 => ?_)
    · rw [rc_no hS.1.1 hS.1.2 c1] at hk
      refine x_iconst (v := 0) hC dX3_nearest_31 (by decide) ?_
      refine x_callV0 (na := 2) hC (ct_good2 hG hm _ False) (lw_V q2540 q2542 qs49 q89 q2543) hm.1 rfl rfl (by decide +kernel) rfl ⟨Nat.le_of_ble_eq_true rfl, Nat.le_of_ble_eq_true rfl⟩ rfl (Nat.le_of_ble_eq_true rfl) ⟨rfl, rfl⟩ ⟨Nat.le_of_ble_eq_true rfl, Nat.le_of_ble_eq_true rfl⟩ dX3_nearest_32 ?_
      rintro _ M ⟨rfl, hm, hF1⟩
      have hF := hF.tr hF1
      refine x_if_eqB (tgt := 42) hC dX3_nearest_35 (by decide) (fun c => ?_) (fun c => ?_)
      · refine x_iconst (v := -1) hC dX3_nearest_42 (by decide) ?_
        exact x_iret hC hk dX3_nearest_43 (Nat.le_of_ble_eq_true rfl) (Nat.le_of_ble_eq_true rfl) ⟨_, _, _, rfl, (fun h => absurd h (show ¬ (1 : Int32) = 0 by decide)), hm, hF, hS.k6, upd_s.trans (if_neg c1)⟩
      · exact absurd c.1 c1
    · exact absurd rfl c2
  · obtain ⟨i, r, hx, rfl, hw⟩ := rc_ok hS.1.1 hS.1.2 c1
    have h6 := hw.c6
    rw [hx] at hk
    dsimp only [Option.elim] at hk
    rw [nI_clamp (by omega)] at hk
    refine x_aload_n hC dX3_nearest_10 rfl rfl ?_
    refine x_iload_n hC dX3_nearest_11 rfl rfl ?_
    refine x_callV0 (na := 1) hC (ct_nearestOf hG hm hw.1.1 hS.1.1.1 hw.1.2 hw.hn hw.n6) (lw_V q2692 q2694 qs65 q89 q2695) hm.1 rfl rfl (by decide +kernel) rfl ⟨Nat.le_of_ble_eq_true rfl, Nat.le_of_ble_eq_true rfl⟩ rfl (Nat.le_of_ble_eq_true rfl) ⟨rfl, rfl⟩ ⟨Nat.le_of_ble_eq_true rfl, Nat.le_of_ble_eq_true rfl⟩ dX3_nearest_12 ?_
    rintro _ M ⟨rfl, rfl⟩
    have hnr : nrs (fun d => d ≠ i ∧ A 0 (8 + 72 * d) = nI (rz r)) (fun d => apS (A 0) i d (rz r)) (sR S).length = nearN (sR S) i := by
      have hri : rd (sR S) i = r := hw.rd
      refine nrs_cong (fun d hd => ?_) (fun d hd ha => ?_)
      · have hv := Rw_at hS.1.1 hS.1.2 hd
        rw [hv.hn, nI_eq (by have := hv.n6; omega) (by have := hw.n6; omega), hri]
      · have hv := Rw_at hS.1.1 hS.1.2 hd
        have he : rz (rd (sR S) d) = rz r := by
          have := ha.2
          rwa [hv.hn, nI_eq (by have := hv.n6; omega) (by have := hw.n6; omega)] at this
        unfold apS apN
        rw [hri, hw.cfS, show cfS (A 0) d (rz r) = cfN (rg (rd (sR S) d)) (rz (rd (sR S) d)) by rw [← he]; exact hv.cfS]
    rw [hnr]
    cases hnn : nearN (sR S) i with
    | none =>
      rw [hnn] at hk
      dsimp only at hk
      refine x_goto (tgt := 19) hC dX3_nearest_15 (by decide) ?_
      refine x_istore_n (lv' := [_, _, _, _]) hC dX3_nearest_19 rfl (by decide) rfl ?_
      refine x_aload_n hC dX3_nearest_20 rfl rfl ?_
      refine x_iload_n hC dX3_nearest_21 rfl rfl ?_
      refine x_iload_n hC dX3_nearest_22 rfl rfl ?_
      refine x_iconst (v := -1) hC dX3_nearest_23 (by decide) ?_
      refine x_icmp_eq (tgt := 31) hC dX3_nearest_24 (by decide) (fun c2 => ?_) (fun c2 => ?_)
      · refine x_iconst (v := 0) hC dX3_nearest_31 (by decide) ?_
        refine x_callV0 (na := 2) hC (ct_good2 hG hm _ False) (lw_V q2540 q2542 qs49 q89 q2543) hm.1 rfl rfl (by decide +kernel) rfl ⟨Nat.le_of_ble_eq_true rfl, Nat.le_of_ble_eq_true rfl⟩ rfl (Nat.le_of_ble_eq_true rfl) ⟨rfl, rfl⟩ ⟨Nat.le_of_ble_eq_true rfl, Nat.le_of_ble_eq_true rfl⟩ dX3_nearest_32 ?_
        rintro _ M ⟨rfl, hm, hF1⟩
        have hF := hF.tr hF1
        refine x_if_eqB (tgt := 42) hC dX3_nearest_35 (by decide) (fun c => ?_) (fun c => ?_)
        · refine x_iconst (v := -1) hC dX3_nearest_42 (by decide) ?_
          exact x_iret hC hk dX3_nearest_43 (Nat.le_of_ble_eq_true rfl) (Nat.le_of_ble_eq_true rfl) ⟨_, _, _, rfl, (fun h => absurd h (show ¬ (2 : Int32) = 0 by decide)), hm, hF, hS.k6, upd_s.trans ((if_pos c1).trans (if_neg id))⟩
        · exact absurd c.2 id
      · exact absurd rfl c2
    | some d =>
      rw [hnn] at hk
      dsimp only at hk
      have hd : d < 6 := by
        have h1 := (nrs_lt hnn).1
        have := hw.1.2
        omega
      refine x_goto (tgt := 19) hC dX3_nearest_15 (by decide) ?_
      refine x_istore_n (lv' := [_, _, _, _]) hC dX3_nearest_19 rfl (by decide) rfl ?_
      refine x_aload_n hC dX3_nearest_20 rfl rfl ?_
      refine x_iload_n hC dX3_nearest_21 rfl rfl ?_
      refine x_iload_n hC dX3_nearest_22 rfl rfl ?_
      refine x_iconst (v := -1) hC dX3_nearest_23 (by decide) ?_
      refine x_icmp_eq (tgt := 31) hC dX3_nearest_24 (by decide) (fun c2 => ?_) (fun c2 => ?_)
      · exact absurd c2 (nI_m1 (by omega))
      · refine x_iconst (v := 1) hC dX3_nearest_27 (by decide) ?_
        refine x_goto (tgt := 32) hC dX3_nearest_28 (by decide) ?_
        refine x_callV0 (na := 2) hC (ct_good2 hG hm _ True) (lw_V q2540 q2542 qs49 q89 q2543) hm.1 rfl rfl (by decide +kernel) rfl ⟨Nat.le_of_ble_eq_true rfl, Nat.le_of_ble_eq_true rfl⟩ rfl (Nat.le_of_ble_eq_true rfl) ⟨rfl, rfl⟩ ⟨Nat.le_of_ble_eq_true rfl, Nat.le_of_ble_eq_true rfl⟩ dX3_nearest_32 ?_
        rintro _ M ⟨rfl, hm, hF1⟩
        have hF := hF.tr hF1
        refine x_if_eqB (tgt := 42) hC dX3_nearest_35 (by decide) (fun c => ?_) (fun c => ?_)
        · exact absurd ⟨c1, trivial⟩ c
        · refine x_iload_n hC dX3_nearest_38 rfl rfl ?_
          refine x_goto (tgt := 43) hC dX3_nearest_39 (by decide) ?_
          exact x_iret hC hk dX3_nearest_43 (Nat.le_of_ble_eq_true rfl) (Nat.le_of_ble_eq_true rfl) ⟨_, _, _, rfl, (fun _ => rfl), hm, hF, hS.k6, upd_s.trans ((if_pos c1).trans (if_pos trivial))⟩
theorem ct_loudestRecording (hG : GOK G) (hm : Mdl M m P V A) (hS : MRep S V A) : Ct G yX3_loudestRecording cX3_loudestRecording 3 (some .int) (xrm 4 0 0) [.ref m] M (MOi M m P S (opLoudRec S).1 (opLoudRec S).2) := by
  refine ct_open (lv := [_, _, _]) hG (by decide +kernel) (Nat.le_of_ble_eq_true rfl) rfl (fun C hC hk => ?_)
  have hF : Fm M M := Fr.rf
  unfold opLoudRec at hk
  have hlen := hS.1.2.1
  refine x_aload_n hC dX3_loudestRecording_0 rfl rfl ?_
  refine x_aload_n hC dX3_loudestRecording_1 rfl rfl ?_
  refine x_get hC 0 hm.1 rfl (by decide) q2330 rfl rfl dX3_loudestRecording_2 ?_
  refine x_iconst (v := nI 0) hC dX3_loudestRecording_5 (by decide) ?_
  refine x_ialdN hC (hm.arr 0 (by decide)) (show _ < 433 from (by omega)) (by decide) dX3_loudestRecording_6 ?_
  rw [hS.1.1.1]
  refine x_if_le (tgt := 14) hC dX3_loudestRecording_7 (by decide) (fun c1 => ?_) (fun c1 => ?_)
  · have h0 : (sR S).length = 0 := by
      have h := c1
      rw [show (0 : Int32) = nI 0 from rfl, nI_leI (by omega) (by decide)] at h
      omega
    rw [if_pos h0] at hk
    refine x_iconst (v := 0) hC dX3_loudestRecording_14 (by decide) ?_
    refine x_callV0 (na := 1) hC (ct_good hG hm False) (lw_V q2402 q2404 qs30 q89 q2405) hm.1 rfl rfl (by decide +kernel) rfl ⟨Nat.le_of_ble_eq_true rfl, Nat.le_of_ble_eq_true rfl⟩ rfl (Nat.le_of_ble_eq_true rfl) ⟨rfl, rfl⟩ ⟨Nat.le_of_ble_eq_true rfl, Nat.le_of_ble_eq_true rfl⟩ dX3_loudestRecording_15 ?_
    rintro _ M ⟨rfl, hm, hF1⟩
    have hF := hF.tr hF1
    refine x_if_ne (tgt := 23) hC dX3_loudestRecording_18 (by decide) (fun c2 => ?_) (fun c2 => ?_)
    · exact absurd rfl c2
    · refine x_iconst (v := -1) hC dX3_loudestRecording_21 (by decide) ?_
      exact x_iret hC hk dX3_loudestRecording_22 (Nat.le_of_ble_eq_true rfl) (Nat.le_of_ble_eq_true rfl) ⟨_, _, _, rfl, (fun h => absurd h (show ¬ (1 : Int32) = 0 by decide)), hm, hF, hS.k6, rfl⟩
  · have h0 : ¬ (sR S).length = 0 := fun h => c1 (by rw [h]; decide)
    rw [if_neg h0] at hk
    refine x_iconst (v := 1) hC dX3_loudestRecording_10 (by decide) ?_
    refine x_goto (tgt := 15) hC dX3_loudestRecording_11 (by decide) ?_
    refine x_callV0 (na := 1) hC (ct_good hG hm True) (lw_V q2402 q2404 qs30 q89 q2405) hm.1 rfl rfl (by decide +kernel) rfl ⟨Nat.le_of_ble_eq_true rfl, Nat.le_of_ble_eq_true rfl⟩ rfl (Nat.le_of_ble_eq_true rfl) ⟨rfl, rfl⟩ ⟨Nat.le_of_ble_eq_true rfl, Nat.le_of_ble_eq_true rfl⟩ dX3_loudestRecording_15 ?_
    rintro _ M ⟨rfl, hm, hF1⟩
    have hF := hF.tr hF1
    refine x_if_ne (tgt := 23) hC dX3_loudestRecording_18 (by decide) (fun c2 => ?_) (fun c2 => ?_)
    · refine x_iconst (v := nI 0) hC dX3_loudestRecording_23 (by decide) ?_
      refine x_istore_n (lv' := [_, _, _]) hC dX3_loudestRecording_24 rfl (by decide) rfl ?_
      refine x_iconst (v := nI 1) hC dX3_loudestRecording_25 (by decide) ?_
      refine x_istore_n (lv' := [_, _, _]) hC dX3_loudestRecording_26 rfl (by decide) rfl ?_
      have hE : ∀ c, c < (sR S).length → Rw (sR S) (A 0) c (rd (sR S) c) := fun c hc => Rw_at hS.1.1 hS.1.2 hc
      suffices lp : ∀ k, k ≤ (sR S).length - 1 → Wg G C M 0 0 27 [some (.ref m), some (.int (nI (amx (fun a b => decide (eN (rd (sR S) a) < eN (rd (sR S) b))) (k + 1)))), some (.int (nI (k + 1)))] [] by
        have h0 := lp 0 (Nat.zero_le _)
        rw [show amx (fun a b => decide (eN (rd (sR S) a) < eN (rd (sR S) b))) (0 + 1) = 0 by unfold amx; split <;> rfl] at h0
        exact h0
      refine x_up (n := (sR S).length - 1) (I := fun k => Wg G C M 0 0 27 [some (.ref m), some (.int (nI (amx (fun a b => decide (eN (rd (sR S) a) < eN (rd (sR S) b))) (k + 1)))), some (.int (nI (k + 1)))] []) (fun k hk2 ih => ?_)
      refine x_iload_n hC dX3_loudestRecording_27 rfl rfl ?_
      refine x_aload_n hC dX3_loudestRecording_28 rfl rfl ?_
      refine x_get hC 0 hm.1 rfl (by decide) q2330 rfl rfl dX3_loudestRecording_29 ?_
      refine x_iconst (v := nI 0) hC dX3_loudestRecording_32 (by decide) ?_
      refine x_ialdN hC (hm.arr 0 (by decide)) (show _ < 433 from (by omega)) (by decide) dX3_loudestRecording_33 ?_
      rw [hS.1.1.1]
      refine x_icmp_geN (tgt := 63) hC (by omega) (by omega) dX3_loudestRecording_34 (by decide) (fun c3 => ?_) (fun c3 => ?_)
      · refine x_iload_n hC dX3_loudestRecording_63 rfl rfl ?_
        exact x_iret hC hk dX3_loudestRecording_64 (Nat.le_of_ble_eq_true rfl) (Nat.le_of_ble_eq_true rfl) ⟨_, _, _, rfl, (fun _ => by rw [show k + 1 = (sR S).length by omega]), hm, hF, hS.k6, rfl⟩
      · have hal := amx_lt (lt := fun a b => decide (eN (rd (sR S) a) < eN (rd (sR S) b))) (k := k + 1) (by omega)
        have hst : amx (fun a b => decide (eN (rd (sR S) a) < eN (rd (sR S) b))) (k + 1 + 1) = if eN (rd (sR S) (amx (fun a b => decide (eN (rd (sR S) a) < eN (rd (sR S) b))) (k + 1))) < eN (rd (sR S) (k + 1)) then k + 1 else amx (fun a b => decide (eN (rd (sR S) a) < eN (rd (sR S) b))) (k + 1) := by
          rw [amx]
          simp only [decide_eq_true_eq]
        have ih2 := ih (by omega)
        rw [hst] at ih2
        generalize amx (fun a b => decide (eN (rd (sR S) a) < eN (rd (sR S) b))) (k + 1) = u at hal ih2 ⊢
        refine x_aload_n hC dX3_loudestRecording_37 rfl rfl ?_
        refine x_iload_n hC dX3_loudestRecording_38 rfl rfl ?_
        refine x_callV0 (na := 1) hC (ct_energyR hG hm (hE _ (by omega))) (lw_V q2524 q2526 qs48 q89 q2527) hm.1 rfl rfl (by decide +kernel) rfl ⟨Nat.le_of_ble_eq_true rfl, Nat.le_of_ble_eq_true rfl⟩ rfl (Nat.le_of_ble_eq_true rfl) ⟨rfl, rfl⟩ ⟨Nat.le_of_ble_eq_true rfl, Nat.le_of_ble_eq_true rfl⟩ dX3_loudestRecording_39 ?_
        rintro _ M ⟨rfl, rfl⟩
        refine x_aload_n hC dX3_loudestRecording_42 rfl rfl ?_
        refine x_iload_n hC dX3_loudestRecording_43 rfl rfl ?_
        refine x_callV0 (na := 1) hC (ct_energyR hG hm (hE _ (by omega))) (lw_V q2524 q2526 qs48 q89 q2527) hm.1 rfl rfl (by decide +kernel) rfl ⟨Nat.le_of_ble_eq_true rfl, Nat.le_of_ble_eq_true rfl⟩ rfl (Nat.le_of_ble_eq_true rfl) ⟨rfl, rfl⟩ ⟨Nat.le_of_ble_eq_true rfl, Nat.le_of_ble_eq_true rfl⟩ dX3_loudestRecording_44 ?_
        rintro _ M ⟨rfl, rfl⟩
        refine x_lcmp hC dX3_loudestRecording_47 ?_
        refine x_if_le (tgt := 55) hC dX3_loudestRecording_48 (by decide) (fun c4 => ?_) (fun c4 => ?_)
        · rw [lg_cmp_le] at c4
          refine x_iload_n hC dX3_loudestRecording_55 rfl rfl ?_
          refine x_istore_n (lv' := [_, _, _]) hC dX3_loudestRecording_56 rfl (by decide) rfl ?_
          refine x_iincN (lv' := [_, _, _]) (b := 1) hC dX3_loudestRecording_57 rfl (by decide) (by decide) rfl ?_
          refine x_goto (tgt := 27) hC dX3_loudestRecording_60 (by decide) ?_
          rw [if_neg (Int64.not_lt.mpr c4)] at ih2
          exact ih2
        · rw [lg_cmp_le] at c4
          refine x_iload_n hC dX3_loudestRecording_51 rfl rfl ?_
          refine x_goto (tgt := 56) hC dX3_loudestRecording_52 (by decide) ?_
          refine x_istore_n (lv' := [_, _, _]) hC dX3_loudestRecording_56 rfl (by decide) rfl ?_
          refine x_iincN (lv' := [_, _, _]) (b := 1) hC dX3_loudestRecording_57 rfl (by decide) (by decide) rfl ?_
          refine x_goto (tgt := 27) hC dX3_loudestRecording_60 (by decide) ?_
          rw [if_pos (Int64.not_le.mp c4)] at ih2
          exact ih2
    · exact absurd c2 (by decide)
theorem ct_nameCharacter (hG : GOK G) (hm : Mdl M m P V A) (hS : MRep S V A) (x z : Int32) : Ct G yX3_nameCharacter cX3_nameCharacter 4 (some .char) (xrm 4 0 0) [.ref m, .int x, .int z] M (MOi M m P S (opNameChar S x z).1 (opNameChar S x z).2) := by
  refine ct_open (lv := [_, _, _, _]) hG (by decide +kernel) (Nat.le_of_ble_eq_true rfl) rfl (fun C hC hk => ?_)
  have hF : Fm M M := Fr.rf
  unfold opNameChar at hk
  refine x_aload_n hC dX3_nameCharacter_0 rfl rfl ?_
  refine x_iload_n hC dX3_nameCharacter_1 rfl rfl ?_
  refine x_callV0 (na := 1) hC (ct_isRecording hG hm _) (lw_V q2491 q2493 qs44 q89 q2494) hm.1 rfl rfl (by decide +kernel) rfl ⟨Nat.le_of_ble_eq_true rfl, Nat.le_of_ble_eq_true rfl⟩ rfl (Nat.le_of_ble_eq_true rfl) ⟨rfl, rfl⟩ ⟨Nat.le_of_ble_eq_true rfl, Nat.le_of_ble_eq_true rfl⟩ dX3_nameCharacter_2 ?_
  rintro _ M ⟨rfl, rfl⟩
  refine x_istore_n (lv' := [_, _, _, _]) hC dX3_nameCharacter_5 rfl (by decide) rfl ?_
  refine x_aload_n hC dX3_nameCharacter_6 rfl rfl ?_
  refine x_iload_n hC dX3_nameCharacter_7 rfl rfl ?_
  refine x_if_eqB (tgt := 42) hC dX3_nameCharacter_8 (by decide) (fun c1 => ?_) (fun c1 => ?_)
  · rw [rc_no hS.1.1 hS.1.2 c1] at hk
    refine x_iconst (v := 0) hC dX3_nameCharacter_42 (by decide) ?_
    refine x_callV0 (na := 1) hC (ct_good hG hm False) (lw_V q2402 q2404 qs30 q89 q2405) hm.1 rfl rfl (by decide +kernel) rfl ⟨Nat.le_of_ble_eq_true rfl, Nat.le_of_ble_eq_true rfl⟩ rfl (Nat.le_of_ble_eq_true rfl) ⟨rfl, rfl⟩ ⟨Nat.le_of_ble_eq_true rfl, Nat.le_of_ble_eq_true rfl⟩ dX3_nameCharacter_43 ?_
    rintro _ M ⟨rfl, hm, hF1⟩
    have hF := hF.tr hF1
    refine x_if_eq (tgt := 66) hC dX3_nameCharacter_46 (by decide) (fun c2 => ?_) (fun c2 => ?_)
    · refine x_iconst (v := 0) hC dX3_nameCharacter_66 (by decide) ?_
      exact x_zret hC hk dX3_nameCharacter_67 (by first | rfl | exact xB_nar) (Nat.le_of_ble_eq_true rfl) (Nat.le_of_ble_eq_true rfl) ⟨_, _, _, rfl, (fun h => absurd h (show ¬ (1 : Int32) = 0 by decide)), hm, hF, hS.k6, rfl⟩
    · exact absurd rfl c2
  · obtain ⟨i, r, hx, rfl, hw⟩ := rc_ok hS.1.1 hS.1.2 c1
    rw [hx] at hk
    dsimp only [Option.elim] at hk
    have h6 := hw.c6
    have hl := hw.2.2.2.1
    refine x_iload_n hC dX3_nameCharacter_11 rfl rfl ?_
    refine x_iconst (v := 0) hC dX3_nameCharacter_12 (by decide) ?_
    refine x_aload_n hC dX3_nameCharacter_13 rfl rfl ?_
    refine x_get hC 0 hm.1 rfl (by decide) q2330 rfl rfl dX3_nameCharacter_14 ?_
    refine x_iload_n hC dX3_nameCharacter_17 rfl rfl ?_
    refine x_if_eqB (tgt := 25) hC dX3_nameCharacter_18 (by decide) (fun c2 => ?_) (fun c2 => ?_)
    · exact absurd c1 c2
    · refine x_iload_n hC dX3_nameCharacter_21 rfl rfl ?_
      refine x_goto (tgt := 26) hC dX3_nameCharacter_22 (by decide) ?_
      refine x_callS0 (na := 1) hC (ct_row hG _ _) (lw_S q2457 q2458 q89 q2459) (by decide +kernel) rfl ⟨Nat.le_of_ble_eq_true rfl, Nat.le_of_ble_eq_true rfl⟩ rfl (Nat.le_of_ble_eq_true rfl) ⟨rfl, rfl⟩ ⟨Nat.le_of_ble_eq_true rfl, Nat.le_of_ble_eq_true rfl⟩ dX3_nameCharacter_26 ?_
      rintro _ M ⟨rfl, rfl⟩
      refine x_ialdN hC (hm.arr 0 (by decide)) (show _ < 433 from (by omega)) (by decide) dX3_nameCharacter_29 ?_
      rw [hw.2.2.1.1]
      refine x_iconst (v := 1) hC dX3_nameCharacter_30 (by decide) ?_
      refine x_isub hC dX3_nameCharacter_31 ?_
      refine x_callS0 (na := 3) hC (ct_isIn hG _ _ _ _) (lw_S q2414 q2415 q89 q2416) (by decide +kernel) rfl ⟨Nat.le_of_ble_eq_true rfl, Nat.le_of_ble_eq_true rfl⟩ rfl (Nat.le_of_ble_eq_true rfl) ⟨rfl, rfl⟩ ⟨Nat.le_of_ble_eq_true rfl, Nat.le_of_ble_eq_true rfl⟩ dX3_nameCharacter_32 ?_
      rintro _ M ⟨rfl, rfl⟩
      refine x_if_eqB (tgt := 42) hC dX3_nameCharacter_35 (by decide) (fun c3 => ?_) (fun c3 => ?_)
      · rw [if_neg c3] at hk
        refine x_iconst (v := 0) hC dX3_nameCharacter_42 (by decide) ?_
        refine x_callV0 (na := 1) hC (ct_good hG hm False) (lw_V q2402 q2404 qs30 q89 q2405) hm.1 rfl rfl (by decide +kernel) rfl ⟨Nat.le_of_ble_eq_true rfl, Nat.le_of_ble_eq_true rfl⟩ rfl (Nat.le_of_ble_eq_true rfl) ⟨rfl, rfl⟩ ⟨Nat.le_of_ble_eq_true rfl, Nat.le_of_ble_eq_true rfl⟩ dX3_nameCharacter_43 ?_
        rintro _ M ⟨rfl, hm, hF1⟩
        have hF := hF.tr hF1
        refine x_if_eq (tgt := 66) hC dX3_nameCharacter_46 (by decide) (fun c4 => ?_) (fun c4 => ?_)
        · refine x_iconst (v := 0) hC dX3_nameCharacter_66 (by decide) ?_
          exact x_zret hC hk dX3_nameCharacter_67 (by first | rfl | exact xB_nar) (Nat.le_of_ble_eq_true rfl) (Nat.le_of_ble_eq_true rfl) ⟨_, _, _, rfl, (fun h => absurd h (show ¬ (1 : Int32) = 0 by decide)), hm, hF, hS.k6, rfl⟩
        · exact absurd rfl c4
      · rw [if_pos c3] at hk
        obtain ⟨q, q1, rfl, q3⟩ := inI_at (by omega) c3
        rw [q3] at hk
        refine x_iconst (v := 1) hC dX3_nameCharacter_38 (by decide) ?_
        refine x_goto (tgt := 43) hC dX3_nameCharacter_39 (by decide) ?_
        refine x_callV0 (na := 1) hC (ct_good hG hm True) (lw_V q2402 q2404 qs30 q89 q2405) hm.1 rfl rfl (by decide +kernel) rfl ⟨Nat.le_of_ble_eq_true rfl, Nat.le_of_ble_eq_true rfl⟩ rfl (Nat.le_of_ble_eq_true rfl) ⟨rfl, rfl⟩ ⟨Nat.le_of_ble_eq_true rfl, Nat.le_of_ble_eq_true rfl⟩ dX3_nameCharacter_43 ?_
        rintro _ M ⟨rfl, hm, hF1⟩
        have hF := hF.tr hF1
        refine x_if_eq (tgt := 66) hC dX3_nameCharacter_46 (by decide) (fun c4 => ?_) (fun c4 => ?_)
        · exact absurd c4 (by decide)
        · refine x_aload_n hC dX3_nameCharacter_49 rfl rfl ?_
          refine x_get hC 0 hm.1 rfl (by decide) q2330 rfl rfl dX3_nameCharacter_50 ?_
          refine x_iload_n hC dX3_nameCharacter_53 rfl rfl ?_
          refine x_callS0 (na := 1) hC (ct_row hG _ _) (lw_S q2457 q2458 q89 q2459) (by decide +kernel) rfl ⟨Nat.le_of_ble_eq_true rfl, Nat.le_of_ble_eq_true rfl⟩ rfl (Nat.le_of_ble_eq_true rfl) ⟨rfl, rfl⟩ ⟨Nat.le_of_ble_eq_true rfl, Nat.le_of_ble_eq_true rfl⟩ dX3_nameCharacter_54 ?_
          rintro _ M ⟨rfl, rfl⟩
          refine x_iconst (v := nI 1) hC dX3_nameCharacter_57 (by decide) ?_
          refine x_iaddN hC dX3_nameCharacter_58 ?_
          refine x_iload_n hC dX3_nameCharacter_59 rfl rfl ?_
          refine x_iaddN hC dX3_nameCharacter_60 ?_
          refine x_ialdN hC (hm.arr 0 (by decide)) (show _ < 433 from (by omega)) (by decide) dX3_nameCharacter_61 ?_
          have he : A 0 (1 + 72 * i + 1 + q) = nI (r.1.getD q 0) := by rw [← hw.2.2.1.2.1 q q1]; congr 1; omega
          have h127 : r.1.getD q 0 < 128 := by
            have hm1 : r.1.getD q 0 ∈ r.1 := by
              rw [List.getD_eq_getElem?_getD, List.getElem?_eq_getElem q1]
              exact List.getElem_mem q1
            have := (hw.2.2.2.2.1 _ hm1).2
            omega
          rw [he]
          refine x_i2c hC dX3_nameCharacter_62 (v := nI (r.1.getD q 0)) ?_ ?_
          · exact (sb_byte _ (by omega)).2.1
          refine x_goto (tgt := 67) hC dX3_nameCharacter_63 (by decide) ?_
          exact x_zret hC hk dX3_nameCharacter_67 (congrArg Value.int (sb_byte _ (by omega)).2.1) (Nat.le_of_ble_eq_true rfl) (Nat.le_of_ble_eq_true rfl) ⟨_, _, _, rfl, (fun _ => rfl), hm, hF, hS.k6, rfl⟩
theorem ct_findRecording (hG : GOK G) (hm : Mdl M m P V A) (hS : MRep S V A) : Ct G yX3_findRecording cX3_findRecording 1 (some .int) (xrm 3 0 0) [.ref m] M (MOi M m P S (opFind S).1 (opFind S).2) := by
  refine ct_open (lv := [_]) hG (by decide +kernel) (Nat.le_of_ble_eq_true rfl) rfl (fun C hC hk => ?_)
  have hF : Fm M M := Fr.rf
  unfold opFind at hk
  have hB := hS.2.2.2.1
  refine x_aload_n hC dX3_findRecording_0 rfl rfl ?_
  refine x_iconst (v := 0) hC dX3_findRecording_1 (by decide) ?_
  refine x_mput hC hm 16 6 (by decide) q2346 rfl rfl rfl rfl rfl rfl dX3_findRecording_2 (fun M hm hF1 => ?_)
  have hF := hF.tr hF1
  refine x_aload_n hC dX3_findRecording_5 rfl rfl ?_
  refine x_get hC 12 hm.1 rfl (by decide) q2342 rfl rfl dX3_findRecording_6 ?_
  rw [show upd V 6 0 2 = nI (sB S).length from hB.1]
  refine x_iconst (v := nI 1) hC dX3_findRecording_9 (by decide) ?_
  refine x_bipush (v := nI 6) hC dX3_findRecording_10 (by decide) ?_
  refine x_callS0 (na := 3) hC (ct_isIn hG _ _ _ _) (lw_S q2414 q2415 q89 q2416) (by decide +kernel) rfl ⟨Nat.le_of_ble_eq_true rfl, Nat.le_of_ble_eq_true rfl⟩ rfl (Nat.le_of_ble_eq_true rfl) ⟨rfl, rfl⟩ ⟨Nat.le_of_ble_eq_true rfl, Nat.le_of_ble_eq_true rfl⟩ dX3_findRecording_12 ?_
  rintro _ M ⟨rfl, rfl⟩
  rw [xB_iff (nIr (c := (sB S).length) (lo := 1) (hi := 6) (by omega) (by decide) (by decide))]
  refine x_if_eqB (tgt := 30) hC dX3_findRecording_15 (by decide) (fun c => ?_) (fun c => ?_)
  · rw [if_neg c] at hk
    refine x_iconst (v := -1) hC dX3_findRecording_30 (by decide) ?_
    exact x_iret hC hk dX3_findRecording_31 (Nat.le_of_ble_eq_true rfl) (Nat.le_of_ble_eq_true rfl) ⟨_, _, _, rfl, (fun _ => rfl), hm, hF, hS.k6, rfl⟩
  · rw [if_pos c] at hk
    refine x_aload_n hC dX3_findRecording_18 rfl rfl ?_
    refine x_iconst (v := nI 0) hC dX3_findRecording_19 (by decide) ?_
    refine x_aload_n hC dX3_findRecording_20 rfl rfl ?_
    refine x_get hC 12 hm.1 rfl (by decide) q2342 rfl rfl dX3_findRecording_21 ?_
    rw [show upd V 6 0 2 = nI (sB S).length from hB.1]
    refine x_callV0 (na := 2) hC (ct_named hG hm (by omega) c.2 hS.1.1.1 hS.1.2.1) (lw_V q2453 q2455 qs40 q89 q2456) hm.1 rfl rfl (by decide +kernel) rfl ⟨Nat.le_of_ble_eq_true rfl, Nat.le_of_ble_eq_true rfl⟩ rfl (Nat.le_of_ble_eq_true rfl) ⟨rfl, rfl⟩ ⟨Nat.le_of_ble_eq_true rfl, Nat.le_of_ble_eq_true rfl⟩ dX3_findRecording_24 ?_
    rintro _ M ⟨rfl, rfl⟩
    have hb := bN_of hB.2.2
    have hf := fnd_of (s := 0) (e := (sB S).length) (b := bN (sB S)) hS.1.1 hS.1.2.2.1 (fun i _ hi => hb i hi) (by omega)
    have hsub : sub (bN (sB S)) 0 (sB S).length = sB S := by
      apply List.ext_getElem?
      intro i
      rcases Nat.lt_or_ge i (sB S).length with hi | hi
      · simp [sub, bN, hi, List.getD_eq_getElem?_getD]
      · rw [List.getElem?_eq_none hi, List.getElem?_eq_none (by rw [sub_len]; omega)]
    rw [hsub] at hf
    refine x_goto (tgt := 31) hC dX3_findRecording_27 (by decide) ?_
    exact x_iret hC hk dX3_findRecording_31 (Nat.le_of_ble_eq_true rfl) (Nat.le_of_ble_eq_true rfl) ⟨_, _, _, rfl, (fun _ => congrArg optI hf), hm, hF, hS.k6, rfl⟩
end M17

