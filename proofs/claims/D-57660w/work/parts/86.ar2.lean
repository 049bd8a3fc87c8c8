/-! ===== Archive: copy, numberOf, replace, rename, remove ===== -/
theorem arrV_ext {c : ClassId} {n : Nat} {f f2 : Nat → Value} (h : ∀ k, k < n → f2 k = f k) : arrV c n f = arrV c n f2 := by
  unfold arrV
  rw [show (fun j : Fin n => f j.val) = fun j => f2 j.val from funext fun j => (h j.val j.isLt).symm]
/-- an array's numbers by another function, and another tag -/
theorem x_freeze {G : X_G} {C : X_C} {M : X_M} {kc ks pc : Nat} {lv : List (Option Value)} {rest : List Value} {a g t n : Nat} {f : Nat → Int32} (g' : Nat) (f2 : Nat → Int32) (ha : M a = some (xar g t (n, .inl f))) (hg : g ≠ 0) (he : ∀ k, k < n → f2 k = f k) (kk : Wg G C (mu M a (xar g' t (n, .inl f2))) kc ks pc lv rest) : Wg G C M kc ks pc lv rest := by
  intro H locs ls hW hz hq hl
  refine kk H locs ls ⟨hW.1, hW.2.1, fun q y hy => ?_⟩ hz hq hl
  by_cases hqa : q = a
  · subst hqa
    rw [mu_s] at hy
    cases hy
    obtain ⟨h1, h2, h3⟩ := hW.2.2 _ _ ha
    refine ⟨fun _ => h1 hg, h2, h3.trans ?_⟩
    rw [vp_cell_i, vp_cell_i]
    exact congrArg some (arrV_ext fun k hk => congrArg Value.int (he k hk))
  · rw [mu_n hqa] at hy
    exact hW.2.2 q y hy
section AR2
variable {G : X_G} {M : X_M} {T : X_T} {c : Nat} {R : List Rcd} {L : List Nat}
theorem AL.rec {g l : Nat} (h : AL M T g l L) : ∃ vs, M l = some (ob g 7 vs) := by
  obtain ⟨_, _, z, -⟩ := h
  exact ⟨_, z⟩
theorem HM.rec {g m n : Nat} {D : List Nat → Option Nat} (h : HM M g m D n) : ∃ vs, M m = some (ob g 8 vs) := by
  obtain ⟨mc, lf, ⟨h1, h2⟩ | ⟨t, B, h1, -⟩⟩ := h
  · exact ⟨_, h1⟩
  · exact ⟨_, h1⟩
abbrev nmsNd (R : List Rcd) : Prop := (R.map Prod.fst).Nodup
theorem nms_at {i j : Nat} {r s : Rcd} (hN : nmsNd R) (hi : R[i]? = some r) (hj : R[j]? = some s) (he : r.1 = s.1) : i = j := by
  have h1 : (R.map Prod.fst)[i]? = some r.1 := by rw [List.getElem?_map, hi]; rfl
  have h2 : (R.map Prod.fst)[j]? = some r.1 := by rw [List.getElem?_map, hj, he]; rfl
  have hlt := (List.getElem?_eq_some_iff.mp h1).1
  have h3 := (List.getElem?_inj hlt hN).mp (h1.trans h2.symm)
  exact h3
theorem ct_arNum (hG : GOK G) (h : AMl M T c R L) (h6 : R.length ≤ 6) (hN : nmsNd R) {k i : Nat} {r : Rcd} (hi : R[i]? = some r) (hk0 : NM M k r.1) : Ct G yX2_numberOf cX2_numberOf 4 (some .int) (xrm 9 0 0) [.ref c, .ref k] M (Pr (.int (nI i)) M) := by
  obtain ⟨l, m, D, a1, a2, a3, a4, a5, a6⟩ := h
  obtain ⟨vl, hl⟩ := a2.rec
  obtain ⟨vm, hm⟩ := a3.rec
  have hiR := (List.getElem?_eq_some_iff.mp hi).1
  have hiL : i < L.length := by rw [a4]; exact hiR
  have hx : L[i]? = some L[i] := List.getElem?_eq_getElem hiL
  obtain ⟨b1, b2⟩ := a5 i _ r hx hi
  obtain ⟨na, sa, cv, rv, x1, x2, x3⟩ := b1.rec
  refine ct_open (lv := [_, _, _, _]) hG (by decide +kernel) (Nat.le_of_ble_eq_true rfl) rfl (fun C hC hk => ?_)
  refine x_aload_n hC dX2_numberOf_0 rfl rfl ?_
  refine x_get hC 1 a1 rfl (by decide) q204 rfl rfl dX2_numberOf_1 ?_
  refine x_aload_n hC dX2_numberOf_4 rfl rfl ?_
  refine x_callV0 (na := 1) hC (ct_hmGet hG a3 hk0) (lw_V q1031 q1032 q1033 q87 q1034) hm rfl rfl (by decide +kernel) rfl ⟨Nat.le_of_ble_eq_true rfl, Nat.le_of_ble_eq_true rfl⟩ rfl (Nat.le_of_ble_eq_true rfl) ⟨rfl, rfl⟩ ⟨Nat.le_of_ble_eq_true rfl, Nat.le_of_ble_eq_true rfl⟩ dX2_numberOf_5 ?_
  rintro _ M1 ⟨hM1, rfl⟩
  subst hM1
  rw [b2]
  refine x_castS hC x1 rfl rfl q1035 dX2_numberOf_8 ?_
  refine x_astore_n (lv' := [_, _, _, _]) hC dX2_numberOf_11 rfl (by decide) rfl ?_
  refine x_aload_n hC dX2_numberOf_12 rfl rfl ?_
  refine x_get hC 0 a1 rfl (by decide) q202 rfl rfl dX2_numberOf_13 ?_
  refine x_callV0 (na := 0) hC (ct_alSize hG a2) (lw_V q1036 q267 q268 q85 q269) hl rfl rfl (by decide +kernel) rfl ⟨Nat.le_of_ble_eq_true rfl, Nat.le_of_ble_eq_true rfl⟩ rfl (Nat.le_of_ble_eq_true rfl) ⟨rfl, rfl⟩ ⟨Nat.le_of_ble_eq_true rfl, Nat.le_of_ble_eq_true rfl⟩ dX2_numberOf_16 ?_
  rintro _ M ⟨rfl, rfl⟩
  refine x_iconst (v := nI 1) hC dX2_numberOf_19 (by decide) ?_
  refine x_isubN hC dX2_numberOf_20 (by omega) ?_
  refine x_istore_n (lv' := [_, _, _, _]) hC dX2_numberOf_21 rfl (by decide) rfl ?_
  suffices lp : ∀ d j, i + d = j → j < L.length → Wg G C M 0 0 22 [some (.ref c), some (.ref k), some (.ref L[i]), some (.int (nI j))] [] from lp (L.length - 1 - i) (L.length - 1) (by omega) (by omega)
  intro d
  induction d with
  | zero =>
    intro j hd hj
    have hd : j = i := by omega
    subst hd
    refine x_iload_n hC dX2_numberOf_22 rfl rfl ?_
    refine x_if_ltN (tgt := 44) hC (by omega) dX2_numberOf_23 (by decide) (fun e1 => ?_) (fun e1 => ?_)
    · exact absurd e1 (by omega)
    · refine x_aload_n hC dX2_numberOf_26 rfl rfl ?_
      refine x_get hC 0 a1 rfl (by decide) q202 rfl rfl dX2_numberOf_27 ?_
      refine x_iload_n hC dX2_numberOf_30 rfl rfl ?_
      refine x_callV0 (na := 1) hC (ct_alGet hG a2 hx) (lw_V q1037 q1038 q1039 q85 q1040) hl rfl rfl (by decide +kernel) rfl ⟨Nat.le_of_ble_eq_true rfl, Nat.le_of_ble_eq_true rfl⟩ rfl (Nat.le_of_ble_eq_true rfl) ⟨rfl, rfl⟩ ⟨Nat.le_of_ble_eq_true rfl, Nat.le_of_ble_eq_true rfl⟩ dX2_numberOf_31 ?_
      rintro _ M ⟨rfl, rfl⟩
      refine x_aload_n hC dX2_numberOf_34 rfl rfl ?_
      refine x_acmp_eqR (tgt := 44) hC dX2_numberOf_35 (by decide) (fun e2 => ?_) (fun e2 => ?_)
      · refine x_iload_n hC dX2_numberOf_44 rfl rfl ?_
        exact x_iret hC hk dX2_numberOf_45 (Nat.le_of_ble_eq_true rfl) (Nat.le_of_ble_eq_true rfl) ⟨rfl, rfl⟩
      · exact absurd rfl e2
  | succ d ih =>
    intro j hd hj
    have hjx : L[j]? = some L[j] := List.getElem?_eq_getElem hj
    have hjR : R[j]? = some R[j] := List.getElem?_eq_getElem (by rw [← a4]; exact hj)
    refine x_iload_n hC dX2_numberOf_22 rfl rfl ?_
    refine x_if_ltN (tgt := 44) hC (by omega) dX2_numberOf_23 (by decide) (fun e1 => ?_) (fun e1 => ?_)
    · exact absurd e1 (by omega)
    · refine x_aload_n hC dX2_numberOf_26 rfl rfl ?_
      refine x_get hC 0 a1 rfl (by decide) q202 rfl rfl dX2_numberOf_27 ?_
      refine x_iload_n hC dX2_numberOf_30 rfl rfl ?_
      refine x_callV0 (na := 1) hC (ct_alGet hG a2 hjx) (lw_V q1037 q1038 q1039 q85 q1040) hl rfl rfl (by decide +kernel) rfl ⟨Nat.le_of_ble_eq_true rfl, Nat.le_of_ble_eq_true rfl⟩ rfl (Nat.le_of_ble_eq_true rfl) ⟨rfl, rfl⟩ ⟨Nat.le_of_ble_eq_true rfl, Nat.le_of_ble_eq_true rfl⟩ dX2_numberOf_31 ?_
      rintro _ M ⟨rfl, rfl⟩
      refine x_aload_n hC dX2_numberOf_34 rfl rfl ?_
      refine x_acmp_eqR (tgt := 44) hC dX2_numberOf_35 (by decide) (fun e2 => ?_) (fun e2 => ?_)
      · exfalso
        obtain ⟨c1, -⟩ := a5 j _ _ hjx hjR
        obtain ⟨na', sa', cv', rv', y1, y2, y3⟩ := c1.rec
        rw [e2, x1] at y1
        have y4 := congrArg (fun z : Option X_E => z) y1
        simp only [Option.some.injEq, Prod.mk.injEq, Sum.inl.injEq, List.cons.injEq, Value.ref.injEq, true_and, and_true] at y4
        obtain ⟨rfl, -⟩ := y4
        have := nms_at hN hi hjR (x3.uni y3)
        omega
      · refine x_iincM (lv' := [_, _, _, _]) (b := 1) hC dX2_numberOf_38 rfl (by decide) (by decide) (by omega) rfl ?_
        refine x_goto (tgt := 22) hC dX2_numberOf_41 (by decide) ?_
        rw [show j - 1 = i + d by omega]
        exact ih (i + d) rfl (by omega)
theorem ct_arRepl (hG : GOK G) (h : AMl M T c R L) (h6 : R.length ≤ 6) (hN : nmsNd R) {i a : Nat} {r : Rcd} {u : List Int32} (hi : R[i]? = some r) (ha : M a = some (ia 0 u.length fun k => u.getD k 0)) (hu : u.length ≤ 64) (hr64 : rz r ≤ 64) : Ct G yX2_replace cX2_replace 5 (some .int) (xrm 10 3 24) [.ref c, .int (nI i), .ref a] M (fun z M' => z = some (.int (if rz r = u.length then iS (fun k => xB (rg r k ≠ u.getD k 0)) (rz r) else nI u.length)) ∧ (∃ x, AMl M' T c (R.set i (r.1, u)) (L.set i x)) ∧ Fr (PA c) M M') := by
  obtain ⟨l, m, D, a1, a2, a3, a4, a5, a6⟩ := h
  obtain ⟨vl, hl⟩ := a2.rec
  have hiR := (List.getElem?_eq_some_iff.mp hi).1
  have hiL : i < L.length := by rw [a4]; exact hiR
  have hx : L[i]? = some L[i] := List.getElem?_eq_getElem hiL
  obtain ⟨b1, b2⟩ := a5 i _ r hx hi
  obtain ⟨na, sa, cv, rv, x1, x2, x3⟩ := b1.rec
  refine ct_open (lv := [_, _, _, _, _]) hG (by decide +kernel) (Nat.le_of_ble_eq_true rfl) rfl (fun C hC hk => ?_)
  obtain ⟨M0, hM0⟩ : ∃ M0, M0 = M := ⟨M, rfl⟩
  rw [← hM0] at hk
  have hF : Fm M0 M := by rw [hM0]; exact Fr.rf
  subst hM0
  refine x_aload_n hC dX2_replace_0 rfl rfl ?_
  refine x_get hC 0 a1 rfl (by decide) q202 rfl rfl dX2_replace_1 ?_
  refine x_iload_n hC dX2_replace_4 rfl rfl ?_
  refine x_callV0 (na := 1) hC (ct_alGet hG a2 hx) (lw_V q1037 q1038 q1039 q85 q1040) hl rfl rfl (by decide +kernel) rfl ⟨Nat.le_of_ble_eq_true rfl, Nat.le_of_ble_eq_true rfl⟩ rfl (Nat.le_of_ble_eq_true rfl) ⟨rfl, rfl⟩ ⟨Nat.le_of_ble_eq_true rfl, Nat.le_of_ble_eq_true rfl⟩ dX2_replace_5 ?_
  rintro _ M ⟨rfl, rfl⟩
  refine x_castS hC x1 rfl rfl q1035 dX2_replace_8 ?_
  refine x_astore_n (lv' := [_, _, _, _, _]) hC dX2_replace_11 rfl (by decide) rfl ?_
  refine x_new (ci := 3) (T := TX7) (N := 4) hC 2 [.null, .null, .null, .null] rfl q1035 q1478 q115 tyX7 tyX7_ok (by decide) (by decide +kernel) (Nat.le_of_ble_eq_true rfl) (Nat.le_of_ble_eq_true rfl) dX2_replace_12 (fun y hy => ?_)
  refine x_dup hC dX2_replace_15 rfl ?_
  refine x_aload_n hC dX2_replace_16 rfl rfl ?_
  refine x_getN hC 0 (mu_f hy x1) rfl (by decide) q1484 rfl rfl dX2_replace_17 ?_
  refine x_aload_n hC dX2_replace_20 rfl rfl ?_
  refine x_callI (k := 1) (n := 4) (na := 2) hC (ct_rinit hG mu_s) q1481 q115 q2043 q1480 rfl (by decide +kernel) rfl ⟨Nat.le_of_ble_eq_true rfl, Nat.le_of_ble_eq_true rfl⟩ rfl (Nat.le_of_ble_eq_true rfl) (Nat.le_of_ble_eq_true rfl) (Nat.le_of_ble_eq_true rfl) ⟨Nat.le_of_ble_eq_true rfl, Nat.le_of_ble_eq_true rfl⟩ dX2_replace_21 ?_
  rintro _ M ⟨rfl, rfl⟩
  rw [mu_mu]
  have hF0 : Fr (fun _ => False) M (mu M y (ob 2 3 (reF na a .null .null))) := Fr.new hy
  have hys : (mu M y (ob 2 3 (reF na a .null .null))) y = some (ob 2 3 (reF na a .null .null)) := mu_s
  generalize hM1 : mu M y (ob 2 3 (reF na a .null .null)) = M1 at hF0 hys ⊢
  refine x_astore (lv' := [_, _, _, _, _]) hC dX2_replace_24 (by decide) rfl ?_
  refine x_aload_n hC dX2_replace_26 rfl rfl ?_
  refine x_get hC 0 (hF0.z id a1) rfl (by decide) q202 rfl rfl dX2_replace_27 ?_
  refine x_iload_n hC dX2_replace_30 rfl rfl ?_
  refine x_aload hC dX2_replace_31 rfl ?_
  refine x_callV (k := 1) (n := 4) (na := 2) hC (ct_alSet hG (Nat.succ_ne_zero _) (a2.fr hF0 id) hx hys) (lw_V q2063 q2064 q2065 q85 q2066) (hF0.z id hl) rfl rfl (by decide +kernel) rfl ⟨Nat.le_of_ble_eq_true rfl, Nat.le_of_ble_eq_true rfl⟩ rfl (Nat.le_of_ble_eq_true rfl) (Nat.le_refl _) (Nat.le_refl _) ⟨Nat.le_of_ble_eq_true rfl, Nat.le_of_ble_eq_true rfl⟩ dX2_replace_33 ?_
  rintro _ M2 ⟨rfl, hA2, hF2⟩
  have hF02 : Fr (fun g => g = tA c + 1) M M2 := (hF0.wk (fun _ z => z.elim)).tr hF2
  have hys2 : M2 y = some (ob 2 3 (reF na a .null .null)) := hF2.z (tA_m (by decide)).2.1 hys
  have a3' := a3.fr hF02 tA_d.2.2.2 (tA_m (by decide)).2.1
  obtain ⟨vm, hm⟩ := a3'.rec
  refine x_pop hC dX2_replace_36 rfl ?_
  refine x_aload_n hC dX2_replace_37 rfl rfl ?_
  refine x_get hC 1 (hF02.z tA_d.1.1 a1) rfl (by decide) q204 rfl rfl dX2_replace_38 ?_
  refine x_aload hC dX2_replace_41 rfl ?_
  refine x_getN hC 0 hys2 rfl (by decide) q1484 rfl rfl dX2_replace_43 ?_
  refine x_aload hC dX2_replace_46 rfl ?_
  refine x_callV (k := 3) (n := 24) (na := 2) hC (ct_hmPut (v := y) hG (Nat.succ_ne_zero _) a3' h6 (x3.fr hF02 (tA_m (by decide)).2.1)) (lw_V q1158 q1159 q1160 q87 q1161) hm rfl rfl (by decide +kernel) rfl ⟨Nat.le_of_ble_eq_true rfl, Nat.le_of_ble_eq_true rfl⟩ rfl (Nat.le_of_ble_eq_true rfl) (Nat.le_of_ble_eq_true rfl) (Nat.le_of_ble_eq_true rfl) ⟨Nat.le_of_ble_eq_true rfl, Nat.le_of_ble_eq_true rfl⟩ dX2_replace_48 ?_
  rintro _ M3 ⟨rfl, hH, hF3⟩
  rw [b2]
  rw [b2, if_neg (fun z => by cases z)] at hH
  have hFP : Fr (PA c) M M3 := (wkE hF02 PA_1).tr (wkE hF3 PA_2)
  have x1' := hFP.z PA_n2 x1
  have x2' := hFP.z PA_n0 x2
  have ha' := hFP.z PA_n0 ha
  have hys3 : M3 y = some (ob 2 3 (reF na a .null .null)) := hF3.z (tA_m (by decide)).2.2 hys2
  have hyr : RA M3 y (r.1, u) := ⟨na, a, false, false, x3.fr hFP PA_n0, .null, ⟨.null, hys3, ha', (fun _ => rfl), (fun z => by cases z)⟩, (fun _ => rfl), (fun z => by cases z)⟩
  have hres : AMl M3 T c (R.set i (r.1, u)) (L.set i y) := by
    refine ⟨l, m, hUpd D r.1 (some y), hF3.z tA_d.1.2.1 (hF02.z tA_d.1.1 a1), hA2.fr hF3 tA_d.1.2.2, by rw [List.length_set]; exact hH, by rw [List.length_set, List.length_set]; exact a4, fun j x s h1 h3 => ?_, fun w hw => ?_⟩
    · by_cases ej : j = i
      · subst ej
        rw [List.getElem?_set_self hiL] at h1
        rw [List.getElem?_set_self hiR] at h3
        cases h1
        cases h3
        exact ⟨hyr, by unfold hUpd; rw [if_pos rfl]⟩
      · rw [List.getElem?_set_ne (Ne.symm ej)] at h1 h3
        obtain ⟨d1, d2⟩ := a5 j x s h1 h3
        refine ⟨d1.fr hFP PA_n0 PA_n2, ?_⟩
        unfold hUpd
        rw [if_neg (fun e => ej (nms_at hN h3 hi e))]
        exact d2
    · unfold hUpd
      rw [if_neg (fun e => hw (by rw [e]; exact List.mem_map.mpr ⟨(r.1, u), List.mem_set hiR _, rfl⟩))]
      refine a6 w (fun z => hw ?_)
      obtain ⟨s, hs, rfl⟩ := List.mem_map.mp z
      obtain ⟨j, hj⟩ := List.getElem?_of_mem hs
      by_cases ej : j = i
      · subst ej
        rw [hi] at hj
        cases hj
        exact List.mem_map.mpr ⟨(r.1, u), List.mem_set hiR _, rfl⟩
      · refine List.mem_map.mpr ⟨s, List.mem_of_getElem? (i := j) ?_, rfl⟩
        rw [List.getElem?_set_ne (Ne.symm ej)]
        exact hj
  refine x_pop hC dX2_replace_51 rfl ?_
  refine x_aload_n hC dX2_replace_52 rfl rfl ?_
  refine x_callV0 (na := 0) hC (ct_rlen hG x1' x2') (lw_V q2106 q1559 q1560 q115 q1561) x1' rfl rfl (by decide +kernel) rfl ⟨Nat.le_of_ble_eq_true rfl, Nat.le_of_ble_eq_true rfl⟩ rfl (Nat.le_of_ble_eq_true rfl) ⟨rfl, rfl⟩ ⟨Nat.le_of_ble_eq_true rfl, Nat.le_of_ble_eq_true rfl⟩ dX2_replace_53 ?_
  rintro _ M ⟨rfl, rfl⟩
  refine x_aload_n hC dX2_replace_56 rfl rfl ?_
  refine x_alen hC ha' dX2_replace_57 ?_
  dsimp only
  refine x_icmp_neN (tgt := 69) hC (by omega) (by omega) dX2_replace_58 (by decide) (fun e1 => ?_) (fun e1 => ?_)
  · refine x_aload_n hC dX2_replace_69 rfl rfl ?_
    refine x_alen hC ha' dX2_replace_70 ?_
    dsimp only
    exact x_iret hC hk dX2_replace_71 (Nat.le_of_ble_eq_true rfl) (Nat.le_of_ble_eq_true rfl) ⟨by rw [if_neg e1], ⟨y, hres⟩, hFP⟩
  · have he : rz r = u.length := by omega
    have ha2 : M a = some (ia 0 (rz r) fun k => u.getD k 0) := by rw [he]; exact ha'
    refine x_aload_n hC dX2_replace_61 rfl rfl ?_
    refine x_aload_n hC dX2_replace_62 rfl rfl ?_
    refine x_callV0 (na := 1) hC (ct_rdiff hG x1' x2' ha2 hr64) (lw_V q2107 q1647 q1648 q115 q1649) x1' rfl rfl (by decide +kernel) rfl ⟨Nat.le_of_ble_eq_true rfl, Nat.le_of_ble_eq_true rfl⟩ rfl (Nat.le_of_ble_eq_true rfl) ⟨rfl, rfl⟩ ⟨Nat.le_of_ble_eq_true rfl, Nat.le_of_ble_eq_true rfl⟩ dX2_replace_63 ?_
    rintro _ M ⟨rfl, rfl⟩
    refine x_goto (tgt := 71) hC dX2_replace_66 (by decide) ?_
    exact x_iret hC hk dX2_replace_71 (Nat.le_of_ble_eq_true rfl) (Nat.le_of_ble_eq_true rfl) ⟨by rw [if_pos (by omega)], ⟨y, hres⟩, hFP⟩
theorem ct_arRename (hG : GOK G) (h : AMl M T c R L) (h6 : R.length ≤ 6) (hN : nmsNd R) {i k : Nat} {r : Rcd} {w : List Nat} (hi : R[i]? = some r) (hk0 : NM M k w) (hw : w ∉ R.map Prod.fst) : Ct G yX2_rename cX2_rename 5 none (xrm 10 3 24) [.ref c, .int (nI i), .ref k] M (fun z M' => z = none ∧ (∃ x, AMl M' T c (R.set i (w, r.2)) (L.set i x)) ∧ Fr (PA c) M M') := by
  obtain ⟨l, m, D, a1, a2, a3, a4, a5, a6⟩ := h
  obtain ⟨vl, hl⟩ := a2.rec
  obtain ⟨vm, hm⟩ := a3.rec
  have hiR := (List.getElem?_eq_some_iff.mp hi).1
  have hiL : i < L.length := by rw [a4]; exact hiR
  have hx : L[i]? = some L[i] := List.getElem?_eq_getElem hiL
  obtain ⟨b1, b2⟩ := a5 i _ r hx hi
  obtain ⟨na, sa, cv, rv, x1, x2, x3⟩ := b1.rec
  have hrw : ¬ w = r.1 := fun e => hw (by rw [e]; exact List.mem_map_of_mem (List.mem_of_getElem? hi))
  refine ct_open (lv := [_, _, _, _, _]) hG (by decide +kernel) (Nat.le_of_ble_eq_true rfl) rfl (fun C hC hk => ?_)
  obtain ⟨M0, hM0⟩ : ∃ M0, M0 = M := ⟨M, rfl⟩
  rw [← hM0] at hk
  have hF : Fm M0 M := by rw [hM0]; exact Fr.rf
  subst hM0
  refine x_aload_n hC dX2_rename_0 rfl rfl ?_
  refine x_get hC 0 a1 rfl (by decide) q202 rfl rfl dX2_rename_1 ?_
  refine x_iload_n hC dX2_rename_4 rfl rfl ?_
  refine x_callV0 (na := 1) hC (ct_alGet hG a2 hx) (lw_V q1037 q1038 q1039 q85 q1040) hl rfl rfl (by decide +kernel) rfl ⟨Nat.le_of_ble_eq_true rfl, Nat.le_of_ble_eq_true rfl⟩ rfl (Nat.le_of_ble_eq_true rfl) ⟨rfl, rfl⟩ ⟨Nat.le_of_ble_eq_true rfl, Nat.le_of_ble_eq_true rfl⟩ dX2_rename_5 ?_
  rintro _ M ⟨rfl, rfl⟩
  refine x_castS hC x1 rfl rfl q1035 dX2_rename_8 ?_
  refine x_astore_n (lv' := [_, _, _, _, _]) hC dX2_rename_11 rfl (by decide) rfl ?_
  refine x_new (ci := 3) (T := TX7) (N := 4) hC 2 [.null, .null, .null, .null] rfl q1035 q1478 q115 tyX7 tyX7_ok (by decide) (by decide +kernel) (Nat.le_of_ble_eq_true rfl) (Nat.le_of_ble_eq_true rfl) dX2_rename_12 (fun y hy => ?_)
  refine x_dup hC dX2_rename_15 rfl ?_
  refine x_aload_n hC dX2_rename_16 rfl rfl ?_
  refine x_aload_n hC dX2_rename_17 rfl rfl ?_
  refine x_getN hC 1 (mu_f hy x1) rfl (by decide) q1487 rfl rfl dX2_rename_18 ?_
  refine x_callI (k := 1) (n := 4) (na := 2) hC (ct_rinit hG mu_s) q1481 q115 q2043 q1480 rfl (by decide +kernel) rfl ⟨Nat.le_of_ble_eq_true rfl, Nat.le_of_ble_eq_true rfl⟩ rfl (Nat.le_of_ble_eq_true rfl) (Nat.le_of_ble_eq_true rfl) (Nat.le_of_ble_eq_true rfl) ⟨Nat.le_of_ble_eq_true rfl, Nat.le_of_ble_eq_true rfl⟩ dX2_rename_21 ?_
  rintro _ M ⟨rfl, rfl⟩
  rw [mu_mu]
  have hF0 : Fr (fun _ => False) M (mu M y (ob 2 3 (reF k sa .null .null))) := Fr.new hy
  have hys : (mu M y (ob 2 3 (reF k sa .null .null))) y = some (ob 2 3 (reF k sa .null .null)) := mu_s
  generalize hM1 : mu M y (ob 2 3 (reF k sa .null .null)) = M1 at hF0 hys ⊢
  refine x_astore (lv' := [_, _, _, _, _]) hC dX2_rename_24 (by decide) rfl ?_
  refine x_aload_n hC dX2_rename_26 rfl rfl ?_
  refine x_get hC 1 (hF0.z id a1) rfl (by decide) q204 rfl rfl dX2_rename_27 ?_
  refine x_aload_n hC dX2_rename_30 rfl rfl ?_
  refine x_getN hC 0 (hF0.z id x1) rfl (by decide) q1484 rfl rfl dX2_rename_31 ?_
  refine x_callV0 (na := 1) hC (ct_hmRemove hG (Nat.succ_ne_zero _) (a3.fr hF0 id id) h6 (x3.fr hF0 id) b2) (lw_V q2044 q2045 q2046 q87 q2047) (hF0.z id hm) rfl rfl (by decide +kernel) rfl ⟨Nat.le_of_ble_eq_true rfl, Nat.le_of_ble_eq_true rfl⟩ rfl (Nat.le_of_ble_eq_true rfl) ⟨rfl, rfl⟩ ⟨Nat.le_of_ble_eq_true rfl, Nat.le_of_ble_eq_true rfl⟩ dX2_rename_34 ?_
  rintro _ M2 ⟨rfl, hH2, hF2⟩
  have hF02 : Fr (fun g => g = tA c + 2) M M2 := (hF0.wk (fun _ z => z.elim)).tr hF2
  have hys2 : M2 y = some (ob 2 3 (reF k sa .null .null)) := hF2.z (tA_m (by decide)).2.2 hys
  refine x_pop hC dX2_rename_37 rfl ?_
  refine x_aload_n hC dX2_rename_38 rfl rfl ?_
  refine x_get hC 0 (hF02.z tA_d.1.2.1 a1) rfl (by decide) q202 rfl rfl dX2_rename_39 ?_
  refine x_iload_n hC dX2_rename_42 rfl rfl ?_
  refine x_aload hC dX2_rename_43 rfl ?_
  refine x_callV (k := 1) (n := 4) (na := 2) hC (ct_alSet hG (Nat.succ_ne_zero _) (a2.fr hF02 tA_d.1.2.2) hx hys2) (lw_V q2063 q2064 q2065 q85 q2066) (hF02.z tA_d.1.2.2 hl) rfl rfl (by decide +kernel) rfl ⟨Nat.le_of_ble_eq_true rfl, Nat.le_of_ble_eq_true rfl⟩ rfl (Nat.le_of_ble_eq_true rfl) (Nat.le_refl _) (Nat.le_refl _) ⟨Nat.le_of_ble_eq_true rfl, Nat.le_of_ble_eq_true rfl⟩ dX2_rename_45 ?_
  rintro _ M3 ⟨rfl, hA3, hF3⟩
  have hFa : Fr (PA c) M M3 := (wkE hF02 PA_2).tr (wkE hF3 PA_1)
  have hys3 : M3 y = some (ob 2 3 (reF k sa .null .null)) := hF3.z (tA_m (by decide)).2.1 hys2
  have hH3 := hH2.fr hF3 tA_d.2.2.2 (tA_m (by decide)).2.1
  obtain ⟨vm3, hm3⟩ := hH3.rec
  refine x_pop hC dX2_rename_48 rfl ?_
  refine x_aload_n hC dX2_rename_49 rfl rfl ?_
  refine x_get hC 1 (hF3.z tA_d.1.1 (hF02.z tA_d.1.2.1 a1)) rfl (by decide) q204 rfl rfl dX2_rename_50 ?_
  refine x_aload_n hC dX2_rename_53 rfl rfl ?_
  refine x_aload hC dX2_rename_54 rfl ?_
  refine x_callV (k := 3) (n := 24) (na := 2) hC (ct_hmPut (v := y) hG (Nat.succ_ne_zero _) hH3 (by omega) (hk0.fr hFa PA_n0)) (lw_V q1158 q1159 q1160 q87 q1161) hm3 rfl rfl (by decide +kernel) rfl ⟨Nat.le_of_ble_eq_true rfl, Nat.le_of_ble_eq_true rfl⟩ rfl (Nat.le_of_ble_eq_true rfl) (Nat.le_of_ble_eq_true rfl) (Nat.le_of_ble_eq_true rfl) ⟨Nat.le_of_ble_eq_true rfl, Nat.le_of_ble_eq_true rfl⟩ dX2_rename_56 ?_
  rintro _ M4 ⟨rfl, hH4, hF4⟩
  have hDw : hUpd D r.1 none w = none := by unfold hUpd; rw [if_neg hrw]; exact a6 w hw
  rw [hDw]
  rw [hDw, if_pos rfl, show R.length - 1 + 1 = R.length by omega] at hH4
  have hFP : Fr (PA c) M M4 := hFa.tr (wkE hF4 PA_2)
  have x2' := hFP.z PA_n0 x2
  have hys4 : M4 y = some (ob 2 3 (reF k sa .null .null)) := hF4.z (tA_m (by decide)).2.2 hys3
  have hyr : RA M4 y (w, r.2) := ⟨k, sa, false, false, hk0.fr hFP PA_n0, .null, ⟨.null, hys4, x2', (fun _ => rfl), (fun z => by cases z)⟩, (fun _ => rfl), (fun z => by cases z)⟩
  have hres : AMl M4 T c (R.set i (w, r.2)) (L.set i y) := by
    refine ⟨l, m, hUpd (hUpd D r.1 none) w (some y), hF4.z tA_d.1.2.1 (hF3.z tA_d.1.1 (hF02.z tA_d.1.2.1 a1)), hA3.fr hF4 tA_d.1.2.2, by rw [List.length_set]; exact hH4, by rw [List.length_set, List.length_set]; exact a4, fun j x s h1 h3 => ?_, fun w' hw' => ?_⟩
    · by_cases ej : j = i
      · subst ej
        rw [List.getElem?_set_self hiL] at h1
        rw [List.getElem?_set_self hiR] at h3
        cases h1
        cases h3
        exact ⟨hyr, by unfold hUpd; rw [if_pos rfl]⟩
      · rw [List.getElem?_set_ne (Ne.symm ej)] at h1 h3
        obtain ⟨d1, d2⟩ := a5 j x s h1 h3
        refine ⟨d1.fr hFP PA_n0 PA_n2, ?_⟩
        unfold hUpd
        rw [if_neg (fun e => hw (by rw [← e]; exact List.mem_map_of_mem (List.mem_of_getElem? h3))), if_neg (fun e => ej (nms_at hN h3 hi e))]
        exact d2
    · unfold hUpd
      rw [if_neg (fun e => hw' (by rw [e]; exact List.mem_map.mpr ⟨(w, r.2), List.mem_set hiR _, rfl⟩))]
      by_cases e2 : w' = r.1
      · rw [if_pos e2]
      · rw [if_neg e2]
        refine a6 w' (fun z => hw' ?_)
        obtain ⟨s, hs, rfl⟩ := List.mem_map.mp z
        obtain ⟨j, hj⟩ := List.getElem?_of_mem hs
        by_cases ej : j = i
        · subst ej
          rw [hi] at hj
          cases hj
          exact absurd rfl e2
        · refine List.mem_map.mpr ⟨s, List.mem_of_getElem? (i := j) ?_, rfl⟩
          rw [List.getElem?_set_ne (Ne.symm ej)]
          exact hj
  refine x_pop hC dX2_rename_59 rfl ?_
  exact x_vret hC hk dX2_rename_60 (Nat.le_of_ble_eq_true rfl) (Nat.le_of_ble_eq_true rfl) ⟨rfl, ⟨y, hres⟩, hFP⟩
theorem ct_arRemove (hG : GOK G) (h : AMl M T c R L) (h6 : R.length ≤ 6) (hN : nmsNd R) {i : Nat} {r : Rcd} (hi : R[i]? = some r) : Ct G yX2_remove cX2_remove 2 none (xrm 10 0 0) [.ref c, .int (nI i)] M (fun z M' => z = none ∧ AMl M' T c (R.eraseIdx i) (L.eraseIdx i) ∧ Fr (PA c) M M') := by
  have hO := h.lob
  obtain ⟨l, m, D, a1, a2, a3, a4, a5, a6⟩ := h
  obtain ⟨vl, hl⟩ := a2.rec
  obtain ⟨vm, hm⟩ := a3.rec
  have hiR := (List.getElem?_eq_some_iff.mp hi).1
  have hiL : i < L.length := by rw [a4]; exact hiR
  have hx : L[i]? = some L[i] := List.getElem?_eq_getElem hiL
  obtain ⟨b1, b2⟩ := a5 i _ r hx hi
  obtain ⟨na, sa, cv, rv, x1, x2, x3⟩ := b1.rec
  refine ct_open (lv := [_, _]) hG (by decide +kernel) (Nat.le_of_ble_eq_true rfl) rfl (fun C hC hk => ?_)
  obtain ⟨M0, hM0⟩ : ∃ M0, M0 = M := ⟨M, rfl⟩
  rw [← hM0] at hk
  have hF : Fm M0 M := by rw [hM0]; exact Fr.rf
  subst hM0
  refine x_aload_n hC dX2_remove_0 rfl rfl ?_
  refine x_get hC 1 a1 rfl (by decide) q204 rfl rfl dX2_remove_1 ?_
  refine x_aload_n hC dX2_remove_4 rfl rfl ?_
  refine x_get hC 0 a1 rfl (by decide) q202 rfl rfl dX2_remove_5 ?_
  refine x_iload_n hC dX2_remove_8 rfl rfl ?_
  refine x_callV0 (na := 1) hC (ct_alRemove hG (Nat.succ_ne_zero _) a2 hx hO) (lw_V q2078 q2079 q2080 q85 q2081) hl rfl rfl (by decide +kernel) rfl ⟨Nat.le_of_ble_eq_true rfl, Nat.le_of_ble_eq_true rfl⟩ rfl (Nat.le_of_ble_eq_true rfl) ⟨rfl, rfl⟩ ⟨Nat.le_of_ble_eq_true rfl, Nat.le_of_ble_eq_true rfl⟩ dX2_remove_9 ?_
  rintro _ M1 ⟨rfl, hA1, hF1⟩
  have x1' := hF1.z (tA_m (by decide)).2.1 x1
  have hm1 := hF1.z tA_d.2.2.2 hm
  refine x_castS hC x1' rfl rfl q1035 dX2_remove_12 ?_
  refine x_getN hC 0 x1' rfl (by decide) q1484 rfl rfl dX2_remove_15 ?_
  refine x_callV0 (na := 1) hC (ct_hmRemove hG (Nat.succ_ne_zero _) (a3.fr hF1 tA_d.2.2.2 (tA_m (by decide)).2.1) h6 (x3.fr hF1 (tA_m (by decide)).2.1) b2) (lw_V q2044 q2045 q2046 q87 q2047) hm1 rfl rfl (by decide +kernel) rfl ⟨Nat.le_of_ble_eq_true rfl, Nat.le_of_ble_eq_true rfl⟩ rfl (Nat.le_of_ble_eq_true rfl) ⟨rfl, rfl⟩ ⟨Nat.le_of_ble_eq_true rfl, Nat.le_of_ble_eq_true rfl⟩ dX2_remove_18 ?_
  rintro _ M2 ⟨rfl, hH, hF2⟩
  have hFP : Fr (PA c) M0 M2 := (wkE hF1 PA_1).tr (wkE hF2 PA_2)
  have hle : (R.eraseIdx i).length = R.length - 1 := by rw [List.length_eraseIdx, if_pos hiR]
  refine x_pop hC dX2_remove_21 rfl ?_
  refine x_vret hC hk dX2_remove_22 (Nat.le_of_ble_eq_true rfl) (Nat.le_of_ble_eq_true rfl) ⟨rfl, ⟨l, m, hUpd D r.1 none, hF2.z tA_d.1.2.1 (hF1.z tA_d.1.1 a1), hA1.fr hF2 tA_d.1.2.2, by rw [hle]; exact hH, by rw [hle, List.length_eraseIdx, if_pos hiL, a4], fun j x s h1 h3 => ?_, fun w' hw' => ?_⟩, hFP⟩
  · rw [List.getElem?_eraseIdx] at h1 h3
    have main : ∀ j', j' ≠ i → L[j']? = some x → R[j']? = some s → RA M2 x s ∧ hUpd D r.1 none s.1 = some x := by
      intro j' ej h1 h3
      obtain ⟨d1, d2⟩ := a5 j' x s h1 h3
      refine ⟨d1.fr hFP PA_n0 PA_n2, ?_⟩
      unfold hUpd
      rw [if_neg (fun e => ej (nms_at hN h3 hi e))]
      exact d2
    by_cases ej : j < i
    · rw [if_pos ej] at h1 h3
      exact main j (by omega) h1 h3
    · rw [if_neg ej] at h1 h3
      exact main (j + 1) (by omega) h1 h3
  · unfold hUpd
    by_cases e2 : w' = r.1
    · rw [if_pos e2]
    · rw [if_neg e2]
      refine a6 w' (fun z => hw' ?_)
      obtain ⟨s, hs, rfl⟩ := List.mem_map.mp z
      obtain ⟨j, hj⟩ := List.getElem?_of_mem hs
      by_cases ej : j = i
      · subst ej
        rw [hi] at hj
        cases hj
        exact absurd rfl e2
      · refine List.mem_map.mpr ⟨s, List.mem_of_getElem? (i := if j < i then j else j - 1) ?_, rfl⟩
        rw [List.getElem?_eraseIdx]
        by_cases e3 : j < i
        · rw [if_pos e3, if_pos e3]
          exact hj
        · rw [if_neg e3, if_neg (by omega), show j - 1 + 1 = j by omega]
          exact hj
end AR2

