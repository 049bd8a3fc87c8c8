/-! ===== the reference's edits: what they share; peaks ===== -/
theorem up_cm {A : Nat → Nat → Int32} {i j : Nat} {f g : Nat → Int32} (h : i ≠ j) : va_up (va_up A i f) j g = va_up (va_up A j g) i f := by
  funext q
  unfold va_up
  by_cases h1 : q = j
  · rw [if_pos h1, if_neg (by omega), if_pos h1]
  · rw [if_neg h1]
    by_cases h2 : q = i
    · rw [if_pos h2, if_pos h2]
    · rw [if_neg h2, if_neg h2, if_neg h1]
/-- a recording by its samples -/
abbrev mkR (nm : List Nat) (n : Nat) (g : Nat → Int32) : Rcd := (nm, (List.range n).map g)
theorem mkR_z {nm : List Nat} {n : Nat} {g : Nat → Int32} : rz (mkR nm n g) = n := by simp [rz, mkR]
theorem mkR_g {nm : List Nat} {n k : Nat} {g : Nat → Int32} (h : k < n) : rg (mkR nm n g) k = g k := by simp [rg, mkR, List.getD_eq_getElem?_getD, h]
abbrev lim (x : Int32) : Prop := (-9999 : Int32) ≤ x ∧ x ≤ 9999
theorem clip_lim (x : Int32) : lim (clip x) := by
  unfold lim clip imax imin
  split <;> split <;> simp only [Int32.le_iff_toInt_le, Int32.lt_iff_toInt_lt, show (-9999 : Int32).toInt = -9999 by decide, show (9999 : Int32).toInt = 9999 by decide] at * <;> omega
theorem Rw.lim {R : List Rcd} {f : Nat → Int32} {c k : Nat} {r : Rcd} (h : Rw R f c r) (hk : k < rz r) : lim (rg r k) := by
  have e : rg r k = r.2[k] := by simp [rg, List.getD_eq_getElem?_getD, hk]
  rw [e]
  exact h.2.2.2.2.2.2 _ (List.getElem_mem hk)
theorem rep_set {R : List Rcd} {f f' : Nat → Int32} {c : Nat} {r' : Rcd} (hR : RepR R f) (hW : WfR R) (h1 : RepRow r' f' c) (h2 : ∀ q, ¬ (1 + 72 * c ≤ q ∧ q < 1 + 72 * c + 72) → f' q = f q) : RepR (R.set c r') f' := by
  refine ⟨by rw [List.length_set, h2 0 (by omega)]; exact hR.1, fun d r hd => ?_⟩
  rw [List.getElem?_set] at hd
  split at hd
  next e =>
    subst e
    split at hd
    · cases hd; exact h1
    · cases hd
  next e =>
    have hw := hW.2.1 r (List.mem_of_getElem? hd)
    exact (hR.2 d r hd).cong hw.1.2 hw.len.1 (fun q q1 q2 => h2 q (by omega))
theorem map_set {R : List Rcd} {c : Nat} {r' : Rcd} (hn : r'.1 = (rd R c).1) : (R.set c r').map Prod.fst = R.map Prod.fst := by
  apply List.ext_getElem?
  intro d
  rw [List.getElem?_map, List.getElem?_set, List.getElem?_map]
  split
  next e =>
    subst e
    split
    next h =>
      rw [List.getElem?_eq_getElem h, Option.map_some, Option.map_some, hn]
      simp [rd, List.getD_eq_getElem?_getD, h]
    next h => rw [List.getElem?_eq_none (by omega)]
  next => rfl
theorem wf_set {R : List Rcd} {c : Nat} {r' : Rcd} (hW : WfR R) (h1 : WfRow r') (hn : r'.1 = (rd R c).1) : WfR (R.set c r') := by
  refine ⟨by rw [List.length_set]; exact hW.1, fun r hr => ?_, by rw [map_set hn]; exact hW.2.2⟩
  rcases List.mem_or_eq_of_mem_set hr with h | h
  · exact hW.2.1 r h
  · rw [h]; exact h1
theorem wf_mk {r : Rcd} (h : WfRow r) {n : Nat} {g : Nat → Int32} (hn : ∃ j, 1 ≤ j ∧ j ≤ 6 ∧ n = 2 ^ j) (hg : ∀ k, k < n → lim (g k)) : WfRow (mkR r.1 n g) := by
  refine ⟨h.1, h.2.1, by simpa using hn, fun x hx => ?_⟩
  obtain ⟨k, k1, rfl⟩ := List.mem_map.mp hx
  exact hg k (List.mem_range.mp k1)
/-- how many samples change -/
abbrev chgd (r : Rcd) (g : Nat → Int32) : Int32 := iS (fun k => xB (rg r k ≠ g k)) (rz r)
/-- the state where the recording has other samples -/
abbrev setS (S : X_S) (c : Nat) (r' : Rcd) : X_S := ((sR S).set c r', S.2)
/-- an edit of samples: the code and value, the state before is remembered -/
abbrev edit (S : X_S) (x : Int32) (r : Rcd) (g : Nat → Int32) : Int32 × Int32 × X_S := (0, chgd r g, setS (pushS S) x.toNatClampNeg (mkR r.1 (rz r) g))
section M19
variable {G : X_G} {M : X_M} {m : Nat} {P : Nat → Nat} {V : Nat → Int32} {A : Nat → Nat → Int32} {S : X_S} {R : List Rcd} {i k j : Nat} {r s : Rcd}
/-- what an edit by made samples leaves -/
def PEd (M : X_M) (m : Nat) (P : Nat → Nat) (V : Nat → Int32) (S : X_S) (c : Nat) (r : Rcd) (g : Nat → Int32) : Option Value → X_M → Prop := fun r0 M' => r0 = some (.int (chgd r g)) ∧ ∃ A', Mdl M' m P V A' ∧ Fm M M' ∧ MRep (setS S c (mkR r.1 (rz r) g)) V A'
theorem ct_replaceR (hG : GOK G) (hm : Mdl M m P V A) (hS : MRep S V A) (hw : Rw (sR S) (A 0) i r) {g : Nat → Int32} (hg : ∀ k, k < rz r → A 9 k = g k ∧ lim (g k)) : Ct G yX3_replace cX3_replace 4 (some .int) (xrm 3 0 0) [.ref m, .int (nI i)] M (PEd M m P V S i r g) := by
  refine (ct_replace hG hm hw.c6 hw.hn hw.n6).mono fun r0 M' h => ⟨?_, _, h.2.1, h.2.2, ?_⟩
  · rw [h.1]
    exact congrArg (fun z => some (Value.int z)) (iS_cong fun k hk => by rw [hw.hg k hk, (hg k hk).1])
  · have h6 := hw.n6
    have hl := hw.2.2.2.1
    obtain ⟨p1, p2, p3, p4⟩ := hw.2.2.1
    refine hS.setR (rep_set hS.1.1 hS.1.2 ⟨?_, ?_, ?_, ?_⟩ (fun q hq => pot_out (by omega))) (wf_set hS.1.2 (wf_mk hw.2.2.2 hw.2.2.2.2.2.1 (fun k hk => (hg k hk).2)) (congrArg Prod.fst hw.rd).symm)
    · rw [pot_out (by omega)]; exact p1
    · intro j hj
      have hj : j < r.1.length := hj
      rw [pot_out (by omega)]
      exact p2 j hj
    · rw [pot_out (by omega)]
      simpa using p3
    · intro k hk
      have hk : k < rz r := by simpa using hk
      rw [pot_in hk, (hg k hk).1]
      exact (mkR_g (nm := r.1) hk).symm
theorem syS_cong {co co' : Nat → Int32} {n k : Nat} (h : ∀ i, i < n → co i = co' i) : syS co n k = syS co' n k := by
  unfold syS
  rw [iS_cong fun i hi => by rw [h i hi]]
/-- what makeOfPeaks leaves -/
def PMk (M : X_M) (m : Nat) (P : Nat → Nat) (V : Nat → Int32) (A : Nat → Nat → Int32) (n : Nat) (g : Nat → Int32) : Option Value → X_M → Prop := fun r0 M' => r0 = none ∧ ∃ g6 g8 g9, Mdl M' m P V (va_up (va_up (va_up A 6 g6) 8 g8) 9 g9) ∧ Fm M M' ∧ ∀ k, k < n → g9 k = g k
theorem ct_makeOfPeaks (hG : GOK G) (hm : Mdl M m P V A) (hw : Rw R (A 0) i r) {c : Nat} (hc : c ≤ rz r) : Ct G yX3_makeOfPeaks cX3_makeOfPeaks 4 none (xrm 6 0 0) [.ref m, .int (nI i), .int (nI c)] M (PMk M m P V A (rz r) (syS (coP r c) (rz r))) := by
  refine ct_open (lv := [_, _, _, _]) hG (by decide +kernel) (Nat.le_of_ble_eq_true rfl) rfl (fun C hC hk => ?_)
  have hF : Fm M M := Fr.rf
  have h6 := hw.n6
  have h2 := hw.n2
  refine x_aload_n hC dX3_makeOfPeaks_0 rfl rfl ?_
  refine x_iload_n hC dX3_makeOfPeaks_1 rfl rfl ?_
  refine x_callV0 (na := 1) hC (ct_peaksR hG hm hw) (lw_V q2647 q2649 qs59 q89 q2650) hm.1 rfl rfl (by decide +kernel) rfl ⟨Nat.le_of_ble_eq_true rfl, Nat.le_of_ble_eq_true rfl⟩ rfl (Nat.le_of_ble_eq_true rfl) ⟨rfl, rfl⟩ ⟨Nat.le_of_ble_eq_true rfl, Nat.le_of_ble_eq_true rfl⟩ dX3_makeOfPeaks_2 ?_
  rintro _ M ⟨rfl, hm, hF1⟩
  have hF := hF.tr hF1
  refine x_iload_n hC dX3_makeOfPeaks_5 rfl rfl ?_
  refine x_istore_n (lv' := [_, _, _, _]) hC dX3_makeOfPeaks_6 rfl (by decide) rfl ?_
  suffices lp : ∀ d k, k + d = rz r → c ≤ k → ∀ M1 g6, (∀ l, l < rz r → g6 l = if (∃ q, q < k ∧ c ≤ q ∧ pkN r q = l) then 0 else cfN (rg r) (rz r) l) → Mdl M1 m P V (va_up (va_up A 6 g6) 8 (fil (A 8) (fun j => nI (pkN r j)) 0 (rz r))) → Fm _ M1 → Wg G C M1 0 0 7 [some (.ref m), some (.int (nI i)), some (.int (nI c)), some (.int (nI k))] [] by
    refine lp (rz r - c) c (by omega) (Nat.le_refl c) M _ (fun l hl => ?_) hm hF
    rw [fil_in (Nat.zero_le _) hl, if_neg]
    rintro ⟨q, q1, q2, -⟩
    omega
  intro d
  induction d with
  | zero =>
    intro k hd hck M g6 hg hm hF
    have hk3 : k = rz r := by omega
    subst hk3
    have hw1 : Rw R (va_up (va_up A 6 g6) 8 (fil (A 8) (fun j => nI (pkN r j)) 0 (rz r)) 0) i r := hw
    refine x_iload_n hC dX3_makeOfPeaks_7 rfl rfl ?_
    refine x_aload_n hC dX3_makeOfPeaks_8 rfl rfl ?_
    refine x_iload_n hC dX3_makeOfPeaks_9 rfl rfl ?_
    refine x_callV0 (na := 1) hC (ct_sizeR hG hm hw1) (lw_V q2495 q2497 qs45 q89 q2498) hm.1 rfl rfl (by decide +kernel) rfl ⟨Nat.le_of_ble_eq_true rfl, Nat.le_of_ble_eq_true rfl⟩ rfl (Nat.le_of_ble_eq_true rfl) ⟨rfl, rfl⟩ ⟨Nat.le_of_ble_eq_true rfl, Nat.le_of_ble_eq_true rfl⟩ dX3_makeOfPeaks_10 ?_
    rintro _ M ⟨rfl, rfl⟩
    refine x_icmp_geN (tgt := 34) hC (by omega) (by omega) dX3_makeOfPeaks_13 (by decide) (fun c1 => ?_) (fun c1 => ?_)
    · refine x_aload_n hC dX3_makeOfPeaks_34 rfl rfl ?_
      refine x_aload_n hC dX3_makeOfPeaks_35 rfl rfl ?_
      refine x_iload_n hC dX3_makeOfPeaks_36 rfl rfl ?_
      refine x_callV0 (na := 1) hC (ct_sizeR hG hm hw1) (lw_V q2495 q2497 qs45 q89 q2498) hm.1 rfl rfl (by decide +kernel) rfl ⟨Nat.le_of_ble_eq_true rfl, Nat.le_of_ble_eq_true rfl⟩ rfl (Nat.le_of_ble_eq_true rfl) ⟨rfl, rfl⟩ ⟨Nat.le_of_ble_eq_true rfl, Nat.le_of_ble_eq_true rfl⟩ dX3_makeOfPeaks_37 ?_
      rintro _ M ⟨rfl, rfl⟩
      refine x_callV0 (na := 1) hC (ct_synthesize hG hm (by omega) h6) (lw_V q2741 q2743 qs72 q89 q2744) hm.1 rfl rfl (by decide +kernel) rfl ⟨Nat.le_of_ble_eq_true rfl, Nat.le_of_ble_eq_true rfl⟩ rfl (Nat.le_of_ble_eq_true rfl) ⟨rfl, rfl⟩ ⟨Nat.le_of_ble_eq_true rfl, Nat.le_of_ble_eq_true rfl⟩ dX3_makeOfPeaks_40 ?_
      rintro _ M ⟨rfl, hm, hF1⟩
      have hF := hF.tr hF1
      refine x_vret hC hk dX3_makeOfPeaks_43 (Nat.le_of_ble_eq_true rfl) (Nat.le_of_ble_eq_true rfl) ⟨rfl, g6, _, _, hm, hF, fun k hk => ?_⟩
      rw [fil_in (Nat.zero_le _) hk]
      refine syS_cong fun l hl => ?_
      exact hg l hl
    · exact absurd c1 (by omega)
  | succ d ih =>
    intro k hd hck M g6 hg hm hF
    have hw1 : Rw R (va_up (va_up A 6 g6) 8 (fil (A 8) (fun j => nI (pkN r j)) 0 (rz r)) 0) i r := hw
    have hkr : k < rz r := by omega
    have hl : pkN r k < rz r := pkr_lt (cfN (rg r) (rz r)) (rz r) hkr
    have hpa : va_up (va_up A 6 g6) 8 (fil (A 8) (fun j => nI (pkN r j)) 0 (rz r)) 8 k = nI (pkN r k) := by rw [va_up_s, fil_in (Nat.zero_le _) hkr]
    refine x_iload_n hC dX3_makeOfPeaks_7 rfl rfl ?_
    refine x_aload_n hC dX3_makeOfPeaks_8 rfl rfl ?_
    refine x_iload_n hC dX3_makeOfPeaks_9 rfl rfl ?_
    refine x_callV0 (na := 1) hC (ct_sizeR hG hm hw1) (lw_V q2495 q2497 qs45 q89 q2498) hm.1 rfl rfl (by decide +kernel) rfl ⟨Nat.le_of_ble_eq_true rfl, Nat.le_of_ble_eq_true rfl⟩ rfl (Nat.le_of_ble_eq_true rfl) ⟨rfl, rfl⟩ ⟨Nat.le_of_ble_eq_true rfl, Nat.le_of_ble_eq_true rfl⟩ dX3_makeOfPeaks_10 ?_
    rintro _ M ⟨rfl, rfl⟩
    refine x_icmp_geN (tgt := 34) hC (by omega) (by omega) dX3_makeOfPeaks_13 (by decide) (fun c1 => ?_) (fun c1 => ?_)
    · exact absurd c1 (by omega)
    · refine x_aload_n hC dX3_makeOfPeaks_16 rfl rfl ?_
      refine x_get hC 7 hm.1 rfl (by decide) q2337 rfl rfl dX3_makeOfPeaks_17 ?_
      refine x_aload_n hC dX3_makeOfPeaks_20 rfl rfl ?_
      refine x_get hC 9 hm.1 rfl (by decide) q2339 rfl rfl dX3_makeOfPeaks_21 ?_
      refine x_iload_n hC dX3_makeOfPeaks_24 rfl rfl ?_
      refine x_ialdN hC (hm.arr 8 (by decide)) (show _ < 64 from (by omega)) (by decide) dX3_makeOfPeaks_25 ?_
      rw [hpa]
      refine x_iconst (v := nI 0) hC dX3_makeOfPeaks_26 (by decide) ?_
      refine x_miastN hC hm 6 (by decide) (show _ < 64 from (by omega)) (by decide) dX3_makeOfPeaks_27 (fun M hm hF1 => ?_)
      have hF := hF.tr hF1
      refine x_iincN (lv' := [_, _, _, _]) (b := 1) hC dX3_makeOfPeaks_28 rfl (by decide) (by decide) rfl ?_
      refine x_goto (tgt := 7) hC dX3_makeOfPeaks_31 (by decide) ?_
      refine ih (k + 1) (by omega) (by omega) M (upd g6 (pkN r k) 0) (fun l hl2 => ?_) (hm.to rfl (by rw [up_cm (i := 8) (j := 6) (by decide), up_up]; rfl)) hF
      unfold upd
      by_cases hlk : l = pkN r k
      · rw [if_pos hlk, if_pos ⟨k, by omega, by omega, hlk.symm⟩]
      · rw [if_neg hlk, hg l hl2]
        by_cases hex : ∃ q, q < k ∧ c ≤ q ∧ pkN r q = l
        · rw [if_pos hex, if_pos]
          obtain ⟨q, q1, q2, q3⟩ := hex
          exact ⟨q, by omega, q2, q3⟩
        · rw [if_neg hex, if_neg]
          rintro ⟨q, q1, q2, q3⟩
          by_cases e : q = k
          · subst e; exact hlk q3.symm
          · exact hex ⟨q, by omega, q2, q3⟩
theorem ct_wrong (hG : GOK G) (hm : Mdl M m P V A) (hw : Rw R (A 0) i r) {c : Nat} (hc : c ≤ rz r) : Ct G yX3_wrong cX3_wrong 6 (some .long) (xrm 7 0 0) [.ref m, .int (nI i), .int (nI c)] M (fun r0 M' => r0 = some (.long (jS (fun k => sq (rg r k - syS (coP r c) (rz r) k)) (rz r))) ∧ ∃ g6 g8 g9, Mdl M' m P V (va_up (va_up (va_up A 6 g6) 8 g8) 9 g9) ∧ Fm M M') := by
  refine ct_open (lv := [_, _, _, _, _, _]) hG (by decide +kernel) (Nat.le_of_ble_eq_true rfl) rfl (fun C hC hk => ?_)
  have hF : Fm M M := Fr.rf
  have h6 := hw.n6
  refine x_aload_n hC dX3_wrong_0 rfl rfl ?_
  refine x_iload_n hC dX3_wrong_1 rfl rfl ?_
  refine x_iload_n hC dX3_wrong_2 rfl rfl ?_
  refine x_callV0 (na := 2) hC (ct_makeOfPeaks hG hm hw hc) (lw_V q2737 q2739 qs71 q89 q2740) hm.1 rfl rfl (by decide +kernel) rfl ⟨Nat.le_of_ble_eq_true rfl, Nat.le_of_ble_eq_true rfl⟩ rfl (Nat.le_of_ble_eq_true rfl) ⟨rfl, rfl⟩ ⟨Nat.le_of_ble_eq_true rfl, Nat.le_of_ble_eq_true rfl⟩ dX3_wrong_3 ?_
  rintro _ M ⟨rfl, g6, g8, g9, hm, hF1, hg⟩
  have hF := hF.tr hF1
  have hw1 : Rw R (va_up (va_up (va_up A 6 g6) 8 g8) 9 g9 0) i r := hw
  refine x_lconst (v := 0) hC dX3_wrong_6 (by decide) ?_
  refine x_lstore_n (lv' := [_, _, _, _, _, _]) hC dX3_wrong_7 rfl (by decide) rfl ?_
  refine x_iconst (v := nI 0) hC dX3_wrong_8 (by decide) ?_
  refine x_istore (lv' := [_, _, _, _, _, _]) hC dX3_wrong_9 (by decide) rfl ?_
  refine x_up (n := rz r) (I := fun k => Wg G C M 0 0 11 [some (.ref m), some (.int (nI i)), some (.int (nI c)), some (.long (jS (fun k => sq (rg r k - syS (coP r c) (rz r) k)) k)), none, some (.int (nI k))] []) (fun k hk2 ih => ?_) 0 (Nat.zero_le _)
  refine x_iload hC dX3_wrong_11 rfl ?_
  refine x_aload_n hC dX3_wrong_13 rfl rfl ?_
  refine x_iload_n hC dX3_wrong_14 rfl rfl ?_
  refine x_callV0 (na := 1) hC (ct_sizeR hG hm hw1) (lw_V q2495 q2497 qs45 q89 q2498) hm.1 rfl rfl (by decide +kernel) rfl ⟨Nat.le_of_ble_eq_true rfl, Nat.le_of_ble_eq_true rfl⟩ rfl (Nat.le_of_ble_eq_true rfl) ⟨rfl, rfl⟩ ⟨Nat.le_of_ble_eq_true rfl, Nat.le_of_ble_eq_true rfl⟩ dX3_wrong_15 ?_
  rintro _ M ⟨rfl, rfl⟩
  refine x_icmp_geN (tgt := 48) hC (by omega) (by omega) dX3_wrong_18 (by decide) (fun c1 => ?_) (fun c1 => ?_)
  · refine x_lload_n hC dX3_wrong_48 rfl rfl ?_
    exact x_lret hC hk dX3_wrong_49 (Nat.le_of_ble_eq_true rfl) (Nat.le_of_ble_eq_true rfl) ⟨by rw [show k = rz r by omega], _, _, _, hm, hF⟩
  · refine x_lload_n hC dX3_wrong_21 rfl rfl ?_
    refine x_aload_n hC dX3_wrong_22 rfl rfl ?_
    refine x_iload_n hC dX3_wrong_23 rfl rfl ?_
    refine x_iload hC dX3_wrong_24 rfl ?_
    refine x_callV0 (na := 2) hC (ct_atR hG hm hw1 c1) (lw_V q2515 q2517 qs47 q89 q2518) hm.1 rfl rfl (by decide +kernel) rfl ⟨Nat.le_of_ble_eq_true rfl, Nat.le_of_ble_eq_true rfl⟩ rfl (Nat.le_of_ble_eq_true rfl) ⟨rfl, rfl⟩ ⟨Nat.le_of_ble_eq_true rfl, Nat.le_of_ble_eq_true rfl⟩ dX3_wrong_26 ?_
    rintro _ M ⟨rfl, rfl⟩
    refine x_aload_n hC dX3_wrong_29 rfl rfl ?_
    refine x_get hC 10 hm.1 rfl (by decide) q2340 rfl rfl dX3_wrong_30 ?_
    refine x_iload hC dX3_wrong_33 rfl ?_
    refine x_ialdN hC (hm.arr 9 (by decide)) (show _ < 64 from (by omega)) (by decide) dX3_wrong_35 ?_
    rw [show va_up (va_up (va_up A 6 g6) 8 g8) 9 g9 9 k = syS (coP r c) (rz r) k from hg k c1]
    refine x_isub hC dX3_wrong_36 ?_
    refine x_callS0 (na := 1) hC (ct_square hG _ _) (lw_S q2528 q2529 q89 q2530) (by decide +kernel) rfl ⟨Nat.le_of_ble_eq_true rfl, Nat.le_of_ble_eq_true rfl⟩ rfl (Nat.le_of_ble_eq_true rfl) ⟨rfl, rfl⟩ ⟨Nat.le_of_ble_eq_true rfl, Nat.le_of_ble_eq_true rfl⟩ dX3_wrong_37 ?_
    rintro _ M ⟨rfl, rfl⟩
    refine x_ladd hC dX3_wrong_40 ?_
    refine x_lstore_n (lv' := [_, _, _, _, _, _]) hC dX3_wrong_41 rfl (by decide) rfl ?_
    refine x_iincN (lv' := [_, _, _, _, _, _]) (b := 1) hC dX3_wrong_42 rfl (by decide) (by decide) rfl ?_
    refine x_goto (tgt := 11) hC dX3_wrong_45 (by decide) ?_
    exact ih c1
theorem nIz {w : Int32} {n : Nat} (hn : n < 2 ^ 31) (h : 0 ≤ w ∧ w ≤ nI n) : ∃ v, w = nI v ∧ w.toNatClampNeg = v ∧ v ≤ n := by
  obtain ⟨h1, h2⟩ := i_nat h.1
  refine ⟨_, h1, rfl, ?_⟩
  have h3 := h.2
  rw [h1, nI_leI h2 hn] at h3
  exact h3
theorem MRep.k6_9 (h : MRep S V A) {x : Int32} {g g' g'' : Nat → Int32} : MRep (S) (upd V 6 x) (va_up (va_up (va_up A 6 g) 8 g') 9 g'') := ((h.kA (Nat.le_refl 6)).kA (by decide)).k68 (by decide)
theorem ct_errorOfPeaks (hG : GOK G) (hm : Mdl M m P V A) (hS : MRep S V A) (x w : Int32) : Ct G yX3_errorOfPeaks cX3_errorOfPeaks 4 (some .long) (xrm 8 0 0) [.ref m, .int x, .int w] M (MOl M m P S (opErrP S x w).1 (opErrP S x w).2) := by
  refine ct_open (lv := [_, _, _, _]) hG (by decide +kernel) (Nat.le_of_ble_eq_true rfl) rfl (fun C hC hk => ?_)
  have hF : Fm M M := Fr.rf
  unfold opErrP at hk
  refine x_aload_n hC dX3_errorOfPeaks_0 rfl rfl ?_
  refine x_iload_n hC dX3_errorOfPeaks_1 rfl rfl ?_
  refine x_callV0 (na := 1) hC (ct_isRecording hG hm _) (lw_V q2491 q2493 qs44 q89 q2494) hm.1 rfl rfl (by decide +kernel) rfl ⟨Nat.le_of_ble_eq_true rfl, Nat.le_of_ble_eq_true rfl⟩ rfl (Nat.le_of_ble_eq_true rfl) ⟨rfl, rfl⟩ ⟨Nat.le_of_ble_eq_true rfl, Nat.le_of_ble_eq_true rfl⟩ dX3_errorOfPeaks_2 ?_
  rintro _ M ⟨rfl, rfl⟩
  refine x_istore_n (lv' := [_, _, _, _]) hC dX3_errorOfPeaks_5 rfl (by decide) rfl ?_
  refine x_aload_n hC dX3_errorOfPeaks_6 rfl rfl ?_
  refine x_iload_n hC dX3_errorOfPeaks_7 rfl rfl ?_
  refine x_iload_n hC dX3_errorOfPeaks_8 rfl rfl ?_
  refine x_if_eqB (tgt := 25) hC dX3_errorOfPeaks_9 (by decide) (fun c1 => ?_) (fun c1 => ?_)
  · rw [rc_no hS.1.1 hS.1.2 c1] at hk
    refine x_iconst (v := 0) hC dX3_errorOfPeaks_25 (by decide) ?_
    refine x_callV0 (na := 2) hC (ct_good2 hG hm _ False) (lw_V q2540 q2542 qs49 q89 q2543) hm.1 rfl rfl (by decide +kernel) rfl ⟨Nat.le_of_ble_eq_true rfl, Nat.le_of_ble_eq_true rfl⟩ rfl (Nat.le_of_ble_eq_true rfl) ⟨rfl, rfl⟩ ⟨Nat.le_of_ble_eq_true rfl, Nat.le_of_ble_eq_true rfl⟩ dX3_errorOfPeaks_26 ?_
    rintro _ M ⟨rfl, hm, hF1⟩
    have hF := hF.tr hF1
    refine x_if_eqB (tgt := 41) hC dX3_errorOfPeaks_29 (by decide) (fun c => ?_) (fun c => ?_)
    · refine x_ldc2 hC q2523 dX3_errorOfPeaks_41 ?_
      exact x_lret hC hk dX3_errorOfPeaks_44 (Nat.le_of_ble_eq_true rfl) (Nat.le_of_ble_eq_true rfl) ⟨_, _, _, rfl, (fun h => absurd h (show ¬ (1 : Int32) = 0 by decide)), hm, hF, hS.k6, upd_s.trans (if_neg c1)⟩
    · exact absurd c.1 c1
  · obtain ⟨i, r, hx, rfl, hw⟩ := rc_ok hS.1.1 hS.1.2 c1
    rw [hx] at hk
    dsimp only [Option.elim] at hk
    refine x_aload_n hC dX3_errorOfPeaks_12 rfl rfl ?_
    refine x_iload_n hC dX3_errorOfPeaks_13 rfl rfl ?_
    refine x_iload_n hC dX3_errorOfPeaks_14 rfl rfl ?_
    refine x_callV0 (na := 2) hC (ct_isCount hG hm hw.c6 hw.hn _) (lw_V q2729 q2731 qs69 q89 q2732) hm.1 rfl rfl (by decide +kernel) rfl ⟨Nat.le_of_ble_eq_true rfl, Nat.le_of_ble_eq_true rfl⟩ rfl (Nat.le_of_ble_eq_true rfl) ⟨rfl, rfl⟩ ⟨Nat.le_of_ble_eq_true rfl, Nat.le_of_ble_eq_true rfl⟩ dX3_errorOfPeaks_15 ?_
    rintro _ M ⟨rfl, rfl⟩
    refine x_if_eqB (tgt := 25) hC dX3_errorOfPeaks_18 (by decide) (fun c2 => ?_) (fun c2 => ?_)
    · rw [if_neg c2] at hk
      refine x_iconst (v := 0) hC dX3_errorOfPeaks_25 (by decide) ?_
      refine x_callV0 (na := 2) hC (ct_good2 hG hm _ False) (lw_V q2540 q2542 qs49 q89 q2543) hm.1 rfl rfl (by decide +kernel) rfl ⟨Nat.le_of_ble_eq_true rfl, Nat.le_of_ble_eq_true rfl⟩ rfl (Nat.le_of_ble_eq_true rfl) ⟨rfl, rfl⟩ ⟨Nat.le_of_ble_eq_true rfl, Nat.le_of_ble_eq_true rfl⟩ dX3_errorOfPeaks_26 ?_
      rintro _ M ⟨rfl, hm, hF1⟩
      have hF := hF.tr hF1
      refine x_if_eqB (tgt := 41) hC dX3_errorOfPeaks_29 (by decide) (fun c => ?_) (fun c => ?_)
      · refine x_ldc2 hC q2523 dX3_errorOfPeaks_41 ?_
        exact x_lret hC hk dX3_errorOfPeaks_44 (Nat.le_of_ble_eq_true rfl) (Nat.le_of_ble_eq_true rfl) ⟨_, _, _, rfl, (fun h => absurd h (show ¬ (2 : Int32) = 0 by decide)), hm, hF, hS.k6, upd_s.trans ((if_pos c1).trans (if_neg id))⟩
      · exact absurd c.2 id
    · rw [if_pos c2] at hk
      refine x_iconst (v := 1) hC dX3_errorOfPeaks_21 (by decide) ?_
      refine x_goto (tgt := 26) hC dX3_errorOfPeaks_22 (by decide) ?_
      refine x_callV0 (na := 2) hC (ct_good2 hG hm _ True) (lw_V q2540 q2542 qs49 q89 q2543) hm.1 rfl rfl (by decide +kernel) rfl ⟨Nat.le_of_ble_eq_true rfl, Nat.le_of_ble_eq_true rfl⟩ rfl (Nat.le_of_ble_eq_true rfl) ⟨rfl, rfl⟩ ⟨Nat.le_of_ble_eq_true rfl, Nat.le_of_ble_eq_true rfl⟩ dX3_errorOfPeaks_26 ?_
      rintro _ M ⟨rfl, hm, hF1⟩
      have hF := hF.tr hF1
      refine x_if_eqB (tgt := 41) hC dX3_errorOfPeaks_29 (by decide) (fun c => ?_) (fun c => ?_)
      · exact absurd ⟨c1, trivial⟩ c
      · obtain ⟨v, rfl, hv, hv2⟩ := nIz (by have := hw.n6; omega) c2
        rw [hv] at hk
        refine x_aload_n hC dX3_errorOfPeaks_32 rfl rfl ?_
        refine x_iload_n hC dX3_errorOfPeaks_33 rfl rfl ?_
        refine x_iload_n hC dX3_errorOfPeaks_34 rfl rfl ?_
        refine x_callV0 (na := 2) hC (ct_wrong hG hm hw hv2) (lw_V q2733 q2735 qs70 q89 q2736) hm.1 rfl rfl (by decide +kernel) rfl ⟨Nat.le_of_ble_eq_true rfl, Nat.le_of_ble_eq_true rfl⟩ rfl (Nat.le_of_ble_eq_true rfl) ⟨rfl, rfl⟩ ⟨Nat.le_of_ble_eq_true rfl, Nat.le_of_ble_eq_true rfl⟩ dX3_errorOfPeaks_35 ?_
        rintro _ M ⟨rfl, g6, g8, g9, hm, hF1⟩
        have hF := hF.tr hF1
        refine x_goto (tgt := 44) hC dX3_errorOfPeaks_38 (by decide) ?_
        exact x_lret hC hk dX3_errorOfPeaks_44 (Nat.le_of_ble_eq_true rfl) (Nat.le_of_ble_eq_true rfl) ⟨_, _, _, rfl, (fun _ => rfl), hm, hF, hS.k6_9, upd_s.trans ((if_pos c1).trans (if_pos trivial))⟩
theorem ct_common (hG : GOK G) (hm : Mdl M m P V A) (hw : Rw R (A 0) i r) (hv : Rw R (A 0) j s) (he : rz r = rz s) {c : Nat} (hc : c ≤ rz r) : Ct G yX3_common cX3_common 6 (some .int) (xrm 6 0 0) [.ref m, .int (nI i), .int (nI j), .int (nI c)] M (fun r0 M' => r0 = some (.int (iS (fun k => xB (∃ j, j < c ∧ pkN r j = pkN s k)) c)) ∧ ∃ A', Mdl M' m P V A' ∧ Fm M M' ∧ ∀ q, q < 6 → A' q = A q) := by
  refine ct_open (lv := [_, _, _, _, _, _]) hG (by decide +kernel) (Nat.le_of_ble_eq_true rfl) rfl (fun C hC hk => ?_)
  have hF : Fm M M := Fr.rf
  have h6 := hw.n6
  refine x_aload_n hC dX3_common_0 rfl rfl ?_
  refine x_iload_n hC dX3_common_1 rfl rfl ?_
  refine x_callV0 (na := 1) hC (ct_peaksR hG hm hv) (lw_V q2647 q2649 qs59 q89 q2650) hm.1 rfl rfl (by decide +kernel) rfl ⟨Nat.le_of_ble_eq_true rfl, Nat.le_of_ble_eq_true rfl⟩ rfl (Nat.le_of_ble_eq_true rfl) ⟨rfl, rfl⟩ ⟨Nat.le_of_ble_eq_true rfl, Nat.le_of_ble_eq_true rfl⟩ dX3_common_2 ?_
  rintro _ M ⟨rfl, hm, hF1⟩
  have hF := hF.tr hF1
  refine x_iconst (v := nI 0) hC dX3_common_5 (by decide) ?_
  refine x_istore (lv' := [_, _, _, _, _, _]) hC dX3_common_6 (by decide) rfl ?_
  refine x_up (n := c) (I := fun k => ∀ M1, Mdl M1 m P V (va_up (va_up (va_up A 6 (fil (A 6) (cfN (rg s) (rz s)) 0 (rz s))) 8 (fil (A 8) (fun j => nI (pkN s j)) 0 (rz s))) 7 (fil (A 7) (fun j => nI (pkN s j)) 0 k)) → Fm _ M1 → Wg G C M1 0 0 8 [some (.ref m), some (.int (nI i)), some (.int (nI j)), some (.int (nI c)), some (.int (nI k)), none] []) (fun k hk2 ih M hm hF => ?_) 0 (Nat.zero_le _) M (hm.to rfl (by rw [fil_0]; exact up_id.symm)) hF
  refine x_iload hC dX3_common_8 rfl ?_
  refine x_iload_n hC dX3_common_10 rfl rfl ?_
  refine x_icmp_geN (tgt := 34) hC (by omega) (by omega) dX3_common_11 (by decide) (fun c1 => ?_) (fun c1 => ?_)
  · have hk3 : k = c := by omega
    subst hk3
    obtain ⟨B, hB⟩ : ∃ B, B = va_up (va_up (va_up A 6 (fil (A 6) (cfN (rg s) (rz s)) 0 (rz s))) 8 (fil (A 8) (fun j => nI (pkN s j)) 0 (rz s))) 7 (fil (A 7) (fun j => nI (pkN s j)) 0 k) := ⟨_, rfl⟩
    rw [← hB] at hm
    have hw1 : Rw R (B 0) i r := by rw [hB]; exact hw
    refine x_aload_n hC dX3_common_34 rfl rfl ?_
    refine x_iload_n hC dX3_common_35 rfl rfl ?_
    refine x_callV0 (na := 1) hC (ct_peaksR hG hm hw1) (lw_V q2647 q2649 qs59 q89 q2650) hm.1 rfl rfl (by decide +kernel) rfl ⟨Nat.le_of_ble_eq_true rfl, Nat.le_of_ble_eq_true rfl⟩ rfl (Nat.le_of_ble_eq_true rfl) ⟨rfl, rfl⟩ ⟨Nat.le_of_ble_eq_true rfl, Nat.le_of_ble_eq_true rfl⟩ dX3_common_36 ?_
    rintro _ M ⟨rfl, hm, hF1⟩
    have hF := hF.tr hF1
    obtain ⟨A', hA⟩ : ∃ A', A' = va_up (va_up B 6 (fil (B 6) (cfN (rg r) (rz r)) 0 (rz r))) 8 (fil (B 8) (fun j => nI (pkN r j)) 0 (rz r)) := ⟨_, rfl⟩
    rw [← hA] at hm
    have e8 : ∀ q, q < rz r → A' 8 q = nI (pkN r q) := fun q hq => by rw [hA]; exact rk_at hq
    have e7 : ∀ q, q < k → A' 7 q = nI (pkN s q) := fun q hq => by
      rw [hA, va_up_n (by decide), va_up_n (by decide), hB, va_up_s]
      exact fil_in (f := A 7) (g := fun j => nI (pkN s j)) (Nat.zero_le _) hq
    have hfin : ∀ q, q < 6 → A' q = A q := fun q hq => by rw [hA, va_up_n (by omega), va_up_n (by omega), hB, va_up_n (by omega), va_up_n (by omega), va_up_n (by omega)]
    clear hA
    refine x_iconst (v := nI 0) hC dX3_common_39 (by decide) ?_
    refine x_istore (lv' := [_, _, _, _, _, _]) hC dX3_common_40 (by decide) rfl ?_
    refine x_iconst (v := nI 0) hC dX3_common_42 (by decide) ?_
    refine x_istore (lv' := [_, _, _, _, _, _]) hC dX3_common_43 (by decide) rfl ?_
    refine x_up (n := k) (I := fun q => Wg G C M 0 0 45 [some (.ref m), some (.int (nI i)), some (.int (nI j)), some (.int (nI k)), some (.int (iS (fun q => xB (∃ j, j < k ∧ pkN r j = pkN s q)) q)), some (.int (nI q))] []) (fun q hq2 ih => ?_) 0 (Nat.zero_le _)
    refine x_iload hC dX3_common_45 rfl ?_
    refine x_iload_n hC dX3_common_47 rfl rfl ?_
    refine x_icmp_geN (tgt := 82) hC (by omega) (by omega) dX3_common_48 (by decide) (fun c3 => ?_) (fun c3 => ?_)
    · refine x_iload hC dX3_common_82 rfl ?_
      exact x_iret hC hk dX3_common_84 (Nat.le_of_ble_eq_true rfl) (Nat.le_of_ble_eq_true rfl) ⟨by rw [show q = k by omega], A', hm, hF, hfin⟩
    · refine x_iload hC dX3_common_51 rfl ?_
      refine x_aload_n hC dX3_common_53 rfl rfl ?_
      refine x_aload_n hC dX3_common_54 rfl rfl ?_
      refine x_get hC 8 hm.1 rfl (by decide) q2338 rfl rfl dX3_common_55 ?_
      refine x_iload hC dX3_common_58 rfl ?_
      refine x_ialdN hC (hm.arr 7 (by decide)) (show _ < 64 from (by omega)) (by decide) dX3_common_60 ?_
      rw [e7 q c3]
      refine x_iload_n hC dX3_common_61 rfl rfl ?_
      refine x_callV0 (na := 2) hC (ct_isAmong hG hm _ (by omega)) (lw_V q2651 q2653 qs60 q89 q2654) hm.1 rfl rfl (by decide +kernel) rfl ⟨Nat.le_of_ble_eq_true rfl, Nat.le_of_ble_eq_true rfl⟩ rfl (Nat.le_of_ble_eq_true rfl) ⟨rfl, rfl⟩ ⟨Nat.le_of_ble_eq_true rfl, Nat.le_of_ble_eq_true rfl⟩ dX3_common_62 ?_
      rintro _ M ⟨rfl, rfl⟩
      have hls : pkN s q < rz s := pkr_lt (cfN (rg s) (rz s)) (rz s) (by omega)
      have hiff : (∃ q', q' < k ∧ A' 8 q' = nI (pkN s q)) ↔ ∃ j, j < k ∧ pkN r j = pkN s q := by
        refine exists_congr fun q' => and_congr_right fun hq' => ?_
        have hlr : pkN r q' < rz r := pkr_lt (cfN (rg r) (rz r)) (rz r) (by omega)
        rw [e8 q' (by omega), nI_eq (by omega) (by omega)]
      refine x_j1 (fun v => v = xB (∃ j, j < k ∧ pkN r j = pkN s q)) 73 (fun hj => ?_) (fun v hv => ?_)
      · refine x_if_eqB (tgt := 72) hC dX3_common_65 (by decide) (fun c4 => ?_) (fun c4 => ?_)
        · refine x_iconst (v := 0) hC dX3_common_72 (by decide) ?_
          exact hj _ (xB_f (fun h => c4 (hiff.mpr h))).symm
        · refine x_iconst (v := 1) hC dX3_common_68 (by decide) ?_
          refine x_goto (tgt := 73) hC dX3_common_69 (by decide) ?_
          exact hj _ (xB_t (hiff.mp c4)).symm
      · subst hv
        refine x_iadd hC dX3_common_73 ?_
        refine x_istore (lv' := [_, _, _, _, _, _]) hC dX3_common_74 (by decide) rfl ?_
        refine x_iincN (lv' := [_, _, _, _, _, _]) (b := 1) hC dX3_common_76 rfl (by decide) (by decide) rfl ?_
        refine x_goto (tgt := 45) hC dX3_common_79 (by decide) ?_
        exact ih c3
  · refine x_aload_n hC dX3_common_14 rfl rfl ?_
    refine x_get hC 8 hm.1 rfl (by decide) q2338 rfl rfl dX3_common_15 ?_
    refine x_iload hC dX3_common_18 rfl ?_
    refine x_aload_n hC dX3_common_20 rfl rfl ?_
    refine x_get hC 9 hm.1 rfl (by decide) q2339 rfl rfl dX3_common_21 ?_
    refine x_iload hC dX3_common_24 rfl ?_
    refine x_ialdN hC (hm.arr 8 (by decide)) (show _ < 64 from (by omega)) (by decide) dX3_common_26 ?_
    rw [show va_up (va_up (va_up A 6 (fil (A 6) (cfN (rg s) (rz s)) 0 (rz s))) 8 (fil (A 8) (fun j => nI (pkN s j)) 0 (rz s))) 7 (fil (A 7) (fun j => nI (pkN s j)) 0 k) 8 k = nI (pkN s k) from fil_in (f := A 8) (g := fun j => nI (pkN s j)) (Nat.zero_le _) (by omega)]
    refine x_miastN hC hm 7 (by decide) (show _ < 64 from (by omega)) (by decide) dX3_common_27 (fun M hm hF1 => ?_)
    have hF := hF.tr hF1
    refine x_iincN (lv' := [_, _, _, _, _, _]) (b := 1) hC dX3_common_28 rfl (by decide) (by decide) rfl ?_
    refine x_goto (tgt := 8) hC dX3_common_31 (by decide) ?_
    exact ih c1 _ (hm.to rfl (by rw [up_up]; congr 1; exact fil_up (Nat.zero_le _) rfl)) hF
theorem MRep.kk (h : MRep S V A) {A' : Nat → Nat → Int32} {x : Int32} (hA : ∀ q, q < 6 → A' q = A q) : MRep S (upd V 6 x) A' :=
  h.keep (fun q hq => upd_n (by omega)) (hA 0 (by decide)) (hA 2 (by decide)) (hA 3 (by decide)) (hA 4 (by decide)) (hA 5 (by decide))
theorem ct_commonPeaks (hG : GOK G) (hm : Mdl M m P V A) (hS : MRep S V A) (x z w : Int32) : Ct G yX3_commonPeaks cX3_commonPeaks 6 (some .int) (xrm 7 0 0) [.ref m, .int x, .int z, .int w] M (MOi M m P S (opCommon S x z w).1 (opCommon S x z w).2) := by
  refine ct_open (lv := [_, _, _, _, _, _]) hG (by decide +kernel) (Nat.le_of_ble_eq_true rfl) rfl (fun C hC hk => ?_)
  have hF : Fm M M := Fr.rf
  unfold opCommon at hk
  refine x_aload_n hC dX3_commonPeaks_0 rfl rfl ?_
  refine x_iload_n hC dX3_commonPeaks_1 rfl rfl ?_
  refine x_iload_n hC dX3_commonPeaks_2 rfl rfl ?_
  refine x_callV0 (na := 2) hC (ct_areRecordings hG hm _ _) (lw_V q2676 q2678 qs62 q89 q2679) hm.1 rfl rfl (by decide +kernel) rfl ⟨Nat.le_of_ble_eq_true rfl, Nat.le_of_ble_eq_true rfl⟩ rfl (Nat.le_of_ble_eq_true rfl) ⟨rfl, rfl⟩ ⟨Nat.le_of_ble_eq_true rfl, Nat.le_of_ble_eq_true rfl⟩ dX3_commonPeaks_3 ?_
  rintro _ M ⟨rfl, rfl⟩
  refine x_istore (lv' := [_, _, _, _, _, _]) hC dX3_commonPeaks_6 (by decide) rfl ?_
  refine x_iload hC dX3_commonPeaks_8 rfl ?_
  refine x_if_eqB (tgt := 39) hC dX3_commonPeaks_10 (by decide) (fun c1 => ?_) (fun c1 => ?_)
  · rw [rc2_no hS.1.1 hS.1.2 c1] at hk
    refine x_iconst (v := 0) hC dX3_commonPeaks_39 (by decide) ?_
    refine x_istore (lv' := [_, _, _, _, _, _]) hC dX3_commonPeaks_40 (by decide) rfl ?_
    refine x_aload_n hC dX3_commonPeaks_42 rfl rfl ?_
    refine x_iload hC dX3_commonPeaks_43 rfl ?_
    refine x_iload hC dX3_commonPeaks_45 rfl ?_
    refine x_callV0 (na := 2) hC (ct_good2 hG hm _ False) (lw_V q2540 q2542 qs49 q89 q2543) hm.1 rfl rfl (by decide +kernel) rfl ⟨Nat.le_of_ble_eq_true rfl, Nat.le_of_ble_eq_true rfl⟩ rfl (Nat.le_of_ble_eq_true rfl) ⟨rfl, rfl⟩ ⟨Nat.le_of_ble_eq_true rfl, Nat.le_of_ble_eq_true rfl⟩ dX3_commonPeaks_47 ?_
    rintro _ M ⟨rfl, hm, hF1⟩
    have hF := hF.tr hF1
    refine x_if_eqB (tgt := 63) hC dX3_commonPeaks_50 (by decide) (fun c => ?_) (fun c => ?_)
    · refine x_iconst (v := -1) hC dX3_commonPeaks_63 (by decide) ?_
      exact x_iret hC hk dX3_commonPeaks_64 (Nat.le_of_ble_eq_true rfl) (Nat.le_of_ble_eq_true rfl) ⟨_, _, _, rfl, (fun h => absurd h (show ¬ (1 : Int32) = 0 by decide)), hm, hF, hS.k6, upd_s.trans (if_neg c1)⟩
    · exact absurd c.1 c1
  · obtain ⟨i, r, j, s, hx, rfl, rfl, hw, hv⟩ := rc2_ok hS.1.1 hS.1.2 c1
    rw [hx] at hk
    dsimp only [Option.elim] at hk
    have no : ¬ (rz r = rz s ∧ 0 ≤ w ∧ w ≤ nI (rz r)) → Wg G C M 0 0 39 [some (.ref m), some (.int (nI i)), some (.int (nI j)), some (.int w), some (.int (xB (isR (A 0) (nI i) ∧ isR (A 0) (nI j)))), none] [] := by
      intro c2
      rw [if_neg c2] at hk
      refine x_iconst (v := 0) hC dX3_commonPeaks_39 (by decide) ?_
      refine x_istore (lv' := [_, _, _, _, _, _]) hC dX3_commonPeaks_40 (by decide) rfl ?_
      refine x_aload_n hC dX3_commonPeaks_42 rfl rfl ?_
      refine x_iload hC dX3_commonPeaks_43 rfl ?_
      refine x_iload hC dX3_commonPeaks_45 rfl ?_
      refine x_callV0 (na := 2) hC (ct_good2 hG hm _ False) (lw_V q2540 q2542 qs49 q89 q2543) hm.1 rfl rfl (by decide +kernel) rfl ⟨Nat.le_of_ble_eq_true rfl, Nat.le_of_ble_eq_true rfl⟩ rfl (Nat.le_of_ble_eq_true rfl) ⟨rfl, rfl⟩ ⟨Nat.le_of_ble_eq_true rfl, Nat.le_of_ble_eq_true rfl⟩ dX3_commonPeaks_47 ?_
      rintro _ M ⟨rfl, hm, hF1⟩
      have hF := hF.tr hF1
      refine x_if_eqB (tgt := 63) hC dX3_commonPeaks_50 (by decide) (fun c => ?_) (fun c => ?_)
      · refine x_iconst (v := -1) hC dX3_commonPeaks_63 (by decide) ?_
        exact x_iret hC hk dX3_commonPeaks_64 (Nat.le_of_ble_eq_true rfl) (Nat.le_of_ble_eq_true rfl) ⟨_, _, _, rfl, (fun h => absurd h (show ¬ (2 : Int32) = 0 by decide)), hm, hF, hS.k6, upd_s.trans ((if_pos c1).trans (if_neg id))⟩
      · exact absurd c.2 id
    refine x_aload_n hC dX3_commonPeaks_13 rfl rfl ?_
    refine x_iload_n hC dX3_commonPeaks_14 rfl rfl ?_
    refine x_iload_n hC dX3_commonPeaks_15 rfl rfl ?_
    refine x_callV0 (na := 2) hC (ct_alikeR hG hm hw hv) (lw_V q2680 q2682 qs63 q89 q2683) hm.1 rfl rfl (by decide +kernel) rfl ⟨Nat.le_of_ble_eq_true rfl, Nat.le_of_ble_eq_true rfl⟩ rfl (Nat.le_of_ble_eq_true rfl) ⟨rfl, rfl⟩ ⟨Nat.le_of_ble_eq_true rfl, Nat.le_of_ble_eq_true rfl⟩ dX3_commonPeaks_16 ?_
    rintro _ M ⟨rfl, rfl⟩
    refine x_if_eqB (tgt := 39) hC dX3_commonPeaks_19 (by decide) (fun c2 => ?_) (fun c2 => ?_)
    · exact no (fun h => c2 h.1)
    · refine x_iload_n hC dX3_commonPeaks_22 rfl rfl ?_
      refine x_iconst (v := 0) hC dX3_commonPeaks_23 (by decide) ?_
      refine x_aload_n hC dX3_commonPeaks_24 rfl rfl ?_
      refine x_iload_n hC dX3_commonPeaks_25 rfl rfl ?_
      refine x_callV0 (na := 1) hC (ct_sizeR hG hm hw) (lw_V q2495 q2497 qs45 q89 q2498) hm.1 rfl rfl (by decide +kernel) rfl ⟨Nat.le_of_ble_eq_true rfl, Nat.le_of_ble_eq_true rfl⟩ rfl (Nat.le_of_ble_eq_true rfl) ⟨rfl, rfl⟩ ⟨Nat.le_of_ble_eq_true rfl, Nat.le_of_ble_eq_true rfl⟩ dX3_commonPeaks_26 ?_
      rintro _ M ⟨rfl, rfl⟩
      refine x_callS0 (na := 3) hC (ct_isIn hG _ _ _ _) (lw_S q2414 q2415 q89 q2416) (by decide +kernel) rfl ⟨Nat.le_of_ble_eq_true rfl, Nat.le_of_ble_eq_true rfl⟩ rfl (Nat.le_of_ble_eq_true rfl) ⟨rfl, rfl⟩ ⟨Nat.le_of_ble_eq_true rfl, Nat.le_of_ble_eq_true rfl⟩ dX3_commonPeaks_29 ?_
      rintro _ M ⟨rfl, rfl⟩
      refine x_if_eqB (tgt := 39) hC dX3_commonPeaks_32 (by decide) (fun c3 => ?_) (fun c3 => ?_)
      · exact no (fun h => c3 h.2)
      · rw [if_pos ⟨c2,c3⟩] at hk
        refine x_iconst (v := 1) hC dX3_commonPeaks_35 (by decide) ?_
        refine x_goto (tgt := 40) hC dX3_commonPeaks_36 (by decide) ?_
        refine x_istore (lv' := [_, _, _, _, _, _]) hC dX3_commonPeaks_40 (by decide) rfl ?_
        refine x_aload_n hC dX3_commonPeaks_42 rfl rfl ?_
        refine x_iload hC dX3_commonPeaks_43 rfl ?_
        refine x_iload hC dX3_commonPeaks_45 rfl ?_
        refine x_callV0 (na := 2) hC (ct_good2 hG hm _ True) (lw_V q2540 q2542 qs49 q89 q2543) hm.1 rfl rfl (by decide +kernel) rfl ⟨Nat.le_of_ble_eq_true rfl, Nat.le_of_ble_eq_true rfl⟩ rfl (Nat.le_of_ble_eq_true rfl) ⟨rfl, rfl⟩ ⟨Nat.le_of_ble_eq_true rfl, Nat.le_of_ble_eq_true rfl⟩ dX3_commonPeaks_47 ?_
        rintro _ M ⟨rfl, hm, hF1⟩
        have hF := hF.tr hF1
        refine x_if_eqB (tgt := 63) hC dX3_commonPeaks_50 (by decide) (fun c => ?_) (fun c => ?_)
        · exact absurd ⟨c1, trivial⟩ c
        · obtain ⟨q, rfl, q2, q3⟩ := nIz (by have := hw.n6; omega) c3
          rw [q2] at hk
          refine x_aload_n hC dX3_commonPeaks_53 rfl rfl ?_
          refine x_iload_n hC dX3_commonPeaks_54 rfl rfl ?_
          refine x_iload_n hC dX3_commonPeaks_55 rfl rfl ?_
          refine x_iload_n hC dX3_commonPeaks_56 rfl rfl ?_
          refine x_callV0 (na := 3) hC (ct_common hG hm hw hv c2 q3) (lw_V q2721 q2723 qs68 q89 q2724) hm.1 rfl rfl (by decide +kernel) rfl ⟨Nat.le_of_ble_eq_true rfl, Nat.le_of_ble_eq_true rfl⟩ rfl (Nat.le_of_ble_eq_true rfl) ⟨rfl, rfl⟩ ⟨Nat.le_of_ble_eq_true rfl, Nat.le_of_ble_eq_true rfl⟩ dX3_commonPeaks_57 ?_
          rintro _ M ⟨rfl, A', hm, hF1, hA⟩
          have hF := hF.tr hF1
          refine x_goto (tgt := 64) hC dX3_commonPeaks_60 (by decide) ?_
          exact x_iret hC hk dX3_commonPeaks_64 (Nat.le_of_ble_eq_true rfl) (Nat.le_of_ble_eq_true rfl) ⟨_, _, _, rfl, (fun _ => rfl), hm, hF, hS.kk hA, upd_s.trans ((if_pos c1).trans (if_pos trivial))⟩
end M19

