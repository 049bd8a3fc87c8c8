/-! ===== System.arraycopy between arrays of references; ArrayList.remove, its iterator ===== -/
section XCQ
variable {G : X_G} {C : X_C} {M : X_M} {kc ks pc nL : Nat} {lv : List (Option Value)} {rest : List Value} {y : MethodName} {cc : ByteArray} {ret : Option FieldType} {rm : Room}
theorem x_copyq (hC : Cx G C y cc nL ret rm) {index a0 a t k0 k1 n0 n1 : Nat} {f h : Nat → Option Nat} {E Cn : String} (h0 : M a0 = some (oa k0 t n0 f)) (h1 : M a = some (oa k1 t n1 h)) (hg : k1 ≠ 0) (ht : xty t = .object E) (hca : Cond.castable Cn E ∈ lw_tbl)
    (hlink : Cond.methodLink y.cls index arraycopyName ∈ lw_all) (hnat : Cond.native arraycopyName ∈ lw_all) (hstat : Cond.static arraycopyName ∈ lw_all) (hini : Cond.initialized "java/lang/System" ∈ lw_all)
    {sp dp n : Nat} (h4 : sp + n ≤ n0) (h5 : dp + n ≤ n1) (hb0 : n0 < 2 ^ 31) (hb1 : n1 < 2 ^ 31) (hel : ∀ (i : Nat), i < n → ∀ v : Nat, f (sp + i) = some v → ∃ (g1 ci N : Nat) (T : u_T) (fs : List Value), M v = some (ob g1 ci fs) ∧ xcl[ci]? = some (Cn, T, N)) (hframes : 1 ≤ rm.frames) (hlocals : (rest.map fun v => v.category).sum + (nativeFrameWords "java/lang/System" "arraycopy" 5 + 11) ≤ rm.locals)
    (hdg : decode cc pc = .ok (.invokestatic index, 3)) (kk : Wg G C (mu M a (oa k1 t n1 (va_cpy f h sp dp n))) kc ks (pc + 3) lv rest) : Wg G C M kc ks pc lv (.int (nI n) :: .int (nI dp) :: .ref a :: .int (nI sp) :: .ref a0 :: rest) := by
  intro H locs ls hW hz hq hl T hT X
  obtain ⟨s1, s2, s3⟩ := nn_clamp (n := sp) (by omega)
  obtain ⟨d1, d2, d3⟩ := nn_clamp (n := dp) (by omega)
  obtain ⟨m1, m2, m3⟩ := nn_clamp (n := n) (by omega)
  have hc0 : H[a0]? = some (vp_cell (gA G t) (n0, .inr (.inr (.inr (.inr f))))) := (hW.2.2 _ _ h0).2.2
  have hc1 : H[a]? = some (vp_cell (gA G t) (n1, .inr (.inr (.inr (.inr h))))) := (hW.2.2 _ _ h1).2.2
  have hra := (hC.K.2 t _ (xar6 hW h1)).2
  rw [show xty t = .object E from ht] at hra
  obtain ⟨-, q0, hk0, cm0, hkk0⟩ := (hC.K.2 t _ (xar6 hW h0)).1 n0 (fun j => va_rf (f j))
  obtain ⟨-, q1, hk1, cm1, hkk1⟩ := (hC.K.2 t _ (xar6 hW h0)).1 n1 (fun j => va_rf (h j))
  obtain ⟨vm', X', step⟩ := X.arraycopy hC.1 hC.own (hC.w hlink) (hC.w hnat) (hC.w hstat) (hC.w hini) (src := a0) (dst := a) (cs := vp_cell (gA G t) (n0, .inr (.inr (.inr (.inr f))))) (cd := vp_cell (gA G t) (n1, .inr (.inr (.inr (.inr h))))) (srcPos := nI sp) (destPos := nI dp) (n := nI n) (by rw [hT]; exact hc0) (by rw [hT]; exact hc1)
    (fun _ h => by cases h) (fun _ h => by cases h) (fun h => by cases h) (fun h => by cases h) hk0 hk1 hkk0 hkk1 (by rw [ht]; rfl) s3 d3 m3
    (by rw [s1, m1]; show ¬ _ > ((arrV (gA G t) n0 (fun j => va_rf (f j))).slots.size : Int); rw [arrV_size]; omega)
    (by rw [d1, m1]; show ¬ _ > ((arrV (gA G t) n1 (fun j => va_rf (h j))).slots.size : Int); rw [arrV_size]; omega)
    (fun vm₁ hal i hi => by
      rw [m2] at hi
      have e : (vp_cell (gA G t) (n0, .inr (.inr (.inr (.inr f))))).slots.getD ((nI sp).toNatClampNeg + i) .null = va_rf (f (sp + i)) := by
        rw [s2]
        show (arrV (gA G t) n0 (fun j => va_rf (f j))).slots.getD _ _ = _
        rw [Array.getD_eq_getD_getElem?, arrV_read _ _ (by omega)]
        rfl
      rw [e]
      cases hy : f (sp + i) with
      | none => exact ⟨by rw [ht]; rfl, trivial⟩
      | some v =>
        obtain ⟨g1, ci, N, T9, fs, hv, hcl⟩ := hel i hi v hy
        obtain ⟨cellV, g1, g2, g3⟩ := x_recv hC hW hv hcl
        obtain ⟨kA, comp, r1, r2, r3, -⟩ := hra
        cases hk1.symm.trans r1
        rw [ht] at hkk1
        cases hkk1.symm.trans r2
        obtain ⟨kC, hkC, -⟩ := Vm.findClass_spec g3
        obtain ⟨kE, hkE, -⟩ := Vm.findClass_spec r3
        obtain ⟨kC', hkC', -⟩ := hal.2.2 _ _ hkC
        obtain ⟨kE', hkE', -⟩ := hal.2.2 _ _ hkE
        refine ⟨by rw [ht]; rfl, cellV, (show T.heap[v]? = some cellV by rw [hT]; exact g1), (fun q h => by rw [h] at g2; cases g2), ⟨kC', hkC'⟩, ?_, ?_⟩
        · exact ⟨kE', hkE'⟩
        · show vm₁.assignable _ _ = true
          rw [hal.assignable]
          exact vb_asgC (x_casty hC hca) _ _ r3 g3)
    (g := F0 (xm C) pc ls (.int (nI n) :: .int (nI dp) :: .ref a :: .int (nI sp) :: .ref a0 :: rest)) rfl hl.1 (rest := rest) rfl (by rw [hC.2.1]; exact hdg) (by rw [hC.room]; exact hframes) (by rw [hC.room]; show 2 * 0 + _ + _ ≤ _; omega)
  have e1 : copied (vp_cell (gA G t) (n0, .inr (.inr (.inr (.inr f))))) (vp_cell (gA G t) (n1, .inr (.inr (.inr (.inr h))))) (nI sp) (nI dp) (nI n) = vp_cell (gA G t) (n1, .inr (.inr (.inr (.inr (va_cpy f h sp dp n))))) := by
    have e2 := va_copied (fun z => va_rf z) (gA G t) (gA G t) (n1 := n1) (dp := dp) f h h4
    show (vp_cell (gA G t) (n1, .inr (.inr (.inr (.inr h))))).storeRun (nI dp).toNatClampNeg ((vp_cell (gA G t) (n0, .inr (.inr (.inr (.inr f))))).stretch (nI sp).toNatClampNeg (nI n).toNatClampNeg) = _
    rw [s2, d2, m2]
    exact e2
  rw [e1] at X' step
  have hl2 : a < H.size := (Array.getElem?_eq_some_iff.mp hc1).1
  have hheap : ((T.setVm vm').setCell a (vp_cell (gA G t) (n1, .inr (.inr (.inr (.inr (va_cpy f h sp dp n))))))).heap = H.setIfInBounds a (vp_cell (gA G t) (n1, .inr (.inr (.inr (.inr (va_cpy f h sp dp n)))))) := by rw [← hT]; rfl
  have oq : ∀ q : Nat, q ≠ a → (H.setIfInBounds a (vp_cell (gA G t) (n1, .inr (.inr (.inr (.inr (va_cpy f h sp dp n)))))))[q]? = H[q]? := fun q hq => by simp [Array.getElem?_setIfInBounds, Ne.symm hq]
  have hsz : (H.setIfInBounds a (vp_cell (gA G t) (n1, .inr (.inr (.inr (.inr (va_cpy f h sp dp n))))))).size = H.size := by simp
  have hba := (hW.2.2 _ _ h1).1 hg
  obtain ⟨t2, a1, b1⟩ := kk _ _ ls (hW.put h1 hg hsz oq ⟨(hW.2.2 _ _ h1).2.1, by show (H.setIfInBounds a _)[a]? = some _; simp [Array.getElem?_setIfInBounds, hl2]⟩) (by rw [hsz]; exact hz) (fun q h => by
    rcases List.mem_append.mp h with h | h
    · exact hq q h
    · obtain ⟨z, -, hz⟩ := List.mem_map.mp h
      rw [← hz]
      exact hba) hl _ hheap X'
  exact ⟨t2, step t2 a1, b1⟩
end XCQ
section JAL2
variable {G : X_G} {M : X_M} {T : X_T} {g l gi q : Nat} {L : List Nat}
/-- the list's objects are recordings -/
abbrev Lob (M : X_M) (L : List Nat) : Prop := ∀ x ∈ L, ∃ (g1 : Nat) (vs : List Value), M x = some (ob g1 3 vs)
theorem ct_alFast (hG : GOK G) (hg : g ≠ 0) {mc : Int32} {e i : Nat} {f : Nat → Option Nat} (h1 : M l = some (ob g 7 [.int mc, .ref e, .int (nI L.length)])) (h2 : L.length ≤ 10) (h3 : M e = some (oa g 2 10 f)) (h4 : ∀ (i : Nat) (x : Nat), L[i]? = some x → f i = some x) (hi : i < L.length) (hO : Lob M L) : Ct G yJ2_fastRemove cJ2_fastRemove 4 none (xrm 2 0 0) [.ref l, .ref e, .int (nI i)] M (fun r M' => r = none ∧ AL M' T g l (L.eraseIdx i) ∧ Fr (fun g' => g' = g) M M') := by
  have hle : l ≠ e := mx_ne h1 h3 (fun z => by cases z)
  have hlen : (L.eraseIdx i).length = L.length - 1 := by rw [List.length_eraseIdx, if_pos hi]
  refine ct_open (lv := [_, _, _, _]) hG (by decide +kernel) (Nat.le_of_ble_eq_true rfl) rfl (fun C hC hk => ?_)
  obtain ⟨M0, hM0⟩ : ∃ M0, M0 = M := ⟨M, rfl⟩
  rw [← hM0] at hk
  have hF : Fm M0 M := by rw [hM0]; exact Fr.rf
  subst hM0
  refine x_aload_n hC dJ2_fastRemove_0 rfl rfl ?_
  refine x_dup hC dJ2_fastRemove_1 rfl ?_
  refine x_getS hC 0 h1 rfl (by decide) q161 q160 rfl dJ2_fastRemove_2 ?_
  refine x_iconst (v := 1) hC dJ2_fastRemove_5 (by decide) ?_
  refine x_iadd hC dJ2_fastRemove_6 ?_
  refine x_putS hC 0 h1 hg rfl (by decide) q161 q160 rfl rfl rfl rfl (show 0 < 3 by decide) (fs' := [.int (mc + 1), .ref e, .int (nI L.length)]) rfl dJ2_fastRemove_7 ?_
  have fin : ∀ M1 f1, M1 l = some (ob g 7 [.int (mc + 1), .ref e, .int (nI L.length)]) → M1 e = some (oa g 2 10 f1) → (∀ k x, (L.eraseIdx i)[k]? = some x → f1 k = some x) → Fr (fun g' => g' = g) M0 M1 → Wg G C M1 0 0 34 [some (.ref l), some (.ref e), some (.int (nI i)), some (.int (nI (L.length - 1)))] [] := by
    intro M1 f1 a1 a3 a4 hF
    refine x_aload_n hC dJ2_fastRemove_34 rfl rfl ?_
    refine x_aload_n hC dJ2_fastRemove_35 rfl rfl ?_
    refine x_iload_n hC dJ2_fastRemove_36 rfl rfl ?_
    refine x_dup_x1 hC dJ2_fastRemove_37 rfl rfl ?_
    refine x_put hC 2 a1 hg rfl (by decide) q157 rfl rfl rfl rfl rfl (show 2 < 3 by decide) (fs' := [.int (mc + 1), .ref e, .int (nI (L.length - 1))]) rfl dJ2_fastRemove_38 ?_
    refine x_null hC dJ2_fastRemove_41 ?_
    refine x_aastNI hC (mu_o (Ne.symm hle) a3) (by first | decide | assumption) rfl (by omega) (by first | decide | omega) dJ2_fastRemove_42 ?_
    refine x_vret hC hk dJ2_fastRemove_43 (Nat.le_of_ble_eq_true rfl) (Nat.le_of_ble_eq_true rfl) ⟨rfl, ⟨mc + 1, e, ?_, Or.inr ⟨by omega, _, mu_s, fun k x hk => ?_⟩⟩, hF.tr ((Fr.set (P := fun g' => g' = g) a1 rfl).tr (Fr.set (mu_o (Ne.symm hle) a3) rfl))⟩
    · rw [hlen]; exact mu_o hle mu_s
    · have hk2 : k < (L.eraseIdx i).length := (List.getElem?_eq_some_iff.mp hk).1
      rw [va_up_ne _ _ (by omega)]
      exact a4 k x hk
  refine x_aload_n hC dJ2_fastRemove_10 rfl rfl ?_
  refine x_get hC 2 mu_s rfl (by decide) q157 rfl rfl dJ2_fastRemove_11 ?_
  refine x_iconst (v := nI 1) hC dJ2_fastRemove_14 (by decide) ?_
  refine x_isubN hC dJ2_fastRemove_15 (by omega) ?_
  refine x_dup hC dJ2_fastRemove_16 rfl ?_
  refine x_istore_n (lv' := [_, _, _, _]) hC dJ2_fastRemove_17 rfl (by decide) rfl ?_
  refine x_iload_n hC dJ2_fastRemove_18 rfl rfl ?_
  refine x_icmp_leN (tgt := 34) hC (by omega) (by omega) dJ2_fastRemove_19 (by decide) (fun c1 => ?_) (fun c1 => ?_)
  · refine fin _ f mu_s (mu_o (Ne.symm hle) h3) (fun k x hk => ?_) (Fr.set (P := fun g' => g' = g) h1 rfl)
    have hk2 : k < (L.eraseIdx i).length := (List.getElem?_eq_some_iff.mp hk).1
    rw [List.getElem?_eraseIdx, if_pos (by omega)] at hk
    exact h4 k x hk
  · refine x_aload_n hC dJ2_fastRemove_22 rfl rfl ?_
    refine x_iload_n hC dJ2_fastRemove_23 rfl rfl ?_
    refine x_iconst (v := nI 1) hC dJ2_fastRemove_24 (by decide) ?_
    refine x_iaddN hC dJ2_fastRemove_25 ?_
    refine x_aload_n hC dJ2_fastRemove_26 rfl rfl ?_
    refine x_iload_n hC dJ2_fastRemove_27 rfl rfl ?_
    refine x_iload_n hC dJ2_fastRemove_28 rfl rfl ?_
    refine x_iload_n hC dJ2_fastRemove_29 rfl rfl ?_
    refine x_isubN hC dJ2_fastRemove_30 (by omega) ?_
    refine x_copyq (E := "java/lang/Object") (Cn := RX7) hC (mu_o (Ne.symm hle) h3) (mu_o (Ne.symm hle) h3) hg rfl q2910 q2086 q350 q349 q105 (by omega) (by omega) (by omega) (by omega) (fun k hk v hv => ?_) (Nat.le_of_ble_eq_true rfl) (Nat.le_of_ble_eq_true rfl) dJ2_fastRemove_31 ?_
    · have hb : i + 1 + k < L.length := by omega
      have e1 := h4 (i + 1 + k) L[i + 1 + k] (List.getElem?_eq_getElem hb)
      rw [hv] at e1
      cases e1
      obtain ⟨g1, vs, hx⟩ := hO _ (List.getElem_mem hb)
      exact ⟨g1, 3, 4, _, vs, mu_o (mx_ne hx h1 (fun z => by cases z)) hx, rfl⟩
    · refine fin _ _ (mu_o hle mu_s) mu_s (fun k x hk => ?_) ((Fr.set (P := fun g' => g' = g) h1 rfl).tr (Fr.set (mu_o (Ne.symm hle) h3) rfl))
      have hk2 : k < (L.eraseIdx i).length := (List.getElem?_eq_some_iff.mp hk).1
      rw [List.getElem?_eraseIdx] at hk
      unfold va_cpy
      by_cases ek : k < i
      · rw [if_pos ek] at hk
        rw [if_neg (by omega)]
        exact h4 k x hk
      · rw [if_neg ek] at hk
        rw [if_pos (by omega), show i + 1 + (k - i) = k + 1 by omega]
        exact h4 (k + 1) x hk
theorem ct_alRemove (hG : GOK G) (hg : g ≠ 0) {i x : Nat} (h : AL M T g l L) (hx : L[i]? = some x) (hO : Lob M L) : Ct G yJ2_remove cJ2_remove 4 (some (.object "java/lang/Object")) (xrm 3 0 0) [.ref l, .int (nI i)] M (fun r M' => r = some (.ref x) ∧ AL M' T g l (L.eraseIdx i) ∧ Fr (fun g' => g' = g) M M') := by
  obtain ⟨mc, e, f, h1, h2, h3, h4, hi⟩ := h.at hx
  refine ct_open (lv := [_, _, _, _]) hG (by decide +kernel) (Nat.le_of_ble_eq_true rfl) rfl (fun C hC hk => ?_)
  refine x_iload_n hC dJ2_remove_0 rfl rfl ?_
  refine x_aload_n hC dJ2_remove_1 rfl rfl ?_
  refine x_get hC 2 h1 rfl (by decide) q157 rfl rfl dJ2_remove_2 ?_
  refine x_callS0 (na := 2) hC (ct_checkIndex hG hi (by omega) _) (lw_S q1041 q1042 q121 q1043) (by decide +kernel) rfl ⟨Nat.le_of_ble_eq_true rfl, Nat.le_of_ble_eq_true rfl⟩ rfl (Nat.le_of_ble_eq_true rfl) ⟨rfl, rfl⟩ ⟨Nat.le_of_ble_eq_true rfl, Nat.le_of_ble_eq_true rfl⟩ dJ2_remove_5 ?_
  rintro _ M ⟨rfl, rfl⟩
  refine x_pop hC dJ2_remove_8 rfl ?_
  refine x_aload_n hC dJ2_remove_9 rfl rfl ?_
  refine x_get hC 1 h1 rfl (by decide) q154 rfl rfl dJ2_remove_10 ?_
  refine x_astore_n (lv' := [_, _, _, _]) hC dJ2_remove_13 rfl (by decide) rfl ?_
  refine x_aload_n hC dJ2_remove_14 rfl rfl ?_
  refine x_iload_n hC dJ2_remove_15 rfl rfl ?_
  refine x_aaldN hC h3 rfl (by omega) (by first | decide | omega) dJ2_remove_16 ?_
  rw [h4 i x hx]
  refine x_astore_n (lv' := [_, _, _, _]) hC dJ2_remove_17 rfl (by decide) rfl ?_
  refine x_aload_n hC dJ2_remove_18 rfl rfl ?_
  refine x_aload_n hC dJ2_remove_19 rfl rfl ?_
  refine x_iload_n hC dJ2_remove_20 rfl rfl ?_
  refine x_callV0 (na := 2) hC (ct_alFast (T := T) hG hg h1 h2 h3 h4 hi hO) (lw_V q2082 q2084 qs25 q85 q2085) h1 rfl rfl (by decide +kernel) rfl ⟨Nat.le_of_ble_eq_true rfl, Nat.le_of_ble_eq_true rfl⟩ rfl (Nat.le_of_ble_eq_true rfl) ⟨rfl, rfl⟩ ⟨Nat.le_of_ble_eq_true rfl, Nat.le_of_ble_eq_true rfl⟩ dJ2_remove_21 ?_
  rintro _ M1 ⟨rfl, hA, hF1⟩
  refine x_aload_n hC dJ2_remove_24 rfl rfl ?_
  exact x_aret hC hk dJ2_remove_25 (Or.inl ⟨_, rfl⟩) (Or.inr ⟨_, rfl⟩) (Nat.le_of_ble_eq_true rfl) (Nat.le_of_ble_eq_true rfl) ⟨rfl, hA, hF1⟩
/-- the iterator q of the list stands ahead of place i -/
def IT (M : X_M) (T : X_T) (g l : Nat) (L : List Nat) (gi q i : Nat) : Prop := ∃ (mc lr : Int32) (e : Nat), M q = some (ob gi 11 [.int (nI i), .int lr, .int mc, .ref l]) ∧ M l = some (ob g 7 [.int mc, .ref e, .int (nI L.length)]) ∧ ((L = [] ∧ e = T 0) ∨ (L.length ≤ 10 ∧ ∃ f, M e = some (oa g 2 10 f) ∧ ∀ (i : Nat) (x : Nat), L[i]? = some x → f i = some x))
theorem IT.fr {P : Nat → Prop} {M M' : X_M} {i : Nat} (h : IT M T g l L gi q i) (hF : Fr P M M') (hg : ¬ P g) (hgi : ¬ P gi) : IT M' T g l L gi q i := by
  obtain ⟨mc, lr, e, h0, h1, h2⟩ := h
  refine ⟨mc, lr, e, hF.z hgi h0, hF.z hg h1, ?_⟩
  rcases h2 with h2 | ⟨h2, f, h3, h4⟩
  · exact Or.inl h2
  · exact Or.inr ⟨h2, f, hF.z hg h3, h4⟩
theorem IT.rec {M : X_M} {i : Nat} (h : IT M T g l L gi q i) : ∃ vs, M q = some (ob gi 11 vs) := by
  obtain ⟨mc, lr, e, h0, -⟩ := h
  exact ⟨_, h0⟩
theorem ct_itInit (hG : GOK G) (hgi : gi ≠ 0) {mc : Int32} {v w : Value} (hq : M q = some (ob gi 11 [.int 0, .int 0, .int 0, .null])) (h1 : M l = some (ob g 7 [.int mc, v, w])) : Ct G yJ31_init cJ31_init 2 none (xrm 1 0 0) [.ref q, .ref l] M (fun r M' => r = none ∧ M' = mu M q (ob gi 11 [.int 0, .int (-1), .int mc, .ref l])) := by
  have hlq : l ≠ q := mx_ne h1 hq (fun z => by cases z)
  refine ct_open (lv := [_, _]) hG (by decide +kernel) (Nat.le_of_ble_eq_true rfl) rfl (fun C hC hk => ?_)
  refine x_aload_n hC dJ31_init_0 rfl rfl ?_
  refine x_aload_n hC dJ31_init_1 rfl rfl ?_
  refine x_putF hC 3 hq hgi rfl (by decide) q1072 rfl rfl rfl rfl rfl rfl rfl (show 3 < 4 by decide) (fs' := [.int 0, .int 0, .int 0, .ref l]) rfl dJ31_init_2 ?_
  refine x_aload_n hC dJ31_init_5 rfl rfl ?_
  refine x_objInit hC q1068 q132 q133 dJ31_init_6 (Nat.le_of_ble_eq_true rfl) ⟨Nat.le_of_ble_eq_true rfl, Nat.le_of_ble_eq_true rfl⟩ ?_
  refine x_aload_n hC dJ31_init_9 rfl rfl ?_
  refine x_iconst (v := -1) hC dJ31_init_10 (by decide) ?_
  refine x_put hC 1 mu_s hgi rfl (by decide) q1070 rfl rfl rfl rfl rfl (show 1 < 4 by decide) (fs' := [.int 0, .int (-1), .int 0, .ref l]) rfl dJ31_init_11 ?_
  rw [mu_mu]
  refine x_aload_n hC dJ31_init_14 rfl rfl ?_
  refine x_aload_n hC dJ31_init_15 rfl rfl ?_
  refine x_get hC 3 mu_s rfl (by decide) q1072 rfl rfl dJ31_init_16 ?_
  refine x_getS hC 0 (mu_o hlq h1) rfl (by decide) q159 q160 rfl dJ31_init_19 ?_
  refine x_put hC 2 mu_s hgi rfl (by decide) q1071 rfl rfl rfl rfl rfl (show 2 < 4 by decide) (fs' := [.int 0, .int (-1), .int mc, .ref l]) rfl dJ31_init_22 ?_
  rw [mu_mu]
  exact x_vret hC hk dJ31_init_25 (Nat.le_of_ble_eq_true rfl) (Nat.le_of_ble_eq_true rfl) ⟨rfl, rfl⟩
theorem ct_alIter (hG : GOK G) (gi : Nat) (hgi : gi ≠ 0) (h : AL M T g l L) : Ct G yJ2_iterator cJ2_iterator 1 (some (.object "java/util/Iterator")) (xrm 2 1 4) [.ref l] M (fun r M' => ∃ q, r = some (.ref q) ∧ M q = none ∧ IT M' T g l L gi q 0 ∧ Fr (fun _ => False) M M') := by
  obtain ⟨mc, e, h1, h2⟩ := h
  refine ct_open (lv := [_]) hG (by decide +kernel) (Nat.le_of_ble_eq_true rfl) rfl (fun C hC hk => ?_)
  obtain ⟨M0, hM0⟩ : ∃ M0, M0 = M := ⟨M, rfl⟩
  rw [← hM0] at hk
  have hF : Fm M0 M := by rw [hM0]; exact Fr.rf
  subst hM0
  refine x_new (ci := 11) (T := TJ31) (N := 4) hC gi [.int 0, .int 0, .int 0, .null] rfl q1063 q1064 q125 tyJ31 tyJ31_ok hgi (by decide +kernel) (Nat.le_of_ble_eq_true rfl) (Nat.le_of_ble_eq_true rfl) dJ2_iterator_0 (fun q hq => ?_)
  have hlq : l ≠ q := fun z => by rw [z, hq] at h1; cases h1
  refine x_dup hC dJ2_iterator_3 rfl ?_
  refine x_aload_n hC dJ2_iterator_4 rfl rfl ?_
  refine x_callI0 (na := 1) hC (ct_itInit hG hgi mu_s (mu_f hq h1)) q1067 q125 q1065 q1066 rfl (by decide +kernel) rfl ⟨Nat.le_of_ble_eq_true rfl, Nat.le_of_ble_eq_true rfl⟩ rfl (Nat.le_of_ble_eq_true rfl) ⟨rfl, rfl⟩ ⟨Nat.le_of_ble_eq_true rfl, Nat.le_of_ble_eq_true rfl⟩ dJ2_iterator_5 ?_
  rintro _ M ⟨rfl, rfl⟩
  rw [mu_mu]
  refine x_aret hC hk dJ2_iterator_8 (Or.inl ⟨_, rfl⟩) (Or.inr ⟨_, rfl⟩) (Nat.le_of_ble_eq_true rfl) (Nat.le_of_ble_eq_true rfl) ⟨q, rfl, hq, ⟨mc, -1, e, mu_s, mu_f hq h1, h2.imp id (fun z => ?_)⟩, Fr.new hq⟩
  obtain ⟨z1, f, z2, z3⟩ := z
  exact ⟨z1, f, mu_f hq z2, z3⟩
theorem ct_itHas (hG : GOK G) {i : Nat} (h : IT M T g l L gi q i) (hi : i ≤ L.length) (hL : L.length ≤ 10) : Ct G yJ31_hasNext cJ31_hasNext 1 (some .boolean) (xrm 1 0 0) [.ref q] M (Pr (.int (xB (i < L.length))) M) := by
  obtain ⟨mc, lr, e, h0, h1, h2⟩ := h
  refine ct_open (lv := [_]) hG (by decide +kernel) (Nat.le_of_ble_eq_true rfl) rfl (fun C hC hk => ?_)
  refine x_aload_n hC dJ31_hasNext_0 rfl rfl ?_
  refine x_get hC 0 h0 rfl (by decide) q1069 rfl rfl dJ31_hasNext_1 ?_
  refine x_aload_n hC dJ31_hasNext_4 rfl rfl ?_
  refine x_get hC 3 h0 rfl (by decide) q1072 rfl rfl dJ31_hasNext_5 ?_
  refine x_getN hC 2 h1 rfl (by decide) q156 rfl rfl dJ31_hasNext_8 ?_
  refine x_icmp_eqN (tgt := 18) hC (by omega) (by omega) dJ31_hasNext_11 (by decide) (fun c => ?_) (fun c => ?_)
  · refine x_iconst (v := 0) hC dJ31_hasNext_18 (by decide) ?_
    exact x_zret hC hk dJ31_hasNext_19 (by first | rfl | exact xB_nar) (Nat.le_of_ble_eq_true rfl) (Nat.le_of_ble_eq_true rfl) ⟨by rw [xB_f (by omega)], rfl⟩
  · refine x_iconst (v := 1) hC dJ31_hasNext_14 (by decide) ?_
    refine x_goto (tgt := 19) hC dJ31_hasNext_15 (by decide) ?_
    exact x_zret hC hk dJ31_hasNext_19 (by first | rfl | exact xB_nar) (Nat.le_of_ble_eq_true rfl) (Nat.le_of_ble_eq_true rfl) ⟨by rw [xB_t (by omega)], rfl⟩
theorem ct_itCheck (hG : GOK G) {i : Nat} (h : IT M T g l L gi q i) : Ct G yJ31_checkForComodification cJ31_checkForComodification 1 none (xrm 1 0 0) [.ref q] M (fun r M' => r = none ∧ M' = M) := by
  obtain ⟨mc, lr, e, h0, h1, h2⟩ := h
  refine ct_open (lv := [_]) hG (by decide +kernel) (Nat.le_of_ble_eq_true rfl) rfl (fun C hC hk => ?_)
  refine x_aload_n hC dJ31_checkForComodification_0 rfl rfl ?_
  refine x_get hC 3 h0 rfl (by decide) q1072 rfl rfl dJ31_checkForComodification_1 ?_
  refine x_getS hC 0 h1 rfl (by decide) q159 q160 rfl dJ31_checkForComodification_4 ?_
  refine x_aload_n hC dJ31_checkForComodification_7 rfl rfl ?_
  refine x_get hC 2 h0 rfl (by decide) q1071 rfl rfl dJ31_checkForComodification_8 ?_
  refine x_icmp_eq (tgt := 22) hC dJ31_checkForComodification_11 (by decide) (fun c => ?_) (fun c => ?_)
  · exact x_vret hC hk dJ31_checkForComodification_22 (Nat.le_of_ble_eq_true rfl) (Nat.le_of_ble_eq_true rfl) ⟨rfl, rfl⟩
  · exact absurd rfl c
theorem ct_itNext (hG : GOK G) (hgi : gi ≠ 0) {i x : Nat} (h : IT M T g l L gi q i) (hx : L[i]? = some x) : Ct G yJ31_next cJ31_next 3 (some (.object "java/lang/Object")) (xrm 2 0 0) [.ref q] M (fun r M' => r = some (.ref x) ∧ IT M' T g l L gi q (i + 1) ∧ Fr (fun g' => g' = gi) M M') := by
  have hit := h
  have hi : i < L.length := (List.getElem?_eq_some_iff.mp hx).1
  obtain ⟨mc, lr, e, h0, h1, h2⟩ := h
  rcases h2 with ⟨rfl, -⟩ | ⟨h2, f, h3, h4⟩
  · cases hx
  have hlq : l ≠ q := mx_ne h1 h0 (fun z => by cases z)
  have heq : e ≠ q := mx_ne h3 h0 (fun z => by cases z)
  refine ct_open (lv := [_, _, _]) hG (by decide +kernel) (Nat.le_of_ble_eq_true rfl) rfl (fun C hC hk => ?_)
  obtain ⟨M0, hM0⟩ : ∃ M0, M0 = M := ⟨M, rfl⟩
  rw [← hM0] at hk
  have hF : Fm M0 M := by rw [hM0]; exact Fr.rf
  subst hM0
  refine x_aload_n hC dJ31_next_0 rfl rfl ?_
  refine x_callV0 (na := 0) hC (ct_itCheck hG hit) (lw_V q1101 q1102 q1103 q125 q1104) h0 rfl rfl (by decide +kernel) rfl ⟨Nat.le_of_ble_eq_true rfl, Nat.le_of_ble_eq_true rfl⟩ rfl (Nat.le_of_ble_eq_true rfl) ⟨rfl, rfl⟩ ⟨Nat.le_of_ble_eq_true rfl, Nat.le_of_ble_eq_true rfl⟩ dJ31_next_1 ?_
  rintro _ M ⟨rfl, rfl⟩
  refine x_aload_n hC dJ31_next_4 rfl rfl ?_
  refine x_get hC 0 h0 rfl (by decide) q1069 rfl rfl dJ31_next_5 ?_
  refine x_istore_n (lv' := [_, _, _]) hC dJ31_next_8 rfl (by decide) rfl ?_
  refine x_iload_n hC dJ31_next_9 rfl rfl ?_
  refine x_aload_n hC dJ31_next_10 rfl rfl ?_
  refine x_get hC 3 h0 rfl (by decide) q1072 rfl rfl dJ31_next_11 ?_
  refine x_getN hC 2 h1 rfl (by decide) q156 rfl rfl dJ31_next_14 ?_
  refine x_icmp_ltN (tgt := 28) hC (by omega) (by omega) dJ31_next_17 (by decide) (fun c1 => ?_) (fun c1 => ?_)
  · refine x_aload_n hC dJ31_next_28 rfl rfl ?_
    refine x_get hC 3 h0 rfl (by decide) q1072 rfl rfl dJ31_next_29 ?_
    refine x_get hC 1 h1 rfl (by decide) q155 rfl rfl dJ31_next_32 ?_
    refine x_astore_n (lv' := [_, _, _]) hC dJ31_next_35 rfl (by decide) rfl ?_
    refine x_iload_n hC dJ31_next_36 rfl rfl ?_
    refine x_aload_n hC dJ31_next_37 rfl rfl ?_
    refine x_alen hC h3 dJ31_next_38 ?_
    dsimp only
    refine x_icmp_ltN (tgt := 50) hC (by omega) (by omega) dJ31_next_39 (by decide) (fun c2 => ?_) (fun c2 => ?_)
    · refine x_aload_n hC dJ31_next_50 rfl rfl ?_
      refine x_iload_n hC dJ31_next_51 rfl rfl ?_
      refine x_iconst (v := nI 1) hC dJ31_next_52 (by decide) ?_
      refine x_iaddN hC dJ31_next_53 ?_
      refine x_put hC 0 h0 hgi rfl (by decide) q1069 rfl rfl rfl rfl rfl (show 0 < 4 by decide) (fs' := [.int (nI (i + 1)), .int lr, .int mc, .ref l]) rfl dJ31_next_54 ?_
      refine x_aload_n hC dJ31_next_57 rfl rfl ?_
      refine x_aload_n hC dJ31_next_58 rfl rfl ?_
      refine x_iload_n hC dJ31_next_59 rfl rfl ?_
      refine x_dup_x1 hC dJ31_next_60 rfl rfl ?_
      refine x_put hC 1 mu_s hgi rfl (by decide) q1070 rfl rfl rfl rfl rfl (show 1 < 4 by decide) (fs' := [.int (nI (i + 1)), .int (nI i), .int mc, .ref l]) rfl dJ31_next_61 ?_
      rw [mu_mu]
      refine x_aaldN hC (mu_o heq h3) rfl (by omega) (by first | decide | omega) dJ31_next_64 ?_
      rw [h4 i x hx]
      exact x_aret hC hk dJ31_next_65 (Or.inl ⟨_, rfl⟩) (Or.inr ⟨_, rfl⟩) (Nat.le_of_ble_eq_true rfl) (Nat.le_of_ble_eq_true rfl) ⟨rfl, ⟨mc, nI i, e, mu_s, mu_o hlq h1, Or.inr ⟨h2, f, mu_o heq h3, h4⟩⟩, Fr.set (P := fun g' => g' = gi) h0 rfl⟩
    · exact absurd c2 (by omega)
  · exact absurd c1 (by omega)
end JAL2

