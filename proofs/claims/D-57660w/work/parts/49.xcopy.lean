/-! ===== System.arraycopy between arrays of ints or bytes ===== -/
section XCP
variable {G : X_G} {C : X_C} {M : X_M} {kc ks pc nL : Nat} {lv : List (Option Value)} {rest : List Value} {y : MethodName} {cc : ByteArray} {ret : Option FieldType} {rm : Room}
theorem nn_clamp {n : Nat} (h : n < 2 ^ 31) : (nI n).toInt = (n : Int) ∧ (nI n).toNatClampNeg = n ∧ ¬ nI n < 0 := ⟨nI_toInt h, nI_clamp h, by
  rw [Int32.lt_iff_toInt_lt, nI_toInt h, show (0 : Int32).toInt = 0 by decide]
  omega⟩
theorem x_copyi (hC : Cx G C y cc nL ret rm) {index a0 a t k0 k1 n0 n1 : Nat} {f h : Nat → Int32} (h0 : M a0 = some (xar k0 t (n0, .inl f))) (h1 : M a = some (xar k1 t (n1, .inl h))) (hg : k1 ≠ 0) (hprim : refKind (xty t) = false)
    (hlink : Cond.methodLink y.cls index arraycopyName ∈ lw_all) (hnat : Cond.native arraycopyName ∈ lw_all) (hstat : Cond.static arraycopyName ∈ lw_all) (hini : Cond.initialized "java/lang/System" ∈ lw_all)
    {sp dp n : Nat} (h4 : sp + n ≤ n0) (h5 : dp + n ≤ n1) (hb0 : n0 < 2 ^ 31) (hb1 : n1 < 2 ^ 31) (hfit : ∀ i, i < n → fits (xty t) (.int (f (sp + i))) = true) (hframes : 1 ≤ rm.frames) (hlocals : (rest.map fun v => v.category).sum + (nativeFrameWords "java/lang/System" "arraycopy" 5 + 11) ≤ rm.locals)
    (hdg : decode cc pc = .ok (.invokestatic index, 3)) (kk : Wg G C (mu M a (xar k1 t (n1, .inl (va_cpy f h sp dp n)))) kc ks (pc + 3) lv rest) : Wg G C M kc ks pc lv (.int (nI n) :: .int (nI dp) :: .ref a :: .int (nI sp) :: .ref a0 :: rest) := by
  intro H locs ls hW hz hq hl T hT X
  obtain ⟨s1, s2, s3⟩ := nn_clamp (n := sp) (by omega)
  obtain ⟨d1, d2, d3⟩ := nn_clamp (n := dp) (by omega)
  obtain ⟨m1, m2, m3⟩ := nn_clamp (n := n) (by omega)
  have hc0 : H[a0]? = some (vp_cell (gA G t) (n0, .inl f)) := (hW.2.2 _ _ h0).2.2
  have hc1 : H[a]? = some (vp_cell (gA G t) (n1, .inl h)) := (hW.2.2 _ _ h1).2.2
  obtain ⟨-, q0, hk0, cm0, hkk0⟩ := (hC.K.2 t _ (xar6 hW h0)).1 n0 (fun j => .int (f j))
  obtain ⟨-, q1, hk1, cm1, hkk1⟩ := (hC.K.2 t _ (xar6 hW h0)).1 n1 (fun j => .int (h j))
  obtain ⟨vm', X', step⟩ := X.arraycopy hC.1 hC.own (hC.w hlink) (hC.w hnat) (hC.w hstat) (hC.w hini) (src := a0) (dst := a) (cs := vp_cell (gA G t) (n0, .inl f)) (cd := vp_cell (gA G t) (n1, .inl h)) (srcPos := nI sp) (destPos := nI dp) (n := nI n) (by rw [hT]; exact hc0) (by rw [hT]; exact hc1)
    (fun _ h => by cases h) (fun _ h => by cases h) (fun h => by cases h) (fun h => by cases h) hk0 hk1 hkk0 hkk1 (by simp [hprim]) s3 d3 m3
    (by rw [s1, m1]; show ¬ _ > ((arrV (gA G t) n0 (fun j => .int (f j))).slots.size : Int); rw [arrV_size]; omega)
    (by rw [d1, m1]; show ¬ _ > ((arrV (gA G t) n1 (fun j => .int (h j))).slots.size : Int); rw [arrV_size]; omega)
    (fun vm₁ _ i hi => by
      rw [m2] at hi
      have e : (vp_cell (gA G t) (n0, .inl f)).slots.getD ((nI sp).toNatClampNeg + i) .null = .int (f (sp + i)) := by
        rw [s2]
        show (arrV (gA G t) n0 (fun j => .int (f j))).slots.getD _ _ = _
        rw [Array.getD_eq_getD_getElem?, arrV_read _ _ (by omega)]
        rfl
      refine ⟨?_, ?_⟩
      · rw [e]
        exact hfit i hi
      · rw [e]
        exact trivial)
    (g := F0 (xm C) pc ls (.int (nI n) :: .int (nI dp) :: .ref a :: .int (nI sp) :: .ref a0 :: rest)) rfl hl.1 (rest := rest) rfl (by rw [hC.2.1]; exact hdg) (by rw [hC.room]; exact hframes) (by rw [hC.room]; show 2 * 0 + _ + _ ≤ _; omega)
  have e1 : copied (vp_cell (gA G t) (n0, .inl f)) (vp_cell (gA G t) (n1, .inl h)) (nI sp) (nI dp) (nI n) = vp_cell (gA G t) (n1, .inl (va_cpy f h sp dp n)) := by
    have e2 := va_copied (fun z => Value.int z) (gA G t) (gA G t) (n1 := n1) (dp := dp) f h h4
    show (vp_cell (gA G t) (n1, .inl h)).storeRun (nI dp).toNatClampNeg ((vp_cell (gA G t) (n0, .inl f)).stretch (nI sp).toNatClampNeg (nI n).toNatClampNeg) = _
    rw [s2, d2, m2]
    exact e2
  rw [e1] at X' step
  have hl2 : a < H.size := (Array.getElem?_eq_some_iff.mp hc1).1
  have hheap : ((T.setVm vm').setCell a (vp_cell (gA G t) (n1, .inl (va_cpy f h sp dp n)))).heap = H.setIfInBounds a (vp_cell (gA G t) (n1, .inl (va_cpy f h sp dp n))) := by rw [← hT]; rfl
  have oq : ∀ q : Nat, q ≠ a → (H.setIfInBounds a (vp_cell (gA G t) (n1, .inl (va_cpy f h sp dp n))))[q]? = H[q]? := fun q hq => by simp [Array.getElem?_setIfInBounds, Ne.symm hq]
  have hsz : (H.setIfInBounds a (vp_cell (gA G t) (n1, .inl (va_cpy f h sp dp n)))).size = H.size := by simp
  have hba := (hW.2.2 _ _ h1).1 hg
  obtain ⟨t2, a1, b1⟩ := kk _ _ ls (hW.put h1 hg hsz oq ⟨(hW.2.2 _ _ h1).2.1, by show (H.setIfInBounds a _)[a]? = some _; simp [Array.getElem?_setIfInBounds, hl2]⟩) (by rw [hsz]; exact hz) (fun q h => by
    rcases List.mem_append.mp h with h | h
    · exact hq q h
    · obtain ⟨z, -, hz⟩ := List.mem_map.mp h
      rw [← hz]
      exact hba) hl _ hheap X'
  exact ⟨t2, step t2 a1, b1⟩
end XCP

