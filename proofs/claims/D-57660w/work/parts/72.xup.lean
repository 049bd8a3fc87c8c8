/-! ===== calls of inherited and overriding methods, super calls, calls by an interface ===== -/
section XUP
variable {G : X_G} {C : X_C} {M : X_M} {kc ks pc nL : Nat} {lv : List (Option Value)} {rest : List Value} {y : MethodName} {cc : ByteArray} {ret : Option FieldType} {rm : Room}
theorem x_classAt (hC : Cx G C y cc nL ret rm) {ci N : Nat} {Cn : String} {T : u_T} (hcl : xcl[ci]? = some (Cn, T, N)) : ClassAt (xs C) Cn ((gD G).1 ci) := (hC.K.1 ci _ hcl).2
/-- a method of a class above, found by the receiver -/
theorem x_callU (hC : Cx G C y cc nL ret rm) {x z : MethodName} {bz : ByteArray} {nz index na k n b g ci N : Nat} {rz : Option FieldType} {rz_ : Room} {As st0 : List Value} {pst : Option Value → X_M → Prop} {Cn owner : String} {T : u_T} {fs : List Value}
    (hM : Ct G z bz nz rz rz_ (.ref b :: As) M pst) (h1w : Cond.methodLink y.cls index x ∈ lw_all) (h2w : Cond.sameMethod x.cls owner x.name x.desc ∈ lw_all) (h3w : Cond.selects Cn x z ∈ lw_all) (h4w : Cond.instanceMethod z ∈ lw_all) (h5w : Cond.initialized z.cls ∈ lw_all) (h6w : Cond.code z bz nz rz ∈ lw_all) (hyx : z = ⟨owner, x.name, x.desc⟩) (he : M b = some (ob g ci fs)) (hcl : xcl[ci]? = some (Cn, T, N))
    (hd : owner ≠ "java/lang/invoke/MethodHandle" ∧ owner ≠ "java/lang/invoke/VarHandle" ∧ (parseMethodDescriptor x.desc).map (fun d => d.parameters.length) = some na) (hn : As.length = na) (hR : Rok rm rz_ nz) (hs : st0 = As.reverse ++ .ref b :: rest) (hst : (rest.map fun v => v.category).sum ≤ 8)
    (h1 : kc + rz_.cells ≤ k) (h2 : ks + rz_.slots ≤ n) (hf : k ≤ rm.cells ∧ n ≤ rm.slots) (hdg : decode cc pc = .ok (.invokevirtual index, 3)) (kk : ∀ (r : Option Value) (M' : X_M), pst r M' → Wg G C M' k n (pc + 3) lv (xrt r rest)) : Wg G C M kc ks pc lv st0 := by
  subst hs
  have hw : GoodIn lw_all (va_wsU y.cls index Cn owner x z (ws_ z bz nz rz)) := lw_app (a := [.methodLink y.cls index x, .sameMethod x.cls owner x.name x.desc, .selects Cn x z, .instanceMethod z, .initialized z.cls]) (fun w h => by
    simp only [List.mem_cons, List.not_mem_nil, or_false] at h
    rcases h with rfl | rfl | rfl | rfl | rfl
    · exact h1w
    · exact h2w
    · exact h3w
    · exact h4w
    · exact h5w) (lw_meth h6w)
  refine x_run (av := (Value.ref b :: As).toArray) hC h1 h2 (fun H locs ls hW hz => ?_) kk
  exact va_runU (C := Cn) (index := index) (n := na) hC.fix hM (va_cwU na (fun w h => hC.w h) hw rfl rfl rfl hyx hd (by rw [hC.room]; exact hR)) ⟨Pg.blind, x_recv hC hW he hcl, hC.pre hW⟩ rfl hn hz rfl (lv_room hst) hdg (by rw [hC.room]; omega)
theorem x_declares (hC : Cx G C y cc nL ret rm) {x : MethodName} (h : Cond.declares x ∈ lw_tbl) : va_Nw (.declares x) (xs C) := va_tabs rfl (rfl : ((gs G).setVm (xs C).vm).vm = (xs C).vm) (by rw [Cond.declares_setVm hC.warm.alike]; exact va_Nw.of rfl (hC.gok.2.1 _ h))
/-- an overriding method -/
theorem x_callA (hC : Cx G C y cc nL ret rm) {x z : MethodName} {bz : ByteArray} {nz index na k n b g ci N : Nat} {rz : Option FieldType} {rz_ : Room} {As st0 : List Value} {pst : Option Value → X_M → Prop} {Cn owner : String} {T : u_T} {fs : List Value}
    (hM : Ct G z bz nz rz rz_ (.ref b :: As) M pst) (h1w : Cond.methodLink y.cls index x ∈ lw_all) (h2w : Cond.sameMethod x.cls owner x.name x.desc ∈ lw_all) (h3w : Cond.selects Cn x z ∈ lw_all) (h4w : Cond.instanceMethod z ∈ lw_all) (h5w : Cond.initialized z.cls ∈ lw_all) (h6w : Cond.code z bz nz rz ∈ lw_all) (h7w : Cond.declares ⟨owner, x.name, x.desc⟩ ∈ lw_tbl) (he : M b = some (ob g ci fs)) (hcl : xcl[ci]? = some (Cn, T, N))
    (hd : owner ≠ "java/lang/invoke/MethodHandle" ∧ owner ≠ "java/lang/invoke/VarHandle" ∧ (parseMethodDescriptor x.desc).map (fun d => d.parameters.length) = some na) (hn : As.length = na) (hR : Rok rm rz_ nz) (hs : st0 = As.reverse ++ .ref b :: rest) (hst : (rest.map fun v => v.category).sum ≤ 8)
    (h1 : kc + rz_.cells ≤ k) (h2 : ks + rz_.slots ≤ n) (hf : k ≤ rm.cells ∧ n ≤ rm.slots) (hdg : decode cc pc = .ok (.invokevirtual index, 3)) (kk : ∀ (r : Option Value) (M' : X_M), pst r M' → Wg G C M' k n (pc + 3) lv (xrt r rest)) : Wg G C M kc ks pc lv st0 := by
  subst hs
  have hw : GoodIn lw_all (va_wsU y.cls index Cn owner x z (ws_ z bz nz rz)) := lw_app (a := [.methodLink y.cls index x, .sameMethod x.cls owner x.name x.desc, .selects Cn x z, .instanceMethod z, .initialized z.cls]) (fun w h => by
    simp only [List.mem_cons, List.not_mem_nil, or_false] at h
    rcases h with rfl | rfl | rfl | rfl | rfl
    · exact h1w
    · exact h2w
    · exact h3w
    · exact h4w
    · exact h5w) (lw_meth h6w)
  refine x_run (av := (Value.ref b :: As).toArray) hC h1 h2 (fun H locs ls hW hz => ?_) kk
  exact va_runU (C := Cn) (index := index) (n := na) hC.fix hM (va_cwA na (fun w h => hC.w h) hw rfl rfl rfl (x_declares hC h7w) hd (by rw [hC.room]; exact hR)) ⟨Pg.blind, x_recv hC hW he hcl, hC.pre hW⟩ rfl hn hz rfl (lv_room hst) hdg (by rw [hC.room]; omega)
/-- super.m(..) -/
theorem x_callSU (hC : Cx G C y cc nL ret rm) {z : MethodName} {bz : ByteArray} {nz index na k n b g ci N : Nat} {rz : Option FieldType} {rz_ : Room} {As st0 : List Value} {pst : Option Value → X_M → Prop} {Cn : String} {T : u_T} {fs : List Value}
    (hM : Ct G z bz nz rz rz_ (.ref b :: As) M pst) (h1w : Cond.methodLink y.cls index z ∈ lw_all) (h2w : Cond.sameMethod z.cls z.cls z.name z.desc ∈ lw_all) (h3w : Cond.superclass y.cls z.cls ∈ lw_all) (h4w : Cond.instanceMethod z ∈ lw_all) (h5w : Cond.initialized z.cls ∈ lw_all) (h6w : Cond.code z bz nz rz ∈ lw_all) (he : M b = some (ob g ci fs)) (hcl : xcl[ci]? = some (Cn, T, N))
    (hd : z.name ≠ "<init>" ∧ (parseMethodDescriptor z.desc).map (fun d => d.parameters.length) = some na) (hn : As.length = na) (hR : Rok rm rz_ nz) (hs : st0 = As.reverse ++ .ref b :: rest) (hst : (rest.map fun v => v.category).sum ≤ 8)
    (h1 : kc + rz_.cells ≤ k) (h2 : ks + rz_.slots ≤ n) (hf : k ≤ rm.cells ∧ n ≤ rm.slots) (hdg : decode cc pc = .ok (.invokespecial index, 3)) (kk : ∀ (r : Option Value) (M' : X_M), pst r M' → Wg G C M' k n (pc + 3) lv (xrt r rest)) : Wg G C M kc ks pc lv st0 := by
  subst hs
  have hw : GoodIn lw_all (va_wsSU y.cls index z (ws_ z bz nz rz)) := lw_app (a := [.methodLink y.cls index z, .sameMethod z.cls z.cls z.name z.desc, .superclass y.cls z.cls, .instanceMethod z, .initialized z.cls]) (fun w h => by
    simp only [List.mem_cons, List.not_mem_nil, or_false] at h
    rcases h with rfl | rfl | rfl | rfl | rfl
    · exact h1w
    · exact h2w
    · exact h3w
    · exact h4w
    · exact h5w) (lw_meth h6w)
  refine x_run (av := (Value.ref b :: As).toArray) hC h1 h2 (fun H locs ls hW hz => ?_) kk
  exact va_runSU (C := Cn) (index := index) (n := na) (x_classAt hC hcl) hC.fix hM (va_cwSU na (fun w h => hC.w h) hw rfl rfl rfl hd (by rw [hC.room]; exact hR)) ⟨Pg.blind, x_recv hC hW he hcl, hC.pre hW⟩ rfl hn hz rfl (lv_room hst) hdg (by rw [hC.room]; omega)
theorem x_run5 {mc ms k n : Nat} {st0 : List Value} {av : Array Value} {pst : Option Value → X_M → Prop} (hC : Cx G C y cc nL ret rm) (h1 : kc + mc ≤ k) (h2 : ks + ms ≤ n)
    (hr : ∀ (H : Heap) (locs : List Loc) (ls : Array Slot), Wd G M H → ls.size = nL → va_Run5 (xp C) (gl G) (xe C) (xR C) (xs C) (xm C) (xa C) (xb C) (xme C) (xc C) H locs kc ks mc ms (F0 (xm C) pc ls st0) rest (Qg G pst av) (fun q => g0 G ≤ q))
    (kk : ∀ (r : Option Value) (M' : X_M), pst r M' → Wg G C M' k n (pc + 5) lv (xrt r rest)) : Wg G C M kc ks pc lv st0 := by
  intro H locs ls hW hz hq hl T hT X
  obtain ⟨v, st₀, t, T', L, h0, X', hL, e1, e2, ⟨r, M', ho, hp, hw⟩, st⟩ := hr H locs ls hW (hl.1.trans hC.2.2.1) T hT X
  have hv : v = r := by cases ho; rfl
  subst hv
  obtain ⟨t2, a1, b1⟩ := W.widen h1 h2 (kk v M' hp T'.heap (locs ++ L) ls (by rw [e1]; exact hw) X'.same.2.1 (fun q h => by
    rcases List.mem_append.mp h with h | h
    · exact hq q h
    · exact hL q h) hl) T' rfl X'
  refine ⟨t2, st _ ?_, b1⟩
  cases v <;> exact a1
/-- by an interface -/
theorem x_callF (hC : Cx G C y cc nL ret rm) {x z : MethodName} {bz : ByteArray} {nz index count na k n b g ci N : Nat} {rz : Option FieldType} {rz_ : Room} {As st0 : List Value} {pst : Option Value → X_M → Prop} {Cn : String} {T : u_T} {fs : List Value}
    (hM : Ct G z bz nz rz rz_ (.ref b :: As) M pst) (h1w : Cond.methodLink y.cls index x ∈ lw_all) (h3w : Cond.selects Cn x z ∈ lw_all) (h4w : Cond.instanceMethod z ∈ lw_all) (h5w : Cond.initialized z.cls ∈ lw_all) (h6w : Cond.code z bz nz rz ∈ lw_all)
    (f1 : Cond.declares x ∈ lw_tbl) (f2 : Cond.interfaceMethod x.cls x.cls x.name x.desc ∈ lw_tbl) (f3 : Cond.publicMethod z ∈ lw_tbl) (f4 : Cond.unhidden Cn x.name x.desc ∈ lw_tbl) (f5 : Cond.castable Cn x.cls ∈ lw_tbl) (he : M b = some (ob g ci fs)) (hcl : xcl[ci]? = some (Cn, T, N))
    (hd : x.cls ≠ "java/lang/invoke/MethodHandle" ∧ x.cls ≠ "java/lang/invoke/VarHandle" ∧ (parseMethodDescriptor x.desc).map (fun d => d.parameters.length) = some na) (hn : As.length = na) (hR : Rok rm rz_ nz) (hs : st0 = As.reverse ++ .ref b :: rest) (hst : (rest.map fun v => v.category).sum ≤ 8)
    (h1 : kc + rz_.cells ≤ k) (h2 : ks + rz_.slots ≤ n) (hf : k ≤ rm.cells ∧ n ≤ rm.slots) (hdg : decode cc pc = .ok (.invokeinterface index count, 5)) (kk : ∀ (r : Option Value) (M' : X_M), pst r M' → Wg G C M' k n (pc + 5) lv (xrt r rest)) : Wg G C M kc ks pc lv st0 := by
  subst hs
  have hw : GoodIn lw_all (va_wsF y.cls index Cn x z (ws_ z bz nz rz)) := lw_app (a := [.methodLink y.cls index x, .selects Cn x z, .instanceMethod z, .initialized z.cls]) (fun w h => by
    simp only [List.mem_cons, List.not_mem_nil, or_false] at h
    rcases h with rfl | rfl | rfl | rfl
    · exact h1w
    · exact h3w
    · exact h4w
    · exact h5w) (lw_meth h6w)
  have hF : va_Fw Cn x z (xs C) := va_Fw.moved ⟨hd.1, hd.2.1⟩ hC.warm.alike (va_Fw.of (hC.gok.2.1 _ f1) (hC.gok.2.1 _ f2) (hC.gok.2.1 _ f3) (hC.gok.2.1 _ f4) (hC.gok.2.1 _ f5))
  refine x_run5 (av := (Value.ref b :: As).toArray) hC h1 h2 (fun H locs ls hW hz => ?_) kk
  exact va_runF (C := Cn) (index := index) (n := na) (x_classAt hC hcl) hC.fix hM (va_cwF na (fun w h => hC.w h) hw rfl rfl rfl hF hd (by rw [hC.room]; exact hR)) ⟨Pg.blind, x_recv hC hW he hcl, hC.pre hW⟩ rfl hn hz rfl (lv_room hst) hdg (by rw [hC.room]; omega)
theorem x_callU0 (hC : Cx G C y cc nL ret rm) {x z : MethodName} {bz : ByteArray} {nz index na b g ci N : Nat} {rz : Option FieldType} {rz_ : Room} {As st0 : List Value} {pst : Option Value → X_M → Prop} {Cn owner : String} {T : u_T} {fs : List Value}
    (hM : Ct G z bz nz rz rz_ (.ref b :: As) M pst) (h1w : Cond.methodLink y.cls index x ∈ lw_all) (h2w : Cond.sameMethod x.cls owner x.name x.desc ∈ lw_all) (h3w : Cond.selects Cn x z ∈ lw_all) (h4w : Cond.instanceMethod z ∈ lw_all) (h5w : Cond.initialized z.cls ∈ lw_all) (h6w : Cond.code z bz nz rz ∈ lw_all) (hyx : z = ⟨owner, x.name, x.desc⟩) (he : M b = some (ob g ci fs)) (hcl : xcl[ci]? = some (Cn, T, N))
    (hd : owner ≠ "java/lang/invoke/MethodHandle" ∧ owner ≠ "java/lang/invoke/VarHandle" ∧ (parseMethodDescriptor x.desc).map (fun d => d.parameters.length) = some na) (hn : As.length = na) (hR : Rok rm rz_ nz) (hs : st0 = As.reverse ++ .ref b :: rest) (hst : (rest.map fun v => v.category).sum ≤ 8)
    (hz0 : rz_.cells = 0 ∧ rz_.slots = 0) (hf : kc ≤ rm.cells ∧ ks ≤ rm.slots) (hdg : decode cc pc = .ok (.invokevirtual index, 3)) (kk : ∀ (r : Option Value) (M' : X_M), pst r M' → Wg G C M' kc ks (pc + 3) lv (xrt r rest)) : Wg G C M kc ks pc lv st0 := x_callU hC hM h1w h2w h3w h4w h5w h6w hyx he hcl hd hn hR hs hst (by rw [hz0.1]; exact Nat.le_refl _) (by rw [hz0.2]; exact Nat.le_refl _) hf hdg kk
theorem x_callA0 (hC : Cx G C y cc nL ret rm) {x z : MethodName} {bz : ByteArray} {nz index na b g ci N : Nat} {rz : Option FieldType} {rz_ : Room} {As st0 : List Value} {pst : Option Value → X_M → Prop} {Cn owner : String} {T : u_T} {fs : List Value}
    (hM : Ct G z bz nz rz rz_ (.ref b :: As) M pst) (h1w : Cond.methodLink y.cls index x ∈ lw_all) (h2w : Cond.sameMethod x.cls owner x.name x.desc ∈ lw_all) (h3w : Cond.selects Cn x z ∈ lw_all) (h4w : Cond.instanceMethod z ∈ lw_all) (h5w : Cond.initialized z.cls ∈ lw_all) (h6w : Cond.code z bz nz rz ∈ lw_all) (h7w : Cond.declares ⟨owner, x.name, x.desc⟩ ∈ lw_tbl) (he : M b = some (ob g ci fs)) (hcl : xcl[ci]? = some (Cn, T, N))
    (hd : owner ≠ "java/lang/invoke/MethodHandle" ∧ owner ≠ "java/lang/invoke/VarHandle" ∧ (parseMethodDescriptor x.desc).map (fun d => d.parameters.length) = some na) (hn : As.length = na) (hR : Rok rm rz_ nz) (hs : st0 = As.reverse ++ .ref b :: rest) (hst : (rest.map fun v => v.category).sum ≤ 8)
    (hz0 : rz_.cells = 0 ∧ rz_.slots = 0) (hf : kc ≤ rm.cells ∧ ks ≤ rm.slots) (hdg : decode cc pc = .ok (.invokevirtual index, 3)) (kk : ∀ (r : Option Value) (M' : X_M), pst r M' → Wg G C M' kc ks (pc + 3) lv (xrt r rest)) : Wg G C M kc ks pc lv st0 := x_callA hC hM h1w h2w h3w h4w h5w h6w h7w he hcl hd hn hR hs hst (by rw [hz0.1]; exact Nat.le_refl _) (by rw [hz0.2]; exact Nat.le_refl _) hf hdg kk
theorem x_callSU0 (hC : Cx G C y cc nL ret rm) {z : MethodName} {bz : ByteArray} {nz index na b g ci N : Nat} {rz : Option FieldType} {rz_ : Room} {As st0 : List Value} {pst : Option Value → X_M → Prop} {Cn : String} {T : u_T} {fs : List Value}
    (hM : Ct G z bz nz rz rz_ (.ref b :: As) M pst) (h1w : Cond.methodLink y.cls index z ∈ lw_all) (h2w : Cond.sameMethod z.cls z.cls z.name z.desc ∈ lw_all) (h3w : Cond.superclass y.cls z.cls ∈ lw_all) (h4w : Cond.instanceMethod z ∈ lw_all) (h5w : Cond.initialized z.cls ∈ lw_all) (h6w : Cond.code z bz nz rz ∈ lw_all) (he : M b = some (ob g ci fs)) (hcl : xcl[ci]? = some (Cn, T, N))
    (hd : z.name ≠ "<init>" ∧ (parseMethodDescriptor z.desc).map (fun d => d.parameters.length) = some na) (hn : As.length = na) (hR : Rok rm rz_ nz) (hs : st0 = As.reverse ++ .ref b :: rest) (hst : (rest.map fun v => v.category).sum ≤ 8)
    (hz0 : rz_.cells = 0 ∧ rz_.slots = 0) (hf : kc ≤ rm.cells ∧ ks ≤ rm.slots) (hdg : decode cc pc = .ok (.invokespecial index, 3)) (kk : ∀ (r : Option Value) (M' : X_M), pst r M' → Wg G C M' kc ks (pc + 3) lv (xrt r rest)) : Wg G C M kc ks pc lv st0 := x_callSU hC hM h1w h2w h3w h4w h5w h6w he hcl hd hn hR hs hst (by rw [hz0.1]; exact Nat.le_refl _) (by rw [hz0.2]; exact Nat.le_refl _) hf hdg kk
theorem x_callF0 (hC : Cx G C y cc nL ret rm) {x z : MethodName} {bz : ByteArray} {nz index count na b g ci N : Nat} {rz : Option FieldType} {rz_ : Room} {As st0 : List Value} {pst : Option Value → X_M → Prop} {Cn : String} {T : u_T} {fs : List Value}
    (hM : Ct G z bz nz rz rz_ (.ref b :: As) M pst) (h1w : Cond.methodLink y.cls index x ∈ lw_all) (h3w : Cond.selects Cn x z ∈ lw_all) (h4w : Cond.instanceMethod z ∈ lw_all) (h5w : Cond.initialized z.cls ∈ lw_all) (h6w : Cond.code z bz nz rz ∈ lw_all)
    (f1 : Cond.declares x ∈ lw_tbl) (f2 : Cond.interfaceMethod x.cls x.cls x.name x.desc ∈ lw_tbl) (f3 : Cond.publicMethod z ∈ lw_tbl) (f4 : Cond.unhidden Cn x.name x.desc ∈ lw_tbl) (f5 : Cond.castable Cn x.cls ∈ lw_tbl) (he : M b = some (ob g ci fs)) (hcl : xcl[ci]? = some (Cn, T, N))
    (hd : x.cls ≠ "java/lang/invoke/MethodHandle" ∧ x.cls ≠ "java/lang/invoke/VarHandle" ∧ (parseMethodDescriptor x.desc).map (fun d => d.parameters.length) = some na) (hn : As.length = na) (hR : Rok rm rz_ nz) (hs : st0 = As.reverse ++ .ref b :: rest) (hst : (rest.map fun v => v.category).sum ≤ 8)
    (hz0 : rz_.cells = 0 ∧ rz_.slots = 0) (hf : kc ≤ rm.cells ∧ ks ≤ rm.slots) (hdg : decode cc pc = .ok (.invokeinterface index count, 5)) (kk : ∀ (r : Option Value) (M' : X_M), pst r M' → Wg G C M' kc ks (pc + 5) lv (xrt r rest)) : Wg G C M kc ks pc lv st0 := x_callF hC hM h1w h3w h4w h5w h6w f1 f2 f3 f4 f5 he hcl hd hn hR hs hst (by rw [hz0.1]; exact Nat.le_refl _) (by rw [hz0.2]; exact Nat.le_refl _) hf hdg kk
end XUP

