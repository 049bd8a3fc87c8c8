/-! ===== methods with handlers ===== -/
/-- the contract of a method with handlers -/
def CqW (G : X_G) (y : MethodName) (cc : ByteArray) (nL : Nat) (ret : Option FieldType) (hh : List (Nat × Nat × Nat × Nat)) (rm : Room) (av : List Value) (M : X_M) (post : Option Value → X_M → Prop) (px : Nat → String → X_M → Prop) : Prop :=
  ex_Met (gl G) y (wsW_ y cc nL ret hh) rm (Pg G av M) (Qg G post) (XQ G px) rm.cells rm.slots (fun q => g0 G ≤ q)
def CxW (G : X_G) (C : X_C) (post : Option Value → X_M → Prop) (px : Nat → String → X_M → Prop) (rm : Room) (hh : List (Nat × Nat × Nat × Nat)) : Prop := xQx G C post px rm ∧ (xc C).exceptionTable.toList = tableOf hh
theorem cqW_open {G : X_G} {y : MethodName} {cc : ByteArray} {nL : Nat} {ret : Option FieldType} {hh : List (Nat × Nat × Nat × Nat)} {rm : Room} {av : List Value} {M : X_M} {post : Option Value → X_M → Prop} {px : Nat → String → X_M → Prop} {lv : List (Option Value)} (hG : GOK G) (hy : plainName y.cls = true) (hlen : (lg_sl av).length ≤ nL) (hlv : xl0 nL av = lv)
    (body : ∀ C : X_C, Cx G C y cc nL ret rm → Ck G C post rm → CxW G C post px rm hh → Wg G C M 0 0 0 lv []) : CqW G y cc nL ret hh rm av M post px := by
  refine ex_ofWH (cc := cc) (maxL := nL) (ret := ret) (hh := hh) hy rfl ?_
  intro p e s m args below meth c s₁ B hml hv
  obtain ⟨rfl, hwarm, hW⟩ := hv
  have hts := atoms_spec (ws := wsW_ y cc nL ret hh) B.pre
  have ht : c.exceptionTable.toList = tableOf hh := ex_table (x := y) B (hts _ List.mem_cons_self)
  have hl := lv_entry av hlen
  rw [lg_entry_eq]
  refine body (p, e, rm, s, m, av.toArray, below, meth, c, ex_MQ below (Qg G post) (XQ G px) av.toArray s rm.cells rm.slots (fun q => g0 G ≤ q)) ⟨B.exec, B.bytes, hml, findClass_of_methodNamed B.named, fun w h => hts w (List.mem_cons_of_mem _ h), hwarm, hG, B.returns, B.notSynchronized, (name_of_methodNamed B.named B.method).1, rfl, hW.1, hW.2.1⟩ (fun _ _ _ h => ex_ret h) ⟨rfl, ht⟩ s.heap [] _ hW (Nat.le_refl _) (fun q h => by cases h) ⟨hl.1.trans hml.symm, hl.2.1, fun i v h => ?_⟩
  subst hlv
  have h1 := xl0_args av nL 0 i v h
  rw [Nat.zero_add] at h1
  exact hl.2.2 _ h1
section XHA
variable {G : X_G} {C : X_C} {M : X_M} {kc ks pc nL : Nat} {lv : List (Option Value)} {rest : List Value} {y : MethodName} {cc : ByteArray} {ret : Option FieldType} {rm : Room} {post : Option Value → X_M → Prop} {px : Nat → String → X_M → Prop} {hh : List (Nat × Nat × Nat × Nat)}
theorem x_outW {E : String} {q : Nat} (hC : Cx G C y cc nL ret rm) (hx : CxW G C post px rm hh) (hcov : ∀ z ∈ tableOf hh, covers z pc = false) (h1 : kc ≤ rm.cells) (h2 : ks ≤ rm.slots) (hp : px q E M) : Tg G C M kc ks pc lv E q := by
  intro H locs ls rest ce hW hz hq hl hce hv hcl
  rw [hx.1]
  exact ex_out (fun x h => hcov x (by rw [← hx.2]; exact h)) hC.locks hce hv hcl (fun t ht _ => ⟨M, hp, by rw [ht]; exact hW⟩) hq h1 h2
/-- caught by the row x of the table, behind rows of other classes -/
theorem x_catchW {E name : String} {q : Nat} (hC : Cx G C y cc nL ret rm) (hx : CxW G C post px rm hh) (pre : List (Nat × Nat × Nat × Nat)) (x : Nat × Nat × Nat × Nat) (suf : List (Nat × Nat × Nat × Nat)) (hsplit : hh = pre ++ x :: suf)
    (hpass : ∀ z ∈ pre, z.2.2.2 ≠ 0 ∧ ∃ nm : String, Cond.classLink y.cls z.2.2.2 nm ∈ lw_all ∧ (Jvm.Cond.not (.castable E nm)).before #[Value.ref (gb G)] (gs G) = true) (hcov : covers ⟨x.1, x.2.1, x.2.2.1, x.2.2.2⟩ pc = true) (h0 : x.2.2.2 ≠ 0)
    (hlink : Cond.classLink y.cls x.2.2.2 name ∈ lw_all) (hcast : Cond.castable E name ∈ lw_tbl) (kk : Wg G C M kc ks x.2.2.1 lv [.ref q]) : Tg G C M kc ks pc lv E q := by
  intro H locs ls rest ce hW hz9 hq hl hce hv hcl
  refine ex_catch hC.own (tableOf pre) ⟨x.1, x.2.1, x.2.2.1, x.2.2.2⟩ (tableOf suf) (by rw [hx.2, hsplit]; simp [tableOf]) (fun z hz => ?_) hcov h0 (hC.w hlink) (va_Nw.use rfl (x_casty hC hcast)) hce hv hcl (kk H locs ls hW hz9 hq hl)
  obtain ⟨w, hw, rfl⟩ := List.mem_map.mp hz
  obtain ⟨z1, nm, z2, z3⟩ := hpass w hw
  exact Or.inr ⟨z1, nm, hC.w z2, va_Nc.moved hC.warm.alike (va_Nc.of z3)⟩
theorem x_qSX (hC : Cx G C y cc nL ret rm) {z : MethodName} {bz : ByteArray} {nz index na k n : Nat} {rz : Option FieldType} {hz : List (Nat × Nat × Nat × Nat)} {rz_ : Room} {As st0 : List Value} {pst : Option Value → X_M → Prop} {px0 : Nat → String → X_M → Prop}
    (hM : CqW G z bz nz rz hz rz_ As M pst px0) (hw : GoodIn lw_all (va_wsS y.cls index z (wsW_ z bz nz rz hz)))
    (hd : z.cls ≠ "java/lang/invoke/MethodHandle" ∧ z.cls ≠ "java/lang/invoke/VarHandle" ∧ (parseMethodDescriptor z.desc).map (fun d => d.parameters.length) = some na) (hn : As.length = na) (hR : Rok rm rz_ nz) (hs : st0 = As.reverse ++ rest) (hst : (rest.map fun v => v.category).sum ≤ 8)
    (h1 : kc + rz_.cells ≤ k) (h2 : ks + rz_.slots ≤ n) (hf : k ≤ rm.cells ∧ n ≤ rm.slots) (hdg : decode cc pc = .ok (.invokestatic index, 3)) (kk : ∀ (r : Option Value) (M' : X_M), pst r M' → Wg G C M' k n (pc + 3) lv (xrt r rest)) (kx : ∀ (q : Nat) (E : String) (M' : X_M), px0 q E M' → Tg G C M' k n pc lv E q) : Wg G C M kc ks pc lv st0 := by
  subst hs
  refine x_runx (av := As.toArray) hC h1 h2 (fun H locs ls hW hz => ?_) kk kx
  exact ex_runSX (index := index) (n := na) hC.fix hM (ex_cwSW na (fun w h => hC.w h) hw rfl rfl rfl hd (by rw [hC.room]; exact hR)) ⟨Pg.blind, hC.pre hW⟩ rfl hn hz rfl (lv_room hst) hdg (by rw [hC.room]; omega)
theorem x_qVX (hC : Cx G C y cc nL ret rm) {z : MethodName} {bz : ByteArray} {nz index na k n b g ci N : Nat} {rz : Option FieldType} {hz : List (Nat × Nat × Nat × Nat)} {rz_ : Room} {As st0 : List Value} {pst : Option Value → X_M → Prop} {px0 : Nat → String → X_M → Prop} {Cn : String} {T : u_T} {fs : List Value}
    (hM : CqW G z bz nz rz hz rz_ (.ref b :: As) M pst px0) (hw : GoodIn lw_all (wsV y.cls index z.cls z (wsW_ z bz nz rz hz))) (he : M b = some (ob g ci fs)) (hcl : xcl[ci]? = some (Cn, T, N)) (hcn : Cn = z.cls)
    (hd : z.cls ≠ "java/lang/invoke/MethodHandle" ∧ z.cls ≠ "java/lang/invoke/VarHandle" ∧ (parseMethodDescriptor z.desc).map (fun d => d.parameters.length) = some na) (hn : As.length = na) (hR : Rok rm rz_ nz) (hs : st0 = As.reverse ++ .ref b :: rest) (hst : (rest.map fun v => v.category).sum ≤ 8)
    (h1 : kc + rz_.cells ≤ k) (h2 : ks + rz_.slots ≤ n) (hf : k ≤ rm.cells ∧ n ≤ rm.slots) (hdg : decode cc pc = .ok (.invokevirtual index, 3)) (kk : ∀ (r : Option Value) (M' : X_M), pst r M' → Wg G C M' k n (pc + 3) lv (xrt r rest)) (kx : ∀ (q : Nat) (E : String) (M' : X_M), px0 q E M' → Tg G C M' k n pc lv E q) : Wg G C M kc ks pc lv st0 := by
  subst hcn
  subst hs
  refine x_runx (av := (Value.ref b :: As).toArray) hC h1 h2 (fun H locs ls hW hz => ?_) kk kx
  exact ex_runVX (C := z.cls) (index := index) (n := na) hC.fix hM (ex_cwVW na (fun w h => hC.w h) hw rfl rfl rfl ⟨rfl, hd⟩ (by rw [hC.room]; exact hR)) ⟨Pg.blind, x_recv hC hW he hcl, hC.pre hW⟩ rfl hn hz rfl (lv_room hst) hdg (by rw [hC.room]; omega)
end XHA
theorem P9_4 {c : Nat} : ¬ P9 c 4 := fun z => by
  rcases z with z | z
  · revert z; decide
  · have := z.1; omega
theorem P9_x {c c' : Nat} (h : c ≠ c') : ∀ g, PA c g → ¬ P9 c' g := fun g h1 h2 => by
  rcases h2 with h2 | h2
  · have := h1.1
    rcases h2 with h2 | h2 | h2 | h2 <;> omega
  · exact PA_x h g h1 h2
theorem P9_pw {c : Nat} : ∀ g, P9 c g → PW g := fun g z => by
  rcases z with z | z
  · rcases z with z | z | z | z <;> subst z <;> exact ⟨by decide, by decide, by decide⟩
  · have := z.1
    exact ⟨by omega, by omega, by omega⟩
theorem CRp.p9 {S : X_S} {M M' : X_M} {T : X_T} {a bu ar dq : Nat} {sv : Option Nat} {fm : Nat} {bf : Nat → Int32} {H : List Nat} (h : CRp S M T a bu ar dq sv fm bf H) {q : Nat} (hq : M q = none) (hF : Fr (P9 q) M M') : CRp S M' T a bu ar dq sv fm bf H := by
  have ho := h.old hq
  obtain ⟨h1, h2, h3, h4, h5, h6, h7, h8⟩ := h
  obtain ⟨P0, n1, P2⟩ := P9_n (c := q)
  refine ⟨hF.z n1 h1, ⟨hF.z n1 h2.1, h2.2⟩, ⟨h3.1.fr hF P0 P2 (P9_x (ho _ (List.mem_append_left _ List.mem_cons_self))), h3.2⟩, ⟨h4.1.fr hF P9_4, h4.2.1, h4.2.2.1, fun i c R z1 z2 => ⟨(h4.2.2.2 i c R z1 z2).1.fr hF P0 P2 (P9_x (ho _ (List.mem_append_left _ (List.mem_cons_of_mem _ (List.mem_of_getElem? z1))))), (h4.2.2.2 i c R z1 z2).2⟩⟩, ?_, h6.fr hF P0, h7, hF.z P0 h8⟩
  rcases h5 with h5 | ⟨s, R, z1, z2, z3, z4⟩
  · exact Or.inl h5
  · exact Or.inr ⟨s, R, z1, z2, z3.fr hF P0 P2 (P9_x (ho _ (List.mem_append_right _ (by rw [z2]; exact List.mem_singleton.mpr rfl)))), z4⟩

