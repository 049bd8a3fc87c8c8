/-! ===== contracts of methods that may throw, over a world map (made by gen/xexc2.py) ===== -/
def XQ (G : X_G) (px : Nat → String → X_M → Prop) : Addr → String → State → State → Prop := fun q E _ t => ∃ M' : X_M, px q E M' ∧ Wd G M' t.heap
/-- from the arguments av in a world with M, y returns, with post of its answer and the world, or throws q of class E, with px of these and the world -/
def Cq (G : X_G) (y : MethodName) (cc : ByteArray) (nL : Nat) (ret : Option FieldType) (rm : Room) (av : List Value) (M : X_M) (post : Option Value → X_M → Prop) (px : Nat → String → X_M → Prop) : Prop :=
  ex_Met (gl G) y (ws_ y cc nL ret) rm (Pg G av M) (Qg G post) (XQ G px) rm.cells rm.slots (fun q => g0 G ≤ q)
/-- over the frame at pc lies the thrown q of class E -/
def Tg (G : X_G) (C : X_C) (M : X_M) (kc ks pc : Nat) (lv : List (Option Value)) (E : String) (q : Nat) : Prop :=
  ∀ (H : Heap) (locs : List Loc) (ls : Array Slot) (rest : List Value) (ce : Cell), Wd G M H → (xs C).heap.size ≤ H.size → (∀ z ∈ locs, g0 G ≤ z.base) → xl_has ls (xc C).maxLocals lv → H[q]? = some ce → ce.vm = .none → (xs C).vm.findClass E = some ce.cls →
    ex_W (xp C) (gl G) (xe C) (xR C) (xs C) (xm C) (xa C) (xb C) (xme C) (xc C) H locs kc ks (xQ C) (F0 (xm C) pc ls rest) q
/-- what a method owes that may throw, by its room -/
abbrev xQx (G : X_G) (C : X_C) (post : Option Value → X_M → Prop) (px : Nat → String → X_M → Prop) (rm : Room) : Prop := xQ C = ex_MQ (xb C) (Qg G post) (XQ G px) (xa C) (xs C) rm.cells rm.slots (fun q => g0 G ≤ q)
/-- .. one without a handler -/
def Cxx (G : X_G) (C : X_C) (post : Option Value → X_M → Prop) (px : Nat → String → X_M → Prop) (rm : Room) : Prop := xQx G C post px rm ∧ ∀ x ∈ (xc C).exceptionTable.toList, False
theorem cq_open {G : X_G} {y : MethodName} {cc : ByteArray} {nL : Nat} {ret : Option FieldType} {rm : Room} {av : List Value} {M : X_M} {post : Option Value → X_M → Prop} {px : Nat → String → X_M → Prop} {lv : List (Option Value)} (hG : GOK G) (hy : plainName y.cls = true) (hlen : (lg_sl av).length ≤ nL) (hlv : xl0 nL av = lv)
    (body : ∀ C : X_C, Cx G C y cc nL ret rm → Ck G C post rm → Cxx G C post px rm → Wg G C M 0 0 0 lv []) : Cq G y cc nL ret rm av M post px := by
  refine ex_ofW (cc := cc) (maxL := nL) (ret := ret) hy rfl ?_
  intro p e s m args below meth c s₁ B hml ht hv
  obtain ⟨rfl, hwarm, hW⟩ := hv
  have hts := atoms_spec (ws := ws_ y cc nL ret) B.pre
  have hl := lv_entry av hlen
  rw [lg_entry_eq]
  refine body (p, e, rm, s, m, av.toArray, below, meth, c, ex_MQ below (Qg G post) (XQ G px) av.toArray s rm.cells rm.slots (fun q => g0 G ≤ q)) ⟨B.exec, B.bytes, hml, findClass_of_methodNamed B.named, fun w h => hts w (List.mem_cons_of_mem _ h), hwarm, hG, B.returns, B.notSynchronized, (name_of_methodNamed B.named B.method).1, rfl, hW.1, hW.2.1⟩ (fun _ _ _ h => ex_ret h) ⟨rfl, ht⟩ s.heap [] _ hW (Nat.le_refl _) (fun q h => by cases h) ⟨hl.1.trans hml.symm, hl.2.1, fun i v h => ?_⟩
  subst hlv
  have h1 := xl0_args av nL 0 i v h
  rw [Nat.zero_add] at h1
  exact hl.2.2 _ h1
section XXC
variable {G : X_G} {C : X_C} {M : X_M} {kc ks pc nL : Nat} {lv : List (Option Value)} {rest : List Value} {y : MethodName} {cc : ByteArray} {ret : Option FieldType} {rm : Room} {post : Option Value → X_M → Prop} {px : Nat → String → X_M → Prop}
/-- not caught here: it goes on to the caller -/
theorem x_out {E : String} {q : Nat} (hC : Cx G C y cc nL ret rm) (hx : Cxx G C post px rm) (h1 : kc ≤ rm.cells) (h2 : ks ≤ rm.slots) (hp : px q E M) : Tg G C M kc ks pc lv E q := by
  intro H locs ls rest ce hW hz hq hl hce hv hcl
  rw [hx.1]
  exact ex_out (fun x h => (hx.2 x h).elim) hC.locks hce hv hcl (fun t ht _ => ⟨M, hp, by rw [ht]; exact hW⟩) hq h1 h2
theorem Tg.wk {E : String} {q k n : Nat} (h1 : kc ≤ k) (h2 : ks ≤ n) (h : Tg G C M k n pc lv E q) : Tg G C M kc ks pc lv E q := fun H locs ls rest ce hW hz hq hl hce hv hcl => ex_widen h1 h2 (h H locs ls rest ce hW hz hq hl hce hv hcl)
theorem x_runx {mc ms k n : Nat} {st0 : List Value} {av : Array Value} {pst : Option Value → X_M → Prop} {px0 : Nat → String → X_M → Prop} (hC : Cx G C y cc nL ret rm) (h1 : kc + mc ≤ k) (h2 : ks + ms ≤ n)
    (hr : ∀ (H : Heap) (locs : List Loc) (ls : Array Slot), Wd G M H → ls.size = nL → ex_Run (xp C) (gl G) (xe C) (xR C) (xs C) (xm C) (xa C) (xb C) (xme C) (xc C) H locs kc ks mc ms (F0 (xm C) pc ls st0) rest (Qg G pst av) (XQ G px0) (fun q => g0 G ≤ q))
    (kk : ∀ (r : Option Value) (M' : X_M), pst r M' → Wg G C M' k n (pc + 3) lv (xrt r rest)) (kx : ∀ (q : Nat) (E : String) (M' : X_M), px0 q E M' → Tg G C M' k n pc lv E q) : Wg G C M kc ks pc lv st0 := by
  intro H locs ls hW hz hq hl T hT X
  rcases hr H locs ls hW (hl.1.trans hC.2.2.1) T hT X with ⟨v, st₀, t, T', L, h0, X', hL, e1, e2, ⟨r, M', ho, hp, hw⟩, st⟩ | ⟨q, st₀, t, T', L, E, ce, h0, X', hL, e1, e2, ⟨M', hp, hw⟩, hce, hcv, hcl, st⟩
  · have hv : v = r := by cases ho; rfl
    subst hv
    obtain ⟨t2, a1, b1⟩ := W.widen h1 h2 (kk v M' hp T'.heap (locs ++ L) ls (by rw [e1]; exact hw) X'.same.2.1 (fun q h => by
      rcases List.mem_append.mp h with h | h
      · exact hq q h
      · exact hL q h) hl) T' rfl X'
    refine ⟨t2, st _ ?_, b1⟩
    cases v <;> exact a1
  · obtain ⟨t2, a1, b1⟩ := ex_widen h1 h2 (kx q E M' hp T'.heap (locs ++ L) ls rest ce (by rw [e1]; exact hw) X'.same.2.1 (fun z h => by
      rcases List.mem_append.mp h with h | h
      · exact hq z h
      · exact hL z h) hl (by rw [e1]; exact hce) hcv hcl) T' rfl X'
    exact ⟨t2, st.trans a1, b1⟩
theorem x_qS (hC : Cx G C y cc nL ret rm) {z : MethodName} {bz : ByteArray} {nz index na k n : Nat} {rz : Option FieldType} {rz_ : Room} {As st0 : List Value} {pst : Option Value → X_M → Prop} {px0 : Nat → String → X_M → Prop}
    (hM : Cq G z bz nz rz rz_ As M pst px0) (hw : GoodIn lw_all (va_wsS y.cls index z (ws_ z bz nz rz)))
    (hd : z.cls ≠ "java/lang/invoke/MethodHandle" ∧ z.cls ≠ "java/lang/invoke/VarHandle" ∧ (parseMethodDescriptor z.desc).map (fun d => d.parameters.length) = some na) (hn : As.length = na) (hR : Rok rm rz_ nz) (hs : st0 = As.reverse ++ rest) (hst : (rest.map fun v => v.category).sum ≤ 8)
    (h1 : kc + rz_.cells ≤ k) (h2 : ks + rz_.slots ≤ n) (hf : k ≤ rm.cells ∧ n ≤ rm.slots) (hdg : decode cc pc = .ok (.invokestatic index, 3)) (kk : ∀ (r : Option Value) (M' : X_M), pst r M' → Wg G C M' k n (pc + 3) lv (xrt r rest)) (kx : ∀ (q : Nat) (E : String) (M' : X_M), px0 q E M' → Tg G C M' k n pc lv E q) : Wg G C M kc ks pc lv st0 := by
  subst hs
  refine x_runx (av := As.toArray) hC h1 h2 (fun H locs ls hW hz => ?_) kk kx
  exact ex_runS (index := index) (n := na) hC.fix hM (va_cwS na (fun w h => hC.w h) hw rfl rfl rfl hd (by rw [hC.room]; exact hR)) ⟨Pg.blind, hC.pre hW⟩ rfl hn hz rfl (lv_room hst) hdg (by rw [hC.room]; omega)
theorem x_qV (hC : Cx G C y cc nL ret rm) {z : MethodName} {bz : ByteArray} {nz index na k n b g ci N : Nat} {rz : Option FieldType} {rz_ : Room} {As st0 : List Value} {pst : Option Value → X_M → Prop} {px0 : Nat → String → X_M → Prop} {Cn : String} {T : u_T} {fs : List Value}
    (hM : Cq G z bz nz rz rz_ (.ref b :: As) M pst px0) (hw : GoodIn lw_all (wsV y.cls index z.cls z (ws_ z bz nz rz))) (he : M b = some (ob g ci fs)) (hcl : xcl[ci]? = some (Cn, T, N)) (hcn : Cn = z.cls)
    (hd : z.cls ≠ "java/lang/invoke/MethodHandle" ∧ z.cls ≠ "java/lang/invoke/VarHandle" ∧ (parseMethodDescriptor z.desc).map (fun d => d.parameters.length) = some na) (hn : As.length = na) (hR : Rok rm rz_ nz) (hs : st0 = As.reverse ++ .ref b :: rest) (hst : (rest.map fun v => v.category).sum ≤ 8)
    (h1 : kc + rz_.cells ≤ k) (h2 : ks + rz_.slots ≤ n) (hf : k ≤ rm.cells ∧ n ≤ rm.slots) (hdg : decode cc pc = .ok (.invokevirtual index, 3)) (kk : ∀ (r : Option Value) (M' : X_M), pst r M' → Wg G C M' k n (pc + 3) lv (xrt r rest)) (kx : ∀ (q : Nat) (E : String) (M' : X_M), px0 q E M' → Tg G C M' k n pc lv E q) : Wg G C M kc ks pc lv st0 := by
  subst hcn
  subst hs
  refine x_runx (av := (Value.ref b :: As).toArray) hC h1 h2 (fun H locs ls hW hz => ?_) kk kx
  exact ex_runV (C := z.cls) (index := index) (n := na) hC.fix hM (cwV na (fun w h => hC.w h) hw rfl rfl rfl ⟨rfl, hd⟩ (by rw [hC.room]; exact hR)) ⟨Pg.blind, x_recv hC hW he hcl, hC.pre hW⟩ rfl hn hz rfl (lv_room hst) hdg (by rw [hC.room]; omega)
theorem x_qVN (hC : Cx G C y cc nL ret rm) {z : MethodName} {host : String} {bz : ByteArray} {nz index na k n b g ci N : Nat} {rz : Option FieldType} {rz_ : Room} {As st0 : List Value} {pst : Option Value → X_M → Prop} {px0 : Nat → String → X_M → Prop} {Cn : String} {T : u_T} {fs : List Value}
    (hM : Cq G z bz nz rz rz_ (.ref b :: As) M pst px0) (hco : Cond.code z bz nz rz ∈ lw_all) (hins : Cond.instanceMethod z ∈ lw_all) (hsel : Cond.selects z.cls z z ∈ lw_all) (hini : Cond.initialized z.cls ∈ lw_all) (hlink : Cond.methodLinkNest y.cls index z host ∈ lw_tbl) (he : M b = some (ob g ci fs)) (hcl : xcl[ci]? = some (Cn, T, N)) (hcn : Cn = z.cls)
    (hd : z.cls ≠ "java/lang/invoke/MethodHandle" ∧ z.cls ≠ "java/lang/invoke/VarHandle" ∧ (parseMethodDescriptor z.desc).map (fun d => d.parameters.length) = some na) (hn : As.length = na) (hR : Rok rm rz_ nz) (hs : st0 = As.reverse ++ .ref b :: rest) (hst : (rest.map fun v => v.category).sum ≤ 8)
    (h1 : kc + rz_.cells ≤ k) (h2 : ks + rz_.slots ≤ n) (hf : k ≤ rm.cells ∧ n ≤ rm.slots) (hdg : decode cc pc = .ok (.invokevirtual index, 3)) (kk : ∀ (r : Option Value) (M' : X_M), pst r M' → Wg G C M' k n (pc + 3) lv (xrt r rest)) (kx : ∀ (q : Nat) (E : String) (M' : X_M), px0 q E M' → Tg G C M' k n pc lv E q) : Wg G C M kc ks pc lv st0 := by
  subst hcn
  subst hs
  refine x_runx (av := (Value.ref b :: As).toArray) hC h1 h2 (fun H locs ls hW hz => ?_) kk kx
  exact ex_runVN (C := z.cls) (index := index) (n := na) hC.fix hM ⟨va_cnB na (fun w h => hC.w h) (lw_meth hco) rfl rfl rfl (x_nestM hC hlink) (hC.w hini) hd (by rw [hC.room]; exact hR), hC.w hins, hC.w hsel⟩ ⟨Pg.blind, x_recv hC hW he hcl, hC.pre hW⟩ rfl hn hz rfl (lv_room hst) hdg (by rw [hC.room]; omega)
theorem x_qSN (hC : Cx G C y cc nL ret rm) {z : MethodName} {host : String} {bz : ByteArray} {nz index na k n : Nat} {rz : Option FieldType} {rz_ : Room} {As st0 : List Value} {pst : Option Value → X_M → Prop} {px0 : Nat → String → X_M → Prop}
    (hM : Cq G z bz nz rz rz_ As M pst px0) (hco : Cond.code z bz nz rz ∈ lw_all) (hsta : Cond.static z ∈ lw_all) (hini : Cond.initialized z.cls ∈ lw_all) (hlink : Cond.methodLinkNest y.cls index z host ∈ lw_tbl)
    (hd : z.cls ≠ "java/lang/invoke/MethodHandle" ∧ z.cls ≠ "java/lang/invoke/VarHandle" ∧ (parseMethodDescriptor z.desc).map (fun d => d.parameters.length) = some na) (hn : As.length = na) (hR : Rok rm rz_ nz) (hs : st0 = As.reverse ++ rest) (hst : (rest.map fun v => v.category).sum ≤ 8)
    (h1 : kc + rz_.cells ≤ k) (h2 : ks + rz_.slots ≤ n) (hf : k ≤ rm.cells ∧ n ≤ rm.slots) (hdg : decode cc pc = .ok (.invokestatic index, 3)) (kk : ∀ (r : Option Value) (M' : X_M), pst r M' → Wg G C M' k n (pc + 3) lv (xrt r rest)) (kx : ∀ (q : Nat) (E : String) (M' : X_M), px0 q E M' → Tg G C M' k n pc lv E q) : Wg G C M kc ks pc lv st0 := by
  subst hs
  refine x_runx (av := As.toArray) hC h1 h2 (fun H locs ls hW hz => ?_) kk kx
  exact ex_runSN (index := index) (n := na) hC.fix hM ⟨va_cnB na (fun w h => hC.w h) (lw_meth hco) rfl rfl rfl (x_nestM hC hlink) (hC.w hini) hd (by rw [hC.room]; exact hR), hC.w hsta, trivial⟩ ⟨Pg.blind, hC.pre hW⟩ rfl hn hz rfl (lv_room hst) hdg (by rw [hC.room]; omega)
theorem x_cell (hC : Cx G C y cc nL ret rm) {H : Heap} (hW : Wd G M H) {a g ci N : Nat} {fs : List Value} {Cn : String} {T : u_T} (he : M a = some (ob g ci fs)) (hcl : xcl[ci]? = some (Cn, T, N)) : ∃ cell : Cell, H[a]? = some cell ∧ cell.vm = .none ∧ (xs C).vm.findClass Cn = some cell.cls := by
  obtain ⟨q', h1, cell, g1, g2, g3, -⟩ := (hW.2.2 _ _ he).2
  exact ⟨cell, g1, g3, by rw [g2]; exact (hC.K.1 ci _ hcl).2.1⟩
/-- 'throw' of an object at hand -/
theorem x_athrow {q : Nat} {g ci N : Nat} {fs : List Value} {Cn : String} {T : u_T} (hC : Cx G C y cc nL ret rm) (he : M q = some (ob g ci fs)) (hcl : xcl[ci]? = some (Cn, T, N)) (hdg : decode cc pc = .ok (.athrow, 1)) (k : Tg G C M kc ks pc lv Cn q) : Wg G C M kc ks pc lv (.ref q :: rest) := by
  intro H locs ls hW hz hq hl
  obtain ⟨ce, h1, h2, h3⟩ := x_cell hC hW he hcl
  exact ex_athrow hC.1 hC.2.1 hdg (k H locs ls rest ce hW hz hq hl h1 h2 h3)
end XXC
/-! words of the start -/
theorem an_l {a b : Cond} {A : Array Value} {s : State} (h : (Jvm.Cond.and a b).before A s = true) : a.before A s = true := by
  rw [Cond.before_and, Bool.and_eq_true] at h
  exact h.1
theorem an_r {a b : Cond} {A : Array Value} {s : State} (h : (Jvm.Cond.and a b).before A s = true) : b.before A s = true := by
  rw [Cond.before_and, Bool.and_eq_true] at h
  exact h.2
theorem nw_0 {G : X_G} (hG : GOK G) : narrow_1.before #[Value.ref (gb G)] (gs G) = true := an_r hG.2.2.2
theorem nw_U {G : X_G} (hG : GOK G) : (Jvm.Cond.isRef (Jvm.Term.static "java/lang/Throwable" "UNASSIGNED_STACK" "[Ljava/lang/StackTraceElement;")).before #[Value.ref (gb G)] (gs G) = true := an_r (an_r (an_r (an_r (an_l (an_l (an_l (an_l (an_l (an_l (an_l (nw_0 hG)))))))))))
theorem nw_S {G : X_G} (hG : GOK G) : (Jvm.Cond.isRef (Jvm.Term.static "java/lang/Throwable" "SUPPRESSED_SENTINEL" "Ljava/util/List;")).before #[Value.ref (gb G)] (gs G) = true := an_l (an_l (an_l (an_r (an_l (an_l (an_l (an_l (an_l (an_l (nw_0 hG))))))))))
theorem Wd.grow {G : X_G} {M : X_M} {H H1 : Heap} (h : Wd G M H) (hz : H.size ≤ H1.size) (ho : ∀ q : Nat, q < H.size → H1[q]? = H[q]?) : Wd G M H1 :=
  ⟨Nat.le_trans h.1 hz, fun q hq => by rw [ho q (Nat.lt_of_lt_of_le hq h.1)]; exact h.2.1 q hq, fun a e ha => ⟨(h.2.2 a e ha).1, (h.2.2 a e ha).2.kept (ho a (h.2.2 a e ha).2.lt)⟩⟩
def ex_cd : Cond → Bool
  | .castable _ _ => true
  | .declares _ => true
  | _ => false
theorem ex_cd_spec {w : Cond} (h : ex_cd w = true) : (∃ A B, w = .castable A B) ∨ ∃ x, w = .declares x := by
  unfold ex_cd at h
  split at h
  · exact Or.inl ⟨_, _, rfl⟩
  · exact Or.inr ⟨_, rfl⟩
  · cases h
section XXT
variable {G : X_G} {C : X_C} {M : X_M} {kc ks pc nL : Nat} {lv : List (Option Value)} {rest : List Value} {y : MethodName} {cc : ByteArray} {ret : Option FieldType} {rm : Room} {post : Option Value → X_M → Prop} {px : Nat → String → X_M → Prop}
theorem x_hat (hC : Cx G C y cc nL ret rm) {L : List Cond} (h1 : ∀ w ∈ L, w ∈ lw_tbl) (h2 : ∀ w ∈ L.filter (fun w => !goodWord w), ex_cd w = true) : ∀ w ∈ L, w.before (xa C) (xs C) = true := by
  intro w hw
  by_cases g : goodWord w = true
  · exact hC.w (lw_g (h1 w hw) g)
  · have h3 := h2 w (List.mem_filter.mpr ⟨hw, by rw [Bool.not_eq_true] at g; rw [g]; rfl⟩)
    have h4 := h1 w hw
    rcases ex_cd_spec h3 with ⟨A, B, rfl⟩ | ⟨x, rfl⟩
    · exact va_Nw.use rfl (va_Nw.warmC hC.warm (va_Nw.of rfl (hC.gok.2.1 _ h4)))
    · exact va_Nw.use rfl (show va_Nw (.declares x) (xs C) from va_tabs rfl (rfl : ((gs G).setVm (xs C).vm).vm = (xs C).vm) (by rw [Cond.declares_setVm hC.warm.alike]; exact va_Nw.of rfl (hC.gok.2.1 _ h4)))
theorem x_Zq (hC : Cx G C y cc nL ret rm) {D n d : String} (hl : Cond.laysStatic D n d ∈ lw_tbl) (hi : Cond.initialized D ∈ lw_tbl) (h : (Cond.isRef (.static D n d)).before #[Value.ref (gb G)] (gs G) = true) : ex_Zq D n d (fun q => g0 G ≤ q) (xs C) (xs C).heap :=
  ((ex_Zqof (hC.gok.2.1 _ hl) (hC.gok.2.1 _ hi) h (A := fun q => g0 G ≤ q) (fun a ha => Nat.not_le_of_lt ha)).kept (H1 := (xs C).heap) (fun a ha _ => hC.old.2 a ha)).moved hC.warm.alike
/-- 'throw new E()' -/
theorem x_throw0 (hC : Cx G C y cc nL ret rm) (hx : Cxx G C post px rm) {cls : String} {names : List String} {ik ic : Nat} (hcls : Bundle.fit cls = true) (hnames : ∀ n ∈ names, Bundle.fit n = true)
    (hk : Cond.classLink y.cls ik cls ∈ lw_all) (hini : Cond.initialized cls ∈ lw_all) (h1 : ∀ w ∈ ex_at0 y.cls ic cls names, w ∈ lw_tbl) (h2 : ∀ w ∈ (ex_at0 y.cls ic cls names).filter (fun w => !goodWord w), ex_cd w = true)
    (hgood : (Cond.classLink y.cls ik cls :: Cond.initialized cls :: ex_at0 y.cls ic cls names).all ex_ot = true) (hlU : Cond.laysStatic Bundle.tN "UNASSIGNED_STACK" Bundle.steD ∈ lw_tbl) (hlS : Cond.laysStatic Bundle.tN "SUPPRESSED_SENTINEL" Bundle.listD ∈ lw_tbl) (hiT : Cond.initialized Bundle.tN ∈ lw_tbl)
    (d0 : decode cc pc = .ok (.new ik, 3)) (d3 : decode cc (pc + 3) = .ok (.dup, 1)) (d4 : decode cc (pc + 4) = .ok (.invokespecial ic, 3)) (d7 : decode cc (pc + 7) = .ok (.athrow, 1))
    (hRf : names.length + 3 < rm.frames) (hRl : (rest.map fun v => v.category).sum + (13 * (names.length + 1) + 42) ≤ rm.locals) (hc : kc + 1 ≤ rm.cells) (hs : ks + 6 ≤ rm.slots) (hp : ∀ q, px q cls M) : Wg G C M kc ks pc lv rest := by
  intro H locs ls hW hz hq hl
  rw [hx.1]
  have hU := x_Zq hC hlU hiT (nw_U hC.gok)
  have hN := x_Zq hC hlS hiT (nw_S hC.gok)
  exact ex_throw0 (XC := XQ G px) (Qc := Qg G post) (free := fun q => g0 G ≤ q) (A := fun q => g0 G ≤ q) hC.1 hC.2.1 hC.gok.1 hC.own hcls hnames (hC.w hk) (hC.w hini) (x_hat hC h1 h2) (fun w hw => List.all_eq_true.mp hgood w hw) hU hN (Wd.S hC hW hz hq) hl.1 d0 d3 d4 d7 (fun x h => (hx.2 x h).elim)
    (by rw [hC.room]; exact hRf) (by rw [hC.room]; exact hRl) (by rw [hC.room]; exact hc) (by rw [hC.room]; exact hs) hC.locks (fun q9 t _ hz9 ho9 => ⟨M, hp q9, hW.grow hz9 ho9⟩) hq hc hs
end XXT
theorem xt_Index : ∀ w ∈ ex_at0 "WalshAnalyzer" 3 "java/lang/IndexOutOfBoundsException" ["java/lang/RuntimeException", "java/lang/Exception"], w ∈ lw_tbl := by
  have h : ex_at0 "WalshAnalyzer" 3 "java/lang/IndexOutOfBoundsException" ["java/lang/RuntimeException", "java/lang/Exception"] = [90, 462, 471, 478, 481, 483, 463, 464, 132, 133, 465, 470, 479, 574, 452, 575, 454, 576, 456, 466, 468, 458, 1551, 1552, 1553, 1118, 443, 1118, 1119, 1120, 1121, 445, 1121, 1122, 1123, 463, 447, 1550, 1542, 1543, 1544, 476, 1545, 1546, 1547, 1548, 461, 460, 1549].filterMap (fun i => lw_tbl[i]?) := by decide +kernel
  rw [h]
  intro w hw
  obtain ⟨i, -, hi⟩ := List.mem_filterMap.mp hw
  exact List.mem_of_getElem? hi
theorem xt_Argument : ∀ w ∈ ex_at0 "WalshAnalyzer" 9 "java/lang/IllegalArgumentException" ["java/lang/RuntimeException", "java/lang/Exception"], w ∈ lw_tbl := by
  have h : ex_at0 "WalshAnalyzer" 9 "java/lang/IllegalArgumentException" ["java/lang/RuntimeException", "java/lang/Exception"] = [90, 462, 471, 478, 481, 483, 463, 464, 132, 133, 465, 470, 479, 574, 452, 575, 454, 576, 456, 466, 468, 458, 1342, 1343, 1344, 1118, 443, 1118, 1119, 1120, 1121, 445, 1121, 1122, 1123, 463, 447, 1341, 441, 442, 449, 450, 451, 453, 455, 457, 461, 460, 459].filterMap (fun i => lw_tbl[i]?) := by decide +kernel
  rw [h]
  intro w hw
  obtain ⟨i, -, hi⟩ := List.mem_filterMap.mp hw
  exact List.mem_of_getElem? hi
theorem xt_State : ∀ w ∈ ex_at0 "WalshAnalyzer" 12 "java/lang/IllegalStateException" ["java/lang/RuntimeException", "java/lang/Exception"], w ∈ lw_tbl := by
  have h : ex_at0 "WalshAnalyzer" 12 "java/lang/IllegalStateException" ["java/lang/RuntimeException", "java/lang/Exception"] = [90, 462, 471, 478, 481, 483, 463, 464, 132, 133, 465, 470, 479, 574, 452, 575, 454, 576, 456, 466, 468, 458, 1319, 1320, 1321, 1118, 443, 1118, 1119, 1120, 1121, 445, 1121, 1122, 1123, 463, 447, 1318, 1310, 1311, 1312, 475, 1313, 1314, 1315, 1316, 461, 460, 1317].filterMap (fun i => lw_tbl[i]?) := by decide +kernel
  rw [h]
  intro w hw
  obtain ⟨i, -, hi⟩ := List.mem_filterMap.mp hw
  exact List.mem_of_getElem? hi
theorem xt_Element : ∀ w ∈ ex_at0 "WalshAnalyzer" 15 "java/util/NoSuchElementException" ["java/lang/RuntimeException", "java/lang/Exception"], w ∈ lw_tbl := by
  have h : ex_at0 "WalshAnalyzer" 15 "java/util/NoSuchElementException" ["java/lang/RuntimeException", "java/lang/Exception"] = [90, 462, 471, 478, 481, 483, 463, 464, 132, 133, 465, 470, 479, 574, 452, 575, 454, 576, 456, 466, 468, 458, 1115, 1116, 1117, 1118, 443, 1118, 1119, 1120, 1121, 445, 1121, 1122, 1123, 463, 447, 1662, 1106, 1107, 1108, 477, 1109, 1110, 1111, 1112, 461, 460, 1113].filterMap (fun i => lw_tbl[i]?) := by decide +kernel
  rw [h]
  intro w hw
  obtain ⟨i, -, hi⟩ := List.mem_filterMap.mp hw
  exact List.mem_of_getElem? hi
