/-! ===== contracts and calls over a world map ===== -/
/-- the locals at a method's start -/
def xl0 : Nat → List Value → List (Option Value)
  | n, [] => List.replicate n none
  | n, v :: vs => match v with
    | .long x => some (.long x) :: none :: xl0 (n - 2) vs
    | .double x => some (.double x) :: none :: xl0 (n - 2) vs
    | v => some v :: xl0 (n - 1) vs
theorem xl0_args : ∀ (vs : List Value) (n b j : Nat) (v : Value), (xl0 n vs)[j]? = some (some v) → (b + j, v) ∈ lv_args b vs := by
  intro vs
  induction vs with
  | nil =>
    intro n b j v h
    unfold xl0 at h
    rw [List.getElem?_replicate] at h
    split at h <;> cases h
  | cons w vs ih =>
    intro n b j v h
    have one : ∀ x : Value, ¬ x.category = 2 → (some x :: xl0 (n - 1) vs)[j]? = some (some v) → (b + j, v) ∈ lv_args b (x :: vs) := fun x hx h => by
      cases j with
      | zero =>
        cases h
        exact List.mem_cons_self
      | succ j =>
        have h1 : (xl0 (n - 1) vs)[j]? = some (some v) := h
        have h2 := ih (n - 1) (b + 1) j v h1
        show _ ∈ (b, x) :: lv_args (if x.category = 2 then b + 2 else b + 1) vs
        rw [if_neg hx, show b + (j + 1) = b + 1 + j by omega]
        exact List.mem_cons_of_mem _ h2
    have two : ∀ x : Value, x.category = 2 → (some x :: none :: xl0 (n - 2) vs)[j]? = some (some v) → (b + j, v) ∈ lv_args b (x :: vs) := fun x hx h => by
      match j, h with
      | 0, h =>
        cases h
        exact List.mem_cons_self
      | 1, h => cases h
      | j + 2, h =>
        have h1 : (xl0 (n - 2) vs)[j]? = some (some v) := h
        have h2 := ih (n - 2) (b + 2) j v h1
        show _ ∈ (b, x) :: lv_args (if x.category = 2 then b + 2 else b + 1) vs
        rw [if_pos hx, show b + (j + 2) = b + 2 + j by omega]
        exact List.mem_cons_of_mem _ h2
    cases w
    all_goals first | exact one _ (by decide) h | exact two _ rfl h | exact one _ (by intro q; cases q) h
/-- what a method's end says of the world -/
def Qg (G : X_G) (post : Option Value → X_M → Prop) : Array Value → State → Outcome → State → Prop := fun _ _ o t => ∃ (r : Option Value) (M' : X_M), o = .returned r ∧ post r M' ∧ Wd G M' t.heap
def Pg (G : X_G) (av : List Value) (M : X_M) : Array Value → State → Prop := va_Pc av (fun U => (gs G).WarmedH U.vm ∧ Wd G M U.heap)
/-- A CONTRACT: from the arguments av in a world with M, y returns, with post of its answer and the world -/
def Ct (G : X_G) (y : MethodName) (cc : ByteArray) (nL : Nat) (ret : Option FieldType) (rm : Room) (av : List Value) (M : X_M) (post : Option Value → X_M → Prop) : Prop :=
  Met (gl G) y (ws_ y cc nL ret) rm (Pg G av M) (Qg G post) rm.cells rm.slots (fun q => g0 G ≤ q)
/-- a method's end: at the counts of its room -/
def Ck (G : X_G) (C : X_C) (post : Option Value → X_M → Prop) (rm : Room) : Prop :=
  ∀ (H : Heap) (locs : List Loc) (g : JFrame), W (xp C) (gl G) (xe C) (xR C) (xs C) (xm C) (xa C) (xb C) (xme C) (xc C) H locs rm.cells rm.slots (MQ (xb C) (Qg G post) (xa C) (xs C) rm.cells rm.slots (fun q => g0 G ≤ q)) g → W (xp C) (gl G) (xe C) (xR C) (xs C) (xm C) (xa C) (xb C) (xme C) (xc C) H locs rm.cells rm.slots (xQ C) g
theorem Pg.blind {G : X_G} {av : List Value} {M : X_M} : FrameBlind (Pg G av M) := fun _ _ _ _ h => h
/-- the room of a method of depth d -/
abbrev xrm (d mc ms : Nat) : Room := { frames := 8 * d + 8, cells := mc, slots := ms, locals := 64 * d + 4096 }
theorem ofW_for {l : Launch} {y : MethodName} {ws ws' : List Cond} {rm : Room} {Pc : Array Value → State → Prop} {Qc : Array Value → State → Outcome → State → Prop} {mc ms : Nat} {free : Addr → Prop} {cc : ByteArray} {maxL : Nat} {ret : Option FieldType}
    (hy : plainFor y = true) (hw : ws = Cond.code y cc maxL ret :: ws')
    (body : ∀ p e s m args below meth c s₁, BodyLoose p l y (headSpec ws rm) cc maxL ret e s m args below meth c s₁ → c.maxLocals = maxL → Pc args s →
      W p l e (headSpec ws rm).room s m args below meth c s.heap [] 0 0 (MQ below Qc args s mc ms free) (entryFrame m args maxL)) : Met l y ws rm Pc Qc mc ms free := by
  refine MetFree.of_bodySF (code := cc) (maxLocals := maxL) (ret := ret) hy ?_ ?_
  · intro args s m h hn
    obtain ⟨meth, c, h1, h2, h3, h4, h5, h6, -, -⟩ := Cond.code_spec hn (atoms_spec (ws := ws) h _ (by rw [hw]; exact List.mem_cons_self))
    exact ⟨meth, c, h1, h2, h3, h4, h5, h6⟩
  · intro p e s m args below meth c s₁ B hml hP _
    have hh0 : s₁.heap = s.heap := by rw [B.state]; rfl
    obtain ⟨t, a1, o, b1, b2, b3⟩ := body p e s m args below meth c s₁ B hml hP s₁ hh0 (Stand.of_body B)
    exact ⟨t, o, a1, b1, b2, ⟨b3.1, b3.2⟩⟩
theorem ct_open {G : X_G} {y : MethodName} {cc : ByteArray} {nL : Nat} {ret : Option FieldType} {rm : Room} {av : List Value} {M : X_M} {post : Option Value → X_M → Prop} {lv : List (Option Value)} (hG : GOK G) (hy : plainFor y = true) (hlen : (lg_sl av).length ≤ nL) (hlv : xl0 nL av = lv)
    (body : ∀ C : X_C, Cx G C y cc nL ret rm → Ck G C post rm → Wg G C M 0 0 0 lv []) : Ct G y cc nL ret rm av M post := by
  refine ofW_for (cc := cc) (maxL := nL) (ret := ret) hy rfl ?_
  intro p e s m args below meth c s₁ B hml hv
  obtain ⟨rfl, hwarm, hW⟩ := hv
  have hts := atoms_spec (ws := ws_ y cc nL ret) B.pre
  have hl := lv_entry av hlen
  rw [lg_entry_eq]
  refine body (p, e, rm, s, m, av.toArray, below, meth, c, MQ below (Qg G post) av.toArray s rm.cells rm.slots (fun q => g0 G ≤ q)) ⟨B.exec, B.bytes, hml, findClass_of_methodNamed B.named, fun w h => hts w (List.mem_cons_of_mem _ h), hwarm, hG, B.returns, B.notSynchronized, (name_of_methodNamed B.named B.method).1, rfl, hW.1, hW.2.1⟩ (fun _ _ _ h => h) s.heap [] _ hW (Nat.le_refl _) (fun q h => by cases h) ⟨hl.1.trans hml.symm, hl.2.1, fun i v h => ?_⟩
  subst hlv
  have h1 := xl0_args av nL 0 i v h
  rw [Nat.zero_add] at h1
  exact hl.2.2 _ h1
abbrev xrt (r : Option Value) (st : List Value) : List Value := match r with
  | none => st
  | some v => v :: st
section XCL
variable {G : X_G} {C : X_C} {M : X_M} {kc ks pc nL : Nat} {lv : List (Option Value)} {rest : List Value} {y : MethodName} {cc : ByteArray} {ret : Option FieldType} {rm : Room} {post : Option Value → X_M → Prop}
/-! the ends -/
theorem x_fin {g : List Value} {r : Option Value} (hC : Cx G C y cc nL ret rm) (hk : Ck G C post rm) (h1 : kc ≤ rm.cells) (h2 : ks ≤ rm.slots) (hp : post r M)
    (hw : ∀ (H : Heap) (locs : List Loc) (ls : Array Slot), (∀ q ∈ locs, g0 G ≤ q.base) → (∀ t : State, t.heap = H → (xs C).WarmedH t.vm → Qg G post (xa C) (xs C) (.returned r) t) → W (xp C) (gl G) (xe C) (xR C) (xs C) (xm C) (xa C) (xb C) (xme C) (xc C) H locs rm.cells rm.slots (MQ (xb C) (Qg G post) (xa C) (xs C) rm.cells rm.slots (fun q => g0 G ≤ q)) (F0 (xm C) pc ls g)) : Wg G C M kc ks pc lv g := fun H locs ls hW hz hq hl =>
  W.widen h1 h2 (hk H locs _ (hw H locs ls hq (fun t ht _ => ⟨r, M, rfl, hp, by rw [ht]; exact hW⟩)))
theorem x_iret (hC : Cx G C y cc nL (some .int) rm) (hk : Ck G C post rm) {v : Int32} (hdg : decode cc pc = .ok (.ireturn, 1)) (h1 : kc ≤ rm.cells) (h2 : ks ≤ rm.slots) (hp : post (some (.int v)) M) : Wg G C M kc ks pc lv [.int v] :=
  x_fin hC hk h1 h2 hp fun _ _ _ hq ht => W.iret hC.1 hC.2.1 hC.rets ht hq hdg hC.locks
theorem x_zret {ty : FieldType} (hC : Cx G C y cc nL (some ty) rm) (hk : Ck G C post rm) {v : Int32} (hdg : decode cc pc = .ok (.ireturn, 1)) (hn : narrow ty (.int v) = .int v) (h1 : kc ≤ rm.cells) (h2 : ks ≤ rm.slots) (hp : post (some (.int v)) M) : Wg G C M kc ks pc lv [.int v] :=
  x_fin hC hk h1 h2 hp fun _ _ _ hq ht => W.zret hC.1 hC.2.1 hC.rets hn ht hq hdg hC.locks
theorem x_lret (hC : Cx G C y cc nL (some .long) rm) (hk : Ck G C post rm) {v : Int64} (hdg : decode cc pc = .ok (.lreturn, 1)) (h1 : kc ≤ rm.cells) (h2 : ks ≤ rm.slots) (hp : post (some (.long v)) M) : Wg G C M kc ks pc lv [.long v] :=
  x_fin hC hk h1 h2 hp fun _ _ _ hq ht => W.lret hC.1 hC.2.1 hC.rets ht hq hdg hC.locks
theorem x_fret (hC : Cx G C y cc nL (some .float) rm) (hk : Ck G C post rm) {v : UInt32} (hdg : decode cc pc = .ok (.freturn, 1)) (h1 : kc ≤ rm.cells) (h2 : ks ≤ rm.slots) (hp : post (some (.float v)) M) : Wg G C M kc ks pc lv [.float v] :=
  x_fin hC hk h1 h2 hp fun _ _ _ hq ht => W.fret hC.1 hC.2.1 hC.rets ht hq hdg hC.locks
theorem x_dret (hC : Cx G C y cc nL (some .double) rm) (hk : Ck G C post rm) {v : UInt64} (hdg : decode cc pc = .ok (.dreturn, 1)) (h1 : kc ≤ rm.cells) (h2 : ks ≤ rm.slots) (hp : post (some (.double v)) M) : Wg G C M kc ks pc lv [.double v] :=
  x_fin hC hk h1 h2 hp fun _ _ _ hq ht => W.dret hC.1 hC.2.1 hC.rets ht hq hdg hC.locks
theorem x_vret (hC : Cx G C y cc nL none rm) (hk : Ck G C post rm) (hdg : decode cc pc = .ok (.return_, 1)) (h1 : kc ≤ rm.cells) (h2 : ks ≤ rm.slots) (hp : post none M) : Wg G C M kc ks pc lv [] :=
  x_fin hC hk h1 h2 hp fun _ _ _ hq ht => W.vret hC.1 hC.2.1 hC.rets ht hq hdg hC.locks
theorem x_aret {rt : FieldType} (hC : Cx G C y cc nL (some rt) rm) (hk : Ck G C post rm) {v : Value} (hdg : decode cc pc = .ok (.areturn, 1)) (hrt : (∃ n, rt = .object n) ∨ ∃ t, rt = .array t) (hv : v = .null ∨ ∃ a, v = .ref a) (h1 : kc ≤ rm.cells) (h2 : ks ≤ rm.slots) (hp : post (some v) M) : Wg G C M kc ks pc lv [v] :=
  x_fin hC hk h1 h2 hp fun _ _ _ hq ht => W.aret hC.1 hC.2.1 hC.rets hrt hv ht hq hdg hC.locks
/-! calls -/
theorem x_run {mc ms k n : Nat} {st0 : List Value} {av : Array Value} {pst : Option Value → X_M → Prop} (hC : Cx G C y cc nL ret rm) (h1 : kc + mc ≤ k) (h2 : ks + ms ≤ n)
    (hr : ∀ (H : Heap) (locs : List Loc) (ls : Array Slot), Wd G M H → ls.size = nL → va_Run (xp C) (gl G) (xe C) (xR C) (xs C) (xm C) (xa C) (xb C) (xme C) (xc C) H locs kc ks mc ms (F0 (xm C) pc ls st0) rest (Qg G pst av) (fun q => g0 G ≤ q))
    (kk : ∀ (r : Option Value) (M' : X_M), pst r M' → Wg G C M' k n (pc + 3) lv (xrt r rest)) : Wg G C M kc ks pc lv st0 := by
  intro H locs ls hW hz hq hl T hT X
  obtain ⟨v, st₀, t, T', L, h0, X', hL, e1, e2, ⟨r, M', ho, hp, hw⟩, st⟩ := hr H locs ls hW (hl.1.trans hC.2.2.1) T hT X
  have hv : v = r := by cases ho; rfl
  subst hv
  obtain ⟨t2, a1, b1⟩ := W.widen h1 h2 (kk v M' hp T'.heap (locs ++ L) ls (by rw [e1]; exact hw) X'.same.2.1 (fun q h => by
    rcases List.mem_append.mp h with h | h
    · exact hq q h
    · exact hL q h) hl) T' rfl X'
  refine ⟨t2, st _ ?_, b1⟩
  cases v <;> exact a1
theorem Cx.fix (hC : Cx G C y cc nL ret rm) : CallFix (xp C) (xm C) (xc C) cc nL (xs C) (xa C) lw_all y.cls := ⟨hC.1, hC.2.1, hC.2.2.1, hC.own, fun w h => hC.w h⟩
theorem Cx.pre (hC : Cx G C y cc nL ret rm) {H : Heap} (hW : Wd G M H) {av : List Value} : ∀ U : State, U.heap = H → (xs C).WarmedH U.vm → Pg G av M av.toArray U := fun U hU hV => ⟨rfl, State.WarmedH.trans hC.warm hV, by rw [hU]; exact hW⟩
/-- what a callee's room asks of the caller's -/
abbrev Rok (rm0 rm : Room) (maxL : Nat) : Prop := rm.frames + 1 ≤ rm0.frames ∧ 8 + (maxL + 11) + rm.locals ≤ rm0.locals
theorem x_callV (hC : Cx G C y cc nL ret rm) {z : MethodName} {bz : ByteArray} {nz index na k n b g ci N : Nat} {rz : Option FieldType} {rz_ : Room} {As st0 : List Value} {pst : Option Value → X_M → Prop} {Cn : String} {T : u_T} {fs : List Value}
    (hM : Ct G z bz nz rz rz_ (.ref b :: As) M pst) (hw : GoodIn lw_all (wsV y.cls index z.cls z (ws_ z bz nz rz))) (he : M b = some (ob g ci fs)) (hcl : xcl[ci]? = some (Cn, T, N)) (hcn : Cn = z.cls)
    (hd : z.cls ≠ "java/lang/invoke/MethodHandle" ∧ z.cls ≠ "java/lang/invoke/VarHandle" ∧ (parseMethodDescriptor z.desc).map (fun d => d.parameters.length) = some na) (hn : As.length = na) (hR : Rok rm rz_ nz) (hs : st0 = As.reverse ++ .ref b :: rest) (hst : (rest.map fun v => v.category).sum ≤ 8)
    (h1 : kc + rz_.cells ≤ k) (h2 : ks + rz_.slots ≤ n) (hf : k ≤ rm.cells ∧ n ≤ rm.slots) (hdg : decode cc pc = .ok (.invokevirtual index, 3)) (kk : ∀ (r : Option Value) (M' : X_M), pst r M' → Wg G C M' k n (pc + 3) lv (xrt r rest)) : Wg G C M kc ks pc lv st0 := by
  subst hcn
  subst hs
  refine x_run (av := (Value.ref b :: As).toArray) hC h1 h2 (fun H locs ls hW hz => ?_) kk
  exact va_runV (C := z.cls) (index := index) (n := na) hC.fix hM (cwV na (fun w h => hC.w h) hw rfl rfl rfl ⟨rfl, hd⟩ (by rw [hC.room]; exact hR)) ⟨Pg.blind, x_recv hC hW he hcl, hC.pre hW⟩ rfl hn hz rfl (lv_room hst) hdg (by rw [hC.room]; omega)
theorem x_callS (hC : Cx G C y cc nL ret rm) {z : MethodName} {bz : ByteArray} {nz index na k n : Nat} {rz : Option FieldType} {rz_ : Room} {As st0 : List Value} {pst : Option Value → X_M → Prop}
    (hM : Ct G z bz nz rz rz_ As M pst) (hw : GoodIn lw_all (va_wsS y.cls index z (ws_ z bz nz rz)))
    (hd : z.cls ≠ "java/lang/invoke/MethodHandle" ∧ z.cls ≠ "java/lang/invoke/VarHandle" ∧ (parseMethodDescriptor z.desc).map (fun d => d.parameters.length) = some na) (hn : As.length = na) (hR : Rok rm rz_ nz) (hs : st0 = As.reverse ++ rest) (hst : (rest.map fun v => v.category).sum ≤ 8)
    (h1 : kc + rz_.cells ≤ k) (h2 : ks + rz_.slots ≤ n) (hf : k ≤ rm.cells ∧ n ≤ rm.slots) (hdg : decode cc pc = .ok (.invokestatic index, 3)) (kk : ∀ (r : Option Value) (M' : X_M), pst r M' → Wg G C M' k n (pc + 3) lv (xrt r rest)) : Wg G C M kc ks pc lv st0 := by
  subst hs
  refine x_run (av := As.toArray) hC h1 h2 (fun H locs ls hW hz => ?_) kk
  exact va_runS (index := index) (n := na) hC.fix hM (va_cwS na (fun w h => hC.w h) hw rfl rfl rfl hd (by rw [hC.room]; exact hR)) ⟨Pg.blind, hC.pre hW⟩ rfl hn hz rfl (lv_room hst) hdg (by rw [hC.room]; omega)
theorem x_callI (hC : Cx G C y cc nL ret rm) {z : MethodName} {bz : ByteArray} {nz index na k n b : Nat} {rz_ : Room} {As st0 : List Value} {pst : Option Value → X_M → Prop}
    (hM : Ct G z bz nz none rz_ (.ref b :: As) M pst) (hw : Cond.code z bz nz none ∈ lw_all) (hini : Cond.initialized z.cls ∈ lw_all) (hlink : Cond.methodLink y.cls index z ∈ lw_all) (hins : Cond.instanceMethod z ∈ lw_all) (hnm : z.name = "<init>")
    (hd : z.cls ≠ "java/lang/invoke/MethodHandle" ∧ z.cls ≠ "java/lang/invoke/VarHandle" ∧ (parseMethodDescriptor z.desc).map (fun d => d.parameters.length) = some na) (hn : As.length = na) (hR : Rok rm rz_ nz) (hs : st0 = As.reverse ++ .ref b :: rest) (hst : (rest.map fun v => v.category).sum ≤ 8)
    (h1 : kc + rz_.cells ≤ k) (h2 : ks + rz_.slots ≤ n) (hf : k ≤ rm.cells ∧ n ≤ rm.slots) (hdg : decode cc pc = .ok (.invokespecial index, 3)) (kk : ∀ (r : Option Value) (M' : X_M), pst r M' → Wg G C M' k n (pc + 3) lv (xrt r rest)) : Wg G C M kc ks pc lv st0 := by
  subst hs
  refine x_run (av := (Value.ref b :: As).toArray) hC h1 h2 (fun H locs ls hW hz => ?_) kk
  exact va_runI (index := index) (n := na) hC.fix hM (cwI na (fun w h => hC.w h) (lw_meth hw) rfl rfl rfl (hC.w hini) (hC.w hlink) (hC.w hins) hnm hd (by rw [hC.room]; exact hR)) ⟨Pg.blind, hC.pre hW⟩ rfl hn hz rfl (lv_room hst) hdg (by rw [hC.room]; omega)
theorem x_callV0 (hC : Cx G C y cc nL ret rm) {z : MethodName} {bz : ByteArray} {nz index na b g ci N : Nat} {rz : Option FieldType} {rz_ : Room} {As st0 : List Value} {pst : Option Value → X_M → Prop} {Cn : String} {T : u_T} {fs : List Value}
    (hM : Ct G z bz nz rz rz_ (.ref b :: As) M pst) (hw : GoodIn lw_all (wsV y.cls index z.cls z (ws_ z bz nz rz))) (he : M b = some (ob g ci fs)) (hcl : xcl[ci]? = some (Cn, T, N)) (hcn : Cn = z.cls)
    (hd : z.cls ≠ "java/lang/invoke/MethodHandle" ∧ z.cls ≠ "java/lang/invoke/VarHandle" ∧ (parseMethodDescriptor z.desc).map (fun d => d.parameters.length) = some na) (hn : As.length = na) (hR : Rok rm rz_ nz) (hs : st0 = As.reverse ++ .ref b :: rest) (hst : (rest.map fun v => v.category).sum ≤ 8)
    (hz0 : rz_.cells = 0 ∧ rz_.slots = 0) (hf : kc ≤ rm.cells ∧ ks ≤ rm.slots) (hdg : decode cc pc = .ok (.invokevirtual index, 3)) (kk : ∀ (r : Option Value) (M' : X_M), pst r M' → Wg G C M' kc ks (pc + 3) lv (xrt r rest)) : Wg G C M kc ks pc lv st0 := x_callV hC hM hw he hcl hcn hd hn hR hs hst (by rw [hz0.1]; exact Nat.le_refl _) (by rw [hz0.2]; exact Nat.le_refl _) hf hdg kk
theorem x_callS0 (hC : Cx G C y cc nL ret rm) {z : MethodName} {bz : ByteArray} {nz index na : Nat} {rz : Option FieldType} {rz_ : Room} {As st0 : List Value} {pst : Option Value → X_M → Prop}
    (hM : Ct G z bz nz rz rz_ As M pst) (hw : GoodIn lw_all (va_wsS y.cls index z (ws_ z bz nz rz)))
    (hd : z.cls ≠ "java/lang/invoke/MethodHandle" ∧ z.cls ≠ "java/lang/invoke/VarHandle" ∧ (parseMethodDescriptor z.desc).map (fun d => d.parameters.length) = some na) (hn : As.length = na) (hR : Rok rm rz_ nz) (hs : st0 = As.reverse ++ rest) (hst : (rest.map fun v => v.category).sum ≤ 8)
    (hz0 : rz_.cells = 0 ∧ rz_.slots = 0) (hf : kc ≤ rm.cells ∧ ks ≤ rm.slots) (hdg : decode cc pc = .ok (.invokestatic index, 3)) (kk : ∀ (r : Option Value) (M' : X_M), pst r M' → Wg G C M' kc ks (pc + 3) lv (xrt r rest)) : Wg G C M kc ks pc lv st0 := x_callS hC hM hw hd hn hR hs hst (by rw [hz0.1]; exact Nat.le_refl _) (by rw [hz0.2]; exact Nat.le_refl _) hf hdg kk
theorem x_callI0 (hC : Cx G C y cc nL ret rm) {z : MethodName} {bz : ByteArray} {nz index na b : Nat} {rz_ : Room} {As st0 : List Value} {pst : Option Value → X_M → Prop}
    (hM : Ct G z bz nz none rz_ (.ref b :: As) M pst) (hw : Cond.code z bz nz none ∈ lw_all) (hini : Cond.initialized z.cls ∈ lw_all) (hlink : Cond.methodLink y.cls index z ∈ lw_all) (hins : Cond.instanceMethod z ∈ lw_all) (hnm : z.name = "<init>")
    (hd : z.cls ≠ "java/lang/invoke/MethodHandle" ∧ z.cls ≠ "java/lang/invoke/VarHandle" ∧ (parseMethodDescriptor z.desc).map (fun d => d.parameters.length) = some na) (hn : As.length = na) (hR : Rok rm rz_ nz) (hs : st0 = As.reverse ++ .ref b :: rest) (hst : (rest.map fun v => v.category).sum ≤ 8)
    (hz0 : rz_.cells = 0 ∧ rz_.slots = 0) (hf : kc ≤ rm.cells ∧ ks ≤ rm.slots) (hdg : decode cc pc = .ok (.invokespecial index, 3)) (kk : ∀ (r : Option Value) (M' : X_M), pst r M' → Wg G C M' kc ks (pc + 3) lv (xrt r rest)) : Wg G C M kc ks pc lv st0 := x_callI hC hM hw hini hlink hins hnm hd hn hR hs hst (by rw [hz0.1]; exact Nat.le_refl _) (by rw [hz0.2]; exact Nat.le_refl _) hf hdg kk
end XCL
