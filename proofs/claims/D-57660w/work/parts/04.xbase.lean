/-! ===== THE X LAYER: a world is a map from addresses to tagged cells ===== -/
/-- a cell: its tag (0: never written again), and an object of a class of xcl, an array, or a raw cell -/
abbrev X_E : Type := Nat × ((Nat × List Value) ⊕ ((Nat × vp_A) ⊕ Cell))
abbrev X_M : Type := Nat → Option X_E
abbrev ob (g k : Nat) (fs : List Value) : X_E := (g, .inl (k, fs))
abbrev ia (g n : Nat) (f : Nat → Int32) : X_E := (g, .inr (.inl (0, n, .inl f)))
abbrev ba (g n : Nat) (f : Nat → Int32) : X_E := (g, .inr (.inl (1, n, .inl f)))
abbrev oa (g t n : Nat) (f : Nat → Option Nat) : X_E := (g, .inr (.inl (t, n, .inr (.inr (.inr (.inr f))))))
abbrev la (g n : Nat) (f : Nat → Int64) : X_E := (g, .inr (.inl (4, n, .inr (.inl f))))
abbrev da (g n : Nat) (f : Nat → UInt64) : X_E := (g, .inr (.inl (5, n, .inr (.inr (.inr (.inl f))))))
abbrev xar (g t : Nat) (a : vp_A) : X_E := (g, .inr (.inl (t, a)))
abbrev xrw (g : Nat) (c : Cell) : X_E := (g, .inr (.inr c))
def mu (M : X_M) (a : Nat) (e : X_E) : X_M := fun q => if q = a then some e else M q
theorem mu_s {M : X_M} {a : Nat} {e : X_E} : mu M a e a = some e := if_pos rfl
theorem mu_n {M : X_M} {a q : Nat} {e : X_E} (h : q ≠ a) : mu M a e q = M q := if_neg h
theorem mu_o {M : X_M} {a q : Nat} {e x : X_E} (h : q ≠ a) (hq : M q = some x) : mu M a e q = some x := (mu_n h).trans hq
/-- a fresh address is no known one -/
theorem mu_f {M : X_M} {a q : Nat} {e x : X_E} (h : M a = none) (hq : M q = some x) : mu M a e q = some x := mu_o (fun h9 => by rw [h9, h] at hq; cases hq) hq
theorem mu_ne {M : X_M} {a q : Nat} {x : X_E} (h : M a = none) (hq : M q = some x) : q ≠ a := fun h9 => by rw [h9, h] at hq; cases hq
/-- two known addresses that hold different things are different -/
theorem mx_ne {M : X_M} {a q : Nat} {x y : X_E} (ha : M a = some x) (hq : M q = some y) (h : x ≠ y) : a ≠ q := fun h9 => h (by rw [h9, hq] at ha; exact (Option.some.inj ha).symm)
theorem mx_tag {M : X_M} {a q : Nat} {x y : X_E} (ha : M a = some x) (hq : M q = some y) (h : x.1 ≠ y.1) : a ≠ q := mx_ne ha hq fun e => h (by rw [e])
/-- what isn't tagged by P stays -/
def Fr (P : Nat → Prop) (M M' : X_M) : Prop := ∀ a e, M a = some e → ¬ P e.1 → M' a = some e
theorem Fr.rf {P : Nat → Prop} {M : X_M} : Fr P M M := fun _ _ h _ => h
theorem Fr.tr {P : Nat → Prop} {M M1 M2 : X_M} (h1 : Fr P M M1) (h2 : Fr P M1 M2) : Fr P M M2 := fun a e h n => h2 a e (h1 a e h n) n
theorem Fr.wk {P P' : Nat → Prop} {M M' : X_M} (h : Fr P M M') (hp : ∀ n, P n → P' n) : Fr P' M M' := fun a e h1 n => h a e h1 fun q => n (hp _ q)
theorem Fr.new {P : Nat → Prop} {M : X_M} {q : Nat} {e : X_E} (h : M q = none) : Fr P M (mu M q e) := fun a e h1 _ => mu_f h h1
theorem Fr.set {P : Nat → Prop} {M : X_M} {q : Nat} {e0 e : X_E} (h : M q = some e0) (hp : P e0.1) : Fr P M (mu M q e) := fun a e1 h1 n => mu_o (fun h9 => by subst h9; rw [h] at h1; cases h1; exact n hp) h1
/-- launch, class numbers, array classes, the state at the law's entry, the script's address -/
abbrev X_G : Type := Launch × va_G × (Nat → ClassId) × State × Nat
abbrev gl (G : X_G) : Launch := G.1
abbrev gD (G : X_G) : va_G := G.2.1
abbrev gA (G : X_G) : Nat → ClassId := G.2.2.1
abbrev gs (G : X_G) : State := G.2.2.2.1
abbrev gb (G : X_G) : Nat := G.2.2.2.2
abbrev g0 (G : X_G) : Nat := (gs G).heap.size
def xty : Nat → FieldType
  | 0 => .int
  | 1 => .byte
  | 2 => .object "java/lang/Object"
  | 3 => .object "java/util/HashMap$Node"
  | 4 => .long
  | _ => .double
abbrev xtys (G : X_G) : List (ClassId × FieldType) := (List.range 6).map fun t => (gA G t, xty t)
theorem xtys_at (G : X_G) {t : Nat} (h : t < 6) : (xtys G)[t]? = some (gA G t, xty t) := by
  rw [List.getElem?_map, List.getElem?_range h]; rfl
/-- what holds of the law's entry: no traces, all words of the tables, the classes known -/
def GOK (G : X_G) : Prop := (gl G).stackTraces = false ∧ (∀ w ∈ lw_tbl, w.before #[Value.ref (gb G)] (gs G) = true) ∧ va_K (gD G) xcl (xtys G) (gs G) ∧ (Jvm.Cond.and given_1 narrow_1).before #[Value.ref (gb G)] (gs G) = true
def x_at (G : X_G) (a : Nat) (e : (Nat × List Value) ⊕ ((Nat × vp_A) ⊕ Cell)) (H : Heap) : Prop := match e with
  | .inl o => va_at (gD G) xcl (a, .inr o) H
  | .inr (.inl x) => x.1 < 6 ∧ H[a]? = some (vp_cell (gA G x.1) x.2)
  | .inr (.inr c) => H[a]? = some c
/-- the heap holds the map; the law's own start is as it was -/
def Wd (G : X_G) (M : X_M) (H : Heap) : Prop := g0 G ≤ H.size ∧ (∀ q : Nat, q < g0 G → H[q]? = (gs G).heap[q]?) ∧ ∀ (a : Nat) (e : X_E), M a = some e → (e.1 ≠ 0 → g0 G ≤ a) ∧ x_at G a e.2 H
theorem x_at.lt {G : X_G} {a : Nat} {e : (Nat × List Value) ⊕ ((Nat × vp_A) ⊕ Cell)} {H : Heap} (h : x_at G a e H) : a < H.size := by
  rcases e with o | x | c
  · exact va_at.lt (D := gD G) (cl := xcl) (q := (a, .inr o)) h
  · exact (Array.getElem?_eq_some_iff.mp h.2).1
  · exact (Array.getElem?_eq_some_iff.mp h).1
theorem x_at.kept {G : X_G} {a : Nat} {e : (Nat × List Value) ⊕ ((Nat × vp_A) ⊕ Cell)} {H H1 : Heap} (h : x_at G a e H) (hq : H1[a]? = H[a]?) : x_at G a e H1 := by
  rcases e with o | x | c
  · exact va_at.kept (D := gD G) (cl := xcl) (q := (a, .inr o)) h hq
  · exact ⟨h.1, hq.trans h.2⟩
  · exact hq.trans h
theorem Wd.fresh {G : X_G} {M : X_M} {H : Heap} (h : Wd G M H) : M H.size = none := by
  cases hm : M H.size with
  | none => rfl
  | some e => exact absurd (h.2.2 _ _ hm).2.lt (Nat.lt_irrefl _)
/-- one known cell is written -/
theorem Wd.put {G : X_G} {M : X_M} {H H1 : Heap} {a : Nat} {e0 e : X_E} (h : Wd G M H) (ha : M a = some e0) (hg : e0.1 ≠ 0) (hz : H1.size = H.size) (ho : ∀ q : Nat, q ≠ a → H1[q]? = H[q]?) (hn : x_at G a e.2 H1) : Wd G (mu M a e) H1 := by
  have hb := (h.2.2 a e0 ha).1 hg
  refine ⟨by rw [hz]; exact h.1, fun q hq => ?_, fun q x hx => ?_⟩
  · rw [ho q (fun h9 => by omega)]; exact h.2.1 q hq
  · by_cases hq : q = a
    · subst hq; rw [mu_s] at hx; cases hx; exact ⟨fun _ => hb, hn⟩
    · rw [mu_n hq] at hx; exact ⟨(h.2.2 q x hx).1, (h.2.2 q x hx).2.kept (ho q hq)⟩
/-- one new cell -/
theorem Wd.push {G : X_G} {M : X_M} {H H1 : Heap} {e : X_E} (h : Wd G M H) (hz : H1.size = H.size + 1) (ho : ∀ q : Nat, q < H.size → H1[q]? = H[q]?) (hn : x_at G H.size e.2 H1) : Wd G (mu M H.size e) H1 := by
  refine ⟨by rw [hz]; exact Nat.le_succ_of_le h.1, fun q hq => ?_, fun q x hx => ?_⟩
  · rw [ho q (Nat.lt_of_lt_of_le hq h.1)]; exact h.2.1 q hq
  · by_cases hq : q = H.size
    · subst hq; rw [mu_s] at hx; cases hx; exact ⟨fun _ => h.1, hn⟩
    · rw [mu_n hq] at hx; exact ⟨(h.2.2 q x hx).1, (h.2.2 q x hx).2.kept (ho q (h.2.2 q x hx).2.lt)⟩
/-- another tag -/
theorem Wd.tag {G : X_G} {M : X_M} {H : Heap} {a g g' : Nat} {x : (Nat × List Value) ⊕ ((Nat × vp_A) ⊕ Cell)} (h : Wd G M H) (ha : M a = some (g, x)) (hg : g ≠ 0) : Wd G (mu M a (g', x)) H :=
  ⟨h.1, h.2.1, fun q y hy => by
    by_cases hq : q = a
    · subst hq; rw [mu_s] at hy; cases hy; exact ⟨fun _ => (h.2.2 _ _ ha).1 hg, (h.2.2 _ _ ha).2⟩
    · rw [mu_n hq] at hy; exact h.2.2 q y hy⟩
/-- the same facts, by another map that says less -/
theorem Wd.sub {G : X_G} {M M' : X_M} {H : Heap} (h : Wd G M H) (hs : ∀ a e, M' a = some e → M a = some e) : Wd G M' H := ⟨h.1, h.2.1, fun a e ha => h.2.2 a e (hs a e ha)⟩
/-! the locals: by their numbers, what is known -/
def xl_has (ls : Array Slot) (nL : Nat) (lv : List (Option Value)) : Prop := ls.size = nL ∧ lv_wf ls ∧ ∀ (i : Nat) (v : Value), lv[i]? = some (some v) → ls[i]? = some (.val v)
def xas (lv : List (Option Value)) : List (Nat × Value) := (List.range lv.length).filterMap fun i => (lv[i]?.join).map fun v => (i, v)
theorem xas_mem {lv : List (Option Value)} {i : Nat} {v : Value} : (i, v) ∈ xas lv ↔ lv[i]? = some (some v) := by
  unfold xas
  rw [List.mem_filterMap]
  constructor
  · rintro ⟨j, -, hj⟩
    cases h : lv[j]? with
    | none => rw [h] at hj; cases hj
    | some o =>
      cases o with
      | none => rw [h] at hj; cases hj
      | some x => rw [h] at hj; cases hj; exact h
  · intro h
    exact ⟨i, List.mem_range.mpr (List.getElem?_eq_some_iff.mp h).1, by rw [h]; rfl⟩
theorem xl_has.to {ls : Array Slot} {nL : Nat} {lv : List (Option Value)} (h : xl_has ls nL lv) : lv_has ls nL (xas lv) := ⟨h.1, h.2.1, fun q hq => h.2.2 q.1 q.2 (xas_mem.mp hq)⟩
/-- a long that ends at i is no more -/
def xkl (lv : List (Option Value)) (i : Nat) : List (Option Value) := match i with
  | 0 => lv
  | j + 1 => match lv[j]? with
    | some (some v) => match v with
      | .long _ => lv.set j none
      | .double _ => lv.set j none
      | _ => lv
    | _ => lv
def xst1 (lv : List (Option Value)) (i : Nat) (v : Value) : List (Option Value) := (xkl lv i).set i (some v)
def xst2 (lv : List (Option Value)) (i : Nat) (v : Value) : List (Option Value) := ((xkl lv i).set i (some v)).set (i + 1) none
theorem xkl_at {lv : List (Option Value)} {i j : Nat} {v : Value} (h : (xkl lv i)[j]? = some (some v)) : lv[j]? = some (some v) ∧ ¬ (j + 1 = i ∧ v.category = 2) := by
  cases i with
  | zero => exact ⟨h, fun q => by omega⟩
  | succ k =>
    unfold xkl at h
    cases hk : lv[k]? with
    | none =>
      simp only [hk] at h
      refine ⟨h, fun q => ?_⟩
      obtain ⟨q1, -⟩ := q
      have : j = k := by omega
      subst this
      rw [hk] at h; cases h
    | some o =>
      cases o with
      | none =>
        simp only [hk] at h
        refine ⟨h, fun q => ?_⟩
        obtain ⟨q1, -⟩ := q
        have : j = k := by omega
        subst this
        rw [hk] at h; cases h
      | some x =>
        have key : ∀ y : Value, (lv.set k none)[j]? = some (some y) → lv[j]? = some (some y) ∧ ¬ (j + 1 = k + 1 ∧ y.category = 2) := fun y hy => by
          by_cases hj : j = k
          · subst hj
            rw [List.getElem?_set_self (List.getElem?_eq_some_iff.mp hk).1] at hy; cases hy
          · rw [List.getElem?_set_ne (Ne.symm hj)] at hy
            exact ⟨hy, fun q => hj (by omega)⟩
        have key2 : x.category = 1 → lv[j]? = some (some v) → lv[j]? = some (some v) ∧ ¬ (j + 1 = k + 1 ∧ v.category = 2) := fun hx hy => ⟨hy, fun q => by
          obtain ⟨q1, q2⟩ := q
          have : j = k := by omega
          subst this
          rw [hk] at hy; cases hy
          omega⟩
        cases x <;> simp only [hk] at h
        all_goals first | exact key _ h | exact key2 rfl h
theorem xst1_ok {ls : Array Slot} {nL i : Nat} {lv lv' : List (Option Value)} {v : Value} (hl : xst1 lv i v = lv') (h2 : lv_has ls nL ((i, v) :: (xas lv).filter (fun q => !(q.1 == i) && !(q.1 + 1 == i && q.2.category == 2)))) : xl_has ls nL lv' := by
  subst hl
  refine ⟨h2.1, h2.2.1, fun j y hy => ?_⟩
  unfold xst1 at hy
  by_cases hj : j = i
  · subst hj
    rw [List.getElem?_set] at hy
    simp only [if_true] at hy
    split at hy
    · cases hy; exact h2.2.2 (j, v) List.mem_cons_self
    · cases hy
  · rw [List.getElem?_set_ne (Ne.symm hj)] at hy
    obtain ⟨h3, h4⟩ := xkl_at hy
    refine h2.2.2 (j, y) (List.mem_cons_of_mem _ (List.mem_filter.mpr ⟨xas_mem.mpr h3, ?_⟩))
    simp only [Bool.and_eq_true, Bool.not_eq_true', beq_eq_false_iff_ne, ne_eq, Bool.and_eq_false_iff]
    refine ⟨hj, ?_⟩
    by_cases q : j + 1 = i
    · exact Or.inr fun q2 => h4 ⟨q, q2⟩
    · exact Or.inl q
theorem xst2_ok {ls : Array Slot} {nL i : Nat} {lv lv' : List (Option Value)} {v : Value} (hl : xst2 lv i v = lv') (h2 : lv_has ls nL ((i, v) :: (xas lv).filter (fun q => !(q.1 == i) && (!(q.1 == i + 1) && !(q.1 + 1 == i && q.2.category == 2))))) : xl_has ls nL lv' := by
  subst hl
  refine ⟨h2.1, h2.2.1, fun j y hy => ?_⟩
  unfold xst2 at hy
  by_cases hj1 : j = i + 1
  · subst hj1
    rw [List.getElem?_set] at hy
    simp only [if_true] at hy
    split at hy <;> cases hy
  · rw [List.getElem?_set_ne (Ne.symm hj1)] at hy
    by_cases hj : j = i
    · subst hj
      rw [List.getElem?_set] at hy
      simp only [if_true] at hy
      split at hy
      · cases hy; exact h2.2.2 (j, v) List.mem_cons_self
      · cases hy
    · rw [List.getElem?_set_ne (Ne.symm hj)] at hy
      obtain ⟨h3, h4⟩ := xkl_at hy
      refine h2.2.2 (j, y) (List.mem_cons_of_mem _ (List.mem_filter.mpr ⟨xas_mem.mpr h3, ?_⟩))
      simp only [Bool.and_eq_true, Bool.not_eq_true', beq_eq_false_iff_ne, ne_eq, Bool.and_eq_false_iff]
      refine ⟨hj, hj1, ?_⟩
      by_cases q : j + 1 = i
      · exact Or.inr fun q2 => h4 ⟨q, q2⟩
      · exact Or.inl q
/-! the method that runs: program, env, room, start, method, arguments, frames below, its record, its code, what is owed at the end -/
abbrev X_C := Program × Env × Room × State × MethodId × Array Value × List Frame × Method × Code × (State → Prop)
abbrev xp (C : X_C) : Program := C.1
abbrev xe (C : X_C) : Env := C.2.1
abbrev xR (C : X_C) : Room := C.2.2.1
abbrev xs (C : X_C) : State := C.2.2.2.1
abbrev xm (C : X_C) : MethodId := C.2.2.2.2.1
abbrev xa (C : X_C) : Array Value := C.2.2.2.2.2.1
abbrev xb (C : X_C) : List Frame := C.2.2.2.2.2.2.1
abbrev xme (C : X_C) : Method := C.2.2.2.2.2.2.2.1
abbrev xc (C : X_C) : Code := C.2.2.2.2.2.2.2.2.1
abbrev xQ (C : X_C) : State → Prop := C.2.2.2.2.2.2.2.2.2
def Wg (G : X_G) (C : X_C) (M : X_M) (kc ks pc : Nat) (lv : List (Option Value)) (st : List Value) : Prop :=
  ∀ (H : Heap) (locs : List Loc) (ls : Array Slot), Wd G M H → (xs C).heap.size ≤ H.size → (∀ q ∈ locs, g0 G ≤ q.base) → xl_has ls (xc C).maxLocals lv →
    W (xp C) (gl G) (xe C) (xR C) (xs C) (xm C) (xa C) (xb C) (xme C) (xc C) H locs kc ks (xQ C) (F0 (xm C) pc ls st)
/-- what is known of the method y that runs, with code cc, nL locals, room rm -/
def Cx (G : X_G) (C : X_C) (y : MethodName) (cc : ByteArray) (nL : Nat) (ret : Option FieldType) (rm : Room) : Prop :=
  (xp C).tables.exec = Jvm.exec ∧ (xc C).code = cc ∧ (xc C).maxLocals = nL ∧ (xs C).vm.findClass y.cls = some (xm C).cls ∧ (∀ w ∈ lw_all, w.before (xa C) (xs C) = true) ∧ (gs G).WarmedH (xs C).vm ∧ GOK G ∧ (xme C).sig.returnType = ret ∧ (xme C).locks = false ∧ (xme C).name = y.name ∧ xR C = rm ∧ (g0 G ≤ (xs C).heap.size ∧ ∀ q : Nat, q < g0 G → (xs C).heap[q]? = (gs G).heap[q]?)
section XR
variable {G : X_G} {C : X_C} {M : X_M} {kc ks pc nL : Nat} {lv : List (Option Value)} {rest : List Value} {y : MethodName} {cc : ByteArray} {ret : Option FieldType} {rm : Room}
theorem Cx.K (hC : Cx G C y cc nL ret rm) : va_K (gD G) xcl (xtys G) (xs C) := va_K.moved hC.2.2.2.2.2.1.alike hC.2.2.2.2.2.2.1.2.2.1
theorem Cx.w (hC : Cx G C y cc nL ret rm) {w : Cond} (h : w ∈ lw_all) : w.before (xa C) (xs C) = true := hC.2.2.2.2.1 w h
theorem Cx.room (hC : Cx G C y cc nL ret rm) : xR C = rm := hC.2.2.2.2.2.2.2.2.2.2.1
theorem Cx.own (hC : Cx G C y cc nL ret rm) : (xs C).vm.findClass y.cls = some (xm C).cls := hC.2.2.2.1
theorem Cx.gok (hC : Cx G C y cc nL ret rm) : GOK G := hC.2.2.2.2.2.2.1
theorem Cx.rets (hC : Cx G C y cc nL ret rm) : (xme C).sig.returnType = ret := hC.2.2.2.2.2.2.2.1
theorem Cx.locks (hC : Cx G C y cc nL ret rm) : (xme C).locks = false := hC.2.2.2.2.2.2.2.2.1
theorem Cx.name (hC : Cx G C y cc nL ret rm) : (xme C).name = y.name := hC.2.2.2.2.2.2.2.2.2.1
theorem Cx.warm (hC : Cx G C y cc nL ret rm) : (gs G).WarmedH (xs C).vm := hC.2.2.2.2.2.1
theorem Cx.old (hC : Cx G C y cc nL ret rm) : g0 G ≤ (xs C).heap.size ∧ ∀ q : Nat, q < g0 G → (xs C).heap[q]? = (gs G).heap[q]? := hC.2.2.2.2.2.2.2.2.2.2.2
theorem Wd.S (hC : Cx G C y cc nL ret rm) {H : Heap} {locs : List Loc} (h : Wd G M H) (hz : (xs C).heap.size ≤ H.size) (hl : ∀ q ∈ locs, g0 G ≤ q.base) : va_S (fun q => g0 G ≤ q) (xs C).heap H locs :=
  ⟨hz, fun q _ h2 => by rw [h.2.1 q (by omega), hC.old.2 q (by omega)], hl⟩
/-- more counted -/
theorem x_widen {k n : Nat} (h1 : kc ≤ k) (h2 : ks ≤ n) (kk : Wg G C M k n pc lv rest) : Wg G C M kc ks pc lv rest := fun H locs ls hW hz hq hl => W.widen h1 h2 (kk H locs ls hW hz hq hl)
/-- the same goal, the parts equal -/
theorem x_eq {M' : X_M} {lv' : List (Option Value)} {st' : List Value} (kk : Wg G C M' kc ks pc lv' st') (e1 : M = M') (e2 : lv = lv') (e3 : rest = st') : Wg G C M kc ks pc lv rest := by
  subst e1; subst e2; subst e3; exact kk
theorem x_tag {a g : Nat} (g' : Nat) {x : (Nat × List Value) ⊕ ((Nat × vp_A) ⊕ Cell)} (ha : M a = some (g, x)) (hg : g ≠ 0) (kk : Wg G C (mu M a (g', x)) kc ks pc lv rest) : Wg G C M kc ks pc lv rest := fun H locs ls hW hz hq hl => kk H locs ls (hW.tag ha hg) hz hq hl
theorem x_sub {M' : X_M} (hs : ∀ a e, M' a = some e → M a = some e) (kk : Wg G C M' kc ks pc lv rest) : Wg G C M kc ks pc lv rest := fun H locs ls hW hz hq hl => kk H locs ls (hW.sub hs) hz hq hl

theorem x_iconst (hC : Cx G C y cc nL ret rm) {n : Int} {v : Int32} (hdg : decode cc pc = .ok (.iconst n, 1)) (hv : Int32.ofInt n = v) (k : Wg G C M kc ks (pc + 1) lv (.int v :: rest)) : Wg G C M kc ks pc lv (rest) := fun H locs ls hW hz hq hl9 => lv_iconst hC.1 hC.2.1 hdg hv (k H locs ls hW hz hq hl9)
theorem x_bipush (hC : Cx G C y cc nL ret rm) {n : Int} {v : Int32} (hdg : decode cc pc = .ok (.bipush n, 2)) (hv : (Int8.ofInt n).toInt32 = v) (k : Wg G C M kc ks (pc + 2) lv (.int v :: rest)) : Wg G C M kc ks pc lv (rest) := fun H locs ls hW hz hq hl9 => lv_bipush hC.1 hC.2.1 hdg hv (k H locs ls hW hz hq hl9)
theorem x_sipush (hC : Cx G C y cc nL ret rm) {n : Int} {v : Int32} (hdg : decode cc pc = .ok (.sipush n, 3)) (hv : (Int16.ofInt n).toInt32 = v) (k : Wg G C M kc ks (pc + 3) lv (.int v :: rest)) : Wg G C M kc ks pc lv (rest) := fun H locs ls hW hz hq hl9 => lv_sipush hC.1 hC.2.1 hdg hv (k H locs ls hW hz hq hl9)
theorem x_lconst (hC : Cx G C y cc nL ret rm) {n : Fin 2} {v : Int64} (hdg : decode cc pc = .ok (.lconst n, 1)) (hv : Int64.ofNat (n : Nat) = v) (k : Wg G C M kc ks (pc + 1) lv (.long v :: rest)) : Wg G C M kc ks pc lv (rest) := fun H locs ls hW hz hq hl9 => lv_lconst hC.1 hC.2.1 hdg hv (k H locs ls hW hz hq hl9)
theorem x_iload_n (hC : Cx G C y cc nL ret rm) {k : Fin 4} {i : Nat} {x : Int32} (hdg : decode cc pc = .ok (.iload_n k, 1)) (hi : (k : Nat) = i) (hl : lv[i]? = some (some (.int x))) (k : Wg G C M kc ks (pc + 1) lv (.int x :: rest)) : Wg G C M kc ks pc lv (rest) := fun H locs ls hW hz hq hl9 => lv_iload_n hC.1 hC.2.1 hdg hi (hl9.2.2 _ _ hl) (k H locs ls hW hz hq hl9)
theorem x_iload (hC : Cx G C y cc nL ret rm) {i : Nat} {x : Int32} (hdg : decode cc pc = .ok (.iload i, 2)) (hl : lv[i]? = some (some (.int x))) (k : Wg G C M kc ks (pc + 2) lv (.int x :: rest)) : Wg G C M kc ks pc lv (rest) := fun H locs ls hW hz hq hl9 => lv_iload hC.1 hC.2.1 hdg (hl9.2.2 _ _ hl) (k H locs ls hW hz hq hl9)
theorem x_lload_n (hC : Cx G C y cc nL ret rm) {k : Fin 4} {i : Nat} {x : Int64} (hdg : decode cc pc = .ok (.lload_n k, 1)) (hi : (k : Nat) = i) (hl : lv[i]? = some (some (.long x))) (k : Wg G C M kc ks (pc + 1) lv (.long x :: rest)) : Wg G C M kc ks pc lv (rest) := fun H locs ls hW hz hq hl9 => lv_lload_n hC.1 hC.2.1 hdg hi (hl9.2.2 _ _ hl) (k H locs ls hW hz hq hl9)
theorem x_lload (hC : Cx G C y cc nL ret rm) {i : Nat} {x : Int64} (hdg : decode cc pc = .ok (.lload i, 2)) (hl : lv[i]? = some (some (.long x))) (k : Wg G C M kc ks (pc + 2) lv (.long x :: rest)) : Wg G C M kc ks pc lv (rest) := fun H locs ls hW hz hq hl9 => lv_lload hC.1 hC.2.1 hdg (hl9.2.2 _ _ hl) (k H locs ls hW hz hq hl9)
theorem x_aload_n (hC : Cx G C y cc nL ret rm) {k : Fin 4} {i : Nat} {x : Nat} (hdg : decode cc pc = .ok (.aload_n k, 1)) (hi : (k : Nat) = i) (hl : lv[i]? = some (some (.ref x))) (k : Wg G C M kc ks (pc + 1) lv (.ref x :: rest)) : Wg G C M kc ks pc lv (rest) := fun H locs ls hW hz hq hl9 => lv_aload_n hC.1 hC.2.1 hdg hi (hl9.2.2 _ _ hl) (k H locs ls hW hz hq hl9)
theorem x_aload (hC : Cx G C y cc nL ret rm) {i : Nat} {x : Nat} (hdg : decode cc pc = .ok (.aload i, 2)) (hl : lv[i]? = some (some (.ref x))) (k : Wg G C M kc ks (pc + 2) lv (.ref x :: rest)) : Wg G C M kc ks pc lv (rest) := fun H locs ls hW hz hq hl9 => lv_aload hC.1 hC.2.1 hdg (hl9.2.2 _ _ hl) (k H locs ls hW hz hq hl9)
theorem x_iadd (hC : Cx G C y cc nL ret rm) {x y : Int32} (hdg : decode cc pc = .ok (.iadd, 1))  (k : Wg G C M kc ks (pc + 1) lv (.int (x + y) :: rest)) : Wg G C M kc ks pc lv (.int y :: .int x :: rest) := fun H locs ls hW hz hq hl9 => lv_iadd hC.1 hC.2.1 hdg (k H locs ls hW hz hq hl9)
theorem x_isub (hC : Cx G C y cc nL ret rm) {x y : Int32} (hdg : decode cc pc = .ok (.isub, 1))  (k : Wg G C M kc ks (pc + 1) lv (.int (x - y) :: rest)) : Wg G C M kc ks pc lv (.int y :: .int x :: rest) := fun H locs ls hW hz hq hl9 => lv_isub hC.1 hC.2.1 hdg (k H locs ls hW hz hq hl9)
theorem x_imul (hC : Cx G C y cc nL ret rm) {x y : Int32} (hdg : decode cc pc = .ok (.imul, 1))  (k : Wg G C M kc ks (pc + 1) lv (.int (x * y) :: rest)) : Wg G C M kc ks pc lv (.int y :: .int x :: rest) := fun H locs ls hW hz hq hl9 => lv_imul hC.1 hC.2.1 hdg (k H locs ls hW hz hq hl9)
theorem x_iand (hC : Cx G C y cc nL ret rm) {x y : Int32} (hdg : decode cc pc = .ok (.iand, 1))  (k : Wg G C M kc ks (pc + 1) lv (.int (x &&& y) :: rest)) : Wg G C M kc ks pc lv (.int y :: .int x :: rest) := fun H locs ls hW hz hq hl9 => lv_iand hC.1 hC.2.1 hdg (k H locs ls hW hz hq hl9)
theorem x_ior (hC : Cx G C y cc nL ret rm) {x y : Int32} (hdg : decode cc pc = .ok (.ior, 1))  (k : Wg G C M kc ks (pc + 1) lv (.int (x ||| y) :: rest)) : Wg G C M kc ks pc lv (.int y :: .int x :: rest) := fun H locs ls hW hz hq hl9 => lv_ior hC.1 hC.2.1 hdg (k H locs ls hW hz hq hl9)
theorem x_ixor (hC : Cx G C y cc nL ret rm) {x y : Int32} (hdg : decode cc pc = .ok (.ixor, 1))  (k : Wg G C M kc ks (pc + 1) lv (.int (x ^^^ y) :: rest)) : Wg G C M kc ks pc lv (.int y :: .int x :: rest) := fun H locs ls hW hz hq hl9 => lv_ixor hC.1 hC.2.1 hdg (k H locs ls hW hz hq hl9)
theorem x_idiv (hC : Cx G C y cc nL ret rm) {x y : Int32} (hdg : decode cc pc = .ok (.idiv, 1)) (hne : ¬ y = 0) (k : Wg G C M kc ks (pc + 1) lv (.int (x / y) :: rest)) : Wg G C M kc ks pc lv (.int y :: .int x :: rest) := fun H locs ls hW hz hq hl9 => lv_idiv hC.1 hC.2.1 hdg hne (k H locs ls hW hz hq hl9)
theorem x_irem (hC : Cx G C y cc nL ret rm) {x y : Int32} (hdg : decode cc pc = .ok (.irem, 1)) (hne : ¬ y = 0) (k : Wg G C M kc ks (pc + 1) lv (.int (x - x / y * y) :: rest)) : Wg G C M kc ks pc lv (.int y :: .int x :: rest) := fun H locs ls hW hz hq hl9 => lv_irem hC.1 hC.2.1 hdg hne (k H locs ls hW hz hq hl9)
theorem x_ineg (hC : Cx G C y cc nL ret rm) {x : Int32} (hdg : decode cc pc = .ok (.ineg, 1))  (k : Wg G C M kc ks (pc + 1) lv (.int (-x) :: rest)) : Wg G C M kc ks pc lv (.int x :: rest) := fun H locs ls hW hz hq hl9 => lv_ineg hC.1 hC.2.1 hdg (k H locs ls hW hz hq hl9)
theorem x_ladd (hC : Cx G C y cc nL ret rm) {x y : Int64} (hdg : decode cc pc = .ok (.ladd, 1))  (k : Wg G C M kc ks (pc + 1) lv (.long (x + y) :: rest)) : Wg G C M kc ks pc lv (.long y :: .long x :: rest) := fun H locs ls hW hz hq hl9 => lv_ladd hC.1 hC.2.1 hdg (k H locs ls hW hz hq hl9)
theorem x_lsub (hC : Cx G C y cc nL ret rm) {x y : Int64} (hdg : decode cc pc = .ok (.lsub, 1))  (k : Wg G C M kc ks (pc + 1) lv (.long (x - y) :: rest)) : Wg G C M kc ks pc lv (.long y :: .long x :: rest) := fun H locs ls hW hz hq hl9 => lv_lsub hC.1 hC.2.1 hdg (k H locs ls hW hz hq hl9)
theorem x_lmul (hC : Cx G C y cc nL ret rm) {x y : Int64} (hdg : decode cc pc = .ok (.lmul, 1))  (k : Wg G C M kc ks (pc + 1) lv (.long (x * y) :: rest)) : Wg G C M kc ks pc lv (.long y :: .long x :: rest) := fun H locs ls hW hz hq hl9 => lv_lmul hC.1 hC.2.1 hdg (k H locs ls hW hz hq hl9)
theorem x_land (hC : Cx G C y cc nL ret rm) {x y : Int64} (hdg : decode cc pc = .ok (.land, 1))  (k : Wg G C M kc ks (pc + 1) lv (.long (x &&& y) :: rest)) : Wg G C M kc ks pc lv (.long y :: .long x :: rest) := fun H locs ls hW hz hq hl9 => lv_land hC.1 hC.2.1 hdg (k H locs ls hW hz hq hl9)
theorem x_lor (hC : Cx G C y cc nL ret rm) {x y : Int64} (hdg : decode cc pc = .ok (.lor, 1))  (k : Wg G C M kc ks (pc + 1) lv (.long (x ||| y) :: rest)) : Wg G C M kc ks pc lv (.long y :: .long x :: rest) := fun H locs ls hW hz hq hl9 => lv_lor hC.1 hC.2.1 hdg (k H locs ls hW hz hq hl9)
theorem x_lxor (hC : Cx G C y cc nL ret rm) {x y : Int64} (hdg : decode cc pc = .ok (.lxor, 1))  (k : Wg G C M kc ks (pc + 1) lv (.long (x ^^^ y) :: rest)) : Wg G C M kc ks pc lv (.long y :: .long x :: rest) := fun H locs ls hW hz hq hl9 => lv_lxor hC.1 hC.2.1 hdg (k H locs ls hW hz hq hl9)
theorem x_ldiv (hC : Cx G C y cc nL ret rm) {x y : Int64} (hdg : decode cc pc = .ok (.ldiv, 1)) (hne : ¬ y = 0) (k : Wg G C M kc ks (pc + 1) lv (.long (x / y) :: rest)) : Wg G C M kc ks pc lv (.long y :: .long x :: rest) := fun H locs ls hW hz hq hl9 => lv_ldiv hC.1 hC.2.1 hdg hne (k H locs ls hW hz hq hl9)
theorem x_lrem (hC : Cx G C y cc nL ret rm) {x y : Int64} (hdg : decode cc pc = .ok (.lrem, 1)) (hne : ¬ y = 0) (k : Wg G C M kc ks (pc + 1) lv (.long (x - x / y * y) :: rest)) : Wg G C M kc ks pc lv (.long y :: .long x :: rest) := fun H locs ls hW hz hq hl9 => lv_lrem hC.1 hC.2.1 hdg hne (k H locs ls hW hz hq hl9)
theorem x_lneg (hC : Cx G C y cc nL ret rm) {x : Int64} (hdg : decode cc pc = .ok (.lneg, 1))  (k : Wg G C M kc ks (pc + 1) lv (.long (-x) :: rest)) : Wg G C M kc ks pc lv (.long x :: rest) := fun H locs ls hW hz hq hl9 => lv_lneg hC.1 hC.2.1 hdg (k H locs ls hW hz hq hl9)
theorem x_ishl (hC : Cx G C y cc nL ret rm) {x y : Int32} (hdg : decode cc pc = .ok (.ishl, 1))  (k : Wg G C M kc ks (pc + 1) lv (.int (x <<< (y &&& 31)) :: rest)) : Wg G C M kc ks pc lv (.int y :: .int x :: rest) := fun H locs ls hW hz hq hl9 => lv_ishl hC.1 hC.2.1 hdg (k H locs ls hW hz hq hl9)
theorem x_ishr (hC : Cx G C y cc nL ret rm) {x y : Int32} (hdg : decode cc pc = .ok (.ishr, 1))  (k : Wg G C M kc ks (pc + 1) lv (.int (x >>> (y &&& 31)) :: rest)) : Wg G C M kc ks pc lv (.int y :: .int x :: rest) := fun H locs ls hW hz hq hl9 => lv_ishr hC.1 hC.2.1 hdg (k H locs ls hW hz hq hl9)
theorem x_i2l (hC : Cx G C y cc nL ret rm) {x : Int32} {v : Int64} (hdg : decode cc pc = .ok (.i2l, 1)) (hv : x.toInt64 = v) (k : Wg G C M kc ks (pc + 1) lv (.long v :: rest)) : Wg G C M kc ks pc lv (.int x :: rest) := fun H locs ls hW hz hq hl9 => lv_i2l hC.1 hC.2.1 hdg hv (k H locs ls hW hz hq hl9)
theorem x_l2i (hC : Cx G C y cc nL ret rm) {x : Int64} {v : Int32} (hdg : decode cc pc = .ok (.l2i, 1)) (hv : x.toInt32 = v) (k : Wg G C M kc ks (pc + 1) lv (.int v :: rest)) : Wg G C M kc ks pc lv (.long x :: rest) := fun H locs ls hW hz hq hl9 => lv_l2i hC.1 hC.2.1 hdg hv (k H locs ls hW hz hq hl9)
theorem x_i2b (hC : Cx G C y cc nL ret rm) {x : Int32} {v : Int32} (hdg : decode cc pc = .ok (.i2b, 1)) (hv : x.toInt8.toInt32 = v) (k : Wg G C M kc ks (pc + 1) lv (.int v :: rest)) : Wg G C M kc ks pc lv (.int x :: rest) := fun H locs ls hW hz hq hl9 => lv_i2b hC.1 hC.2.1 hdg hv (k H locs ls hW hz hq hl9)
theorem x_i2s (hC : Cx G C y cc nL ret rm) {x : Int32} {v : Int32} (hdg : decode cc pc = .ok (.i2s, 1)) (hv : x.toInt16.toInt32 = v) (k : Wg G C M kc ks (pc + 1) lv (.int v :: rest)) : Wg G C M kc ks pc lv (.int x :: rest) := fun H locs ls hW hz hq hl9 => lv_i2s hC.1 hC.2.1 hdg hv (k H locs ls hW hz hq hl9)
theorem x_i2c (hC : Cx G C y cc nL ret rm) {x : Int32} {v : Int32} (hdg : decode cc pc = .ok (.i2c, 1)) (hv : (x.toUInt32 % 65536).toInt32 = v) (k : Wg G C M kc ks (pc + 1) lv (.int v :: rest)) : Wg G C M kc ks pc lv (.int x :: rest) := fun H locs ls hW hz hq hl9 => lv_i2c hC.1 hC.2.1 hdg hv (k H locs ls hW hz hq hl9)
theorem x_iushr (hC : Cx G C y cc nL ret rm) {x y v : Int32} (hdg : decode cc pc = .ok (.iushr, 1)) (hv : (x.toUInt32 >>> (y.toUInt32 &&& Int32.toUInt32 31)).toInt32 = v) (k : Wg G C M kc ks (pc + 1) lv (.int v :: rest)) : Wg G C M kc ks pc lv (.int y :: .int x :: rest) := fun H locs ls hW hz hq hl9 => lv_iushr hC.1 hC.2.1 hdg hv (k H locs ls hW hz hq hl9)
theorem x_lushr (hC : Cx G C y cc nL ret rm) {x v : Int64} {y : Int32} (hdg : decode cc pc = .ok (.lushr, 1)) (hv : (x.toUInt64 >>> (y.toInt64.toUInt64 &&& Int64.toUInt64 63)).toInt64 = v) (k : Wg G C M kc ks (pc + 1) lv (.long v :: rest)) : Wg G C M kc ks pc lv (.int y :: .long x :: rest) := fun H locs ls hW hz hq hl9 => lv_lushr hC.1 hC.2.1 hdg hv (k H locs ls hW hz hq hl9)
theorem x_lshl (hC : Cx G C y cc nL ret rm) {x v : Int64} {y : Int32} (hdg : decode cc pc = .ok (.lshl, 1)) (hv : x <<< (y.toInt64 &&& 63) = v) (k : Wg G C M kc ks (pc + 1) lv (.long v :: rest)) : Wg G C M kc ks pc lv (.int y :: .long x :: rest) := fun H locs ls hW hz hq hl9 => lv_lshl hC.1 hC.2.1 hdg hv (k H locs ls hW hz hq hl9)
theorem x_lshr (hC : Cx G C y cc nL ret rm) {x v : Int64} {y : Int32} (hdg : decode cc pc = .ok (.lshr, 1)) (hv : x >>> (y.toInt64 &&& 63) = v) (k : Wg G C M kc ks (pc + 1) lv (.long v :: rest)) : Wg G C M kc ks pc lv (.int y :: .long x :: rest) := fun H locs ls hW hz hq hl9 => lv_lshr hC.1 hC.2.1 hdg hv (k H locs ls hW hz hq hl9)
theorem x_dup (hC : Cx G C y cc nL ret rm) {va : Value} (hdg : decode cc pc = .ok (.dup, 1)) (hva : va.category = 1) (k : Wg G C M kc ks (pc + 1) lv (va :: va :: rest)) : Wg G C M kc ks pc lv (va :: rest) := fun H locs ls hW hz hq hl9 => lv_dup hC.1 hC.2.1 hdg hva (k H locs ls hW hz hq hl9)
theorem x_pop (hC : Cx G C y cc nL ret rm) {va : Value} (hdg : decode cc pc = .ok (.pop, 1)) (hva : va.category = 1) (k : Wg G C M kc ks (pc + 1) lv (rest)) : Wg G C M kc ks pc lv (va :: rest) := fun H locs ls hW hz hq hl9 => lv_pop hC.1 hC.2.1 hdg hva (k H locs ls hW hz hq hl9)
theorem x_dup_x1 (hC : Cx G C y cc nL ret rm) {va vb : Value} (hdg : decode cc pc = .ok (.dup_x1, 1)) (hva : va.category = 1) (hvb : vb.category = 1) (k : Wg G C M kc ks (pc + 1) lv (va :: vb :: va :: rest)) : Wg G C M kc ks pc lv (va :: vb :: rest) := fun H locs ls hW hz hq hl9 => lv_dup_x1 hC.1 hC.2.1 hdg hva hvb (k H locs ls hW hz hq hl9)
theorem x_dup_x2 (hC : Cx G C y cc nL ret rm) {va vb vd : Value} (hdg : decode cc pc = .ok (.dup_x2, 1)) (hva : va.category = 1) (hvb : vb.category = 1) (hvd : vd.category = 1) (k : Wg G C M kc ks (pc + 1) lv (va :: vb :: vd :: va :: rest)) : Wg G C M kc ks pc lv (va :: vb :: vd :: rest) := fun H locs ls hW hz hq hl9 => lv_dup_x2 hC.1 hC.2.1 hdg hva hvb hvd (k H locs ls hW hz hq hl9)
theorem x_dup2_11 (hC : Cx G C y cc nL ret rm) {va vb : Value} (hdg : decode cc pc = .ok (.dup2, 1)) (hva : va.category = 1) (hvb : vb.category = 1) (k : Wg G C M kc ks (pc + 1) lv (va :: vb :: va :: vb :: rest)) : Wg G C M kc ks pc lv (va :: vb :: rest) := fun H locs ls hW hz hq hl9 => lv_dup2_11 hC.1 hC.2.1 hdg hva hvb (k H locs ls hW hz hq hl9)
theorem x_dup2_2 (hC : Cx G C y cc nL ret rm) {va : Value} (hdg : decode cc pc = .ok (.dup2, 1)) (hva : va.category = 2) (k : Wg G C M kc ks (pc + 1) lv (va :: va :: rest)) : Wg G C M kc ks pc lv (va :: rest) := fun H locs ls hW hz hq hl9 => lv_dup2_2 hC.1 hC.2.1 hdg hva (k H locs ls hW hz hq hl9)
theorem x_pop2_2 (hC : Cx G C y cc nL ret rm) {va : Value} (hdg : decode cc pc = .ok (.pop2, 1)) (hva : va.category = 2) (k : Wg G C M kc ks (pc + 1) lv (rest)) : Wg G C M kc ks pc lv (va :: rest) := fun H locs ls hW hz hq hl9 => lv_pop2_2 hC.1 hC.2.1 hdg hva (k H locs ls hW hz hq hl9)
theorem x_pop2_11 (hC : Cx G C y cc nL ret rm) {va vb : Value} (hdg : decode cc pc = .ok (.pop2, 1)) (hva : va.category = 1) (hvb : vb.category = 1) (k : Wg G C M kc ks (pc + 1) lv (rest)) : Wg G C M kc ks pc lv (va :: vb :: rest) := fun H locs ls hW hz hq hl9 => lv_pop2_11 hC.1 hC.2.1 hdg hva hvb (k H locs ls hW hz hq hl9)
theorem x_dup2_x1_2 (hC : Cx G C y cc nL ret rm) {va vb : Value} (hdg : decode cc pc = .ok (.dup2_x1, 1)) (hva : va.category = 2) (hvb : vb.category = 1) (k : Wg G C M kc ks (pc + 1) lv (va :: vb :: va :: rest)) : Wg G C M kc ks pc lv (va :: vb :: rest) := fun H locs ls hW hz hq hl9 => lv_dup2_x1_2 hC.1 hC.2.1 hdg hva hvb (k H locs ls hW hz hq hl9)
theorem x_dup2_x2_2 (hC : Cx G C y cc nL ret rm) {va vb vd : Value} (hdg : decode cc pc = .ok (.dup2_x2, 1)) (hva : va.category = 2) (hvb : vb.category = 1) (hvd : vd.category = 1) (k : Wg G C M kc ks (pc + 1) lv (va :: vb :: vd :: va :: rest)) : Wg G C M kc ks pc lv (va :: vb :: vd :: rest) := fun H locs ls hW hz hq hl9 => lv_dup2_x2_2 hC.1 hC.2.1 hdg hva hvb hvd (k H locs ls hW hz hq hl9)
theorem x_if_eq (hC : Cx G C y cc nL ret rm) {x : Int32} {off : Int} {tgt : Nat} (hdg : decode cc pc = .ok (.ifCond .eq off, 3)) (ht : (pc : Int) + off = (tgt : Int)) (kt : x = 0 → Wg G C M kc ks tgt lv rest) (kf : ¬ x = 0 → Wg G C M kc ks (pc + 3) lv rest) : Wg G C M kc ks pc lv (.int x :: rest) := fun H locs ls hW hz hq hl9 => lv_if_eq hC.1 hC.2.1 hdg ht (fun h9 => kt h9 H locs ls hW hz hq hl9) (fun h9 => kf h9 H locs ls hW hz hq hl9)
theorem x_icmp_eq (hC : Cx G C y cc nL ret rm) {x y : Int32} {off : Int} {tgt : Nat} (hdg : decode cc pc = .ok (.if_icmp .eq off, 3)) (ht : (pc : Int) + off = (tgt : Int)) (kt : x = y → Wg G C M kc ks tgt lv rest) (kf : ¬ x = y → Wg G C M kc ks (pc + 3) lv rest) : Wg G C M kc ks pc lv (.int y :: .int x :: rest) := fun H locs ls hW hz hq hl9 => lv_icmp_eq hC.1 hC.2.1 hdg ht (fun h9 => kt h9 H locs ls hW hz hq hl9) (fun h9 => kf h9 H locs ls hW hz hq hl9)
theorem x_if_ne (hC : Cx G C y cc nL ret rm) {x : Int32} {off : Int} {tgt : Nat} (hdg : decode cc pc = .ok (.ifCond .ne off, 3)) (ht : (pc : Int) + off = (tgt : Int)) (kt : ¬ x = 0 → Wg G C M kc ks tgt lv rest) (kf : x = 0 → Wg G C M kc ks (pc + 3) lv rest) : Wg G C M kc ks pc lv (.int x :: rest) := fun H locs ls hW hz hq hl9 => lv_if_ne hC.1 hC.2.1 hdg ht (fun h9 => kt h9 H locs ls hW hz hq hl9) (fun h9 => kf h9 H locs ls hW hz hq hl9)
theorem x_icmp_ne (hC : Cx G C y cc nL ret rm) {x y : Int32} {off : Int} {tgt : Nat} (hdg : decode cc pc = .ok (.if_icmp .ne off, 3)) (ht : (pc : Int) + off = (tgt : Int)) (kt : ¬ x = y → Wg G C M kc ks tgt lv rest) (kf : x = y → Wg G C M kc ks (pc + 3) lv rest) : Wg G C M kc ks pc lv (.int y :: .int x :: rest) := fun H locs ls hW hz hq hl9 => lv_icmp_ne hC.1 hC.2.1 hdg ht (fun h9 => kt h9 H locs ls hW hz hq hl9) (fun h9 => kf h9 H locs ls hW hz hq hl9)
theorem x_if_lt (hC : Cx G C y cc nL ret rm) {x : Int32} {off : Int} {tgt : Nat} (hdg : decode cc pc = .ok (.ifCond .lt off, 3)) (ht : (pc : Int) + off = (tgt : Int)) (kt : x < 0 → Wg G C M kc ks tgt lv rest) (kf : ¬ x < 0 → Wg G C M kc ks (pc + 3) lv rest) : Wg G C M kc ks pc lv (.int x :: rest) := fun H locs ls hW hz hq hl9 => lv_if_lt hC.1 hC.2.1 hdg ht (fun h9 => kt h9 H locs ls hW hz hq hl9) (fun h9 => kf h9 H locs ls hW hz hq hl9)
theorem x_icmp_lt (hC : Cx G C y cc nL ret rm) {x y : Int32} {off : Int} {tgt : Nat} (hdg : decode cc pc = .ok (.if_icmp .lt off, 3)) (ht : (pc : Int) + off = (tgt : Int)) (kt : x < y → Wg G C M kc ks tgt lv rest) (kf : ¬ x < y → Wg G C M kc ks (pc + 3) lv rest) : Wg G C M kc ks pc lv (.int y :: .int x :: rest) := fun H locs ls hW hz hq hl9 => lv_icmp_lt hC.1 hC.2.1 hdg ht (fun h9 => kt h9 H locs ls hW hz hq hl9) (fun h9 => kf h9 H locs ls hW hz hq hl9)
theorem x_if_ge (hC : Cx G C y cc nL ret rm) {x : Int32} {off : Int} {tgt : Nat} (hdg : decode cc pc = .ok (.ifCond .ge off, 3)) (ht : (pc : Int) + off = (tgt : Int)) (kt : 0 ≤ x → Wg G C M kc ks tgt lv rest) (kf : ¬ 0 ≤ x → Wg G C M kc ks (pc + 3) lv rest) : Wg G C M kc ks pc lv (.int x :: rest) := fun H locs ls hW hz hq hl9 => lv_if_ge hC.1 hC.2.1 hdg ht (fun h9 => kt h9 H locs ls hW hz hq hl9) (fun h9 => kf h9 H locs ls hW hz hq hl9)
theorem x_icmp_ge (hC : Cx G C y cc nL ret rm) {x y : Int32} {off : Int} {tgt : Nat} (hdg : decode cc pc = .ok (.if_icmp .ge off, 3)) (ht : (pc : Int) + off = (tgt : Int)) (kt : y ≤ x → Wg G C M kc ks tgt lv rest) (kf : ¬ y ≤ x → Wg G C M kc ks (pc + 3) lv rest) : Wg G C M kc ks pc lv (.int y :: .int x :: rest) := fun H locs ls hW hz hq hl9 => lv_icmp_ge hC.1 hC.2.1 hdg ht (fun h9 => kt h9 H locs ls hW hz hq hl9) (fun h9 => kf h9 H locs ls hW hz hq hl9)
theorem x_if_gt (hC : Cx G C y cc nL ret rm) {x : Int32} {off : Int} {tgt : Nat} (hdg : decode cc pc = .ok (.ifCond .gt off, 3)) (ht : (pc : Int) + off = (tgt : Int)) (kt : 0 < x → Wg G C M kc ks tgt lv rest) (kf : ¬ 0 < x → Wg G C M kc ks (pc + 3) lv rest) : Wg G C M kc ks pc lv (.int x :: rest) := fun H locs ls hW hz hq hl9 => lv_if_gt hC.1 hC.2.1 hdg ht (fun h9 => kt h9 H locs ls hW hz hq hl9) (fun h9 => kf h9 H locs ls hW hz hq hl9)
theorem x_icmp_gt (hC : Cx G C y cc nL ret rm) {x y : Int32} {off : Int} {tgt : Nat} (hdg : decode cc pc = .ok (.if_icmp .gt off, 3)) (ht : (pc : Int) + off = (tgt : Int)) (kt : y < x → Wg G C M kc ks tgt lv rest) (kf : ¬ y < x → Wg G C M kc ks (pc + 3) lv rest) : Wg G C M kc ks pc lv (.int y :: .int x :: rest) := fun H locs ls hW hz hq hl9 => lv_icmp_gt hC.1 hC.2.1 hdg ht (fun h9 => kt h9 H locs ls hW hz hq hl9) (fun h9 => kf h9 H locs ls hW hz hq hl9)
theorem x_if_le (hC : Cx G C y cc nL ret rm) {x : Int32} {off : Int} {tgt : Nat} (hdg : decode cc pc = .ok (.ifCond .le off, 3)) (ht : (pc : Int) + off = (tgt : Int)) (kt : x ≤ 0 → Wg G C M kc ks tgt lv rest) (kf : ¬ x ≤ 0 → Wg G C M kc ks (pc + 3) lv rest) : Wg G C M kc ks pc lv (.int x :: rest) := fun H locs ls hW hz hq hl9 => lv_if_le hC.1 hC.2.1 hdg ht (fun h9 => kt h9 H locs ls hW hz hq hl9) (fun h9 => kf h9 H locs ls hW hz hq hl9)
theorem x_icmp_le (hC : Cx G C y cc nL ret rm) {x y : Int32} {off : Int} {tgt : Nat} (hdg : decode cc pc = .ok (.if_icmp .le off, 3)) (ht : (pc : Int) + off = (tgt : Int)) (kt : x ≤ y → Wg G C M kc ks tgt lv rest) (kf : ¬ x ≤ y → Wg G C M kc ks (pc + 3) lv rest) : Wg G C M kc ks pc lv (.int y :: .int x :: rest) := fun H locs ls hW hz hq hl9 => lv_icmp_le hC.1 hC.2.1 hdg ht (fun h9 => kt h9 H locs ls hW hz hq hl9) (fun h9 => kf h9 H locs ls hW hz hq hl9)
theorem x_goto (hC : Cx G C y cc nL ret rm) {off : Int} {tgt : Nat} (hdg : decode cc pc = .ok (.goto off, 3)) (ht : (pc : Int) + off = (tgt : Int)) (k : Wg G C M kc ks tgt lv rest) : Wg G C M kc ks pc lv rest := fun H locs ls hW hz hq hl9 => lv_goto hC.1 hC.2.1 hdg ht (k H locs ls hW hz hq hl9)
theorem x_fconst0 (hC : Cx G C y cc nL ret rm)  (hdg : decode cc pc = .ok (.fconst 0, 1))  (k : Wg G C M kc ks (pc + 1) lv (.float FP.fconst0 :: rest)) : Wg G C M kc ks pc lv (rest) := fun H locs ls hW hz hq hl9 => lv_fconst0 hC.1 hC.2.1 hdg (k H locs ls hW hz hq hl9)
theorem x_fconst1 (hC : Cx G C y cc nL ret rm)  (hdg : decode cc pc = .ok (.fconst 1, 1))  (k : Wg G C M kc ks (pc + 1) lv (.float FP.fconst1 :: rest)) : Wg G C M kc ks pc lv (rest) := fun H locs ls hW hz hq hl9 => lv_fconst1 hC.1 hC.2.1 hdg (k H locs ls hW hz hq hl9)
theorem x_fconst2 (hC : Cx G C y cc nL ret rm)  (hdg : decode cc pc = .ok (.fconst 2, 1))  (k : Wg G C M kc ks (pc + 1) lv (.float FP.fconst2 :: rest)) : Wg G C M kc ks pc lv (rest) := fun H locs ls hW hz hq hl9 => lv_fconst2 hC.1 hC.2.1 hdg (k H locs ls hW hz hq hl9)
theorem x_dconst0 (hC : Cx G C y cc nL ret rm)  (hdg : decode cc pc = .ok (.dconst 0, 1))  (k : Wg G C M kc ks (pc + 1) lv (.double FP.dconst0 :: rest)) : Wg G C M kc ks pc lv (rest) := fun H locs ls hW hz hq hl9 => lv_dconst0 hC.1 hC.2.1 hdg (k H locs ls hW hz hq hl9)
theorem x_dconst1 (hC : Cx G C y cc nL ret rm)  (hdg : decode cc pc = .ok (.dconst 1, 1))  (k : Wg G C M kc ks (pc + 1) lv (.double FP.dconst1 :: rest)) : Wg G C M kc ks pc lv (rest) := fun H locs ls hW hz hq hl9 => lv_dconst1 hC.1 hC.2.1 hdg (k H locs ls hW hz hq hl9)
theorem x_fload_n (hC : Cx G C y cc nL ret rm) {k : Fin 4} {i : Nat} {x : UInt32} (hdg : decode cc pc = .ok (.fload_n k, 1)) (hi : (k : Nat) = i) (hl : lv[i]? = some (some (.float x))) (k : Wg G C M kc ks (pc + 1) lv (.float x :: rest)) : Wg G C M kc ks pc lv (rest) := fun H locs ls hW hz hq hl9 => lv_fload_n hC.1 hC.2.1 hdg hi (hl9.2.2 _ _ hl) (k H locs ls hW hz hq hl9)
theorem x_fload (hC : Cx G C y cc nL ret rm) {i : Nat} {x : UInt32} (hdg : decode cc pc = .ok (.fload i, 2)) (hl : lv[i]? = some (some (.float x))) (k : Wg G C M kc ks (pc + 2) lv (.float x :: rest)) : Wg G C M kc ks pc lv (rest) := fun H locs ls hW hz hq hl9 => lv_fload hC.1 hC.2.1 hdg (hl9.2.2 _ _ hl) (k H locs ls hW hz hq hl9)
theorem x_fdiv (hC : Cx G C y cc nL ret rm) {x y : UInt32} (hdg : decode cc pc = .ok (.fdiv, 1)) (hne : vf_n32 (FP.fdiv x y)) (k : Wg G C M kc ks (pc + 1) lv (.float (FP.fdiv x y) :: rest)) : Wg G C M kc ks pc lv (.float y :: .float x :: rest) := fun H locs ls hW hz hq hl9 => lv_fdiv hC.1 hC.2.1 hdg hne (k H locs ls hW hz hq hl9)
theorem x_fcmp (hC : Cx G C y cc nL ret rm) {x y : UInt32} {op : CmpOp} (hdg : decode cc pc = .ok (.fcmp op, 1))  (k : Wg G C M kc ks (pc + 1) lv (.int (Op.cmpValue (FP.fcmp x y) op) :: rest)) : Wg G C M kc ks pc lv (.float y :: .float x :: rest) := fun H locs ls hW hz hq hl9 => lv_fcmp hC.1 hC.2.1 hdg (k H locs ls hW hz hq hl9)
theorem x_i2f (hC : Cx G C y cc nL ret rm) {x : Int32} (hdg : decode cc pc = .ok (.i2f, 1))  (k : Wg G C M kc ks (pc + 1) lv (.float (FP.i2f x) :: rest)) : Wg G C M kc ks pc lv (.int x :: rest) := fun H locs ls hW hz hq hl9 => lv_i2f hC.1 hC.2.1 hdg (k H locs ls hW hz hq hl9)
theorem x_l2f (hC : Cx G C y cc nL ret rm) {x : Int64} (hdg : decode cc pc = .ok (.l2f, 1))  (k : Wg G C M kc ks (pc + 1) lv (.float (FP.l2f x) :: rest)) : Wg G C M kc ks pc lv (.long x :: rest) := fun H locs ls hW hz hq hl9 => lv_l2f hC.1 hC.2.1 hdg (k H locs ls hW hz hq hl9)
theorem x_dload_n (hC : Cx G C y cc nL ret rm) {k : Fin 4} {i : Nat} {x : UInt64} (hdg : decode cc pc = .ok (.dload_n k, 1)) (hi : (k : Nat) = i) (hl : lv[i]? = some (some (.double x))) (k : Wg G C M kc ks (pc + 1) lv (.double x :: rest)) : Wg G C M kc ks pc lv (rest) := fun H locs ls hW hz hq hl9 => lv_dload_n hC.1 hC.2.1 hdg hi (hl9.2.2 _ _ hl) (k H locs ls hW hz hq hl9)
theorem x_dload (hC : Cx G C y cc nL ret rm) {i : Nat} {x : UInt64} (hdg : decode cc pc = .ok (.dload i, 2)) (hl : lv[i]? = some (some (.double x))) (k : Wg G C M kc ks (pc + 2) lv (.double x :: rest)) : Wg G C M kc ks pc lv (rest) := fun H locs ls hW hz hq hl9 => lv_dload hC.1 hC.2.1 hdg (hl9.2.2 _ _ hl) (k H locs ls hW hz hq hl9)
theorem x_ddiv (hC : Cx G C y cc nL ret rm) {x y : UInt64} (hdg : decode cc pc = .ok (.ddiv, 1)) (hne : vf_n64 (FP.ddiv x y)) (k : Wg G C M kc ks (pc + 1) lv (.double (FP.ddiv x y) :: rest)) : Wg G C M kc ks pc lv (.double y :: .double x :: rest) := fun H locs ls hW hz hq hl9 => lv_ddiv hC.1 hC.2.1 hdg hne (k H locs ls hW hz hq hl9)
theorem x_dcmp (hC : Cx G C y cc nL ret rm) {x y : UInt64} {op : CmpOp} (hdg : decode cc pc = .ok (.dcmp op, 1))  (k : Wg G C M kc ks (pc + 1) lv (.int (Op.cmpValue (FP.dcmp x y) op) :: rest)) : Wg G C M kc ks pc lv (.double y :: .double x :: rest) := fun H locs ls hW hz hq hl9 => lv_dcmp hC.1 hC.2.1 hdg (k H locs ls hW hz hq hl9)
theorem x_i2d (hC : Cx G C y cc nL ret rm) {x : Int32} (hdg : decode cc pc = .ok (.i2d, 1))  (k : Wg G C M kc ks (pc + 1) lv (.double (FP.i2d x) :: rest)) : Wg G C M kc ks pc lv (.int x :: rest) := fun H locs ls hW hz hq hl9 => lv_i2d hC.1 hC.2.1 hdg (k H locs ls hW hz hq hl9)
theorem x_l2d (hC : Cx G C y cc nL ret rm) {x : Int64} (hdg : decode cc pc = .ok (.l2d, 1))  (k : Wg G C M kc ks (pc + 1) lv (.double (FP.l2d x) :: rest)) : Wg G C M kc ks pc lv (.long x :: rest) := fun H locs ls hW hz hq hl9 => lv_l2d hC.1 hC.2.1 hdg (k H locs ls hW hz hq hl9)
theorem x_f2d (hC : Cx G C y cc nL ret rm) {x : UInt32} (hdg : decode cc pc = .ok (.f2d, 1)) (hne : vf_n64 (FP.f2d x)) (k : Wg G C M kc ks (pc + 1) lv (.double (FP.f2d x) :: rest)) : Wg G C M kc ks pc lv (.float x :: rest) := fun H locs ls hW hz hq hl9 => lv_f2d hC.1 hC.2.1 hdg hne (k H locs ls hW hz hq hl9)
theorem x_ifnonnull (hC : Cx G C y cc nL ret rm) {x : Nat} {off : Int} {tgt : Nat} (hdg : decode cc pc = .ok (.ifnonnull off, 3)) (ht : (pc : Int) + off = (tgt : Int)) (k : Wg G C M kc ks tgt lv rest) : Wg G C M kc ks pc lv (.ref x :: rest) := fun H locs ls hW hz hq hl9 => lv_ifnonnull hC.1 hC.2.1 hdg ht (k H locs ls hW hz hq hl9)
theorem x_ifnull (hC : Cx G C y cc nL ret rm) {x : Nat} {off : Int} (hdg : decode cc pc = .ok (.ifnull off, 3)) (k : Wg G C M kc ks (pc + 3) lv rest) : Wg G C M kc ks pc lv (.ref x :: rest) := fun H locs ls hW hz hq hl9 => lv_ifnull hC.1 hC.2.1 hdg (k H locs ls hW hz hq hl9)
theorem x_null (hC : Cx G C y cc nL ret rm) (hdg : decode cc pc = .ok (.aconst_null, 1)) (k : Wg G C M kc ks (pc + 1) lv (.null :: rest)) : Wg G C M kc ks pc lv rest := fun H locs ls hW hz hq hl9 => lv_null hC.1 hC.2.1 hdg (k H locs ls hW hz hq hl9)
theorem x_ifnullN (hC : Cx G C y cc nL ret rm) {off : Int} {tgt : Nat} (hdg : decode cc pc = .ok (.ifnull off, 3)) (ht : (pc : Int) + off = (tgt : Int)) (k : Wg G C M kc ks tgt lv rest) : Wg G C M kc ks pc lv (.null :: rest) := fun H locs ls hW hz hq hl9 => lv_ifnullN hC.1 hC.2.1 hdg ht (k H locs ls hW hz hq hl9)
theorem x_ifnonnullN (hC : Cx G C y cc nL ret rm) {off : Int} (hdg : decode cc pc = .ok (.ifnonnull off, 3)) (k : Wg G C M kc ks (pc + 3) lv rest) : Wg G C M kc ks pc lv (.null :: rest) := fun H locs ls hW hz hq hl9 => lv_ifnonnullN hC.1 hC.2.1 hdg (k H locs ls hW hz hq hl9)
theorem x_acmp_eq (hC : Cx G C y cc nL ret rm) {rx ry : Option Nat} {off : Int} {tgt : Nat} (hdg : decode cc pc = .ok (.if_acmp .eq off, 3)) (ht : (pc : Int) + off = (tgt : Int)) (kt : rx = ry → Wg G C M kc ks tgt lv rest) (kf : ¬ rx = ry → Wg G C M kc ks (pc + 3) lv rest) : Wg G C M kc ks pc lv (va_rf ry :: va_rf rx :: rest) := fun H locs ls hW hz hq hl9 => lv_acmp_eq hC.1 hC.2.1 hdg ht (fun h9 => kt h9 H locs ls hW hz hq hl9) (fun h9 => kf h9 H locs ls hW hz hq hl9)
theorem x_acmp_ne (hC : Cx G C y cc nL ret rm) {rx ry : Option Nat} {off : Int} {tgt : Nat} (hdg : decode cc pc = .ok (.if_acmp .ne off, 3)) (ht : (pc : Int) + off = (tgt : Int)) (kt : ¬ rx = ry → Wg G C M kc ks tgt lv rest) (kf : rx = ry → Wg G C M kc ks (pc + 3) lv rest) : Wg G C M kc ks pc lv (va_rf ry :: va_rf rx :: rest) := fun H locs ls hW hz hq hl9 => lv_acmp_ne hC.1 hC.2.1 hdg ht (fun h9 => kt h9 H locs ls hW hz hq hl9) (fun h9 => kf h9 H locs ls hW hz hq hl9)
theorem x_istore_n (hC : Cx G C y cc nL ret rm) {k : Fin 4} {i : Nat} {x : Int32} {lv' : List (Option Value)} (hdg : decode cc pc = .ok (.istore_n k, 1)) (hi : (k : Nat) = i) (hn : i < nL) (hl : xst1 lv i (.int x) = lv') (kk : Wg G C M kc ks (pc + 1) lv' rest) : Wg G C M kc ks pc lv (.int x :: rest) := fun H locs ls hW hz hq hl9 => lv_istore_n hC.1 hC.2.1 hdg hi (hC.2.2.1 ▸ hl9.to) hn rfl (fun ls2 h2 => kk H locs ls2 hW hz hq (hC.2.2.1 ▸ xst1_ok hl h2))
theorem x_istore (hC : Cx G C y cc nL ret rm) {i : Nat} {x : Int32} {lv' : List (Option Value)} (hdg : decode cc pc = .ok (.istore i, 2)) (hn : i < nL) (hl : xst1 lv i (.int x) = lv') (kk : Wg G C M kc ks (pc + 2) lv' rest) : Wg G C M kc ks pc lv (.int x :: rest) := fun H locs ls hW hz hq hl9 => lv_istore hC.1 hC.2.1 hdg (hC.2.2.1 ▸ hl9.to) hn rfl (fun ls2 h2 => kk H locs ls2 hW hz hq (hC.2.2.1 ▸ xst1_ok hl h2))
theorem x_lstore_n (hC : Cx G C y cc nL ret rm) {k : Fin 4} {i : Nat} {x : Int64} {lv' : List (Option Value)} (hdg : decode cc pc = .ok (.lstore_n k, 1)) (hi : (k : Nat) = i) (hn : i + 1 < nL) (hl : xst2 lv i (.long x) = lv') (kk : Wg G C M kc ks (pc + 1) lv' rest) : Wg G C M kc ks pc lv (.long x :: rest) := fun H locs ls hW hz hq hl9 => lv_lstore_n hC.1 hC.2.1 hdg hi (hC.2.2.1 ▸ hl9.to) hn rfl (fun ls2 h2 => kk H locs ls2 hW hz hq (hC.2.2.1 ▸ xst2_ok hl h2))
theorem x_lstore (hC : Cx G C y cc nL ret rm) {i : Nat} {x : Int64} {lv' : List (Option Value)} (hdg : decode cc pc = .ok (.lstore i, 2)) (hn : i + 1 < nL) (hl : xst2 lv i (.long x) = lv') (kk : Wg G C M kc ks (pc + 2) lv' rest) : Wg G C M kc ks pc lv (.long x :: rest) := fun H locs ls hW hz hq hl9 => lv_lstore hC.1 hC.2.1 hdg (hC.2.2.1 ▸ hl9.to) hn rfl (fun ls2 h2 => kk H locs ls2 hW hz hq (hC.2.2.1 ▸ xst2_ok hl h2))
theorem x_astore_n (hC : Cx G C y cc nL ret rm) {k : Fin 4} {i : Nat} {x : Nat} {lv' : List (Option Value)} (hdg : decode cc pc = .ok (.astore_n k, 1)) (hi : (k : Nat) = i) (hn : i < nL) (hl : xst1 lv i (.ref x) = lv') (kk : Wg G C M kc ks (pc + 1) lv' rest) : Wg G C M kc ks pc lv (.ref x :: rest) := fun H locs ls hW hz hq hl9 => lv_astore_n hC.1 hC.2.1 hdg hi (hC.2.2.1 ▸ hl9.to) hn rfl (fun ls2 h2 => kk H locs ls2 hW hz hq (hC.2.2.1 ▸ xst1_ok hl h2))
theorem x_astore (hC : Cx G C y cc nL ret rm) {i : Nat} {x : Nat} {lv' : List (Option Value)} (hdg : decode cc pc = .ok (.astore i, 2)) (hn : i < nL) (hl : xst1 lv i (.ref x) = lv') (kk : Wg G C M kc ks (pc + 2) lv' rest) : Wg G C M kc ks pc lv (.ref x :: rest) := fun H locs ls hW hz hq hl9 => lv_astore hC.1 hC.2.1 hdg (hC.2.2.1 ▸ hl9.to) hn rfl (fun ls2 h2 => kk H locs ls2 hW hz hq (hC.2.2.1 ▸ xst1_ok hl h2))
theorem x_fstore_n (hC : Cx G C y cc nL ret rm) {k : Fin 4} {i : Nat} {x : UInt32} {lv' : List (Option Value)} (hdg : decode cc pc = .ok (.fstore_n k, 1)) (hi : (k : Nat) = i) (hn : i < nL) (hl : xst1 lv i (.float x) = lv') (kk : Wg G C M kc ks (pc + 1) lv' rest) : Wg G C M kc ks pc lv (.float x :: rest) := fun H locs ls hW hz hq hl9 => lv_fstore_n hC.1 hC.2.1 hdg hi (hC.2.2.1 ▸ hl9.to) hn rfl (fun ls2 h2 => kk H locs ls2 hW hz hq (hC.2.2.1 ▸ xst1_ok hl h2))
theorem x_fstore (hC : Cx G C y cc nL ret rm) {i : Nat} {x : UInt32} {lv' : List (Option Value)} (hdg : decode cc pc = .ok (.fstore i, 2)) (hn : i < nL) (hl : xst1 lv i (.float x) = lv') (kk : Wg G C M kc ks (pc + 2) lv' rest) : Wg G C M kc ks pc lv (.float x :: rest) := fun H locs ls hW hz hq hl9 => lv_fstore hC.1 hC.2.1 hdg (hC.2.2.1 ▸ hl9.to) hn rfl (fun ls2 h2 => kk H locs ls2 hW hz hq (hC.2.2.1 ▸ xst1_ok hl h2))
theorem x_dstore_n (hC : Cx G C y cc nL ret rm) {k : Fin 4} {i : Nat} {x : UInt64} {lv' : List (Option Value)} (hdg : decode cc pc = .ok (.dstore_n k, 1)) (hi : (k : Nat) = i) (hn : i + 1 < nL) (hl : xst2 lv i (.double x) = lv') (kk : Wg G C M kc ks (pc + 1) lv' rest) : Wg G C M kc ks pc lv (.double x :: rest) := fun H locs ls hW hz hq hl9 => lv_dstore_n hC.1 hC.2.1 hdg hi (hC.2.2.1 ▸ hl9.to) hn rfl (fun ls2 h2 => kk H locs ls2 hW hz hq (hC.2.2.1 ▸ xst2_ok hl h2))
theorem x_dstore (hC : Cx G C y cc nL ret rm) {i : Nat} {x : UInt64} {lv' : List (Option Value)} (hdg : decode cc pc = .ok (.dstore i, 2)) (hn : i + 1 < nL) (hl : xst2 lv i (.double x) = lv') (kk : Wg G C M kc ks (pc + 2) lv' rest) : Wg G C M kc ks pc lv (.double x :: rest) := fun H locs ls hW hz hq hl9 => lv_dstore hC.1 hC.2.1 hdg (hC.2.2.1 ▸ hl9.to) hn rfl (fun ls2 h2 => kk H locs ls2 hW hz hq (hC.2.2.1 ▸ xst2_ok hl h2))
theorem x_iinc (hC : Cx G C y cc nL ret rm) {i : Nat} {n : Int} {x v : Int32} {lv' : List (Option Value)} (hdg : decode cc pc = .ok (.iinc i n, 3)) (hx : lv[i]? = some (some (.int x))) (hn : i < nL) (hv : Int32.ofInt n = v) (hl : xst1 lv i (.int (x + v)) = lv') (kk : Wg G C M kc ks (pc + 3) lv' rest) : Wg G C M kc ks pc lv rest := fun H locs ls hW hz hq hl9 => by
  subst hv
  obtain ⟨k, hk⟩ := List.getElem?_of_mem (xas_mem.mpr hx)
  exact lv_iinc hC.1 hC.2.1 hdg (hC.2.2.1 ▸ hl9.to) hk rfl hn rfl (fun ls2 h2 => kk H locs ls2 hW hz hq (hC.2.2.1 ▸ xst1_ok hl h2))
/-- forget what some locals hold -/
theorem x_less {lv' : List (Option Value)} (h : ∀ (i : Nat) (v : Value), lv'[i]? = some (some v) → lv[i]? = some (some v)) (kk : Wg G C M kc ks pc lv' rest) : Wg G C M kc ks pc lv rest := fun H locs ls hW hz hq hl => kk H locs ls hW hz hq ⟨hl.1, hl.2.1, fun i v h9 => hl.2.2 i v (h i v h9)⟩

theorem x_ldc (hC : Cx G C y cc nL ret rm) {index : Nat} {v : Int32} (hconst : Cond.constant y.cls index v ∈ lw_all) (hdg : decode cc pc = .ok (.ldc index, 2)) (k : Wg G C M kc ks (pc + 2) lv (.int v :: rest)) : Wg G C M kc ks pc lv rest := fun H locs ls hW hz hq hl9 => lv_ldc hC.1 hC.2.1 hC.own (hC.w hconst) hdg (k H locs ls hW hz hq hl9)
theorem x_ldc2 (hC : Cx G C y cc nL ret rm) {index : Nat} {v : Int64} (hconst : Cond.constantLong y.cls index v ∈ lw_all) (hdg : decode cc pc = .ok (.ldc2_w index, 3)) (k : Wg G C M kc ks (pc + 3) lv (.long v :: rest)) : Wg G C M kc ks pc lv rest := fun H locs ls hW hz hq hl9 => lv_ldc2 hC.1 hC.2.1 hC.own (hC.w hconst) hdg (k H locs ls hW hz hq hl9)
/-- two roads that meet again with one int on the stack -/
theorem x_j0 (P : Int32 → Prop) (jp : Nat) (k : (∀ v, P v → Wg G C M kc ks jp lv (.int v :: rest)) → Wg G C M kc ks pc lv rest) (kj : ∀ v, P v → Wg G C M kc ks jp lv (.int v :: rest)) : Wg G C M kc ks pc lv rest := k kj
theorem x_j1 {w1 : Value} (P : Int32 → Prop) (jp : Nat) (k : (∀ v, P v → Wg G C M kc ks jp lv (.int v :: rest)) → Wg G C M kc ks pc lv (w1 :: rest)) (kj : ∀ v, P v → Wg G C M kc ks jp lv (.int v :: rest)) : Wg G C M kc ks pc lv (w1 :: rest) := k kj
theorem x_j2 {w1 w2 : Value} (P : Int32 → Prop) (jp : Nat) (k : (∀ v, P v → Wg G C M kc ks jp lv (.int v :: rest)) → Wg G C M kc ks pc lv (w1 :: w2 :: rest)) (kj : ∀ v, P v → Wg G C M kc ks jp lv (.int v :: rest)) : Wg G C M kc ks pc lv (w1 :: w2 :: rest) := k kj

theorem x_ldcw (hC : Cx G C y cc nL ret rm) {index : Nat} {v : Int32} (hconst : Cond.constant y.cls index v ∈ lw_all) (hdg : decode cc pc = .ok (.ldc_w index, 3)) (k : Wg G C M kc ks (pc + 3) lv (.int v :: rest)) : Wg G C M kc ks pc lv rest := fun H locs ls hW hz hq hl9 => lv_ldcw hC.1 hC.2.1 hC.own (hC.w hconst) hdg (k H locs ls hW hz hq hl9)
/-! the same over whole numbers from 0 on: nI -/
theorem x_iaddN (hC : Cx G C y cc nL ret rm) {a b : Nat} (hdg : decode cc pc = .ok (.iadd, 1)) (k : Wg G C M kc ks (pc + 1) lv (.int (nI (a + b)) :: rest)) : Wg G C M kc ks pc lv (.int (nI b) :: .int (nI a) :: rest) := x_iadd hC hdg (by rw [nI_add]; exact k)
theorem x_imulN (hC : Cx G C y cc nL ret rm) {a b : Nat} (hdg : decode cc pc = .ok (.imul, 1)) (k : Wg G C M kc ks (pc + 1) lv (.int (nI (a * b)) :: rest)) : Wg G C M kc ks pc lv (.int (nI b) :: .int (nI a) :: rest) := x_imul hC hdg (by rw [pk_mul]; exact k)
theorem x_isubN (hC : Cx G C y cc nL ret rm) {a b : Nat} (hdg : decode cc pc = .ok (.isub, 1)) (h : b ≤ a) (k : Wg G C M kc ks (pc + 1) lv (.int (nI (a - b)) :: rest)) : Wg G C M kc ks pc lv (.int (nI b) :: .int (nI a) :: rest) := x_isub hC hdg (by rw [pk_sub h]; exact k)
theorem x_idivN (hC : Cx G C y cc nL ret rm) {a b : Nat} (hdg : decode cc pc = .ok (.idiv, 1)) (ha : a < 2 ^ 31) (h0 : 0 < b) (hb : b < 2 ^ 31) (k : Wg G C M kc ks (pc + 1) lv (.int (nI (a / b)) :: rest)) : Wg G C M kc ks pc lv (.int (nI b) :: .int (nI a) :: rest) := x_idiv hC hdg (nI_ne0 h0 hb) (by rw [pk_div ha h0 hb]; exact k)
theorem x_iremN (hC : Cx G C y cc nL ret rm) {a b : Nat} (hdg : decode cc pc = .ok (.irem, 1)) (ha : a < 2 ^ 31) (h0 : 0 < b) (hb : b < 2 ^ 31) (k : Wg G C M kc ks (pc + 1) lv (.int (nI (a % b)) :: rest)) : Wg G C M kc ks pc lv (.int (nI b) :: .int (nI a) :: rest) := x_irem hC hdg (nI_ne0 h0 hb) (by rw [pk_rem ha h0 hb]; exact k)
theorem x_iincN (hC : Cx G C y cc nL ret rm) {i a b : Nat} {n : Int} {lv' : List (Option Value)} (hdg : decode cc pc = .ok (.iinc i n, 3)) (hx : lv[i]? = some (some (.int (nI a)))) (hn : i < nL) (hv : Int32.ofInt n = nI b) (hl : xst1 lv i (.int (nI (a + b))) = lv') (kk : Wg G C M kc ks (pc + 3) lv' rest) : Wg G C M kc ks pc lv rest := x_iinc hC hdg hx hn hv (by rw [nI_add]; exact hl) kk
theorem x_iincM (hC : Cx G C y cc nL ret rm) {i a b : Nat} {n : Int} {lv' : List (Option Value)} (hdg : decode cc pc = .ok (.iinc i n, 3)) (hx : lv[i]? = some (some (.int (nI a)))) (hn : i < nL) (hv : Int32.ofInt n = -nI b) (hab : b ≤ a) (hl : xst1 lv i (.int (nI (a - b))) = lv') (kk : Wg G C M kc ks (pc + 3) lv' rest) : Wg G C M kc ks pc lv rest := x_iinc hC hdg hx hn hv (by rw [show nI a + -nI b = nI (a - b) by rw [← pk_sub hab, Int32.sub_eq_add_neg]]; exact hl) kk
theorem x_icmp_ltN (hC : Cx G C y cc nL ret rm) {a b : Nat} {off : Int} {tgt : Nat} (ha : a < 2 ^ 31) (hb : b < 2 ^ 31) (hdg : decode cc pc = .ok (.if_icmp .lt off, 3)) (ht : (pc : Int) + off = (tgt : Int)) (kt : a < b → Wg G C M kc ks tgt lv rest) (kf : b ≤ a → Wg G C M kc ks (pc + 3) lv rest) : Wg G C M kc ks pc lv (.int (nI b) :: .int (nI a) :: rest) := x_icmp_lt hC hdg ht (fun h => kt ((nI_ltI ha hb).mp h)) (fun h => kf (Nat.not_lt.mp fun q => h ((nI_ltI ha hb).mpr q)))
theorem x_if_ltN (hC : Cx G C y cc nL ret rm) {a : Nat} {off : Int} {tgt : Nat} (ha : a < 2 ^ 31) (hdg : decode cc pc = .ok (.ifCond .lt off, 3)) (ht : (pc : Int) + off = (tgt : Int)) (kt : a < 0 → Wg G C M kc ks tgt lv rest) (kf : 0 ≤ a → Wg G C M kc ks (pc + 3) lv rest) : Wg G C M kc ks pc lv (.int (nI a) :: rest) := x_if_lt hC hdg ht (fun h => absurd h (nI_pos ha)) (fun _ => kf (Nat.zero_le _))
theorem x_icmp_geN (hC : Cx G C y cc nL ret rm) {a b : Nat} {off : Int} {tgt : Nat} (ha : a < 2 ^ 31) (hb : b < 2 ^ 31) (hdg : decode cc pc = .ok (.if_icmp .ge off, 3)) (ht : (pc : Int) + off = (tgt : Int)) (kt : b ≤ a → Wg G C M kc ks tgt lv rest) (kf : a < b → Wg G C M kc ks (pc + 3) lv rest) : Wg G C M kc ks pc lv (.int (nI b) :: .int (nI a) :: rest) := x_icmp_ge hC hdg ht (fun h => kt ((nI_leI hb ha).mp h)) (fun h => kf (Nat.not_le.mp fun q => h ((nI_leI hb ha).mpr q)))
theorem x_if_geN (hC : Cx G C y cc nL ret rm) {a : Nat} {off : Int} {tgt : Nat} (ha : a < 2 ^ 31) (hdg : decode cc pc = .ok (.ifCond .ge off, 3)) (ht : (pc : Int) + off = (tgt : Int)) (kt : 0 ≤ a → Wg G C M kc ks tgt lv rest) (kf : a < 0 → Wg G C M kc ks (pc + 3) lv rest) : Wg G C M kc ks pc lv (.int (nI a) :: rest) := x_if_ge hC hdg ht (fun _ => kt (Nat.zero_le _)) (fun h => absurd (nI_pos' ha) h)
theorem x_icmp_gtN (hC : Cx G C y cc nL ret rm) {a b : Nat} {off : Int} {tgt : Nat} (ha : a < 2 ^ 31) (hb : b < 2 ^ 31) (hdg : decode cc pc = .ok (.if_icmp .gt off, 3)) (ht : (pc : Int) + off = (tgt : Int)) (kt : b < a → Wg G C M kc ks tgt lv rest) (kf : a ≤ b → Wg G C M kc ks (pc + 3) lv rest) : Wg G C M kc ks pc lv (.int (nI b) :: .int (nI a) :: rest) := x_icmp_gt hC hdg ht (fun h => kt ((nI_ltI hb ha).mp h)) (fun h => kf (Nat.not_lt.mp fun q => h ((nI_ltI hb ha).mpr q)))
theorem x_if_gtN (hC : Cx G C y cc nL ret rm) {a : Nat} {off : Int} {tgt : Nat} (ha : a < 2 ^ 31) (hdg : decode cc pc = .ok (.ifCond .gt off, 3)) (ht : (pc : Int) + off = (tgt : Int)) (kt : 0 < a → Wg G C M kc ks tgt lv rest) (kf : a ≤ 0 → Wg G C M kc ks (pc + 3) lv rest) : Wg G C M kc ks pc lv (.int (nI a) :: rest) := x_if_gt hC hdg ht (fun h => kt ((nI_ltI (by decide) ha).mp h)) (fun h => kf (Nat.not_lt.mp fun q => h ((nI_ltI (by decide) ha).mpr q)))
theorem x_icmp_leN (hC : Cx G C y cc nL ret rm) {a b : Nat} {off : Int} {tgt : Nat} (ha : a < 2 ^ 31) (hb : b < 2 ^ 31) (hdg : decode cc pc = .ok (.if_icmp .le off, 3)) (ht : (pc : Int) + off = (tgt : Int)) (kt : a ≤ b → Wg G C M kc ks tgt lv rest) (kf : b < a → Wg G C M kc ks (pc + 3) lv rest) : Wg G C M kc ks pc lv (.int (nI b) :: .int (nI a) :: rest) := x_icmp_le hC hdg ht (fun h => kt ((nI_leI ha hb).mp h)) (fun h => kf (Nat.not_le.mp fun q => h ((nI_leI ha hb).mpr q)))
theorem x_if_leN (hC : Cx G C y cc nL ret rm) {a : Nat} {off : Int} {tgt : Nat} (ha : a < 2 ^ 31) (hdg : decode cc pc = .ok (.ifCond .le off, 3)) (ht : (pc : Int) + off = (tgt : Int)) (kt : a ≤ 0 → Wg G C M kc ks tgt lv rest) (kf : 0 < a → Wg G C M kc ks (pc + 3) lv rest) : Wg G C M kc ks pc lv (.int (nI a) :: rest) := x_if_le hC hdg ht (fun h => kt ((nI_leI ha (by decide)).mp h)) (fun h => kf (Nat.not_le.mp fun q => h ((nI_leI ha (by decide)).mpr q)))
theorem x_icmp_eqN (hC : Cx G C y cc nL ret rm) {a b : Nat} {off : Int} {tgt : Nat} (ha : a < 2 ^ 31) (hb : b < 2 ^ 31) (hdg : decode cc pc = .ok (.if_icmp .eq off, 3)) (ht : (pc : Int) + off = (tgt : Int)) (kt : a = b → Wg G C M kc ks tgt lv rest) (kf : a ≠ b → Wg G C M kc ks (pc + 3) lv rest) : Wg G C M kc ks pc lv (.int (nI b) :: .int (nI a) :: rest) := x_icmp_eq hC hdg ht (fun h => kt ((nI_eq ha hb).mp h)) (fun h => kf fun q => h ((nI_eq ha hb).mpr q))
theorem x_if_eqN (hC : Cx G C y cc nL ret rm) {a : Nat} {off : Int} {tgt : Nat} (ha : a < 2 ^ 31) (hdg : decode cc pc = .ok (.ifCond .eq off, 3)) (ht : (pc : Int) + off = (tgt : Int)) (kt : a = 0 → Wg G C M kc ks tgt lv rest) (kf : a ≠ 0 → Wg G C M kc ks (pc + 3) lv rest) : Wg G C M kc ks pc lv (.int (nI a) :: rest) := x_if_eq hC hdg ht (fun h => kt ((nI_eq ha (by decide)).mp h)) (fun h => kf fun q => h ((nI_eq ha (by decide)).mpr q))
theorem x_icmp_neN (hC : Cx G C y cc nL ret rm) {a b : Nat} {off : Int} {tgt : Nat} (ha : a < 2 ^ 31) (hb : b < 2 ^ 31) (hdg : decode cc pc = .ok (.if_icmp .ne off, 3)) (ht : (pc : Int) + off = (tgt : Int)) (kt : a ≠ b → Wg G C M kc ks tgt lv rest) (kf : a = b → Wg G C M kc ks (pc + 3) lv rest) : Wg G C M kc ks pc lv (.int (nI b) :: .int (nI a) :: rest) := x_icmp_ne hC hdg ht (fun h => kt fun q => h ((nI_eq ha hb).mpr q)) (fun h => kf ((nI_eq ha hb).mp h))
theorem x_if_neN (hC : Cx G C y cc nL ret rm) {a : Nat} {off : Int} {tgt : Nat} (ha : a < 2 ^ 31) (hdg : decode cc pc = .ok (.ifCond .ne off, 3)) (ht : (pc : Int) + off = (tgt : Int)) (kt : a ≠ 0 → Wg G C M kc ks tgt lv rest) (kf : a = 0 → Wg G C M kc ks (pc + 3) lv rest) : Wg G C M kc ks pc lv (.int (nI a) :: rest) := x_if_ne hC hdg ht (fun h => kt fun q => h ((nI_eq ha (by decide)).mpr q)) (fun h => kf ((nI_eq ha (by decide)).mp h))
end XR
