/-! ===== heap rows over a world map ===== -/
theorem xin {ci N : Nat} {Cn : String} {T : u_T} (h : xcl[ci]? = some (Cn, T, N)) : ∀ w ∈ u_ws Cn T N, w ∈ lw_all := by
  match ci, h with
  | 0, h => cases h; exact in_X3
  | 1, h => cases h; exact in_X1
  | 2, h => cases h; exact in_X2
  | 3, h => cases h; exact in_X7
  | 4, h => cases h; exact in_X6
  | 5, h => cases h; exact in_X4
  | 6, h => cases h; exact in_X5
  | 7, h => cases h; exact in_J2
  | 8, h => cases h; exact in_J4
  | 9, h => cases h; exact in_J24
  | 10, h => cases h; exact in_J5
  | 11, h => cases h; exact in_J31
  | 12, h => cases h; exact in_J13
  | 13, h => cases h; exact in_J14
  | k + 14, h => cases h
theorem xtyp {ci N : Nat} {Cn : String} {T : u_T} (h : xcl[ci]? = some (Cn, T, N)) : ∃ ty : Nat → FieldType, (∀ k, k < N → parseFieldDescriptor (T k).2.2.1 = some (ty k)) ∧ (∀ a, a < N → ∀ b, b < N → a ≠ b → (T a).2.1 ≠ (T b).2.1) := by
  match ci, h with
  | 0, h => cases h; exact ⟨_, tyX3_ok, nmX3⟩
  | 1, h => cases h; exact ⟨_, tyX1_ok, nmX1⟩
  | 2, h => cases h; exact ⟨_, tyX2_ok, nmX2⟩
  | 3, h => cases h; exact ⟨_, tyX7_ok, nmX7⟩
  | 4, h => cases h; exact ⟨_, tyX6_ok, nmX6⟩
  | 5, h => cases h; exact ⟨_, tyX4_ok, nmX4⟩
  | 6, h => cases h; exact ⟨_, tyX5_ok, nmX5⟩
  | 7, h => cases h; exact ⟨_, tyJ2_ok, nmJ2⟩
  | 8, h => cases h; exact ⟨_, tyJ4_ok, nmJ4⟩
  | 9, h => cases h; exact ⟨_, tyJ24_ok, nmJ24⟩
  | 10, h => cases h; exact ⟨_, tyJ5_ok, nmJ5⟩
  | 11, h => cases h; exact ⟨_, tyJ31_ok, nmJ31⟩
  | 12, h => cases h; exact ⟨_, tyJ13_ok, nmJ13⟩
  | 13, h => cases h; exact ⟨_, tyJ14_ok, nmJ14⟩
  | k + 14, h => cases h
section XH
variable {G : X_G} {C : X_C} {M : X_M} {kc ks pc nL : Nat} {lv : List (Option Value)} {rest : List Value} {y : MethodName} {cc : ByteArray} {ret : Option FieldType} {rm : Room}
theorem xone {H : Heap} (hW : Wd G M H) {a g ci : Nat} {fs : List Value} (he : M a = some (ob g ci fs)) : va_P (gD G) xcl [(a, .inr (ci, fs))] H := fun k q hq => by
  have hk : k < 1 := (List.getElem?_eq_some_iff.mp hq).1
  rw [show k = 0 by omega] at hq
  cases hq
  exact (hW.2.2 _ _ he).2
theorem xarr {H : Heap} (hW : Wd G M H) {a g t : Nat} {x : vp_A} (he : M a = some (xar g t x)) : va_P (gD G) xcl [(a, .inl (gA G t, x))] H := fun k q hq => by
  have hk : k < 1 := (List.getElem?_eq_some_iff.mp hq).1
  rw [show k = 0 by omega] at hq
  cases hq
  exact (hW.2.2 _ _ he).2.2
theorem xar6 {H : Heap} (hW : Wd G M H) {a g t : Nat} {x : vp_A} (he : M a = some (xar g t x)) : (xtys G)[t]? = some (gA G t, xty t) := xtys_at G (hW.2.2 _ _ he).2.1
theorem x_recv (hC : Cx G C y cc nL ret rm) {H : Heap} (hW : Wd G M H) {a g ci N : Nat} {fs : List Value} {Cn : String} {T : u_T} (he : M a = some (ob g ci fs)) (hcl : xcl[ci]? = some (Cn, T, N)) : ∃ cell : Cell, H[a]? = some cell ∧ cell.vm.isStatics = false ∧ (xs C).vm.findClass Cn = some cell.cls :=
  va_recv (ws := [(a, .inr (ci, fs))]) (q0 := 0) hC.K (xone hW he) hcl rfl
theorem x_get (hC : Cx G C y cc nL ret rm) {a g ci index N : Nat} (k : Nat) {Cn ref : String} {T : u_T} {fs : List Value} {v : Value} (he : M a = some (ob g ci fs)) (hcl : xcl[ci]? = some (Cn, T, N)) (hk : k < N) (hlink : Cond.fieldLink y.cls index ref (T k).2.1 (T k).2.2.1 ∈ lw_all) (href : (T k).1 = ref) (hv : fs[k]? = some v) (hdg : decode cc pc = .ok (.getfield index, 3)) (kk : Wg G C M kc ks (pc + 3) lv (v :: rest)) : Wg G C M kc ks pc lv (.ref a :: rest) := fun H locs ls hW hz hq hl =>
  va_get (Ts := lw_all) (ws := [(a, .inr (ci, fs))]) hC.1 hC.2.1 (fun w h => hC.w h) (xin hcl) hC.own hC.K (xone hW he) 0 rfl hcl k hk (hC.w hlink) (by subst href; exact fun _ h => h) hv hdg (kk H locs ls hW hz hq hl)
theorem x_put (hC : Cx G C y cc nL ret rm) {a g ci index N : Nat} (k : Nat) {Cn ref : String} {T : u_T} {fs fs' : List Value} {v : Value} {ty : FieldType} (he : M a = some (ob g ci fs)) (hg : g ≠ 0) (hcl : xcl[ci]? = some (Cn, T, N)) (hk : k < N) (hlink : Cond.fieldLink y.cls index ref (T k).2.1 (T k).2.2.1 ∈ lw_all) (href : (T k).1 = ref) (hfin : (T k).2.2.2 = false) (hd : parseFieldDescriptor (T k).2.2.1 = some ty) (hn : narrow ty v = v) (hfit : fits ty v = true) (hl2 : k < fs.length) (hs : fs.set k v = fs') (hdg : decode cc pc = .ok (.putfield index, 3)) (kk : Wg G C (mu M a (ob g ci fs')) kc ks (pc + 3) lv rest) : Wg G C M kc ks pc lv (v :: .ref a :: rest) := fun H locs ls hW hz hq hl => by
  subst hs
  obtain ⟨ty0, hty, hnm⟩ := xtyp hcl
  have hts : ∀ w ∈ lw_all, w.before (xa C) (xs C) = true := fun w h => hC.w h
  have hap := va_apart (own := y.cls) hts (xin hcl) ty0 hty hnm hC.K hcl
  obtain ⟨r, h1, cell, q1, q2, q3, q4⟩ := (hW.2.2 _ _ he).2
  have hr : r = (Cn, T, N) := Option.some.inj (h1.symm.trans hcl)
  subst hr
  obtain ⟨hS, hfc, kC, hkC, hkind⟩ := hC.K.1 ci _ hcl
  obtain ⟨cf, kf, fi, f, hi, hsl⟩ := hS k hk
  have hlay := hts _ (xin hcl _ (u_in_lay hk))
  unfold u_lay at hlay
  rw [if_neg (by rw [hfin]; decide)] at hlay
  have hst := (u_facts hfc hkC (u_lays hts (xin hcl) hk) hi).1
  have h6 := u_store hfc hkC hkind hlay hi hd hn hfit
  refine W.putK hC.1 hC.2.1 (f := f) ⟨hC.own, hC.w hlink, ⟨_, _, _, (by subst href; exact hi)⟩, hst⟩ (by rw [q2]; exact h6) q1 q3 (by rw [hsl]; exact k2_hasslot (q4 k hk)) rfl rfl hdg fun H' e1 e2 e3 => ?_
  rw [hsl] at e1 ⊢
  refine kk H' _ ls (hW.put he hg e2 e3 ⟨_, hcl, t_OB.to (V := updV (vp_V fs) k v) ⟨_, e1, q2, q3, t_set q4 hap hk v⟩ (fun j _ => vp_updV_set hl2 v j)⟩) (by rw [e2]; exact hz) (fun q h => ?_) hl
  rcases List.mem_append.mp h with h | h
  · exact hq q h
  · rw [List.mem_singleton.mp h]; exact (hW.2.2 _ _ he).1 hg
theorem x_putF (hC : Cx G C y cc nL ret rm) {a g ci index N : Nat} (k : Nat) {Cn ref : String} {T : u_T} {fs fs' : List Value} {v : Value} {ty : FieldType} (he : M a = some (ob g ci fs)) (hg : g ≠ 0) (hcl : xcl[ci]? = some (Cn, T, N)) (hk : k < N) (hlink : Cond.fieldLink y.cls index ref (T k).2.1 (T k).2.2.1 ∈ lw_all) (href : (T k).1 = ref) (hfin : (T k).2.2.2 = true) (hin2 : y.name = "<init>") (hdecl : (T k).1 = y.cls) (hd : parseFieldDescriptor (T k).2.2.1 = some ty) (hn : narrow ty v = v) (hfit : fits ty v = true) (hl2 : k < fs.length) (hs : fs.set k v = fs') (hdg : decode cc pc = .ok (.putfield index, 3)) (kk : Wg G C (mu M a (ob g ci fs')) kc ks (pc + 3) lv rest) : Wg G C M kc ks pc lv (v :: .ref a :: rest) := fun H locs ls hW hz hq hl => by
  subst hs
  obtain ⟨ty0, hty, hnm⟩ := xtyp hcl
  have hts : ∀ w ∈ lw_all, w.before (xa C) (xs C) = true := fun w h => hC.w h
  have hap := va_apart (own := y.cls) hts (xin hcl) ty0 hty hnm hC.K hcl
  obtain ⟨r, h1, cell, q1, q2, q3, q4⟩ := (hW.2.2 _ _ he).2
  have hr : r = (Cn, T, N) := Option.some.inj (h1.symm.trans hcl)
  subst hr
  obtain ⟨hS, hfc, kC, hkC, hkind⟩ := hC.K.1 ci _ hcl
  obtain ⟨cf, kf, fi, f, hi, hsl⟩ := hS k hk
  have hlay := hts _ (xin hcl _ (u_in_lay hk))
  unfold u_lay at hlay
  rw [if_pos hfin] at hlay
  have hst := (u_facts hfc hkC (u_lays hts (xin hcl) hk) hi).1
  have hcf : (xm C).cls = cf := by
    obtain ⟨_, _, c', _, _, _, -, -, hf', -, -, -, hown2, -⟩ := Cond.laysFinal_spec hlay
    have e1 : c' = cf := by have := hi.symm.trans hf'; simp at this; exact this.1.symm
    rw [hdecl] at hown2
    rw [← e1]; exact Option.some.inj (hC.own.symm.trans hown2)
  have h6 := u_fits hfc hkC hkind (Or.inr hlay) hi hd hn hfit
  refine W.putFinK hC.1 hC.2.1 hC.own (hC.w hlink) (by subst href; exact hi) hst hcf (hC.name.trans hin2) (by rw [q2]; exact h6) q1 q3 (by rw [hsl]; exact k2_hasslot (q4 k hk)) rfl rfl hdg fun H' e1 e2 e3 => ?_
  rw [hsl] at e1 ⊢
  refine kk H' _ ls (hW.put he hg e2 e3 ⟨_, hcl, t_OB.to (V := updV (vp_V fs) k v) ⟨_, e1, q2, q3, t_set q4 hap hk v⟩ (fun j _ => vp_updV_set hl2 v j)⟩) (by rw [e2]; exact hz) (fun q h => ?_) hl
  rcases List.mem_append.mp h with h | h
  · exact hq q h
  · rw [List.mem_singleton.mp h]; exact (hW.2.2 _ _ he).1 hg
/-- a nest mate's field: the word out of the tables -/
theorem x_nest (hC : Cx G C y cc nL ret rm) {a : String} {i : Nat} {b n d h : String} (hw : Cond.fieldLinkNest a i b n d h ∈ lw_tbl) : va_Nw (.fieldLinkNest a i b n d h) (xs C) := va_Nw.warmF hC.warm (va_Nw.of rfl (hC.gok.2.1 _ hw))
theorem x_getN (hC : Cx G C y cc nL ret rm) {a g ci index N : Nat} (k : Nat) {Cn ref host : String} {T : u_T} {fs : List Value} {v : Value} (he : M a = some (ob g ci fs)) (hcl : xcl[ci]? = some (Cn, T, N)) (hk : k < N) (hlink : Cond.fieldLinkNest y.cls index ref (T k).2.1 (T k).2.2.1 host ∈ lw_tbl) (href : (T k).1 = ref) (hv : fs[k]? = some v) (hdg : decode cc pc = .ok (.getfield index, 3)) (kk : Wg G C M kc ks (pc + 3) lv (v :: rest)) : Wg G C M kc ks pc lv (.ref a :: rest) := fun H locs ls hW hz hq hl =>
  va_getN (Ts := lw_all) (ws := [(a, .inr (ci, fs))]) hC.1 hC.2.1 (fun w h => hC.w h) (xin hcl) hC.own hC.K (xone hW he) 0 rfl hcl k hk (va_Nw.use rfl (x_nest hC hlink)) (by subst href; exact fun _ h => h) hv hdg (kk H locs ls hW hz hq hl)

theorem x_iald (hC : Cx G C y cc nL ret rm) {a g n : Nat} {f : Nat → Int32} {i : Int32} (he : M a = some (xar g 0 (n, .inl f))) (hin : vp_in i n) (hdg : decode cc pc = .ok (.iaload, 1)) (kk : Wg G C M kc ks (pc + 1) lv (.int (f i.toNatClampNeg) :: rest)) : Wg G C M kc ks pc lv (.int i :: .ref a :: rest) := fun H locs ls hW hz hq hl =>
  va_iald (ws := [(a, .inl (gA G 0, n, .inl f))]) hC.1 hC.2.1 hC.K (xarr hW he) 0 0 rfl (xar6 hW he) hin hdg (kk H locs ls hW hz hq hl)
theorem x_bald (hC : Cx G C y cc nL ret rm) {a g n : Nat} {f : Nat → Int32} {i : Int32} (he : M a = some (xar g 1 (n, .inl f))) (hin : vp_in i n) (hdg : decode cc pc = .ok (.baload, 1)) (kk : Wg G C M kc ks (pc + 1) lv (.int (f i.toNatClampNeg) :: rest)) : Wg G C M kc ks pc lv (.int i :: .ref a :: rest) := fun H locs ls hW hz hq hl =>
  va_bald (ws := [(a, .inl (gA G 1, n, .inl f))]) hC.1 hC.2.1 hC.K (xarr hW he) 0 1 rfl (xar6 hW he) hin hdg (kk H locs ls hW hz hq hl)
theorem x_lald (hC : Cx G C y cc nL ret rm) {a g n : Nat} {f : Nat → Int64} {i : Int32} (he : M a = some (xar g 4 (n, .inr (.inl f)))) (hin : vp_in i n) (hdg : decode cc pc = .ok (.laload, 1)) (kk : Wg G C M kc ks (pc + 1) lv (.long (f i.toNatClampNeg) :: rest)) : Wg G C M kc ks pc lv (.int i :: .ref a :: rest) := fun H locs ls hW hz hq hl =>
  va_lald (ws := [(a, .inl (gA G 4, n, .inr (.inl f)))]) hC.1 hC.2.1 hC.K (xarr hW he) 0 4 rfl (xar6 hW he) hin hdg (kk H locs ls hW hz hq hl)
theorem x_dald (hC : Cx G C y cc nL ret rm) {a g n : Nat} {f : Nat → UInt64} {i : Int32} (he : M a = some (xar g 5 (n, .inr (.inr (.inr (.inl f)))))) (hin : vp_in i n) (hdg : decode cc pc = .ok (.daload, 1)) (kk : Wg G C M kc ks (pc + 1) lv (.double (f i.toNatClampNeg) :: rest)) : Wg G C M kc ks pc lv (.int i :: .ref a :: rest) := fun H locs ls hW hz hq hl =>
  va_dald (ws := [(a, .inl (gA G 5, n, .inr (.inr (.inr (.inl f)))))]) hC.1 hC.2.1 hC.K (xarr hW he) 0 5 rfl (xar6 hW he) hin hdg (kk H locs ls hW hz hq hl)
theorem x_aald (hC : Cx G C y cc nL ret rm) {a g t n : Nat} {E : String} {f : Nat → Option Nat} {i : Int32} (he : M a = some (oa g t n f)) (ht : xty t = .object E) (hin : vp_in i n) (hdg : decode cc pc = .ok (.aaload, 1)) (kk : Wg G C M kc ks (pc + 1) lv (va_rf (f i.toNatClampNeg) :: rest)) : Wg G C M kc ks pc lv (.int i :: .ref a :: rest) := fun H locs ls hW hz hq hl =>
  va_aldq (ws := [(a, .inl (gA G t, n, .inr (.inr (.inr (.inr f)))))]) hC.1 hC.2.1 hC.K (xarr hW he) 0 t rfl (by rw [← ht]; exact xar6 hW he) hin hdg (kk H locs ls hW hz hq hl)
theorem x_alen (hC : Cx G C y cc nL ret rm) {a g t : Nat} {x : vp_A} (he : M a = some (xar g t x)) (hdg : decode cc pc = .ok (.arraylength, 1)) (kk : Wg G C M kc ks (pc + 1) lv (.int (nI x.1) :: rest)) : Wg G C M kc ks pc lv (.ref a :: rest) := fun H locs ls hW hz hq hl =>
  va_alen (ws := [(a, .inl (gA G t, x))]) hC.1 hC.2.1 hC.K (xarr hW he) 0 t rfl (xar6 hW he) rfl hdg (kk H locs ls hW hz hq hl)

theorem x_iast (hC : Cx G C y cc nL ret rm) {a g n : Nat} {f : Nat → Int32} {i : Int32} {x : Int32} (he : M a = some (xar g 0 (n, .inl f))) (hg : g ≠ 0) (hin : vp_in i n) (hdg : decode cc pc = .ok (.iastore, 1)) (kk : Wg G C (mu M a (xar g 0 (n, .inl (upd f i.toNatClampNeg x)))) kc ks (pc + 1) lv rest) : Wg G C M kc ks pc lv (.int x :: .int i :: .ref a :: rest) := fun H locs ls hW hz hq hl => by
  refine W.iast hC.1 hC.2.1 (hW.2.2 _ _ he).2.2 ((hC.K.2 0 _ (xar6 hW he)).1 n (fun j => .int (f j))) (fun q => by cases q) (by show ¬ (i < 0 ∨ (arrV _ _ _).slots.size ≤ _); rw [arrV_size]; exact hin) rfl rfl hdg fun H1 e z oq => ?_
  refine kk H1 _ ls (hW.put he hg z oq ⟨(hW.2.2 _ _ he).2.1, ?_⟩) (by rw [z]; exact hz) (fun q h => ?_) hl
  · show H1[a]? = some (vp_cell _ _)
    rw [e]
    rw [vp_cell_i, vp_cell_i, arrV_store]
    congr 2
    funext q
    by_cases hq : q = i.toNatClampNeg
    · subst hq
      simp [updV, upd]
      try rfl
    · simp [updV, upd, hq]
  · rcases List.mem_append.mp h with h | h
    · exact hq q h
    · rw [List.mem_singleton.mp h]; exact (hW.2.2 _ _ he).1 hg
theorem x_bast (hC : Cx G C y cc nL ret rm) {a g n : Nat} {f : Nat → Int32} {i : Int32} {x : Int32} (he : M a = some (xar g 1 (n, .inl f))) (hg : g ≠ 0) (hin : vp_in i n) (hdg : decode cc pc = .ok (.bastore, 1)) (kk : Wg G C (mu M a (xar g 1 (n, .inl (upd f i.toNatClampNeg (vp_nar .byte x))))) kc ks (pc + 1) lv rest) : Wg G C M kc ks pc lv (.int x :: .int i :: .ref a :: rest) := fun H locs ls hW hz hq hl => by
  refine W.bast hC.1 hC.2.1 (hW.2.2 _ _ he).2.2 ((hC.K.2 1 _ (xar6 hW he)).1 n (fun j => .int (f j))) (fun q => by cases q) (by show ¬ (i < 0 ∨ (arrV _ _ _).slots.size ≤ _); rw [arrV_size]; exact hin) rfl rfl hdg fun H1 e z oq => ?_
  refine kk H1 _ ls (hW.put he hg z oq ⟨(hW.2.2 _ _ he).2.1, ?_⟩) (by rw [z]; exact hz) (fun q h => ?_) hl
  · show H1[a]? = some (vp_cell _ _)
    rw [e]
    rw [vp_cell_i, vp_cell_i, arrV_store]
    congr 2
    funext q
    by_cases hq : q = i.toNatClampNeg
    · subst hq
      simp [updV, upd, vp_nar]
      try rfl
    · simp [updV, upd, hq]
  · rcases List.mem_append.mp h with h | h
    · exact hq q h
    · rw [List.mem_singleton.mp h]; exact (hW.2.2 _ _ he).1 hg
theorem x_last (hC : Cx G C y cc nL ret rm) {a g n : Nat} {f : Nat → Int64} {i : Int32} {x : Int64} (he : M a = some (xar g 4 (n, .inr (.inl f)))) (hg : g ≠ 0) (hin : vp_in i n) (hdg : decode cc pc = .ok (.lastore, 1)) (kk : Wg G C (mu M a (xar g 4 (n, .inr (.inl (vp_updL f i.toNatClampNeg x))))) kc ks (pc + 1) lv rest) : Wg G C M kc ks pc lv (.long x :: .int i :: .ref a :: rest) := fun H locs ls hW hz hq hl => by
  refine W.last hC.1 hC.2.1 (hW.2.2 _ _ he).2.2 ((hC.K.2 4 _ (xar6 hW he)).1 n (fun j => .long (f j))) (fun q => by cases q) (by show ¬ (i < 0 ∨ (arrV _ _ _).slots.size ≤ _); rw [arrV_size]; exact hin) rfl rfl hdg fun H1 e z oq => ?_
  refine kk H1 _ ls (hW.put he hg z oq ⟨(hW.2.2 _ _ he).2.1, ?_⟩) (by rw [z]; exact hz) (fun q h => ?_) hl
  · show H1[a]? = some (vp_cell _ _)
    rw [e]
    rw [vp_cell_l, vp_cell_l, arrV_store]
    congr 2
    funext q
    by_cases hq : q = i.toNatClampNeg
    · subst hq
      simp [updV, vp_updL]
      try rfl
    · simp [updV, vp_updL, hq]
  · rcases List.mem_append.mp h with h | h
    · exact hq q h
    · rw [List.mem_singleton.mp h]; exact (hW.2.2 _ _ he).1 hg
theorem x_dast (hC : Cx G C y cc nL ret rm) {a g n : Nat} {f : Nat → UInt64} {i : Int32} {x : UInt64} (he : M a = some (xar g 5 (n, .inr (.inr (.inr (.inl f)))))) (hg : g ≠ 0) (hin : vp_in i n) (hdg : decode cc pc = .ok (.dastore, 1)) (kk : Wg G C (mu M a (xar g 5 (n, .inr (.inr (.inr (.inl (vf_upd f i.toNatClampNeg x))))))) kc ks (pc + 1) lv rest) : Wg G C M kc ks pc lv (.double x :: .int i :: .ref a :: rest) := fun H locs ls hW hz hq hl => by
  refine W.dast hC.1 hC.2.1 (hW.2.2 _ _ he).2.2 ((hC.K.2 5 _ (xar6 hW he)).1 n (fun j => .double (f j))) (fun q => by cases q) (by show ¬ (i < 0 ∨ (arrV _ _ _).slots.size ≤ _); rw [arrV_size]; exact hin) rfl rfl hdg fun H1 e z oq => ?_
  refine kk H1 _ ls (hW.put he hg z oq ⟨(hW.2.2 _ _ he).2.1, ?_⟩) (by rw [z]; exact hz) (fun q h => ?_) hl
  · show H1[a]? = some (vp_cell _ _)
    rw [e]
    rw [vp_cell_d, vp_cell_d, arrV_store]
    congr 2
    funext q
    by_cases hq : q = i.toNatClampNeg
    · subst hq
      simp [updV, vf_upd]
      try rfl
    · simp [updV, vf_upd, hq]
  · rcases List.mem_append.mp h with h | h
    · exact hq q h
    · rw [List.mem_singleton.mp h]; exact (hW.2.2 _ _ he).1 hg
theorem x_aast (hC : Cx G C y cc nL ret rm) {a g t n v g1 ci N : Nat} {E Cn : String} {T : u_T} {vs : List Value} {f : Nat → Option Nat} {i : Int32} (he : M a = some (oa g t n f)) (hg : g ≠ 0) (ht : xty t = .object E) (hv : M v = some (ob g1 ci vs)) (hcl : xcl[ci]? = some (Cn, T, N)) (hca : Cond.castable Cn E ∈ lw_tbl) (hin : vp_in i n) (hdg : decode cc pc = .ok (.aastore, 1)) (kk : Wg G C (mu M a (oa g t n (va_up f i.toNatClampNeg (some v)))) kc ks (pc + 1) lv rest) : Wg G C M kc ks pc lv (.ref v :: .int i :: .ref a :: rest) := fun H locs ls hW hz hq hl => by
  have hlt : i.toNatClampNeg < n := Nat.not_le.mp fun q => hin (Or.inr q)
  have h0 : ¬ i < 0 := fun q => hin (Or.inl q)
  obtain ⟨r', hr', cellV, g1, g2, g3, -⟩ := (hW.2.2 _ _ hv).2
  have hcls := (hC.K.1 ci _ hcl).2
  have h6 : (xtys G)[t]? = some (gA G t, .object E) := by rw [← ht]; exact xar6 hW he
  obtain ⟨kA, comp, k1, k2, k3, -⟩ := (hC.K.2 t _ h6).2
  obtain ⟨kE, hkE, -⟩ := Vm.findClass_spec k3
  have hnw : va_Nw (.castable Cn E) (xs C) := va_Nw.warmC hC.warm (va_Nw.of rfl (hC.gok.2.1 _ hca))
  obtain ⟨c0, t1, f1, f2, f3⟩ := Cond.castable_spec (va_Nw.use (A := xa C) rfl hnw)
  cases hcls.1.symm.trans f1
  cases k3.symm.trans f2
  obtain ⟨kC, hkC, -⟩ := hcls.2
  refine W.aast hC.1 hC.2.1 (hW.2.2 _ _ he).2.2 (fun q h => by cases h) (fun h => by cases h) k1 k2 rfl hkE ⟨h0, by show _ < (arrV _ _ _).slots.size; rw [arrV_size]; exact hlt⟩ g1 (fun q h => by rw [g3] at h; cases h) (by rw [g2]; exact hkC) (by rw [g2]; exact f3) rfl rfl hdg fun H1 e z oq => ?_
  refine kk H1 _ ls (hW.put he hg z oq ⟨(hW.2.2 _ _ he).2.1, ?_⟩) (by rw [z]; exact hz) (fun q h => ?_) hl
  · show H1[a]? = some (vp_cell _ _)
    rw [e]
    rw [vp_cell_q, vp_cell_q, arrV_store]
    congr 2
    funext q
    by_cases hq : q = i.toNatClampNeg
    · subst hq
      simp [updV, va_up, va_rf]
    · simp [updV, va_up, hq]
  · rcases List.mem_append.mp h with h | h
    · exact hq q h
    · rw [List.mem_singleton.mp h]; exact (hW.2.2 _ _ he).1 hg
theorem x_aastN (hC : Cx G C y cc nL ret rm) {a g t n : Nat} {E : String} {f : Nat → Option Nat} {i : Int32} (he : M a = some (oa g t n f)) (hg : g ≠ 0) (ht : xty t = .object E) (hin : vp_in i n) (hdg : decode cc pc = .ok (.aastore, 1)) (kk : Wg G C (mu M a (oa g t n (va_up f i.toNatClampNeg none))) kc ks (pc + 1) lv rest) : Wg G C M kc ks pc lv (.null :: .int i :: .ref a :: rest) := fun H locs ls hW hz hq hl => by
  have h6 : (xtys G)[t]? = some (gA G t, .object E) := by rw [← ht]; exact xar6 hW he
  refine va_WaastN (C := E) hC.1 hC.2.1 (hW.2.2 _ _ he).2.2 ((hC.K.2 t _ h6).1 n (fun j => va_rf (f j))) (fun h => by cases h) (by show ¬ (i < 0 ∨ (arrV _ _ _).slots.size ≤ _); rw [arrV_size]; exact hin) rfl rfl hdg fun H1 e z oq => ?_
  refine kk H1 _ ls (hW.put he hg z oq ⟨(hW.2.2 _ _ he).2.1, ?_⟩) (by rw [z]; exact hz) (fun q h => ?_) hl
  · show H1[a]? = some (vp_cell _ _)
    rw [e]
    rw [vp_cell_q, vp_cell_q, arrV_store]
    congr 2
    funext q
    by_cases hq : q = i.toNatClampNeg
    · subst hq
      simp [updV, va_up, va_rf]
    · simp [updV, va_up, hq]
  · rcases List.mem_append.mp h with h | h
    · exact hq q h
    · rw [List.mem_singleton.mp h]; exact (hW.2.2 _ _ he).1 hg

/-- a new array of int -/
theorem x_newi (hC : Cx G C y cc nL ret rm) {n : Int32} (N g : Nat) (harr : Cond.arrayClass .int ∈ lw_all) (hg : g ≠ 0) (hN : n = nI N) (hb : N * 4 ≤ 536870912) (hc1 : kc + 1 ≤ rm.cells) (hc2 : ks + N ≤ rm.slots) (hdg : decode cc pc = .ok (.newarray .int, 2)) (kk : ∀ q : Nat, M q = none → Wg G C (mu M q (xar g 0 (N, .inl (fun _ => 0)))) (kc + 1) (ks + N) (pc + 2) lv (.ref q :: rest)) : Wg G C M kc ks pc lv (.int n :: rest) := fun H locs ls hW hz hq hl => by
  subst hN
  have hN2 : N < 2 ^ 31 := by omega
  refine va_newaK (atype := .int) hC.1 hC.2.1 (hC.w harr) rfl hdg rfl (nI_pos hN2) (nI_clamp hN2) (by show N * 4 ≤ _; exact hb) (by rw [hC.room]; exact hc1) (by rw [hC.room]; exact hc2) rfl fun H1 cA e1 z1 o1 hAr hNm => ?_
  have e2 : cA = gA G 0 := Option.some.inj (hNm.symm.trans (hC.K.2 0 _ (xtys_at G (t := 0) (by decide))).2)
  subst e2
  refine kk H.size hW.fresh H1 locs ls (hW.push z1 o1 ⟨(by decide : 0 < 6), ?_⟩) (by omega) hq hl
  exact e1
/-- a new array of byte -/
theorem x_newb (hC : Cx G C y cc nL ret rm) {n : Int32} (N g : Nat) (harr : Cond.arrayClass .byte ∈ lw_all) (hg : g ≠ 0) (hN : n = nI N) (hb : N * 1 ≤ 536870912) (hc1 : kc + 1 ≤ rm.cells) (hc2 : ks + N ≤ rm.slots) (hdg : decode cc pc = .ok (.newarray .byte, 2)) (kk : ∀ q : Nat, M q = none → Wg G C (mu M q (xar g 1 (N, .inl (fun _ => 0)))) (kc + 1) (ks + N) (pc + 2) lv (.ref q :: rest)) : Wg G C M kc ks pc lv (.int n :: rest) := fun H locs ls hW hz hq hl => by
  subst hN
  have hN2 : N < 2 ^ 31 := by omega
  refine va_newaK (atype := .byte) hC.1 hC.2.1 (hC.w harr) rfl hdg rfl (nI_pos hN2) (nI_clamp hN2) (by show N * 1 ≤ _; exact hb) (by rw [hC.room]; exact hc1) (by rw [hC.room]; exact hc2) rfl fun H1 cA e1 z1 o1 hAr hNm => ?_
  have e2 : cA = gA G 1 := Option.some.inj (hNm.symm.trans (hC.K.2 1 _ (xtys_at G (t := 1) (by decide))).2)
  subst e2
  refine kk H.size hW.fresh H1 locs ls (hW.push z1 o1 ⟨(by decide : 1 < 6), ?_⟩) (by omega) hq hl
  exact e1
/-- a new array of long -/
theorem x_newl (hC : Cx G C y cc nL ret rm) {n : Int32} (N g : Nat) (harr : Cond.arrayClass .long ∈ lw_all) (hg : g ≠ 0) (hN : n = nI N) (hb : N * 8 ≤ 536870912) (hc1 : kc + 1 ≤ rm.cells) (hc2 : ks + N ≤ rm.slots) (hdg : decode cc pc = .ok (.newarray .long, 2)) (kk : ∀ q : Nat, M q = none → Wg G C (mu M q (xar g 4 (N, .inr (.inl (fun _ => 0))))) (kc + 1) (ks + N) (pc + 2) lv (.ref q :: rest)) : Wg G C M kc ks pc lv (.int n :: rest) := fun H locs ls hW hz hq hl => by
  subst hN
  have hN2 : N < 2 ^ 31 := by omega
  refine va_newaK (atype := .long) hC.1 hC.2.1 (hC.w harr) rfl hdg rfl (nI_pos hN2) (nI_clamp hN2) (by show N * 8 ≤ _; exact hb) (by rw [hC.room]; exact hc1) (by rw [hC.room]; exact hc2) rfl fun H1 cA e1 z1 o1 hAr hNm => ?_
  have e2 : cA = gA G 4 := Option.some.inj (hNm.symm.trans (hC.K.2 4 _ (xtys_at G (t := 4) (by decide))).2)
  subst e2
  refine kk H.size hW.fresh H1 locs ls (hW.push z1 o1 ⟨(by decide : 4 < 6), ?_⟩) (by omega) hq hl
  exact e1
/-- a new array of double -/
theorem x_newd (hC : Cx G C y cc nL ret rm) {n : Int32} (N g : Nat) (harr : Cond.arrayClass .double ∈ lw_all) (hg : g ≠ 0) (hN : n = nI N) (hb : N * 8 ≤ 536870912) (hc1 : kc + 1 ≤ rm.cells) (hc2 : ks + N ≤ rm.slots) (hdg : decode cc pc = .ok (.newarray .double, 2)) (kk : ∀ q : Nat, M q = none → Wg G C (mu M q (xar g 5 (N, .inr (.inr (.inr (.inl (fun _ => FP.dconst0))))))) (kc + 1) (ks + N) (pc + 2) lv (.ref q :: rest)) : Wg G C M kc ks pc lv (.int n :: rest) := fun H locs ls hW hz hq hl => by
  subst hN
  have hN2 : N < 2 ^ 31 := by omega
  refine va_newaK (atype := .double) hC.1 hC.2.1 (hC.w harr) rfl hdg rfl (nI_pos hN2) (nI_clamp hN2) (by show N * 8 ≤ _; exact hb) (by rw [hC.room]; exact hc1) (by rw [hC.room]; exact hc2) rfl fun H1 cA e1 z1 o1 hAr hNm => ?_
  have e2 : cA = gA G 5 := Option.some.inj (hNm.symm.trans (hC.K.2 5 _ (xtys_at G (t := 5) (by decide))).2)
  subst e2
  refine kk H.size hW.fresh H1 locs ls (hW.push z1 o1 ⟨(by decide : 5 < 6), ?_⟩) (by omega) hq hl
  exact e1
/-- a new array of references -/
theorem x_newq (hC : Cx G C y cc nL ret rm) {index : Nat} {E : String} {n : Int32} (N g t : Nat) (hlink : Cond.classLink y.cls index E ∈ lw_all) (hov : Cond.arrayOver (.object E) ∈ lw_tbl) (ht : xty t = .object E) (ht6 : t < 6) (hg : g ≠ 0) (hN : n = nI N) (hb : N * 4 ≤ 536870912) (hc1 : kc + 1 ≤ rm.cells) (hc2 : ks + N ≤ rm.slots) (hdg : decode cc pc = .ok (.anewarray index, 3)) (kk : ∀ q : Nat, M q = none → Wg G C (mu M q (oa g t N (fun _ => none))) (kc + 1) (ks + N) (pc + 3) lv (.ref q :: rest)) : Wg G C M kc ks pc lv (.int n :: rest) := fun H locs ls hW hz hq hl => by
  subst hN
  have hN2 : N < 2 ^ 31 := by omega
  have hcl := nI_clamp hN2
  have hao : va_AO E (xs C) := va_AO.moved hC.warm.alike (hC.gok.2.1 _ hov)
  refine W.anew hC.1 hC.2.1 hC.own (hC.w hlink) (va_AO.use hao) rfl hdg rfl (nI_pos hN2) (by rw [hcl]; exact hb) (by rw [hC.room]; exact hc1) (by rw [hC.room, hcl]; exact hc2) fun cA kA comp f1 f2 f3 f4 => ?_
  have h6 : (xtys G)[t]? = some (gA G t, .object E) := by rw [← ht]; exact xtys_at G ht6
  obtain ⟨kA2, comp2, g1, g2, g3, g4⟩ := (hC.K.2 t _ h6).2
  have e2 : cA = gA G t := Option.some.inj (f1.symm.trans g4)
  subst e2
  rw [hcl]
  generalize hH1 : H.push ({ cls := gA G t, slots := Array.replicate N .null, vm := .none } : Cell) = H1
  have z1 : H1.size = H.size + 1 := by rw [← hH1, Array.size_push]
  have e1 : H1[H.size]? = some (arrV (gA G t) N (fun _ => .null)) := by rw [← hH1, Array.getElem?_push_size, ← arrV_new]
  have o1 : ∀ q : Nat, q < H.size → H1[q]? = H[q]? := fun q hq => by rw [← hH1, Array.getElem?_push, if_neg (Nat.ne_of_lt hq)]
  refine kk H.size hW.fresh H1 locs ls (hW.push z1 o1 ⟨ht6, ?_⟩) (by omega) hq hl
  show H1[H.size]? = some (vp_cell _ _)
  rw [vp_cell_q]
  exact e1
/-- a new object -/
theorem x_new (hC : Cx G C y cc nL ret rm) {index ci N : Nat} {Cn : String} {T : u_T} (g : Nat) (fs : List Value) (hcl : xcl[ci]? = some (Cn, T, N)) (hlink : Cond.classLink y.cls index Cn ∈ lw_all) (hinst : Cond.instantiable Cn N ∈ lw_all) (hini : Cond.initialized Cn ∈ lw_all) (ty : Nat → FieldType) (hty : ∀ k, k < N → parseFieldDescriptor (T k).2.2.1 = some (ty k)) (hg : g ≠ 0) (hfs : ∀ j, j < N → defaultValue (ty j) = vp_V fs j) (hc1 : kc + 1 ≤ rm.cells) (hc2 : ks + N ≤ rm.slots) (hdg : decode cc pc = .ok (.new index, 3)) (kk : ∀ q : Nat, M q = none → Wg G C (mu M q (ob g ci fs)) (kc + 1) (ks + N) (pc + 3) lv (.ref q :: rest)) : Wg G C M kc ks pc lv rest := fun H locs ls hW hz hq hl => by
  have hts : ∀ w ∈ lw_all, w.before (xa C) (xs C) = true := fun w h => hC.w h
  have hKn := hC.K.1 ci _ hcl
  refine W.newcK hC.1 hC.2.1 hC.own (hC.w hlink) (hC.w hinst) (hC.w hini) rfl hdg (by rw [hC.room]; exact hc1) (by rw [hC.room]; exact hc2) hKn.2.1 rfl fun H1 kC hkC e1 z1 o1 => ?_
  exact kk H.size hW.fresh H1 locs ls (hW.push z1 o1 ⟨_, hcl, (u_born ty hts (xin hcl) hKn hkC e1 hty).to hfs⟩) (by omega) hq hl
/-- Object.<init>() -/
theorem x_objInit (hC : Cx G C y cc nL ret rm) {a index : Nat} (hlink : Cond.methodLink y.cls index Lib.objectInit ∈ lw_all) (hinst : Cond.instanceMethod Lib.objectInit ∈ lw_all) (hcode : Cond.code Lib.objectInit ⟨#[0xb1]⟩ 1 none ∈ lw_all) (hdg : decode cc pc = .ok (.invokespecial index, 3)) (hst : (rest.map fun v => v.category).sum ≤ 8) (hfr : 1 ≤ rm.frames ∧ 20 ≤ rm.locals) (kk : Wg G C M kc ks (pc + 3) lv rest) : Wg G C M kc ks pc lv (.ref a :: rest) := fun H locs ls hW hz hq hl =>
  W.objInit hC.1 hC.2.1 hC.own (hC.w hlink) (hC.w hinst) (hC.w hcode) rfl hl.1 rfl hdg (by rw [hC.room]; exact hfr.1) (by rw [hC.room]; show 2 * 0 + _ + 12 ≤ _; omega) (kk H locs ls hW hz hq hl)
/-- a static field: at the law's start, in a cell that is never written -/
def Zs (G : X_G) (Cn n d : String) (v : Value) : Prop := va_Z Cn n d v (fun q => g0 G ≤ q) (gs G) (gs G).heap
theorem x_gets (hC : Cx G C y cc nL ret rm) {Cn n d ref : String} {v : Value} {index : Nat} (hZ : Zs G Cn n d v) (hlink : Cond.fieldLink y.cls index ref n d ∈ lw_all) (href : ref = Cn) (hdg : decode cc pc = .ok (.getstatic index, 3)) (kk : Wg G C M kc ks (pc + 3) lv (v :: rest)) : Wg G C M kc ks pc lv rest := fun H locs ls hW hz hq hl => by
  subst href
  obtain ⟨cf, kf, fi, f, a, cell, h1, h2, h3, h4, h5, h6, h7, h8⟩ := va_Z.moved hC.warm.alike hZ
  refine W.gets hC.1 hC.2.1 hC.own (hC.w hlink) h1 h2 h3 h4 (cell₁ := cell) ?_ (fun e => by rw [e] at h6; cases h6) h7 rfl hdg (kk H locs ls hW hz hq hl)
  rw [hW.2.1 a (by omega)]; exact h5
theorem x_casty (hC : Cx G C y cc nL ret rm) {A B : String} (hca : Cond.castable A B ∈ lw_tbl) : va_Nw (.castable A B) (xs C) := va_Nw.warmC hC.warm (va_Nw.of rfl (hC.gok.2.1 _ hca))
theorem x_castY (hC : Cx G C y cc nL ret rm) {a g ci N index : Nat} {Cn nm : String} {T : u_T} {fs : List Value} (he : M a = some (ob g ci fs)) (hcl : xcl[ci]? = some (Cn, T, N)) (hlink : Cond.classLink y.cls index nm ∈ lw_all) (hca : Cond.castable Cn nm ∈ lw_tbl) (hdg : decode cc pc = .ok (.checkcast index, 3)) (kk : Wg G C M kc ks (pc + 3) lv (.ref a :: rest)) : Wg G C M kc ks pc lv (.ref a :: rest) := fun H locs ls hW hz hq hl =>
  va_castY hC.1 hC.2.1 hC.own (hC.w hlink) (x_casty hC hca) (x_recv hC hW he hcl) hdg (kk H locs ls hW hz hq hl)
theorem x_castS (hC : Cx G C y cc nL ret rm) {a g ci N index : Nat} {Cn nm : String} {T : u_T} {fs : List Value} (he : M a = some (ob g ci fs)) (hcl : xcl[ci]? = some (Cn, T, N)) (hnm : nm = Cn) (hlink : Cond.classLink y.cls index nm ∈ lw_all) (hdg : decode cc pc = .ok (.checkcast index, 3)) (kk : Wg G C M kc ks (pc + 3) lv (.ref a :: rest)) : Wg G C M kc ks pc lv (.ref a :: rest) := fun H locs ls hW hz hq hl => by
  subst hnm
  exact va_castS hC.1 hC.2.1 hC.own (hC.w hlink) (hC.K.1 ci _ hcl).2 (x_recv hC hW he hcl) hdg (kk H locs ls hW hz hq hl)
theorem x_instS (hC : Cx G C y cc nL ret rm) {a g ci N index : Nat} {Cn nm : String} {T : u_T} {fs : List Value} (he : M a = some (ob g ci fs)) (hcl : xcl[ci]? = some (Cn, T, N)) (hnm : nm = Cn) (hlink : Cond.classLink y.cls index nm ∈ lw_all) (hdg : decode cc pc = .ok (.instanceof index, 3)) (kk : Wg G C M kc ks (pc + 3) lv (.int 1 :: rest)) : Wg G C M kc ks pc lv (.ref a :: rest) := fun H locs ls hW hz hq hl => by
  subst hnm
  exact va_instS hC.1 hC.2.1 hC.own (hC.w hlink) (hC.K.1 ci _ hcl).2 (x_recv hC hW he hcl) hdg (kk H locs ls hW hz hq hl)

theorem x_ialdN (hC : Cx G C y cc nL ret rm) {a g n i : Nat} {f : Nat → Int32} (he : M a = some (xar g 0 (n, .inl f))) (h : i < n) (hn : n < 2 ^ 31) (hdg : decode cc pc = .ok (.iaload, 1)) (kk : Wg G C M kc ks (pc + 1) lv (.int (f i) :: rest)) : Wg G C M kc ks pc lv (.int (nI i) :: .ref a :: rest) := x_iald hC he (vp_in_nI h hn) hdg (by rw [nI_clamp (Nat.lt_trans h hn)]; exact kk)
theorem x_baldN (hC : Cx G C y cc nL ret rm) {a g n i : Nat} {f : Nat → Int32} (he : M a = some (xar g 1 (n, .inl f))) (h : i < n) (hn : n < 2 ^ 31) (hdg : decode cc pc = .ok (.baload, 1)) (kk : Wg G C M kc ks (pc + 1) lv (.int (f i) :: rest)) : Wg G C M kc ks pc lv (.int (nI i) :: .ref a :: rest) := x_bald hC he (vp_in_nI h hn) hdg (by rw [nI_clamp (Nat.lt_trans h hn)]; exact kk)
theorem x_aaldN (hC : Cx G C y cc nL ret rm) {a g t n i : Nat} {E : String} {f : Nat → Option Nat} (he : M a = some (oa g t n f)) (ht : xty t = .object E) (h : i < n) (hn : n < 2 ^ 31) (hdg : decode cc pc = .ok (.aaload, 1)) (kk : Wg G C M kc ks (pc + 1) lv (va_rf (f i) :: rest)) : Wg G C M kc ks pc lv (.int (nI i) :: .ref a :: rest) := x_aald hC he ht (vp_in_nI h hn) hdg (by rw [nI_clamp (Nat.lt_trans h hn)]; exact kk)
theorem x_iastN (hC : Cx G C y cc nL ret rm) {a g n i : Nat} {f : Nat → Int32} {x : Int32} (he : M a = some (xar g 0 (n, .inl f))) (hg : g ≠ 0) (h : i < n) (hn : n < 2 ^ 31) (hdg : decode cc pc = .ok (.iastore, 1)) (kk : Wg G C (mu M a (xar g 0 (n, .inl (upd f i x)))) kc ks (pc + 1) lv rest) : Wg G C M kc ks pc lv (.int x :: .int (nI i) :: .ref a :: rest) := x_iast hC he hg (vp_in_nI h hn) hdg (by rw [nI_clamp (Nat.lt_trans h hn)]; exact kk)
theorem x_bastN (hC : Cx G C y cc nL ret rm) {a g n i : Nat} {f : Nat → Int32} {x : Int32} (he : M a = some (xar g 1 (n, .inl f))) (hg : g ≠ 0) (h : i < n) (hn : n < 2 ^ 31) (hdg : decode cc pc = .ok (.bastore, 1)) (kk : Wg G C (mu M a (xar g 1 (n, .inl (upd f i (vp_nar .byte x))))) kc ks (pc + 1) lv rest) : Wg G C M kc ks pc lv (.int x :: .int (nI i) :: .ref a :: rest) := x_bast hC he hg (vp_in_nI h hn) hdg (by rw [nI_clamp (Nat.lt_trans h hn)]; exact kk)
end XH
