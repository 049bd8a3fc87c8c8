/-! ===== locals that may hold null; static fields of the start ===== -/
section XNUL
variable {G : X_G} {C : X_C} {M : X_M} {kc ks pc nL : Nat} {lv : List (Option Value)} {rest : List Value} {y : MethodName} {cc : ByteArray} {ret : Option FieldType} {rm : Room}
theorem x_aload_nN (hC : Cx G C y cc nL ret rm) {k : Fin 4} {i : Nat} (hdg : decode cc pc = .ok (.aload_n k, 1)) (hi : (k : Nat) = i) (hl : lv[i]? = some (some .null)) (k : Wg G C M kc ks (pc + 1) lv (.null :: rest)) : Wg G C M kc ks pc lv (rest) := fun H locs ls hW hz hq hl9 => lv_aload_nN hC.1 hC.2.1 hdg hi (hl9.2.2 _ _ hl) (k H locs ls hW hz hq hl9)
theorem x_aloadN (hC : Cx G C y cc nL ret rm) {i : Nat} (hdg : decode cc pc = .ok (.aload i, 2)) (hl : lv[i]? = some (some .null)) (k : Wg G C M kc ks (pc + 2) lv (.null :: rest)) : Wg G C M kc ks pc lv (rest) := fun H locs ls hW hz hq hl9 => lv_aloadN hC.1 hC.2.1 hdg (hl9.2.2 _ _ hl) (k H locs ls hW hz hq hl9)
theorem x_astore_nN (hC : Cx G C y cc nL ret rm) {k : Fin 4} {i : Nat} {lv' : List (Option Value)} (hdg : decode cc pc = .ok (.astore_n k, 1)) (hi : (k : Nat) = i) (hn : i < nL) (hl : xst1 lv i .null = lv') (kk : Wg G C M kc ks (pc + 1) lv' rest) : Wg G C M kc ks pc lv (.null :: rest) := fun H locs ls hW hz hq hl9 => lv_astore_nN hC.1 hC.2.1 hdg hi (hC.2.2.1 ▸ hl9.to) hn rfl (fun ls2 h2 => kk H locs ls2 hW hz hq (hC.2.2.1 ▸ xst1_ok hl h2))
theorem x_astoreN (hC : Cx G C y cc nL ret rm) {i : Nat} {lv' : List (Option Value)} (hdg : decode cc pc = .ok (.astore i, 2)) (hn : i < nL) (hl : xst1 lv i .null = lv') (kk : Wg G C M kc ks (pc + 2) lv' rest) : Wg G C M kc ks pc lv (.null :: rest) := fun H locs ls hW hz hq hl9 => lv_astoreN hC.1 hC.2.1 hdg (hC.2.2.1 ▸ hl9.to) hn rfl (fun ls2 h2 => kk H locs ls2 hW hz hq (hC.2.2.1 ▸ xst1_ok hl h2))
theorem x_aload_nV (hC : Cx G C y cc nL ret rm) {k : Fin 4} {i : Nat} {o : Option Nat} (hdg : decode cc pc = .ok (.aload_n k, 1)) (hi : (k : Nat) = i) (hl : lv[i]? = some (some (va_rf o))) (k : Wg G C M kc ks (pc + 1) lv (va_rf o :: rest)) : Wg G C M kc ks pc lv (rest) := by
  cases o with
  | none => exact x_aload_nN hC hdg hi hl k
  | some a => exact x_aload_n hC hdg hi hl k
theorem x_aloadV (hC : Cx G C y cc nL ret rm) {i : Nat} {o : Option Nat} (hdg : decode cc pc = .ok (.aload i, 2)) (hl : lv[i]? = some (some (va_rf o))) (k : Wg G C M kc ks (pc + 2) lv (va_rf o :: rest)) : Wg G C M kc ks pc lv (rest) := by
  cases o with
  | none => exact x_aloadN hC hdg hl k
  | some a => exact x_aload hC hdg hl k
theorem x_astore_nV (hC : Cx G C y cc nL ret rm) {k : Fin 4} {i : Nat} {o : Option Nat} {lv' : List (Option Value)} (hdg : decode cc pc = .ok (.astore_n k, 1)) (hi : (k : Nat) = i) (hn : i < nL) (hl : xst1 lv i (va_rf o) = lv') (kk : Wg G C M kc ks (pc + 1) lv' rest) : Wg G C M kc ks pc lv (va_rf o :: rest) := by
  cases o with
  | none => exact x_astore_nN hC hdg hi hn hl kk
  | some a => exact x_astore_n hC hdg hi hn hl kk
theorem x_astoreV (hC : Cx G C y cc nL ret rm) {i : Nat} {o : Option Nat} {lv' : List (Option Value)} (hdg : decode cc pc = .ok (.astore i, 2)) (hn : i < nL) (hl : xst1 lv i (va_rf o) = lv') (kk : Wg G C M kc ks (pc + 2) lv' rest) : Wg G C M kc ks pc lv (va_rf o :: rest) := by
  cases o with
  | none => exact x_astoreN hC hdg hn hl kk
  | some a => exact x_astore hC hdg hn hl kk
end XNUL
/-- the start's constants: 0 the empty array of the lists, 1 and 2 the digits' tables, 3 the empty string and 4 its bytes, 5 the word bell and 6 its bytes, 7 .. 11 the sorts of tokens -/
abbrev X_T : Type := Nat → Nat
abbrev xObA : String := "[Ljava/lang/Object;"
/-- what is known of the lists' empty array -/
def T0 (G : X_G) (T : X_T) : Prop := Zs G "java/util/ArrayList" "DEFAULTCAPACITY_EMPTY_ELEMENTDATA" xObA (.ref (T 0))
def M0c (T : X_T) (M : X_M) : Prop := M (T 0) = some (oa 0 2 0 fun _ => none)
section XNU2
variable {G : X_G} {C : X_C} {M : X_M} {kc ks pc nL : Nat} {lv : List (Option Value)} {rest : List Value} {y : MethodName} {cc : ByteArray} {ret : Option FieldType} {rm : Room}
theorem x_acmp_eqR (hC : Cx G C y cc nL ret rm) {a b : Nat} {off : Int} {tgt : Nat} (hdg : decode cc pc = .ok (.if_acmp .eq off, 3)) (ht : (pc : Int) + off = (tgt : Int)) (kt : a = b → Wg G C M kc ks tgt lv rest) (kf : ¬ a = b → Wg G C M kc ks (pc + 3) lv rest) : Wg G C M kc ks pc lv (.ref b :: .ref a :: rest) := x_acmp_eq (rx := some a) (ry := some b) hC hdg ht (fun h => kt (Option.some.inj h)) (fun h => kf (fun e => h (congrArg some e)))
theorem x_acmp_neR (hC : Cx G C y cc nL ret rm) {a b : Nat} {off : Int} {tgt : Nat} (hdg : decode cc pc = .ok (.if_acmp .ne off, 3)) (ht : (pc : Int) + off = (tgt : Int)) (kt : ¬ a = b → Wg G C M kc ks tgt lv rest) (kf : a = b → Wg G C M kc ks (pc + 3) lv rest) : Wg G C M kc ks pc lv (.ref b :: .ref a :: rest) := x_acmp_ne (rx := some a) (ry := some b) hC hdg ht (fun h => kt (fun e => h (congrArg some e))) (fun h => kf (Option.some.inj h))
theorem x_ifnullV (hC : Cx G C y cc nL ret rm) {o : Option Nat} {off : Int} {tgt : Nat} (hdg : decode cc pc = .ok (.ifnull off, 3)) (ht : (pc : Int) + off = (tgt : Int)) (kt : o = none → Wg G C M kc ks tgt lv rest) (kf : ∀ a, o = some a → Wg G C M kc ks (pc + 3) lv rest) : Wg G C M kc ks pc lv (va_rf o :: rest) := by
  cases o with
  | none => exact x_ifnullN hC hdg ht (kt rfl)
  | some a => exact x_ifnull hC hdg (kf a rfl)
theorem x_ifnonnullV (hC : Cx G C y cc nL ret rm) {o : Option Nat} {off : Int} {tgt : Nat} (hdg : decode cc pc = .ok (.ifnonnull off, 3)) (ht : (pc : Int) + off = (tgt : Int)) (kt : ∀ a, o = some a → Wg G C M kc ks tgt lv rest) (kf : o = none → Wg G C M kc ks (pc + 3) lv rest) : Wg G C M kc ks pc lv (va_rf o :: rest) := by
  cases o with
  | none => exact x_ifnonnullN hC hdg (kf rfl)
  | some a => exact x_ifnonnull hC hdg ht (kt a rfl)
theorem x_aastI (hC : Cx G C y cc nL ret rm) {a g t n v g1 ci N i : Nat} {E Cn : String} {T : u_T} {vs : List Value} {f : Nat → Option Nat} (he : M a = some (oa g t n f)) (hg : g ≠ 0) (ht : xty t = .object E) (hv : M v = some (ob g1 ci vs)) (hcl : xcl[ci]? = some (Cn, T, N)) (hca : Cond.castable Cn E ∈ lw_tbl) (h : i < n) (hn : n < 2 ^ 31) (hdg : decode cc pc = .ok (.aastore, 1)) (kk : Wg G C (mu M a (oa g t n (va_up f i (some v)))) kc ks (pc + 1) lv rest) : Wg G C M kc ks pc lv (.ref v :: .int (nI i) :: .ref a :: rest) := x_aast hC he hg ht hv hcl hca (vp_in_nI h hn) hdg (by rw [nI_clamp (Nat.lt_trans h hn)]; exact kk)
theorem x_aastNI (hC : Cx G C y cc nL ret rm) {a g t n i : Nat} {E : String} {f : Nat → Option Nat} (he : M a = some (oa g t n f)) (hg : g ≠ 0) (ht : xty t = .object E) (h : i < n) (hn : n < 2 ^ 31) (hdg : decode cc pc = .ok (.aastore, 1)) (kk : Wg G C (mu M a (oa g t n (va_up f i none))) kc ks (pc + 1) lv rest) : Wg G C M kc ks pc lv (.null :: .int (nI i) :: .ref a :: rest) := x_aastN hC he hg ht (vp_in_nI h hn) hdg (by rw [nI_clamp (Nat.lt_trans h hn)]; exact kk)
/-- fields that a class above declares -/
theorem x_getS (hC : Cx G C y cc nL ret rm) {a g ci index N : Nat} (k : Nat) {Cn ref : String} {T : u_T} {fs : List Value} {v : Value} (he : M a = some (ob g ci fs)) (hcl : xcl[ci]? = some (Cn, T, N)) (hk : k < N) (hlink : Cond.fieldLink y.cls index ref (T k).2.1 (T k).2.2.1 ∈ lw_all) (hsame : Cond.sameField ref (T k).1 (T k).2.1 (T k).2.2.1 ∈ lw_all) (hv : fs[k]? = some v) (hdg : decode cc pc = .ok (.getfield index, 3)) (kk : Wg G C M kc ks (pc + 3) lv (v :: rest)) : Wg G C M kc ks pc lv (.ref a :: rest) := fun H locs ls hW hz hq hl =>
  va_get (Ts := lw_all) (ws := [(a, .inr (ci, fs))]) hC.1 hC.2.1 (fun w h => hC.w h) (xin hcl) hC.own hC.K (xone hW he) 0 rfl hcl k hk (hC.w hlink) (u_same (hC.w hsame)) hv hdg (kk H locs ls hW hz hq hl)
theorem x_putS (hC : Cx G C y cc nL ret rm) {a g ci index N : Nat} (k : Nat) {Cn ref : String} {T : u_T} {fs fs' : List Value} {v : Value} {ty : FieldType} (he : M a = some (ob g ci fs)) (hg : g ≠ 0) (hcl : xcl[ci]? = some (Cn, T, N)) (hk : k < N) (hlink : Cond.fieldLink y.cls index ref (T k).2.1 (T k).2.2.1 ∈ lw_all) (hsame : Cond.sameField ref (T k).1 (T k).2.1 (T k).2.2.1 ∈ lw_all) (hfin : (T k).2.2.2 = false) (hd : parseFieldDescriptor (T k).2.2.1 = some ty) (hn : narrow ty v = v) (hfit : fits ty v = true) (hl2 : k < fs.length) (hs : fs.set k v = fs') (hdg : decode cc pc = .ok (.putfield index, 3)) (kk : Wg G C (mu M a (ob g ci fs')) kc ks (pc + 3) lv rest) : Wg G C M kc ks pc lv (v :: .ref a :: rest) := fun H locs ls hW hz hq hl => by
  subst hs
  obtain ⟨ty0, hty, hnm⟩ := xtyp hcl
  have hts : ∀ w ∈ lw_all, w.before (xa C) (xs C) = true := fun w h => hC.w h
  have hap := va_apart (own := y.cls) hts (xin hcl) ty0 hty hnm hC.K hcl
  obtain ⟨r, h1, cell, q1, q2, q3, q4⟩ := (hW.2.2 _ _ he).2
  have hr : r = (Cn, T, N) := Option.some.inj (h1.symm.trans hcl)
  subst hr
  obtain ⟨hS, hfc, kC, hkC, hkind⟩ := hC.K.1 ci _ hcl
  obtain ⟨cf, kf, fi, f, hi, hsl⟩ := hS k hk
  have hlay := hts _ (xin hcl _ (u_in_lay hk))
  unfold u_lay at hlay
  rw [if_neg (by rw [hfin]; decide)] at hlay
  have hst := (u_facts hfc hkC (u_lays hts (xin hcl) hk) hi).1
  have h6 := u_store hfc hkC hkind hlay hi hd hn hfit
  refine W.putK hC.1 hC.2.1 (f := f) ⟨hC.own, hC.w hlink, ⟨_, _, _, u_same (hC.w hsame) _ hi⟩, hst⟩ (by rw [q2]; exact h6) q1 q3 (by rw [hsl]; exact k2_hasslot (q4 k hk)) rfl rfl hdg fun H' e1 e2 e3 => ?_
  rw [hsl] at e1 ⊢
  refine kk H' _ ls (hW.put he hg e2 e3 ⟨_, hcl, t_OB.to (V := updV (vp_V fs) k v) ⟨_, e1, q2, q3, t_set q4 hap hk v⟩ (fun j _ => vp_updV_set hl2 v j)⟩) (by rw [e2]; exact hz) (fun q h => ?_) hl
  rcases List.mem_append.mp h with h | h
  · exact hq q h
  · rw [List.mem_singleton.mp h]; exact (hW.2.2 _ _ he).1 hg
theorem x_aastS (hC : Cx G C y cc nL ret rm) {a g t n v g1 ci N : Nat} {E Cn : String} {T : u_T} {vs : List Value} {f : Nat → Option Nat} {i : Int32} (he : M a = some (oa g t n f)) (hg : g ≠ 0) (ht : xty t = .object E) (hv : M v = some (ob g1 ci vs)) (hcl : xcl[ci]? = some (Cn, T, N)) (hca : E = Cn) (hin : vp_in i n) (hdg : decode cc pc = .ok (.aastore, 1)) (kk : Wg G C (mu M a (oa g t n (va_up f i.toNatClampNeg (some v)))) kc ks (pc + 1) lv rest) : Wg G C M kc ks pc lv (.ref v :: .int i :: .ref a :: rest) := fun H locs ls hW hz hq hl => by
  have hlt : i.toNatClampNeg < n := Nat.not_le.mp fun q => hin (Or.inr q)
  have h0 : ¬ i < 0 := fun q => hin (Or.inl q)
  obtain ⟨r', hr', cellV, g1, g2, g3, -⟩ := (hW.2.2 _ _ hv).2
  have hcls := (hC.K.1 ci _ hcl).2
  have h6 : (xtys G)[t]? = some (gA G t, .object E) := by rw [← ht]; exact xar6 hW he
  obtain ⟨kA, comp, k1, k2, k3, -⟩ := (hC.K.2 t _ h6).2
  obtain ⟨kE, hkE, -⟩ := Vm.findClass_spec k3
  subst hca
  have f3 := va_assign hcls
  cases k3.symm.trans hcls.1
  obtain ⟨kC, hkC, -⟩ := hcls.2
  refine W.aast hC.1 hC.2.1 (hW.2.2 _ _ he).2.2 (fun q h => by cases h) (fun h => by cases h) k1 k2 rfl hkE ⟨h0, by show _ < (arrV _ _ _).slots.size; rw [arrV_size]; exact hlt⟩ g1 (fun q h => by rw [g3] at h; cases h) (by rw [g2]; exact hkC) (by rw [g2]; exact f3) rfl rfl hdg fun H1 e z oq => ?_
  refine kk H1 _ ls (hW.put he hg z oq ⟨(hW.2.2 _ _ he).2.1, ?_⟩) (by rw [z]; exact hz) (fun q h => ?_) hl
  · show H1[a]? = some (vp_cell _ _)
    rw [e]
    rw [vp_cell_q, vp_cell_q, arrV_store]
    congr 2
    funext q
    by_cases hq : q = i.toNatClampNeg
    · subst hq
      simp [updV, va_up, va_rf]
    · simp [updV, va_up, hq]
  · rcases List.mem_append.mp h with h | h
    · exact hq q h
    · rw [List.mem_singleton.mp h]; exact (hW.2.2 _ _ he).1 hg
theorem x_aastSI (hC : Cx G C y cc nL ret rm) {a g t n v g1 ci N i : Nat} {E Cn : String} {T : u_T} {vs : List Value} {f : Nat → Option Nat} (he : M a = some (oa g t n f)) (hg : g ≠ 0) (ht : xty t = .object E) (hv : M v = some (ob g1 ci vs)) (hcl : xcl[ci]? = some (Cn, T, N)) (hca : E = Cn) (h : i < n) (hn : n < 2 ^ 31) (hdg : decode cc pc = .ok (.aastore, 1)) (kk : Wg G C (mu M a (oa g t n (va_up f i (some v)))) kc ks (pc + 1) lv rest) : Wg G C M kc ks pc lv (.ref v :: .int (nI i) :: .ref a :: rest) := x_aastS hC he hg ht hv hcl hca (vp_in_nI h hn) hdg (by rw [nI_clamp (Nat.lt_trans h hn)]; exact kk)
/-- forget what one local holds -/
theorem x_forget (i : Nat) (kk : Wg G C M kc ks pc (lv.set i none) rest) : Wg G C M kc ks pc lv rest := x_less (fun j v h => by
  by_cases e : i = j
  · subst e
    rw [List.getElem?_set] at h
    rw [if_pos rfl] at h
    split at h <;> cases h
  · rw [List.getElem?_set_ne e] at h
    exact h) kk
end XNU2

