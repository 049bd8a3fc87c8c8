/-! ===== ParseError: an exception of our own, with fields (ex_superW follows vx_ctorMade0, vx_make0 of the kit's laws) ===== -/
abbrev nPE : String := "WalshAnalyzer$ParseError"
abbrev nEx : String := "java/lang/Exception"
def pe_all : List Cond := Bundle.throwableAtoms ++ Bundle.chain0Atoms nEx [] ++ [.methodLink nPE 1 (Bundle.init0 nEx), .selects nPE Bundle.tFill0 Bundle.tFill0, .selects nPE Bundle.tFill Bundle.tFill, .lays nPE Bundle.tN "cause" "Ljava/lang/Throwable;", .lays nPE Bundle.tN "stackTrace" Bundle.steD, .lays nPE Bundle.tN "suppressedExceptions" Bundle.listD,
   .isRef (.static Bundle.tN "UNASSIGNED_STACK" Bundle.steD), .isRef (.static Bundle.tN "SUPPRESSED_SENTINEL" Bundle.listD),
   .fieldLink Bundle.tN 198 Bundle.tN "backtrace" "Ljava/lang/Object;", .lays Bundle.tN Bundle.tN "backtrace" "Ljava/lang/Object;", .lays nPE Bundle.tN "backtrace" "Ljava/lang/Object;"]
def pe_ws : List Cond := pe_all.filter ex_no
section XPE
variable {p : Program} {l : Launch} {e : Env} {R : Room} {s : State} {m : MethodId} {args : Array Value} {below : List Frame} {meth : Method} {c : Code} {H : Heap} {locs : List Loc} {cells slots : Nat} {Q : State → Prop}
theorem ex_back9 {T S : State} {R' : Room} {L : List Loc} {k n : Nat} (X : Stand p l e R s m args below meth c T locs cells slots) (Y : Stand p l e R' ((T.setVm s.vm).setFrames (.invoking m args :: below)) m args below meth c T [] 0 0) (Z : Stand p l e R' ((T.setVm s.vm).setFrames (.invoking m args :: below)) m args below meth c S L k n) :
    Stand p l e R s m args below meth c S (locs ++ L) (cells + k) (slots + n) := by
  have hW0 : s.WarmedH ((T.setVm s.vm).setFrames (.invoking m args :: below)).vm := State.WarmedH.refl s
  refine { admits := X.admits, cas := X.cas, clock := X.clock, frames := X.frames, room := X.room, hears := X.hears, method := X.method, code := X.code, here := Z.here, tail := Z.tail, warmed := State.WarmedH.trans hW0 Z.warmed, limits := Z.limits.trans (Y.limits.symm.trans X.limits), bytes := Z.bytes.trans (Y.bytes.symm.trans X.bytes), same := ?_ }
  obtain ⟨e1, e2⟩ := Z.same
  rw [State.setFrames_setFrames] at e1
  have h2 : (T.setVm s.vm).sameButNew (S.setVm s.vm) L k n := ⟨e1, e2⟩
  exact X.same.trans h2
set_option maxHeartbeats 1000000 in
theorem ex_superW {cc : ByteArray} {pc : Nat} {ls : Array Slot} {rest : List Value} (hexec : p.tables.exec = Jvm.exec) (hb : c.code = cc) (hl : l.stackTraces = false) {A : Nat → Prop}
    (hown : s.vm.findClass nPE = some m.cls) (hat : ∀ w ∈ pe_ws, w.before args s = true) (hgood : ∀ w ∈ pe_ws, ex_ot w = true)
    (hU : ex_Zq Bundle.tN "UNASSIGNED_STACK" Bundle.steD A s s.heap) (hN : ex_Zq Bundle.tN "SUPPRESSED_SENTINEL" Bundle.listD A s s.heap) (hS : va_S A s.heap H locs) (hsize : ls.size = c.maxLocals)
    (d4 : decode cc pc = .ok (.invokespecial 1, 3)) {q : Nat} {kX : Class} (hkX : s.vm.classes[m.cls]? = some kX) (hord : kX.kind = .ordinary) (hcell : H[q]? = some (blank m.cls kX))
    (hRf : 3 < R.frames) (hRl : (rest.map fun v => v.category).sum + 55 ≤ R.locals) (hRc : cells ≤ R.cells) (hRs : slots ≤ R.slots)
    (kk : ∀ (H1 : Heap) (L : List Loc) (cT : ClassId) (kT : Class) (i7 i17 i24 : Nat) (fC fS fP : Field) (v1 v2 : RefV), s.fieldFound? Bundle.tN "cause" "Ljava/lang/Throwable;" = some (cT, kT, i7, fC) → s.fieldFound? Bundle.tN "stackTrace" Bundle.steD = some (cT, kT, i17, fS) → s.fieldFound? Bundle.tN "suppressedExceptions" Bundle.listD = some (cT, kT, i24, fP) →
      H1[q]? = some (((((blank m.cls kX).setSlot fC.slot (.ref q)).setSlot fS.slot v1.v).setSlot fP.slot v2.v).setSlot fS.slot v1.v) → H1.size = H.size → (∀ b : Nat, b ≠ q → H1[b]? = H[b]?) → (∀ y ∈ L, y.base = q) → W p l e R s m args below meth c H1 (locs ++ L) cells slots Q (F0 m (pc + 3) ls rest)) :
    W p l e R s m args below meth c H locs cells slots Q (F0 m pc ls (.ref q :: rest)) := by
  intro T hT X
  subst hT
  have htr : e.platform.stackTraces = false := (show e.platform.stackTraces = l.stackTraces by rw [X.admits.platform]).trans hl
  have Y := ex_rebase X (R' := { frames := R.frames, locals := R.locals, cells := 0, slots := 0 }) (Nat.le_refl _) (Nat.le_refl _) hRc hRs
  obtain ⟨s', hA'⟩ : ∃ z, z = (T.setVm s.vm).setFrames (.invoking m args :: below) := ⟨_, rfl⟩
  rw [← hA'] at Y
  have hvm : s'.vm = s.vm := by rw [hA']; rfl
  have hhp : s'.heap = T.heap := by rw [hA']; rfl
  have hW0 : s.WarmedH s'.vm := by rw [hvm]; exact State.WarmedH.refl s
  have hat' : ∀ w ∈ pe_ws, w.before args s' = true := fun w hw => ex_ot_at hW0 hvm.symm (hgood w hw) (hat w hw)
  have hU' : ex_Zq Bundle.tN "UNASSIGNED_STACK" Bundle.steD A s' s'.heap := by rw [hhp]; exact ex_Zq.moved hW0.alike (hU.kept hS.2.1)
  have hN' : ex_Zq Bundle.tN "SUPPRESSED_SENTINEL" Bundle.listD A s' s'.heap := by rw [hhp]; exact ex_Zq.moved hW0.alike (hN.kept hS.2.1)
  have h : ∀ w ∈ pe_all, w.before args s' = true := ex_own hat' (ex_isRefq hU'.1) (ex_isRefq hN'.1) hU'.2.word hN'.2.word
  have a' : ∀ x, x ∈ pe_all → x.holds args s' none s' [] = true := fun x hx => h x hx
  have hown' : s'.vm.findClass nPE = some m.cls := by rw [hvm]; exact hown
  have hk : s'.vm.classes[m.cls]? = some kX := by rw [hvm]; exact hkX
  have howns : e.platform.frameOwnsMonitors = true := by rw [X.admits.platform]
  have hfin : e.platform.finalization = false := by rw [X.admits.platform]
  have hpl : e.platform.magicAccessors = ({} : Platform).magicAccessors := by rw [X.admits.platform]
  obtain ⟨Tw, Z, L, LZ, Yt⟩ := ThrowableC.of_atoms (args := args) howns hfin hpl (fun x hx => h x (by simp [pe_all, hx]))
  obtain ⟨P1, Ps, hlen, L1, hL, hP1m, hlink1, hlink⟩ := Bundle.chain0 (args := args) hpl Yt.init0 [] nEx (by decide +kernel) (fun n hn => nomatch hn) (fun x hx => h x (by simp [pe_all, hx]))
  have hsel0 : selectMethod e.platform s'.vm m.cls Tw.fill0 = .method Tw.fill0 := by
    obtain ⟨c2, r2, m2, q1, q2, q3, q4, -⟩ := Cond.selects_spec (a' (.selects nPE Bundle.tFill0 Bundle.tFill0) (by simp [pe_all]))
    cases Option.some.inj (q1.symm.trans hown')
    cases Option.some.inj (q2.symm.trans (State.methodFound?_of_named Yt.fill0 (by decide)))
    cases Option.some.inj (q3.symm.trans Yt.fill0)
    rw [Launch.admits_selectMethod X.admits]; exact q4
  have hselF : selectMethod e.platform s'.vm m.cls Tw.fill = .method Tw.fill := by
    obtain ⟨c2, r2, m2, q1, q2, q3, q4, -⟩ := Cond.selects_spec (a' (.selects nPE Bundle.tFill Bundle.tFill) (by simp [pe_all]))
    cases Option.some.inj (q1.symm.trans hown')
    cases Option.some.inj (q2.symm.trans (State.methodFound?_of_named Yt.fill (by decide)))
    cases Option.some.inj (q3.symm.trans Yt.fill)
    rw [Launch.admits_selectMethod X.admits]; exact q4
  obtain ⟨cellS0, hcS0, hiss⟩ := Yt.statics
  obtain ⟨u0, hu0⟩ := Cond.staticRefV Yt.unassigned L.unassignedStatic L.statics hcS0 hiss (a' (.isRef (.static Bundle.tN "UNASSIGNED_STACK" Bundle.steD)) (by simp [pe_all]))
  obtain ⟨sen, hsen⟩ := Cond.staticRefV Yt.sentinel L.sentinelStatic L.statics hcS0 hiss (a' (.isRef (.static Bundle.tN "SUPPRESSED_SENTINEL" Bundle.listD)) (by simp [pe_all]))
  obtain ⟨ci198, i198, fB, hk198, hg198, ha198, hsB, -, hnB, htB, hffB⟩ := Cond.ownField (t := .object "java/lang/Object") Yt.found L.cls (by decide +kernel) (a' (.fieldLink Bundle.tN 198 Bundle.tN "backtrace" "Ljava/lang/Object;") (by simp [pe_all])) (a' (.lays Bundle.tN Bundle.tN "backtrace" "Ljava/lang/Object;") (by simp [pe_all])) e.platform hpl
  have hcellS : T.heap[Tw.aS]? = some cellS0 := by rw [← hhp]; exact hcS0
  have hknownS : cellS0.vm ≠ .unknown := by
    intro hu
    rw [hu] at hiss
    cases hiss
  have hneS : Tw.aS ≠ q := fun e9 => by
    rw [e9, hcell] at hcellS
    cases hcellS
    cases hiss
  obtain ⟨tyC, dC, hdC, hdnC⟩ := Cond.laysAt hown' hk Yt.cause (a' (.lays nPE Bundle.tN "cause" "Ljava/lang/Throwable;") (by simp [pe_all]))
  obtain ⟨tyS, dS, hdS, hdnS⟩ := Cond.laysAt hown' hk Yt.stack (a' (.lays nPE Bundle.tN "stackTrace" Bundle.steD) (by simp [pe_all]))
  obtain ⟨tyP, dP, hdP, hdnP⟩ := Cond.laysAt hown' hk Yt.supp (a' (.lays nPE Bundle.tN "suppressedExceptions" Bundle.listD) (by simp [pe_all]))
  obtain ⟨tyB, dB, hdB, hdnB⟩ := Cond.laysAt hown' hk hffB (a' (.lays nPE Bundle.tN "backtrace" "Ljava/lang/Object;") (by simp [pe_all]))
  have bC := Cond.laysApart hdB hdC hdnB hdnC (by rw [hnB, Yt.causeName]; decide)
  have bS := Cond.laysApart hdB hdS hdnB hdnS (by rw [hnB, Yt.stackName]; decide)
  have bP := Cond.laysApart hdB hdP hdnB hdnP (by rw [hnB, Yt.suppName]; decide)
  have hskip : SkipFacts Tw e.platform s' (fun u => u) u0 ((preparedCellV Tw.toThrowableT (freshCell m.cls kX) q u0 sen).withEntry T.cur) :=
    ⟨{ ci198 := ci198, i198 := i198, fBack := fB }, ⟨hk198, hg198, ha198, hsB⟩, by
      have := fresh_default (c := m.cls) tyB
      rw [htB] at this
      simpa [preparedCellV, Cell.setSlot, Cell.withEntry, Array.getElem?_setIfInBounds, bC, bS, bP, bC.symm, bS.symm, bP.symm, defaultValue] using this, fun _ _ => rfl⟩
  obtain ⟨tm, methC, cdC, kC, vm₁, hnC, -, -, -, -, -, -, -, hW₁, st1⟩ := Steps.initCold (tb := p.tables) (e := e) (below := below) (s := s') (U := T) Y.here hexec Y.warmed hpl hown' (t := Bundle.init0 nEx) rfl rfl ⟨by decide, by decide⟩
    (a' (.methodLink nPE 1 (Bundle.init0 nEx)) (by simp [pe_all])) (h (.instanceMethod (Bundle.init0 nEx)) (by simp [pe_all, Bundle.chain0Atoms, Bundle.passAtoms])) (bytes := Bundle.five) (maxL := 1) (h (.code (Bundle.init0 nEx) Bundle.five 1 none) (by simp [pe_all, Bundle.chain0Atoms, Bundle.passAtoms]))
    (f := F0 m pc ls (.ref q :: rest)) rfl (a := q) (rest := rest) rfl (by rw [hb]; exact d4)
  cases Option.some.inj (hnC.symm.trans hP1m)
  have Y₁ := Y.noted hW₁
  obtain ⟨vm₂, X₂, st2⟩ := Y₁.ctorPlainOffV hexec (g := F0 m pc ls rest) rfl hsize Tw L Z LZ (P1 :: Ps)
    (fun P hP => by rcases List.mem_cons.mp hP with rfl | hP; exact L1; exact hL P hP) ⟨hlink1, hlink⟩ (u0 := u0) (sen := sen) (self := q) (cell := freshCell m.cls kX) (cellS := cellS0)
    hcell (fun _ => by simp) (by simp) rfl rfl hsel0 hselF hcellS hneS hknownS hu0 hsen
    (Takes.of_laid hk hord tyC (by rw [Yt.causeType]; rfl)) (Takes.of_laid hk hord tyS (by rw [Yt.stackType]; exact fits_refV_array _ u0)) (Takes.of_laid hk hord tyP (by rw [Yt.suppType]; exact fits_refV_object _ sen)) Yt.objLocals hskip htr [] (by rw [hb]; exact d4)
    (by simp only [List.length_cons, hlen]; exact hRf) (by simp only [List.length_cons, hlen]; show 2 * 0 + (rest.map fun v => v.category).sum + (13 * (0 + 1) + 41) ≤ R.locals; omega)
  have hlt : q < T.heap.size := (Array.getElem?_eq_some_iff.mp hcell).1
  subst hA'
  have X5 := ex_back9 X Y X₂
  rw [Nat.add_zero, Nat.add_zero] at X5
  obtain ⟨t, a1, b1⟩ := kk _ _ Tw.cT Tw.kT Tw.i7 Tw.i17 Tw.i24 Tw.fCause Tw.fStack Tw.fSupp u0 sen Yt.cause Yt.stack Yt.supp (heapAt_setCell_self (s := (T.setVm vm₁).setVm vm₂) _ hlt) (by simp [State.setCell]) (fun b hne => heapAt_setCell_ne (s := (T.setVm vm₁).setVm vm₂) _ (Ne.symm hne)) (fun y hy => by
    simp only [List.nil_append, List.mem_cons, List.not_mem_nil, or_false] at hy
    rcases hy with rfl | rfl | rfl | rfl <;> rfl) _ rfl X5
  refine ⟨t, st1 _ (fun acts => ?_), b1⟩
  rw [doInvoke_state]
  exact st2 _ a1
end XPE
/-- a new ParseError, in all its cell -/
def FrX (G : X_G) (ce : Cell) : Prop := ∃ k, (gs G).vm.classes[(gD G).1 6]? = some k ∧ ce = blank ((gD G).1 6) k
theorem pe_tbl : ∀ w ∈ pe_ws, w ∈ lw_tbl := by
  have h : ∀ w ∈ pe_ws, lw_tbl.contains w = true := by decide +kernel
  exact fun w hw => List.contains_iff_mem.mp (h w hw)
theorem pe_cd : ∀ w ∈ pe_ws.filter (fun w => !goodWord w), ex_cd w = true := by decide +kernel
theorem pe_ot : ∀ w ∈ pe_ws, ex_ot w = true := by decide +kernel
section XPF
variable {G : X_G} {C : X_C} {M : X_M} {kc ks pc nL : Nat} {lv : List (Option Value)} {rest : List Value} {y : MethodName} {cc : ByteArray} {ret : Option FieldType} {rm : Room}
theorem x_newR (hC : Cx G C y cc nL ret rm) {index : Nat} (g : Nat) (hlink : Cond.classLink y.cls index nPE ∈ lw_all) (hg : g ≠ 0) (hc1 : kc + 1 ≤ rm.cells) (hc2 : ks + 8 ≤ rm.slots) (hdg : decode cc pc = .ok (.new index, 3)) (kk : ∀ (q : Nat) (ce : Cell), M q = none → FrX G ce → Wg G C (mu M q (xrw g ce)) (kc + 1) (ks + 8) (pc + 3) lv (.ref q :: rest)) : Wg G C M kc ks pc lv rest := fun H locs ls hW hz hq hl => by
  have hKn := hC.K.1 6 _ rfl
  refine W.newcK hC.1 hC.2.1 hC.own (hC.w hlink) (hC.w q1421) (hC.w q108) rfl hdg (by rw [hC.room]; exact hc1) (by rw [hC.room]; exact hc2) hKn.2.1 rfl fun H1 kC hkC e1 z1 o1 => ?_
  obtain ⟨-, -, kG, hkG, -⟩ := hC.gok.2.2.1.1 6 _ rfl
  obtain ⟨k', hk', he'⟩ := hC.warm.alike.2.2 _ _ hkG
  cases hkC.symm.trans hk'
  have hbl : blank ((gD G).1 6) kC = blank ((gD G).1 6) kG := by rw [he']; rfl
  rw [hbl] at e1
  exact kk H.size _ hW.fresh ⟨kG, hkG, rfl⟩ H1 locs ls (hW.push z1 o1 e1) (by omega) hq hl
theorem x_super (hC : Cx G C y cc nL ret rm) (hy : y.cls = nPE) {q g : Nat} {ce : Cell} (he : M q = some (xrw g ce)) (hg : g ≠ 0) (hF : FrX G ce) (hdg : decode cc pc = .ok (.invokespecial 1, 3)) (hRf : 3 < rm.frames) (hRl : (rest.map fun v => v.category).sum + 55 ≤ rm.locals) (hRc : kc ≤ rm.cells) (hRs : ks ≤ rm.slots)
    (kk : ∀ v1 v2 : Value, Wg G C (mu M q (ob g 6 [.ref q, v1, v2, .null, .null, .int 0, .int 0, .int 0])) kc ks (pc + 3) lv rest) : Wg G C M kc ks pc lv (.ref q :: rest) := fun H locs ls hW hz hq hl => by
  have hown : (xs C).vm.findClass nPE = some (xm C).cls := by rw [← hy]; exact hC.own
  have hKn := hC.K.1 6 _ rfl
  obtain ⟨hS, hfc, kC, hkC, hkind⟩ := hKn
  have hcls : (gD G).1 6 = (xm C).cls := Option.some.inj (hfc.symm.trans hown)
  obtain ⟨kG, hkG, rfl⟩ := hF
  obtain ⟨k', hk', he'⟩ := hC.warm.alike.2.2 _ _ hkG
  cases hkC.symm.trans hk'
  have hbl : blank ((gD G).1 6) kC = blank ((gD G).1 6) kG := by rw [he']; rfl
  have hcell : H[q]? = some (blank ((gD G).1 6) kC) := by rw [hbl]; exact (hW.2.2 _ _ he).2
  have hts : ∀ w ∈ lw_all, w.before (xa C) (xs C) = true := fun w h => hC.w h
  have hb0 := u_born tyX5 hts (xin (ci := 6) rfl) ⟨hS, hfc, kC, hkC, hkind⟩ hkC hcell tyX5_ok
  obtain ⟨cell0, b1, b2, b3, b4⟩ := hb0
  cases hcell.symm.trans b1
  have hap := va_apart (own := y.cls) hts (xin (ci := 6) rfl) tyX5 tyX5_ok nmX5 hC.K (ci := 6) rfl
  rw [hcls] at hcell
  refine ex_superW (A := fun q => g0 G ≤ q) hC.1 hC.2.1 hC.gok.1 hown (x_hat hC pe_tbl pe_cd) pe_ot (x_Zq hC q467 (lw_all_tbl q90) (nw_U hC.gok)) (x_Zq hC q469 (lw_all_tbl q90) (nw_S hC.gok)) (Wd.S hC hW hz hq) hl.1 hdg (by rw [← hcls]; exact hkC) hkind hcell (by rw [hC.room]; exact hRf) (by rw [hC.room]; exact hRl) (by rw [hC.room]; exact hRc) (by rw [hC.room]; exact hRs) (fun H1 L cT kT i7 i17 i24 fC fS fP v1 v2 e7 e17 e24 hc1 hz1 ho1 hL => ?_)
  obtain ⟨cf0, kf0, fi0, f0, hi0, hs0⟩ := hS 0 (by decide)
  obtain ⟨cf1, kf1, fi1, f1, hi1, hs1⟩ := hS 1 (by decide)
  obtain ⟨cf2, kf2, fi2, f2, hi2, hs2⟩ := hS 2 (by decide)
  have g0' : fC.slot = (gD G).2 6 0 := by
    have h9 := hi0.symm.trans e7
    simp only [Option.some.injEq, Prod.mk.injEq] at h9
    rw [← h9.2.2.2]; exact hs0
  have g1' : fS.slot = (gD G).2 6 1 := by
    have h9 := hi1.symm.trans e17
    simp only [Option.some.injEq, Prod.mk.injEq] at h9
    rw [← h9.2.2.2]; exact hs1
  have g2' : fP.slot = (gD G).2 6 2 := by
    have h9 := hi2.symm.trans e24
    simp only [Option.some.injEq, Prod.mk.injEq] at h9
    rw [← h9.2.2.2]; exact hs2
  have t1 := t_set b4 hap (k := 0) (by decide) (.ref q)
  have t2 := t_set t1 hap (k := 1) (by decide) v1.v
  have t3 := t_set t2 hap (k := 2) (by decide) v2.v
  have t4 := t_set t3 hap (k := 1) (by decide) v1.v
  rw [g0', g1', g2'] at hc1
  rw [← hcls] at hc1
  refine kk v1.v v2.v H1 _ ls (hW.put he hg hz1 ho1 ⟨_, rfl, t_OB.to ⟨_, hc1, rfl, rfl, t4⟩ (fun j hj => ?_)⟩) (by rw [hz1]; exact hz) (fun z h => ?_) hl
  · match j, hj with
    | 0, _ => rfl
    | 1, _ => rfl
    | 2, _ => rfl
    | 3, _ => rfl
    | 4, _ => rfl
    | 5, _ => rfl
    | 6, _ => rfl
    | 7, _ => rfl
  · rcases List.mem_append.mp h with h | h
    · exact hq z h
    · rw [hL z h]; exact (hW.2.2 _ _ he).1 hg
end XPF

