/-! ===== lambdas: the call of a made object ===== -/
section FWR
variable {p : Program} {l : Launch} {e : Env} {R : Room} {s : State} {m : MethodId} {args : Array Value} {below : List Frame} {meth : Method} {c : Code} {U : State} {locs : List Loc} {cells slots : Nat}
abbrev fwf (mk : MethodId) (a : Nat) (x : Int32) (pc : Nat) (st : List Value) : JFrame := { method := mk, pc := pc, locals := #[.val (.ref a), .val (.int x)], stack := st, locked := none }
/-- the forwarder loads one caught value -/
theorem fw_ld (Y : Stand p l e R s m args below meth c U locs cells slots) (hexec : p.tables.exec = Jvm.exec) {a pc i : Nat} {x : Int32} {st : List Value} {cellK : Cell} {f0 : Field} {v : Value} (h0 : decode c.code pc = .ok (.aload_n 0, 1)) (h1 : decode c.code (pc + 1) = .ok (.getfield i, 3)) (hcell : U.heap[a]? = some cellK) (hkn : cellK.vm ≠ .unknown)
    (hf : U.vm.fieldReady m.cls i m.cls f0) (hfs : f0.isStatic = false) (hslot : cellK.slots[f0.slot]? = some v) {target : State} (hrest : Steps p.tables e below (U.setTop (fwf m a x (pc + 4) (v :: st))) target) : Steps p.tables e below (U.setTop (fwf m a x pc st)) target := by
  have hs : U.topJava?.isSome := Y.here.top
  jvm_step Y.here [hexec, h0, Value.isRef]
  jvm_step Y.here [hexec, h1, getfield.wp_ready (e := e) (s := U) (c := m.cls) (field := f0) (a := a) (rest := st) (cell := cellK) (v := v) (f := fwf m a x (pc + 1) (.ref a :: st)) hs hf hfs rfl hcell hkn hslot]
  exact hrest
/-- .. all of them -/
theorem fw_lds (Y : Stand p l e R s m args below meth c U locs cells slots) (hexec : p.tables.exec = Jvm.exec) {a : Nat} {x : Int32} {vals : List Value} {cellK : Cell} {fs : List (Nat × Nat × String × String)}
    (hdec : ∀ (j : Nat) (f : Nat × Nat × String × String), fs[j]? = some f → decode c.code (4 * j) = .ok (.aload_n 0, 1) ∧ decode c.code (4 * j + 1) = .ok (.getfield f.1, 3)) (hcell : U.heap[a]? = some cellK) (hkn : cellK.vm ≠ .unknown) (hsl : cellK.slots = vals.toArray) (hlen : fs.length = vals.length)
    (hf : ∀ (j : Nat) (f : Nat × Nat × String × String), fs[j]? = some f → ∃ f0, U.vm.fieldReady m.cls f.1 m.cls f0 ∧ f0.isStatic = false ∧ f0.slot = j) {target : State} : ∀ n, n ≤ vals.length → Steps p.tables e below (U.setTop (fwf m a x (4 * n) (vals.take n).reverse)) target → Steps p.tables e below (U.setTop (fwf m a x 0 [])) target
  | 0, _, h => h
  | n + 1, hn, h => by
    have hfn : fs[n]? = some (fs[n]'(by omega)) := List.getElem?_eq_getElem (by omega)
    obtain ⟨f0, a1, a2, a3⟩ := hf n _ hfn
    obtain ⟨d0, d1⟩ := hdec n _ hfn
    have hvn : vals[n]? = some vals[n] := List.getElem?_eq_getElem (by omega)
    refine fw_lds Y hexec hdec hcell hkn hsl hlen hf n (by omega) (fw_ld Y hexec d0 d1 hcell hkn a1 a2 (v := vals[n]) ?_ ?_)
    · rw [a3, hsl]
      simpa using hvn
    · rw [List.take_add_one, hvn, List.reverse_append] at h
      exact h
end FWR
/-- how the forwarder's code reads -/
def FwDec (code : ByteArray) (n iM : Nat) (fs : List (Nat × Nat × String × String)) : Prop := fs.length = n ∧ (∀ (j : Nat) (f : Nat × Nat × String × String), fs[j]? = some f → decode code (4 * j) = .ok (.aload_n 0, 1) ∧ decode code (4 * j + 1) = .ok (.getfield f.1, 3)) ∧ decode code (4 * n) = .ok (.iload_n 1, 1) ∧ decode code (4 * n + 1) = .ok (.invokevirtual iM, 3) ∧ decode code (4 * n + 4) = .ok (.ireturn, 1)
theorem fw_dec2 : FwDec fw2 2 27 [(17, 16, "arg$1", "LWalshAnalyzer$Recording;"), (19, 18, "arg$2", "I")] := ⟨rfl, all4 (by decide +kernel), by decide +kernel, by decide +kernel, by decide +kernel⟩
theorem fw_dec4 : FwDec fw4 4 33 [(19, 18, "arg$1", "LWalshAnalyzer$Recording;"), (21, 20, "arg$2", "I"), (23, 22, "arg$3", "I"), (25, 24, "arg$4", "I")] := ⟨rfl, all4 (by decide +kernel), by decide +kernel, by decide +kernel, by decide +kernel⟩
theorem st_weaken {tb : Tables} {e : Env} {mid below : List Frame} {a b : State} (h : Steps tb e (mid ++ below) a b) : Steps tb e below a b := by
  obtain ⟨n, hn, w⟩ := h
  exact ⟨n, hn, fun k hk => (w k hk).weaken⟩
section XMC
variable {G : X_G} {C : X_C} {M : X_M} {kc ks pc nL : Nat} {lv : List (Option Value)} {rest : List Value} {y : MethodName} {cc : ByteArray} {ret : Option FieldType} {rm : Room}
theorem x_face (hC : Cx G C y cc nL ret rm) {A n d : String} (hA : A ≠ "java/lang/invoke/MethodHandle" ∧ A ≠ "java/lang/invoke/VarHandle") (hd : Cond.declares ⟨A, n, d⟩ ∈ lw_tbl) (h : Cond.interfaceMethod A A n d ∈ lw_tbl) : (Cond.interfaceMethod A A n d).before (xa C) (xs C) = true := by
  obtain ⟨r0, r, hn, -⟩ := Cond.declares_spec (hC.gok.2.1 _ hd)
  have hN : va_Nw (.interfaceMethod A A n d) (xs C) := va_tabs rfl (rfl : ((gs G).setVm (xs C).vm).vm = (xs C).vm) (by rw [Cond.interfaceMethod_setVm hC.warm.alike (hn := hn) (hx := hA)]; exact va_Nw.of rfl (hC.gok.2.1 _ h))
  exact va_Nw.use rfl hN
/-- the object's method runs the method z of the recording q with the caught values -/
theorem x_made (hC : Cx G C y cc nL ret rm) {σ : Lambda.Shape} {cK : ClassId} {code : ByteArray} {iM iC iN iS : Nat} {fs : List (Nat × Nat × String × String)} (hok : LamOk σ code iM iC iN iS fs) {x0 : MethodName} {pc0 idx0 : Nat} (hat : LamS G x0 pc0 idx0 σ cK) (hx0 : x0.cls = nRec)
    {caps vals : List Value} {a q ga gq : Nat} {vq : List Value} {x : Int32} (hcell : M a = some (xrw ga { cls := cK, slots := vals.toArray, vm := .none })) (hq : M q = some (ob gq 3 vq)) (hvals : vals = .ref q :: caps) (hdec : FwDec code vals.length iM fs) (hcat : (vals.map fun v => v.category).sum ≤ 7)
    {z : MethodName} {bz : ByteArray} {nz na : Nat} {rz_ : Room} {pst : Option Value → X_M → Prop} (hz : z = ⟨nRec, σ.implName, σ.implDesc.toString⟩) (hM : Ct G z bz nz (some .int) rz_ (.ref q :: (caps ++ [.int x])) M pst)
    (h4w : Cond.instanceMethod z ∈ lw_all) (h3w : Cond.privateMethod z ∈ lw_tbl) (h5w : Cond.initialized nRec ∈ lw_all) (h6w : Cond.code z bz nz (some .int) ∈ lw_all) (hd : (parseMethodDescriptor z.desc).map (fun d => d.parameters.length) = some na) (hna : (caps ++ [Value.int x]).length = na)
    {index count : Nat} (hlink : Cond.methodLink y.cls index ⟨"WalshAnalyzer$Filter", "factor", "(I)I"⟩ ∈ lw_all) (hdecl : Cond.declares ⟨"WalshAnalyzer$Filter", "factor", "(I)I"⟩ ∈ lw_tbl) (hface : Cond.interfaceMethod "WalshAnalyzer$Filter" "WalshAnalyzer$Filter" "factor" "(I)I" ∈ lw_tbl) (hO : Cond.instantiable "java/lang/Object" 0 ∈ lw_all)
    (hfr : rz_.frames + 2 ≤ rm.frames) (hlo : 8 + 13 + (8 + (nz + 11) + rz_.locals) ≤ rm.locals) (hst : (rest.map fun v => v.category).sum ≤ 8)
    {k n : Nat} (h1 : kc + rz_.cells ≤ k) (h2 : ks + rz_.slots ≤ n) (hf : k ≤ rm.cells ∧ n ≤ rm.slots) (hdg : decode cc pc = .ok (.invokeinterface index count, 5)) (hpst : ∀ r M', pst r M' → ∃ v : Int32, r = some (.int v))
    (kk : ∀ (r : Option Value) (M' : X_M), pst r M' → Wg G C M' k n (pc + 5) lv (xrt r rest)) : Wg G C M kc ks pc lv (.int x :: .ref a :: rest) := by
  subst hz
  intro H locs ls hW hz0 hq0 hl T hT X
  have hA := hC.warm.alike
  -- the site and the made class
  obtain ⟨m0, k0, cf, i0, p0, lk, hm0, hk0, hcf, hsh, -, hfind, hmade, hcan, hlk⟩ := State.lambdaAt?_spec hat
  obtain ⟨k0', hk0', hname⟩ := className_of_methodNamed hm0
  cases hk0.symm.trans hk0'
  obtain ⟨dk, hdk, hde⟩ := hA.2.2 _ _ hk0
  have hdn : dk.name = nRec := by rw [hde, ← hx0]; exact hname
  have hmadeC := Lambda.isMade_warmer hC.warm hmade
  have hcanC : (xs C).lambdaCallable σ cK = true := by
    simp only [State.lambdaCallable, hA.findClass, hA.assignable, hA.superclasses, hA.declaredIn] at hcan ⊢
    exact hcan
  have hOsz : ∀ (vm : Vm), (xs C).vm.Alike vm → ∀ o ok, vm.findClass "java/lang/Object" = some o → vm.classes[o]? = some ok → ok.instanceTypes.size = 0 := by
    intro vm hAv o ok ho hok
    obtain ⟨cO, kO, hfO, hkO, -, -, -, hsz⟩ := Cond.instantiable_spec (hC.w hO)
    rw [hAv.findClass] at ho
    cases hfO.symm.trans ho
    obtain ⟨k', hk', he⟩ := hAv.2.2 _ _ hkO
    cases hok.symm.trans hk'
    rw [he]
    exact hsz
  have hok0 := hok
  obtain ⟨-, -, -, eM, -, -, hif, hnm, hsam, hic, hii⟩ := hok0
  obtain ⟨kK, tk, file, methk, ckK, toy, t, hkK, hkn, hfile, hpool, hmk, hckK, hbytes, hml, hlk2, hfl, hretk, htoy, htk, htki, hlook, hready, hclsR, hflds⟩ := lam_facts hok hdk hdn hmadeC (hOsz _ (Vm.Alike.refl _))
  -- the interface's method
  have hdeclC : (Cond.declares ⟨"WalshAnalyzer$Filter", "factor", "(I)I"⟩).before (xa C) (xs C) = true := va_Nw.use rfl (x_declares hC hdecl)
  obtain ⟨r0, r, hn, hrm, hstR, hsigR⟩ := Cond.declares_spec hdeclC
  obtain ⟨cL, kL, r1, hcL, hkL, hiL, hfoundL, hn1⟩ := Cond.interfaceMethod_spec (x_face hC ⟨by decide, by decide⟩ hdecl hface)
  cases hn.symm.trans hn1
  have hr0cls : r0.cls = cL := Option.some.inj ((findClass_of_methodNamed hn).symm.trans hcL)
  obtain ⟨hnameR, hdescR⟩ := name_of_methodNamed hn hrm
  obtain ⟨-, -, -, -, -, -, -, iface', -, -, -, -, found, -, -, -, -, -, hi', -, -, -, -, -, -, hfound', -, -, -, -, -, -, -, -, -, -, hsel⟩ := Lambda.isMade_spec hmadeC
  rw [hif] at hi'
  cases hcL.symm.trans hi'
  rw [hnm, hsam] at hfound'
  have hfr0 : found = r0 := by
    have h1 : (xs C).methodFound? "WalshAnalyzer$Filter" "factor" "(I)I" = some r0 := hfoundL
    simp only [State.methodFound?, hcL, hkL, hiL, Option.bind_eq_bind, Option.bind_some] at h1
    rw [hfound'] at h1
    exact Option.some.inj h1
  subst hfr0
  obtain ⟨i2, hi2, hasg, hway⟩ := State.lambdaCallable_spec hcanC
  rw [hif] at hi2
  cases hcL.symm.trans hi2
  rw [hnm, hsam] at hway
  have hsigI : r.sig = ⟨[.int], some .int⟩ := (Option.some.inj ((by decide +kernel : parseMethodDescriptor "(I)I" = some ⟨[.int], some .int⟩).symm.trans hsigR)).symm
  -- the call reaches the object's method
  have hcA : H[a]? = some { cls := cK, slots := vals.toArray, vm := .none } := (hW.2.2 _ _ hcell).2
  obtain ⟨vm₁, X₁, hstep₁⟩ := X.invokeinterface hC.1 hC.own (hC.w hlink) hn hrm hstR (by rw [hr0cls]; exact hkL) hiL ⟨by decide, by decide⟩ (a := a) (cell := { cls := cK, slots := vals.toArray, vm := .none }) (kcell := kK) (by rw [hT]; exact hcA) (fun z h => by cases h) hkK (by rw [hr0cls]; exact hasg)
    (m' := ⟨cK, 1⟩) (meth' := methk) (by rw [Launch.admits_selectMethod X.admits]; exact hsel) hmk (by rw [hnameR, hdescR]; exact hway) (by rw [hfl]; decide) (by simp [Method.isAbstract, hfl, hasFlag, Acc.abstract])
    (g := F0 (xm C) pc ls (.int x :: .ref a :: rest)) rfl (argsL := [.int x]) (rest := rest) (by rw [hsigI]; rfl) rfl (by rw [hC.2.1]; exact hdg)
  have hW₁ : (xs C).WarmedH vm₁ := X₁.warmed
  have hA₁ := hW₁.alike
  obtain ⟨dk₁, hdk₁, hde₁⟩ := hA₁.2.2 _ _ hdk
  have hdn₁ : dk₁.name = nRec := by rw [hde₁]; exact hdn
  obtain ⟨kJ, tJ, fileJ, methJ, ckJ, toyJ, tt, jkK, jkn, jfile, jpool, jmk, jck, jbytes, jml, jlk, jfl, jret, jtoy, jtk, jtki, jlook, jready, jclsR, jflds⟩ := lam_facts hok hdk₁ hdn₁ (Lambda.isMade_warmer hW₁ hmadeC) (hOsz _ hA₁)
  -- the recording's method
  obtain ⟨mk, methM, hnamed, hmethM, hstM, habM⟩ := Cond.instanceMethod_spec (hC.w h4w)
  obtain ⟨methM', cM, hmethM', -, -, -, -, -, -, hsigM⟩ := Cond.code_spec hnamed (hC.w h6w)
  cases hmethM.symm.trans hmethM'
  have hyz : nRec ≠ "java/lang/invoke/MethodHandle" ∧ nRec ≠ "java/lang/invoke/VarHandle" := ⟨by decide, by decide⟩
  have hnm1 : (T.setVm vm₁).methodNamed? ⟨nRec, σ.implName, σ.implDesc.toString⟩ = some mk := X₁.named hnamed
  have hmt : tt = mk := by
    have h3 : (T.setVm vm₁).methodFound? nRec σ.implName σ.implDesc.toString = some mk := State.methodFound?_of_named hnm1 hyz
    have h4 : (T.setVm vm₁).vm.findClass nRec = some toyJ := jtoy
    have h5 : (T.setVm vm₁).vm.classes[toyJ]? = some tJ := jtk
    simp only [State.methodFound?, h4, h5, Option.bind_eq_bind, Option.bind_some] at h3
    have h6 : ((methodIn toyJ σ.implName σ.implDesc.toString tJ.isInterface none).ask { classPath := fun _ => none } (T.setVm vm₁).vm).1 = .ok tt := jlook
    rw [h6] at h3
    exact Option.some.inj h3
  have hm2 : vm₁.method? mk = some methM := by rw [hA₁.method?]; exact hmethM
  have hmc : mk.cls = toyJ := by
    have h1 : (xs C).vm.findClass nRec = some mk.cls := findClass_of_methodNamed hnamed
    have h2 := jtoy
    rw [hA₁.findClass] at h2
    exact Option.some.inj (h1.symm.trans h2)
  have hkz1 : vm₁.classes[mk.cls]? = some tJ := by rw [hmc]; exact jtk
  have htn : tJ.name ≠ "java/lang/invoke/MethodHandle" ∧ tJ.name ≠ "java/lang/invoke/VarHandle" := by
    obtain ⟨k9, hk9, hn9⟩ := className_of_methodNamed hnm1
    have h9 : vm₁.classes[mk.cls]? = some k9 := hk9
    cases hkz1.symm.trans h9
    rw [hn9]
    exact hyz
  -- into the object's method
  generalize hRR : ({ frames := rz_.frames + 1, cells := rz_.cells, slots := rz_.slots, locals := 8 + (nz + 11) + rz_.locals } : Room) = R'
  have hdgC : decode (xc C).code pc = .ok (.invokeinterface index count, 5) := by rw [hC.2.1]; exact hdg
  obtain ⟨Y₀, hin⟩ := X₁.into (g := F0 (xm C) pc ls rest) (R' := R') rfl hl.1 hdgC #[.ref a, .int x] jmk jck jlk (State.plainMethod.of_name fun k' hk' => by
      have e9 : vm₁.classes[cK]? = some k' := hk'
      cases jkK.symm.trans e9
      rw [jkn]
      decide +kernel)
    (by rw [← hRR, hC.room]; show rz_.frames + 1 + 1 ≤ rm.frames; omega) (by rw [← hRR, hC.room, jml]; show 2 * 0 + (rest.map fun v => v.category).sum + (2 + 11) + (8 + (nz + 11) + rz_.locals) ≤ rm.locals; omega) (by rw [← hRR, hC.room]; show kc + rz_.cells ≤ rm.cells; omega) (by rw [← hRR, hC.room]; show ks + rz_.slots ≤ rm.slots; omega)
  generalize hU : ((T.setVm vm₁).setTop (F0 (xm C) pc ls rest)).pushFrame (.java (entryFrame ⟨cK, 1⟩ #[.ref a, .int x] ckJ.maxLocals)) = U at Y₀ hin
  have hUvm : U.vm = vm₁ := by rw [← hU]; rfl
  have hUheap : U.heap = H := by rw [← hU]; exact hT
  have hnamedU : U.methodNamed? ⟨nRec, σ.implName, σ.implDesc.toString⟩ = some mk := by rw [← hU]; exact hnm1
  have hW₁' : (xs C).WarmedH ((T.setVm vm₁).calling (F0 (xm C) pc ls rest) ⟨cK, 1⟩ #[.ref a, .int x]).vm := hW₁
  have hK := back_of (l := gl G) (R := R') (p := xp C) (e := xe C) (below := .java (F0 (xm C) pc ls rest) :: xb C) (s := (T.setVm vm₁).calling (F0 (xm C) pc ls rest) ⟨cK, 1⟩ #[.ref a, .int x]) (sargs := #[.ref a, .int x]) (len := 3) (W := 8) (bytes := bz) (maxL := nz) (ret := some .int) hM Pg.blind rfl rfl (by rw [← hRR]; exact Nat.le_refl _) (by rw [← hRR]; exact Nat.le_refl _)
    (fun w hw a' U' hV => pay_in (fun w h => hC.w h) (lw_meth h6w) w hw a' U' (State.WarmedH.trans hW₁' hV)) List.mem_cons_self (fun a' U' hV => word_at (State.WarmedH.trans hW₁' hV) (Or.inl (by first | rfl | simp [Cond.onTables, Cond.keeps, Cond.steady])) (hC.w h5w))
  have d4 : decode ckJ.code (4 * vals.length) = .ok (.iload_n 1, 1) := by rw [jbytes]; exact hdec.2.2.1
  have d5 : decode ckJ.code (4 * vals.length + 1) = .ok (.invokevirtual iM, 3) := by rw [jbytes]; exact hdec.2.2.2.1
  have d8 : decode ckJ.code (4 * vals.length + 4) = .ok (.ireturn, 1) := by rw [jbytes]; exact hdec.2.2.2.2
  obtain ⟨v, B, Y', hpost, hsteps⟩ := hK ⟨cK, 1⟩ methJ ckJ ⟨U, [], 0, 0⟩ (fwf ⟨cK, 1⟩ a x (4 * vals.length + 1) []) (.invokevirtual iM) mk (Value.ref q :: (caps ++ [.int x])).toArray Y₀ rfl (by rw [jml]; rfl) d5 (show 2 * 0 + 0 ≤ 8 by omega) hnamedU
    ⟨by rw [← hRR]; exact Nat.le_of_eq (Nat.zero_add _), by rw [← hRR]; exact Nat.le_of_eq (Nat.zero_add _), hC.pre hW U hUheap (by rw [hUvm]; exact hW₁)⟩
  obtain ⟨g9, mk9, t9, L9, e1, e2, ⟨r9, M9, ho9, hp9, hw9⟩, e3, hL9, e4, e5⟩ := hpost
  have hv9 : v = r9 := by cases ho9; rfl
  subst hv9
  obtain ⟨i9, rfl⟩ := hpst _ _ hp9
  -- out of it
  obtain ⟨fr, hleave, -, hended, hWe, hsame⟩ := Y'.leave (v := some (.int i9)) (fun h => by rw [jret] at h; cases h) jlk
  obtain ⟨T', X', hW', -, ht⟩ := X₁.outOf (g := F0 (xm C) pc ls rest) rfl hdgC hended hWe hsame
  have hh : T'.heap = t9.heap := (congrArg State.heap ht).symm.trans e1
  have hx4 : kc + B.cells = kc + rz_.cells := by rw [e4]; show kc + (0 + rz_.cells) = _; omega
  have hx5 : ks + B.slots = ks + rz_.slots := by rw [e5]; show ks + (0 + rz_.slots) = _; omega
  rw [hx4, hx5, e3] at X'
  obtain ⟨t2, b1, b2⟩ := W.widen h1 h2 (kk _ M9 hp9 T'.heap (locs ++ ([] ++ L9)) ls (by rw [hh]; exact hw9) X'.same.2.1 (fun z h => by
    rcases List.mem_append.mp h with h | h
    · exact hq0 z h
    · exact hL9 z h) hl) T' rfl X'
  refine ⟨t2, hstep₁ _ fun acts => ?_, b2⟩
  refine (congrArg (fun z => Steps (xp C).tables (xe C) (xb C) z t2) (hin acts)).mpr ?_
  have key : Steps (xp C).tables (xe C) (.java (F0 (xm C) pc ls rest) :: xb C) (U.setTop (entryFrame ⟨cK, 1⟩ #[.ref a, .int x] ckJ.maxLocals)) (B.U.setFrames fr) := by
    have hloc : entryFrame ⟨cK, 1⟩ #[.ref a, .int x] ckJ.maxLocals = fwf ⟨cK, 1⟩ a x 0 [] := by rw [jml]; rfl
    rw [hloc]
    have hs : U.topJava?.isSome := Y₀.here.top
    have hsB : B.U.topJava?.isSome := Y'.here.top
    obtain ⟨cellQ, hcQ, hcQv, -⟩ := x_cell hC hW hq rfl
    refine fw_lds (vals := vals) (fs := fs) Y₀ hC.1 (fun j f hj => by rw [jbytes]; exact hdec.2.1 j f hj) (by rw [hUheap]; exact hcA) (by intro h; cases h) rfl hdec.1 (fun j f hj => by rw [hUvm]; exact jflds j f hj) vals.length (Nat.le_refl _) ?_
    rw [List.take_length]
    have hst9 : Value.int x :: vals.reverse = Value.int x :: (caps.reverse ++ [Value.ref q]) := by rw [hvals, List.reverse_cons]
    jvm_step Y₀.here [hC.1, d4]
    rw [hst9]
    have hsig9 : (caps ++ [Value.int x]).length = methM.sig.parameters.length := by
      rw [hsigM] at hd
      rw [hna]
      exact (Option.some.inj hd).symm
    jvm_step Y₀.here [hC.1, d5, invokevirtual.wp_ready (e := xe C) (s := U) (r := mk) (m := mk) (k := tJ) (mk := tJ) (rmeth := methM) (meth := methM) (a := q) (args := caps ++ [.int x]) (rest := []) (cell := cellQ) (f := fwf ⟨cK, 1⟩ a x (4 * vals.length + 1) (Value.int x :: (caps.reverse ++ [Value.ref q]))) hs ⟨kJ, fileJ, iC, iN, toyJ, tJ, by rw [hUvm]; exact jkK, jfile, by rw [jpool]; exact eM.1, by rw [hUvm]; exact jclsR, by rw [hUvm]; exact jtk, jtki⟩ (by rw [hUvm, ← hmt]; exact jready) (by rw [hUvm]; exact hkz1) (by rw [hUvm]; exact hm2) (signaturePolymorphic_of_name htn methM) hstM hsig9 (by simp)
      (by rw [hUheap]; exact hcQ) (fun z h => by rw [hcQv] at h; cases h) (by rw [hUvm]; exact selectMethod_private hm2 (x_priv hC h3w mk methM hnamed hmethM)) (by rw [hUvm]; exact hm2) habM (by rw [hUvm]; exact hkz1) jtki]
    intro acts'
    rw [doInvoke_state]
    refine hsteps.trans ?_
    show Steps _ _ _ (B.U.setTop (fwf ⟨cK, 1⟩ a x (4 * vals.length + 4) [.int i9])) _
    jvm_step Y'.here [hsB, hC.1, d8, (show B.U.vm.method? ⟨cK, 1⟩ = some methJ from Y'.method'), jret, narrow]
    intro acts''
    rw [hleave (fwf ⟨cK, 1⟩ a x (4 * vals.length + 4) []) acts'' rfl rfl rfl]
    exact Steps.refl _
  rw [ht] at key
  exact (st_weaken (mid := [.java (F0 (xm C) pc ls rest)]) key).trans b1
end XMC

