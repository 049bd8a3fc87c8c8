/-! ===== lambdas: the made classes ===== -/
abbrev nRec : String := "WalshAnalyzer$Recording"
def lam0 : Lambda.Shape := { iface := "", name := "", sam := ⟨[], none⟩, captured := [], kind := 5, implClass := "", implName := "", implDesc := ⟨[], none⟩, implItf := false, inst := ⟨[], none⟩ }
/-- the shape that the word tells -/
def shOf (c : Cond) : Lambda.Shape := match c with
  | .lambdaSite _ _ _ σ => σ
  | _ => lam0
abbrev sh1 : Lambda.Shape := shOf siteWord_1_1
abbrev sh2 : Lambda.Shape := shOf siteWord_1_2
abbrev sh3 : Lambda.Shape := shOf siteWord_1_3
def cf0 : ClassFile := { minorVersion := 0, majorVersion := 0, constantPool := #[], accessFlags := 0, thisClass := 0, superClass := 0, interfaces := #[], fields := #[], methods := #[], attributes := #[] }
def lamD (σ : Lambda.Shape) : ClassFile := (σ.file nRec).getD cf0
def lamF (σ : Lambda.Shape) : Method := ((layoutMethods (lamD σ)).bind (·[1]?)).getD default
def lamL (σ : Lambda.Shape) : Array Field × Array FieldType × Array FieldType := (layoutFields (lamD σ) 0).getD (#[], #[], #[])
theorem get_is {α : Type} {o : Option α} {d : α} (h : o.isSome = true) : o = some (o.getD d) := by
  obtain ⟨x, hx⟩ := Option.isSome_iff_exists.mp h
  rw [hx]
  rfl
/-- the forwarder's code: by two caught values, by four -/
def fw2 : ByteArray := ⟨#[0x2a, 0xb4, 0x00, 0x11, 0x2a, 0xb4, 0x00, 0x13, 0x1b, 0xb6, 0x00, 0x1b, 0xac]⟩
def fw4 : ByteArray := ⟨#[0x2a, 0xb4, 0x00, 0x13, 0x2a, 0xb4, 0x00, 0x15, 0x2a, 0xb4, 0x00, 0x17, 0x2a, 0xb4, 0x00, 0x19, 0x1b, 0xb6, 0x00, 0x21, 0xac]⟩
/-- what is reckoned of a shape: its class file is made, the forwarder's code, its entries -/
def LamOk (σ : Lambda.Shape) (code : ByteArray) (iM iC iN iS : Nat) (fs : List (Nat × Nat × String × String)) : Prop :=
  ((σ.file nRec).isSome = true ∧ ((layoutMethods (lamD σ)).bind (·[1]?)).isSome = true ∧ (layoutFields (lamD σ) 0).isSome = true) ∧
  ((lamF σ).code.map fun c => (c.code.data, c.maxLocals)) = some (code.data, 2) ∧ ((lamF σ).accessFlags, (lamF σ).name, (lamF σ).sig.returnType) = (0x0001, "factor", some FieldType.int) ∧
  ((lamD σ).constantPool[iM]? = some (.methodref iC iN) ∧ (lamD σ).constantPool.className? iC = some nRec ∧ (lamD σ).constantPool.nameAndType? iN = some (σ.implName, σ.implDesc.toString)) ∧
  ((lamD σ).constantPool[iC]? = some (.class_ iS) ∧ (lamD σ).constantPool.string? iS = some nRec ∧ iC ≠ (lamD σ).thisClass) ∧
  (∀ (j : Nat) (f : Nat × Nat × String × String), fs[j]? = some f → (lamD σ).constantPool[f.1]? = some (.fieldref 2 f.2.1) ∧ (lamD σ).constantPool.nameAndType? f.2.1 = some (f.2.2.1, f.2.2.2) ∧ (lamL σ).1.findIdx? (·.name == f.2.2.1) = some j ∧ ((lamL σ).1[j]?).map (fun f => (f.isStatic, f.slot)) = some (false, j)) ∧
  σ.iface = "WalshAnalyzer$Filter" ∧ σ.name = "factor" ∧ σ.sam.toString = "(I)I" ∧ σ.implClass = nRec ∧ σ.implItf = false
theorem all4 {P : Nat → (Nat × Nat × String × String) → Prop} {fs : List (Nat × Nat × String × String)} (h : ∀ p ∈ fs.zipIdx, P p.2 p.1) : ∀ (j : Nat) (f : Nat × Nat × String × String), fs[j]? = some f → P j f := fun j f hj => h (f, j) (by rw [List.mem_zipIdx_iff_getElem?]; simpa using hj)
theorem lam_ok1 : LamOk sh1 fw2 27 23 26 22 [(17, 16, "arg$1", "LWalshAnalyzer$Recording;"), (19, 18, "arg$2", "I")] := ⟨⟨by decide +kernel, by decide +kernel, by decide +kernel⟩, by decide +kernel, by decide +kernel, by decide +kernel, by decide +kernel, all4 (by decide +kernel), by decide +kernel, by decide +kernel, by decide +kernel, by decide +kernel, by decide +kernel⟩
theorem lam_ok2 : LamOk sh2 fw2 27 23 26 22 [(17, 16, "arg$1", "LWalshAnalyzer$Recording;"), (19, 18, "arg$2", "I")] := ⟨⟨by decide +kernel, by decide +kernel, by decide +kernel⟩, by decide +kernel, by decide +kernel, by decide +kernel, by decide +kernel, all4 (by decide +kernel), by decide +kernel, by decide +kernel, by decide +kernel, by decide +kernel, by decide +kernel⟩
theorem lam_ok3 : LamOk sh3 fw4 33 29 32 28 [(19, 18, "arg$1", "LWalshAnalyzer$Recording;"), (21, 20, "arg$2", "I"), (23, 22, "arg$3", "I"), (25, 24, "arg$4", "I")] := ⟨⟨by decide +kernel, by decide +kernel, by decide +kernel⟩, by decide +kernel, by decide +kernel, by decide +kernel, by decide +kernel, all4 (by decide +kernel), by decide +kernel, by decide +kernel, by decide +kernel, by decide +kernel, by decide +kernel⟩
/-- what the tables hold of a made class -/
theorem lam_facts {σ : Lambda.Shape} {code : ByteArray} {iM iC iN iS : Nat} {fs : List (Nat × Nat × String × String)} (hok : LamOk σ code iM iC iN iS fs) {e : Setting} {vm : Vm} {d c : ClassId} {dk : Class} (hd : vm.classes[d]? = some dk) (hname : dk.name = nRec) (h : Lambda.isMade e vm d σ c = true)
    (hO : ∀ o ok, vm.findClass "java/lang/Object" = some o → vm.classes[o]? = some ok → ok.instanceTypes.size = 0) :
    ∃ (k tk : Class) (file : ClassFile) (methk : Method) (ck : Code) (toy : ClassId) (t : MethodId),
      vm.classes[c]? = some k ∧ k.name = nRec ++ "$$Lambda" ∧ k.cf = some file ∧ file.constantPool = (lamD σ).constantPool ∧
      vm.method? ⟨c, 1⟩ = some methk ∧ methk.code = some ck ∧ ck.code = code ∧ ck.maxLocals = 2 ∧ methk.locks = false ∧ methk.accessFlags = 0x0001 ∧ methk.sig.returnType = some .int ∧
      vm.findClass nRec = some toy ∧ vm.classes[toy]? = some tk ∧ tk.isInterface = false ∧ ((methodIn toy σ.implName σ.implDesc.toString tk.isInterface none).ask e vm).1 = .ok t ∧
      vm.methodReady c iM t ∧ vm.classReady c iC toy ∧ (∀ (j : Nat) (f : Nat × Nat × String × String), fs[j]? = some f → ∃ f0, vm.fieldReady c f.1 c f0 ∧ f0.isStatic = false ∧ f0.slot = j) := by
  obtain ⟨⟨s1, s2, s3⟩, fc, ff, eM, eC, eF, -, -, -, hic, hii⟩ := hok
  obtain ⟨dk', k, ok, tk, file, cf, object, iface, toy, lay, methods, target, found, hd', hk, hfile, hcf, hobj, -, hok, hlay, hms, ht, htk, hg, -, hrec, -, -, -, hitf, hpool, hmeth, hfields, -, hres, -⟩ := Lambda.isMade_spec h
  cases hd.symm.trans hd'
  have hcf2 : cf = lamD σ := by
    rw [hname, get_is (d := cf0) s1] at hcf
    exact (Option.some.inj hcf).symm
  subst hcf2
  have hlay2 : lay = lamL σ := by
    rw [hO object ok hobj hok, get_is (d := ((#[], #[], #[]) : Array Field × Array FieldType × Array FieldType)) s3] at hlay
    exact (Option.some.inj hlay).symm
  subst hlay2
  have hsec : methods[1]? = some (lamF σ) := by
    have h1 := get_is (d := (default : Method)) s2
    rw [hms] at h1
    have h2 : methods[1]? = some (((layoutMethods (lamD σ)).bind (·[1]?)).getD default) := by
      rw [hms]
      exact h1
    exact h2
  obtain ⟨b, hb, hsame⟩ := hmeth 1 (lamF σ) hsec
  simp only [Lambda.sameMethod, Bool.and_eq_true, decide_eq_true_eq] at hsame
  obtain ⟨⟨hn, -, hsig, hfl⟩, hcode⟩ := hsame
  simp only [Prod.mk.injEq] at ff
  rw [hic] at ht
  cases hfc : (lamF σ).code with
  | none => rw [hfc] at fc; cases fc
  | some x =>
    cases hbc : b.code with
    | none => simp [hfc, hbc] at hcode
    | some y =>
      simp only [hfc, hbc, Bool.and_eq_true, decide_eq_true_eq] at hcode
      simp only [hfc, Option.map_some, Option.some.injEq, Prod.mk.injEq] at fc
      refine ⟨k, tk, file, b, y, toy, target, hk, by rw [hrec.1, hname], hfile, hpool.2.1, by simp [Vm.method?, hk, hb], hbc, ?_, by rw [← hcode.1.1.1.1.2.1]; exact fc.2, ?_, by rw [← hfl]; exact ff.1, by rw [← hsig]; exact ff.2.2, ht, htk, by rw [hitf]; exact hii, hg,
        ⟨k, hk, hres iM _ (Lambda.resolvedOf_method eM.1 eM.2.1 ht htk eM.2.2 hg)⟩, ⟨k, hk, hres iC _ (Lambda.resolvedOf_class eC.1 eC.2.2 eC.2.1 ht)⟩, fun j f hj => ?_⟩
      · rw [← hcode.1.1.1.1.2.2]
        exact ByteArray.ext fc.1
      · simp [Method.locks, Method.isSynchronized, ← hfl, ff.1, hasFlag, Acc.synchronized]
      · obtain ⟨e1, e2, e3, e4⟩ := eF j f hj
        obtain ⟨g0, hg0, hp0⟩ := Option.map_eq_some_iff.mp e4
        simp only [Prod.mk.injEq] at hp0
        exact ⟨g0, ⟨k, j, k, hk, hres f.1 _ (Lambda.resolvedOf_field e1 e2 e3), hk, hfields j _ hg0⟩, hp0.1, hp0.2⟩

