/-! ===== lambdas: the made objects ===== -/
theorem lam_three {α : Type} {x : Array Nat} {f : Nat → Nat → Nat → Option α} {r : α} (h : Lambda.shapeOf?.match_15 (fun _ => Option α) x f (fun _ => none) = some r) : ∃ a0 a1 a2, f a0 a1 a2 = some r := by
  rcases x with ⟨l⟩
  match l, h with
  | [a0, a1, a2], h => exact ⟨a0, a1, a2, h⟩
  | [], h => cases h
  | [_], h => cases h
  | [_, _], h => cases h
  | _ :: _ :: _ :: _ :: _, h => cases h
/-- what the site's shape tells of the entry -/
theorem shape_site {cf : ClassFile} {index : Nat} {σ : Lambda.Shape} (h : Lambda.shapeOf? cf index = some σ) : ∃ (b nt : Nat) (name desc : String) (site : MethodDescriptor), cf.constantPool[index]? = some (.invokeDynamic b nt) ∧ cf.constantPool.nameAndType? nt = some (name, desc) ∧ parseMethodDescriptor desc = some site ∧ site.parameters = σ.captured := by
  unfold Lambda.shapeOf? at h
  split at h
  case h_2 => cases h
  case h_1 b nt hc =>
    obtain ⟨entries, -, h⟩ := Option.bind_eq_some_iff.mp h
    obtain ⟨bm, -, h⟩ := Option.bind_eq_some_iff.mp h
    split at h
    case h_2 => cases h
    case h_1 =>
      obtain ⟨_, -, h⟩ := Option.bind_eq_some_iff.mp h
      obtain ⟨a0, a1, a2, h⟩ := lam_three h
      by_cases hx : True
      case neg => exact absurd trivial hx
      case pos =>
        split at h
        case h_2 => cases h
        case h_1 =>
          split at h
          case h_2 => cases h
          case h_1 =>
            split at h
            case h_2 => cases h
            case h_1 =>
              obtain ⟨⟨name, desc⟩, hnt, h⟩ := Option.bind_eq_some_iff.mp h
              obtain ⟨site, hsite, h⟩ := Option.bind_eq_some_iff.mp h
              refine ⟨b, nt, name, desc, site, hc, hnt, hsite, ?_⟩
              split at h
              case h_2 => cases h
              case h_1 =>
                obtain ⟨_, -, h⟩ := Option.bind_eq_some_iff.mp h
                obtain ⟨_, -, h⟩ := Option.bind_eq_some_iff.mp h
                obtain ⟨_, -, h⟩ := Option.bind_eq_some_iff.mp h
                obtain ⟨_, -, h⟩ := Option.bind_eq_some_iff.mp h
                obtain ⟨_, -, h⟩ := Option.bind_eq_some_iff.mp h
                obtain ⟨_, -, h⟩ := Option.bind_eq_some_iff.mp h
                cases h
                rfl
theorem ct_openN {G : X_G} {y : MethodName} {cc : ByteArray} {nL : Nat} {ret : Option FieldType} {rm : Room} {av : List Value} {M : X_M} {post : Option Value → X_M → Prop} {lv : List (Option Value)} (hG : GOK G) (hy : plainFor y = true) (hlen : (lg_sl av).length ≤ nL) (hlv : xl0 nL av = lv)
    (body : ∀ C : X_C, Cx G C y cc nL ret rm → (xs C).methodNamed? y = some (xm C) → Ck G C post rm → Wg G C M 0 0 0 lv []) : Ct G y cc nL ret rm av M post := by
  refine ofW_for (cc := cc) (maxL := nL) (ret := ret) hy rfl ?_
  intro p e s m args below meth c s₁ B hml hv
  obtain ⟨rfl, hwarm, hW⟩ := hv
  have hts := atoms_spec (ws := ws_ y cc nL ret) B.pre
  have hl := lv_entry av hlen
  rw [lg_entry_eq]
  refine body (p, e, rm, s, m, av.toArray, below, meth, c, MQ below (Qg G post) av.toArray s rm.cells rm.slots (fun q => g0 G ≤ q)) ⟨B.exec, B.bytes, hml, findClass_of_methodNamed B.named, fun w h => hts w (List.mem_cons_of_mem _ h), hwarm, hG, B.returns, B.notSynchronized, (name_of_methodNamed B.named B.method).1, rfl, hW.1, hW.2.1⟩ B.named (fun _ _ _ h => h) s.heap [] _ hW (Nat.le_refl _) (fun q h => by cases h) ⟨hl.1.trans hml.symm, hl.2.1, fun i v h => ?_⟩
  subst hlv
  have h1 := xl0_args av nL 0 i v h
  rw [Nat.zero_add] at h1
  exact hl.2.2 _ h1
/-- the site x makes objects of the class cK, of shape σ -/
def LamS (G : X_G) (x : MethodName) (pc index : Nat) (σ : Lambda.Shape) (cK : ClassId) : Prop := (gs G).lambdaAt? x pc index σ = some (cK, none)
theorem lam_of {G : X_G} {x : MethodName} {pc index : Nat} {σ : Lambda.Shape} {A : Array Value} (h : (Cond.lambdaSite x pc index σ).before A (gs G) = true) (hc : σ.captured ≠ []) : ∃ cK, LamS G x pc index σ cK := by
  obtain ⟨c, one, hat⟩ := Cond.lambdaSite_spec h
  obtain ⟨m', kS, cfS, i0, p0, lk, hm', hkS, hcfS, hshape, -, hfind, hmade, hcan, hlk⟩ := State.lambdaAt?_spec hat
  rcases hlk with ⟨a, cell, -, -, h, -⟩ | ⟨-, rfl, -⟩
  · exact absurd h hc
  · exact ⟨c, hat⟩
section XLM
variable {G : X_G} {C : X_C} {M : X_M} {kc ks pc nL : Nat} {lv : List (Option Value)} {rest : List Value} {y : MethodName} {cc : ByteArray} {ret : Option FieldType} {rm : Room}
/-- invokedynamic at a site that captures -/
theorem x_indy (hC : Cx G C y cc nL ret rm) (hN : (xs C).methodNamed? y = some (xm C)) {index : Nat} {σ : Lambda.Shape} {cK : ClassId} {tys : Array FieldType} {vals st0 : List Value} (g : Nat)
    (hat : LamS G y pc index σ cK) (hO : Cond.instantiable "java/lang/Object" 0 ∈ lw_all) (hlay : ((σ.file y.cls).bind (layoutFields · 0)).map (·.2.1) = some tys) (hlen : vals.length = σ.captured.length)
    (hnar : ((tys.toList.zip vals).map fun (t, v) => narrow t v) = vals) (hfit : ∀ (i : Nat) (v : Value), vals[i]? = some v → ∃ t, tys[i]? = some t ∧ fits t v = true) (hs : st0 = vals.reverse ++ rest)
    (hw : (st0.map fun v => v.category).sum + 3072 ≤ rm.locals) (hcells : kc + 1 ≤ rm.cells) (hslots : ks + vals.length ≤ rm.slots) (hg : g ≠ 0) (hdg : decode cc pc = .ok (.invokedynamic index, 5))
    (kk : ∀ q : Nat, M q = none → Wg G C (mu M q (xrw g { cls := cK, slots := vals.toArray, vm := .none })) (kc + 1) (ks + vals.length) (pc + 5) lv (.ref q :: rest)) : Wg G C M kc ks pc lv st0 := by
  intro H locs ls hW hz hq hl T hT X
  have hA := hC.warm.alike
  obtain ⟨m0, k0, cf, i0, p0, lk, hm0, hk0, hcf, hsh, -, hfind, hmade, hcan, hlk⟩ := State.lambdaAt?_spec hat
  have hlk2 : lk = .makes cK := by
    rcases hlk with ⟨a, cell, -, h, -⟩ | ⟨h, -, -⟩
    · cases h
    · exact h
  subst hlk2
  have hm1 : (xs C).methodNamed? y = some m0 := by
    have := State.methodNamed?_setVm (s := gs G) hA y
    rw [hm0] at this
    exact this
  cases hm1.symm.trans hN
  obtain ⟨k0', hk0', hname⟩ := className_of_methodNamed hm0
  cases hk0.symm.trans hk0'
  obtain ⟨k, hk, he⟩ := hA.2.2 _ _ hk0
  have hkn : k.name = y.cls := by rw [he]; exact hname
  have hcf' : k.cf = some cf := by rw [he]; exact hcf
  have hfind' : (k.callSites.find? fun z => z.1 == (xm C).idx && z.2.1 == pc) = some (i0, p0, .makes cK) := by rw [he]; exact hfind
  have hmade' := Lambda.isMade_warmer hC.warm hmade
  obtain ⟨bsm, nt, name, desc, site, hc, hnt, hsite, hpar⟩ := shape_site hsh
  obtain ⟨dk, kK, ok, tk, file, cfK, object, iface, t, lay, methods, target, found, h1, h2, h3, h4, h5, h6, h7, h8, h9, h10, h11, h12, h13, ⟨-, hkind, -⟩, -, -, -, -, -, -, -, ⟨hty, -⟩, -⟩ := Lambda.isMade_spec hmade'
  cases hk.symm.trans h1
  obtain ⟨cO, kO, hfO, hkO, -, -, -, hsz⟩ := Cond.instantiable_spec (hC.w hO)
  cases hfO.symm.trans h5
  cases hkO.symm.trans h7
  have hemp : ok.instanceTypes = #[] := Array.eq_empty_of_size_eq_zero hsz
  rw [hsz] at h8
  rw [hkn] at h4
  rw [h4] at hlay
  simp only [Option.bind_some, h8, Option.map_some, Option.some.injEq] at hlay
  have htyK : kK.instanceTypes = tys := by rw [hty, hemp, hlay]; simp
  have hsl : ((kK.instanceTypes.toList.zip vals).map fun (t, v) => narrow t v) = vals := by rw [htyK]; exact hnar
  obtain ⟨X1, st⟩ := X.lambdaMakes hC.1 (g := F0 (xm C) pc ls st0) rfl hl.1 (by rw [hC.2.1]; exact hdg) (vals := vals) (rest := rest) hk hfind' hcf' hc hnt (parseLong_of_parse hsite) (by rw [hpar]; exact hlen) hs h2
    (by rw [X.admits.platform, hC.room]; show 2 * 0 + (st0.map fun v => v.category).sum + 3072 ≤ rm.locals; omega) (by rw [hC.room]; exact hcells) (by rw [hsl, hC.room]; exact hslots)
    (fun i v hv => by
      rw [hsl] at hv
      have hv2 : vals[i]? = some v := by simpa using hv
      obtain ⟨t, ht, hf⟩ := hfit i v hv2
      have ht2 : kK.instanceTypes[i]? = some t := by rw [htyK]; exact ht
      simp [State.fitsSlot, State.slotType?, h2, hkind, ht2, hf])
  rw [hsl] at X1 st
  generalize hH1 : H.push { cls := cK, slots := vals.toArray, vm := .none } = H1
  have z1 : H1.size = H.size + 1 := by rw [← hH1, Array.size_push]
  have e1 : H1[H.size]? = some { cls := cK, slots := vals.toArray, vm := .none } := by rw [← hH1, Array.getElem?_push_size]
  have o1 : ∀ q : Nat, q < H.size → H1[q]? = H[q]? := fun q hq => by rw [← hH1, Array.getElem?_push, if_neg (Nat.ne_of_lt hq)]
  rw [show vals.toArray.size = vals.length by simp] at X1
  obtain ⟨t2, b1, b2⟩ := kk H.size hW.fresh H1 locs ls (hW.push z1 o1 e1) (by omega) hq hl _ (by rw [← hH1, ← hT]; rfl) X1
  refine ⟨t2, st t2 ?_, b2⟩
  rw [hT]
  exact b1
end XLM

