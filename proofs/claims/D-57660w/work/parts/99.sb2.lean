/-! ===== a private method of a class above, called on an object of a class below ===== -/
section XPR
variable {G : X_G} {C : X_C} {M : X_M} {kc ks pc nL : Nat} {lv : List (Option Value)} {rest : List Value} {y : MethodName} {cc : ByteArray} {ret : Option FieldType} {rm : Room}
theorem sel_priv {s : State} {args : Array Value} {Cn : String} {z : MethodName} {c : ClassId} (hc : s.vm.findClass Cn = some c) (hsame : (Cond.sameMethod z.cls z.cls z.name z.desc).before args s = true) (hpriv : s.PrivateAt z) (hinst : (Cond.instanceMethod z).before args s = true) (hy : z.cls ≠ "java/lang/invoke/MethodHandle" ∧ z.cls ≠ "java/lang/invoke/VarHandle") : (Cond.selects Cn z z).before args s = true := by
  obtain ⟨mk, methM, hnamed, hmethM, -, -⟩ := Cond.instanceMethod_spec hinst
  obtain ⟨cn, ck, r1, hcn, hck, hni, hf, hn1⟩ := Cond.sameMethod_found hsame
  have hfound : s.methodFound? z.cls z.name z.desc = some mk := State.methodFound?_of_named hnamed hy
  have hcls : mk.cls = cn := Option.some.inj ((findClass_of_methodNamed hnamed).symm.trans hcn)
  have hsel : selectMethod {} s.vm c mk = .method mk := selectMethod_private hmethM (hpriv mk methM hnamed hmethM)
  simp only [Cond.before, Cond.holds, Cond.value, hc, hfound, hnamed, hsel, hcls, hck]
  simp
  exact hni
theorem x_priv (hC : Cx G C y cc nL ret rm) {z : MethodName} (h : Cond.privateMethod z ∈ lw_tbl) : (xs C).PrivateAt z := by
  have hN : va_Nw (.privateMethod z) (xs C) := va_tabs rfl (rfl : ((gs G).setVm (xs C).vm).vm = (xs C).vm) (by rw [Cond.privateMethod_setVm hC.warm.alike]; exact va_Nw.of rfl (hC.gok.2.1 _ h))
  exact Cond.privateMethod_at (args := #[]) (va_Nw.use rfl hN)
theorem x_callP (hC : Cx G C y cc nL ret rm) {z : MethodName} {bz : ByteArray} {nz index na k n b g ci N : Nat} {rz : Option FieldType} {rz_ : Room} {As st0 : List Value} {pst : Option Value → X_M → Prop} {Cn : String} {T : u_T} {fs : List Value}
    (hM : Ct G z bz nz rz rz_ (.ref b :: As) M pst) (h1w : Cond.methodLink y.cls index z ∈ lw_all) (h2w : Cond.sameMethod z.cls z.cls z.name z.desc ∈ lw_all) (h3w : Cond.privateMethod z ∈ lw_tbl) (h4w : Cond.instanceMethod z ∈ lw_all) (h5w : Cond.initialized z.cls ∈ lw_all) (h6w : Cond.code z bz nz rz ∈ lw_all) (he : M b = some (ob g ci fs)) (hcl : xcl[ci]? = some (Cn, T, N))
    (hd : z.cls ≠ "java/lang/invoke/MethodHandle" ∧ z.cls ≠ "java/lang/invoke/VarHandle" ∧ (parseMethodDescriptor z.desc).map (fun d => d.parameters.length) = some na) (hn : As.length = na) (hR : Rok rm rz_ nz) (hs : st0 = As.reverse ++ .ref b :: rest) (hst : (rest.map fun v => v.category).sum ≤ 8)
    (h1 : kc + rz_.cells ≤ k) (h2 : ks + rz_.slots ≤ n) (hf : k ≤ rm.cells ∧ n ≤ rm.slots) (hdg : decode cc pc = .ok (.invokevirtual index, 3)) (kk : ∀ (r : Option Value) (M' : X_M), pst r M' → Wg G C M' k n (pc + 3) lv (xrt r rest)) : Wg G C M kc ks pc lv st0 := by
  subst hs
  have hG : GoodIn lw_all (ws_ z bz nz rz) := lw_meth h6w
  have hc : Cond.code z bz nz rz ∈ ws_ z bz nz rz := List.mem_cons_self
  have cw : va_CU (xR C) (xs C) (xa C) y.cls Cn z.cls index z z bz nz rz (ws_ z bz nz rz) rz_ rz_.cells rz_.slots na := ⟨⟨rfl, rfl, by rw [hC.room]; exact hR.1, by rw [hC.room]; exact hR.2, pay_in (fun w h => hC.w h) hG, hc⟩, hC.w h6w, hC.w h5w, ⟨hd.1, hd.2.1⟩, fun sig h => by
    have h2 := hd.2.2
    rw [h] at h2
    exact (Option.some.inj h2).symm, hC.w h1w, hC.w h2w, va_Decl.of (hC.w h4w) (hC.w h6w), sel_priv (x_classAt hC hcl).1 (hC.w h2w) (x_priv hC h3w) (hC.w h4w) ⟨hd.1, hd.2.1⟩, hC.w h4w⟩
  refine x_run (av := (Value.ref b :: As).toArray) hC h1 h2 (fun H locs ls hW hz => ?_) kk
  exact va_runU (C := Cn) (index := index) (n := na) hC.fix hM cw ⟨Pg.blind, x_recv hC hW he hcl, hC.pre hW⟩ rfl hn hz rfl (lv_room hst) hdg (by rw [hC.room]; omega)
theorem x_callP0 (hC : Cx G C y cc nL ret rm) {z : MethodName} {bz : ByteArray} {nz index na b g ci N : Nat} {rz : Option FieldType} {rz_ : Room} {As st0 : List Value} {pst : Option Value → X_M → Prop} {Cn : String} {T : u_T} {fs : List Value}
    (hM : Ct G z bz nz rz rz_ (.ref b :: As) M pst) (h1w : Cond.methodLink y.cls index z ∈ lw_all) (h2w : Cond.sameMethod z.cls z.cls z.name z.desc ∈ lw_all) (h3w : Cond.privateMethod z ∈ lw_tbl) (h4w : Cond.instanceMethod z ∈ lw_all) (h5w : Cond.initialized z.cls ∈ lw_all) (h6w : Cond.code z bz nz rz ∈ lw_all) (he : M b = some (ob g ci fs)) (hcl : xcl[ci]? = some (Cn, T, N))
    (hd : z.cls ≠ "java/lang/invoke/MethodHandle" ∧ z.cls ≠ "java/lang/invoke/VarHandle" ∧ (parseMethodDescriptor z.desc).map (fun d => d.parameters.length) = some na) (hn : As.length = na) (hR : Rok rm rz_ nz) (hs : st0 = As.reverse ++ .ref b :: rest) (hst : (rest.map fun v => v.category).sum ≤ 8)
    (hz0 : rz_.cells = 0 ∧ rz_.slots = 0) (hf : kc ≤ rm.cells ∧ ks ≤ rm.slots) (hdg : decode cc pc = .ok (.invokevirtual index, 3)) (kk : ∀ (r : Option Value) (M' : X_M), pst r M' → Wg G C M' kc ks (pc + 3) lv (xrt r rest)) : Wg G C M kc ks pc lv st0 := x_callP hC hM h1w h2w h3w h4w h5w h6w he hcl hd hn hR hs hst (by rw [hz0.1]; exact Nat.le_refl _) (by rw [hz0.2]; exact Nat.le_refl _) hf hdg kk
theorem x_callO (hC : Cx G C y cc nL ret rm) {x z : MethodName} {bz b0 : ByteArray} {nz index na k n b g ci N m0 : Nat} {rz r0 : Option FieldType} {rz_ : Room} {As st0 : List Value} {pst : Option Value → X_M → Prop} {Cn : String} {T : u_T} {fs : List Value}
    (hM : Ct G z bz nz rz rz_ (.ref b :: As) M pst) (h1w : Cond.methodLink y.cls index x ∈ lw_all) (h2w : Cond.sameMethod x.cls x.cls x.name x.desc ∈ lw_all) (h3w : Cond.selects Cn x z ∈ lw_all) (h4w : Cond.instanceMethod z ∈ lw_all) (h5w : Cond.initialized z.cls ∈ lw_all) (h6w : Cond.code z bz nz rz ∈ lw_all) (h7w : Cond.instanceMethod x ∈ lw_all) (h8w : Cond.code x b0 m0 r0 ∈ lw_all) (he : M b = some (ob g ci fs)) (hcl : xcl[ci]? = some (Cn, T, N))
    (hd : x.cls ≠ "java/lang/invoke/MethodHandle" ∧ x.cls ≠ "java/lang/invoke/VarHandle" ∧ (parseMethodDescriptor x.desc).map (fun d => d.parameters.length) = some na) (hn : As.length = na) (hR : Rok rm rz_ nz) (hs : st0 = As.reverse ++ .ref b :: rest) (hst : (rest.map fun v => v.category).sum ≤ 8)
    (h1 : kc + rz_.cells ≤ k) (h2 : ks + rz_.slots ≤ n) (hf : k ≤ rm.cells ∧ n ≤ rm.slots) (hdg : decode cc pc = .ok (.invokevirtual index, 3)) (kk : ∀ (r : Option Value) (M' : X_M), pst r M' → Wg G C M' k n (pc + 3) lv (xrt r rest)) : Wg G C M kc ks pc lv st0 := by
  subst hs
  have hG : GoodIn lw_all (ws_ z bz nz rz) := lw_meth h6w
  have hc : Cond.code z bz nz rz ∈ ws_ z bz nz rz := List.mem_cons_self
  have cw : va_CU (xR C) (xs C) (xa C) y.cls Cn x.cls index x z bz nz rz (ws_ z bz nz rz) rz_ rz_.cells rz_.slots na := ⟨⟨rfl, rfl, by rw [hC.room]; exact hR.1, by rw [hC.room]; exact hR.2, pay_in (fun w h => hC.w h) hG, hc⟩, hC.w h6w, hC.w h5w, ⟨hd.1, hd.2.1⟩, fun sig h => by
    have h2 := hd.2.2
    rw [h] at h2
    exact (Option.some.inj h2).symm, hC.w h1w, hC.w h2w, va_Decl.of (hC.w h7w) (hC.w h8w), hC.w h3w, hC.w h4w⟩
  refine x_run (av := (Value.ref b :: As).toArray) hC h1 h2 (fun H locs ls hW hz => ?_) kk
  exact va_runU (C := Cn) (index := index) (n := na) hC.fix hM cw ⟨Pg.blind, x_recv hC hW he hcl, hC.pre hW⟩ rfl hn hz rfl (lv_room hst) hdg (by rw [hC.room]; omega)
theorem x_callO0 (hC : Cx G C y cc nL ret rm) {x z : MethodName} {bz b0 : ByteArray} {nz index na b g ci N m0 : Nat} {rz r0 : Option FieldType} {rz_ : Room} {As st0 : List Value} {pst : Option Value → X_M → Prop} {Cn : String} {T : u_T} {fs : List Value}
    (hM : Ct G z bz nz rz rz_ (.ref b :: As) M pst) (h1w : Cond.methodLink y.cls index x ∈ lw_all) (h2w : Cond.sameMethod x.cls x.cls x.name x.desc ∈ lw_all) (h3w : Cond.selects Cn x z ∈ lw_all) (h4w : Cond.instanceMethod z ∈ lw_all) (h5w : Cond.initialized z.cls ∈ lw_all) (h6w : Cond.code z bz nz rz ∈ lw_all) (h7w : Cond.instanceMethod x ∈ lw_all) (h8w : Cond.code x b0 m0 r0 ∈ lw_all) (he : M b = some (ob g ci fs)) (hcl : xcl[ci]? = some (Cn, T, N))
    (hd : x.cls ≠ "java/lang/invoke/MethodHandle" ∧ x.cls ≠ "java/lang/invoke/VarHandle" ∧ (parseMethodDescriptor x.desc).map (fun d => d.parameters.length) = some na) (hn : As.length = na) (hR : Rok rm rz_ nz) (hs : st0 = As.reverse ++ .ref b :: rest) (hst : (rest.map fun v => v.category).sum ≤ 8)
    (hz0 : rz_.cells = 0 ∧ rz_.slots = 0) (hf : kc ≤ rm.cells ∧ ks ≤ rm.slots) (hdg : decode cc pc = .ok (.invokevirtual index, 3)) (kk : ∀ (r : Option Value) (M' : X_M), pst r M' → Wg G C M' kc ks (pc + 3) lv (xrt r rest)) : Wg G C M kc ks pc lv st0 := x_callO hC hM h1w h2w h3w h4w h5w h6w h7w h8w he hcl hd hn hR hs hst (by rw [hz0.1]; exact Nat.le_refl _) (by rw [hz0.2]; exact Nat.le_refl _) hf hdg kk
end XPR
/-! ===== StringBuilder of one byte a letter ===== -/
abbrev gC (cap n : Nat) : Nat := if n ≤ cap then 0 else 1
abbrev gQ (cap n : Nat) : Nat := if n ≤ cap then cap else max n (2 * cap + 2)
abbrev gS (cap n : Nat) : Nat := if n ≤ cap then 0 else max n (2 * cap + 2)
/-- what a growth costs, against the room that is left -/
theorem g_inv {cap n : Nat} : cap + gC cap n ≤ gQ cap n ∧ 2 * cap + gS cap n ≤ 2 * gQ cap n ∧ n ≤ gQ cap n ∧ cap ≤ gQ cap n ∧ gQ cap n ≤ max cap (2 * n) := by
  show cap + (if n ≤ cap then 0 else 1) ≤ (if n ≤ cap then cap else max n (2 * cap + 2)) ∧ 2 * cap + (if n ≤ cap then 0 else max n (2 * cap + 2)) ≤ 2 * (if n ≤ cap then cap else max n (2 * cap + 2)) ∧ n ≤ (if n ≤ cap then cap else max n (2 * cap + 2)) ∧ cap ≤ (if n ≤ cap then cap else max n (2 * cap + 2)) ∧ (if n ≤ cap then cap else max n (2 * cap + 2)) ≤ max cap (2 * n)
  split <;> omega
/-- the builder q, its bytes of cap places, holds the letters w -/
def SBM (M : X_M) (g q cap : Nat) (w : List Nat) : Prop := ∃ v f, M q = some (ob g 12 [.ref v, .int 0, .int 0, .int (nI w.length)]) ∧ M v = some (ba g cap f) ∧ w.length ≤ cap ∧ sb_Fit f ∧ (∀ (k c : Nat), w[k]? = some c → f k = sb_b c) ∧ ∀ c ∈ w, c < 256
theorem SBM.fr {P : Nat → Prop} {M M' : X_M} {g q cap : Nat} {w : List Nat} (h : SBM M g q cap w) (hF : Fr P M M') (hg : ¬ P g) : SBM M' g q cap w := by
  obtain ⟨v, f, h1, h2, h3⟩ := h
  exact ⟨v, f, hF.z hg h1, hF.z hg h2, h3⟩
theorem SBM.rec {M : X_M} {g q cap : Nat} {w : List Nat} (h : SBM M g q cap w) : ∃ vs, M q = some (ob g 12 vs) := by
  obtain ⟨v, f, h1, -⟩ := h
  exact ⟨_, h1⟩
/-- what a builder's method leaves that returns the builder -/
def PSb (M : X_M) (g q cap : Nat) (w : List Nat) : Option Value → X_M → Prop := fun r M' => r = some (.ref q) ∧ SBM M' g q cap w ∧ Fr (fun g' => g' = g) M M'
theorem ap_at {w : List Nat} {c k x : Nat} (h : (w ++ [c])[k]? = some x) : (k < w.length ∧ w[k]? = some x) ∨ (k = w.length ∧ x = c) := by
  rcases Nat.lt_or_ge k w.length with hk | hk
  · rw [List.getElem?_append_left hk] at h
    exact Or.inl ⟨hk, h⟩
  · rw [List.getElem?_append_right hk] at h
    have := (List.getElem?_eq_some_iff.mp h).1
    rw [List.length_singleton] at this
    have e : k = w.length := by omega
    subst e
    rw [Nat.sub_self] at h
    cases h
    exact Or.inr ⟨rfl, rfl⟩
section SBS
variable {G : X_G} {M : X_M} {g q cap : Nat} {w : List Nat}
theorem ct_abLat (hG : GOK G) {x : Value} {y z : Value} (h : M q = some (ob g 12 [x, .int 0, y, z])) : Ct G yJ12_isLatin1 cJ12_isLatin1 1 (some .boolean) (xrm 1 0 0) [.ref q] M (Pr (.int 1) M) := by
  refine ct_open (lv := [_]) hG (by decide +kernel) (Nat.le_of_ble_eq_true rfl) rfl (fun C hC hk => ?_)
  refine x_gets hC (zs_cs hG) q287 rfl dJ12_isLatin1_0 ?_
  refine x_if_eq (tgt := 17) hC dJ12_isLatin1_3 (by decide) (fun c => ?_) (fun c => ?_)
  · exact absurd c (by decide)
  · refine x_aload_n hC dJ12_isLatin1_6 rfl rfl ?_
    refine x_get hC 1 h rfl (by decide) q297 rfl rfl dJ12_isLatin1_7 ?_
    refine x_if_ne (tgt := 17) hC dJ12_isLatin1_10 (by decide) (fun d => ?_) (fun d => ?_)
    · exact absurd rfl d
    · refine x_iconst (v := 1) hC dJ12_isLatin1_13 (by decide) ?_
      refine x_goto (tgt := 18) hC dJ12_isLatin1_14 (by decide) ?_
      exact x_zret hC hk dJ12_isLatin1_18 (by first | rfl | exact xB_nar) (Nat.le_of_ble_eq_true rfl) (Nat.le_of_ble_eq_true rfl) ⟨rfl, rfl⟩
theorem ct_abLen (hG : GOK G) (h : SBM M g q cap w) : Ct G yJ12_length cJ12_length 1 (some .int) (xrm 1 0 0) [.ref q] M (Pr (.int (nI w.length)) M) := by
  obtain ⟨v, f, h1, -⟩ := h
  refine ct_open (lv := [_]) hG (by decide +kernel) (Nat.le_of_ble_eq_true rfl) rfl (fun C hC hk => ?_)
  refine x_aload_n hC dJ12_length_0 rfl rfl ?_
  refine x_get hC 3 h1 rfl (by decide) q299 rfl rfl dJ12_length_1 ?_
  exact x_iret hC hk dJ12_length_4 (Nat.le_of_ble_eq_true rfl) (Nat.le_of_ble_eq_true rfl) ⟨rfl, rfl⟩
theorem ct_sbLen (hG : GOK G) (h : SBM M g q cap w) : Ct G yJ13_length cJ13_length 1 (some .int) (xrm 2 0 0) [.ref q] M (Pr (.int (nI w.length)) M) := by
  obtain ⟨vs, hq⟩ := h.rec
  refine ct_open (lv := [_]) hG (by decide +kernel) (Nat.le_of_ble_eq_true rfl) rfl (fun C hC hk => ?_)
  refine x_aload_n hC dJ13_length_0 rfl rfl ?_
  refine x_callSU0 (na := 0) hC (ct_abLen hG h) q428 q424 q308 q423 q98 q429 hq rfl ⟨by decide, by decide +kernel⟩ rfl ⟨Nat.le_of_ble_eq_true rfl, Nat.le_of_ble_eq_true rfl⟩ rfl (Nat.le_of_ble_eq_true rfl) ⟨rfl, rfl⟩ ⟨Nat.le_of_ble_eq_true rfl, Nat.le_of_ble_eq_true rfl⟩ dJ13_length_1 ?_
  rintro _ M ⟨rfl, rfl⟩
  exact x_iret hC hk dJ13_length_4 (Nat.le_of_ble_eq_true rfl) (Nat.le_of_ble_eq_true rfl) ⟨rfl, rfl⟩
theorem ct_abVal (hG : GOK G) {v : Nat} {x y z : Value} (h : M q = some (ob g 12 [.ref v, x, y, z])) : Ct G yJ12_getValue cJ12_getValue 1 (some (.array .byte)) (xrm 1 0 0) [.ref q] M (Pr (.ref v) M) := by
  refine ct_open (lv := [_]) hG (by decide +kernel) (Nat.le_of_ble_eq_true rfl) rfl (fun C hC hk => ?_)
  refine x_aload_n hC dJ12_getValue_0 rfl rfl ?_
  refine x_get hC 0 h rfl (by decide) q296 rfl rfl dJ12_getValue_1 ?_
  exact x_aret hC hk dJ12_getValue_4 (Or.inr ⟨_, rfl⟩) (Or.inr ⟨_, rfl⟩) (Nat.le_of_ble_eq_true rfl) (Nat.le_of_ble_eq_true rfl) ⟨rfl, rfl⟩
theorem ct_newLen (hG : GOK G) {o a b : Nat} (h1 : 0 < o + max a b) (h2 : o + max a b ≤ 65536) (M : X_M) : Ct G yJ16_newLength cJ16_newLength 4 (some .int) (xrm 2 0 0) [.int (nI o), .int (nI a), .int (nI b)] M (Pr (.int (nI (o + max a b))) M) := by
  refine ct_open (lv := [_, _, _, _]) hG (by decide +kernel) (Nat.le_of_ble_eq_true rfl) rfl (fun C hC hk => ?_)
  refine x_iload_n hC dJ16_newLength_0 rfl rfl ?_
  refine x_iload_n hC dJ16_newLength_1 rfl rfl ?_
  refine x_iload_n hC dJ16_newLength_2 rfl rfl ?_
  refine x_callS0 (na := 2) hC (ct_max hG _ _ _) (lw_S q327 q328 q103 q329) (by decide +kernel) rfl ⟨Nat.le_of_ble_eq_true rfl, Nat.le_of_ble_eq_true rfl⟩ rfl (Nat.le_of_ble_eq_true rfl) ⟨rfl, rfl⟩ ⟨Nat.le_of_ble_eq_true rfl, Nat.le_of_ble_eq_true rfl⟩ dJ16_newLength_3 ?_
  rintro _ M ⟨rfl, rfl⟩
  rw [imax_n (by omega) (by omega)]
  refine x_iaddN hC dJ16_newLength_6 ?_
  refine x_istore_n (lv' := [_, _, _, _]) hC dJ16_newLength_7 rfl (by decide) rfl ?_
  refine x_iconst (v := nI 0) hC dJ16_newLength_8 (by decide) ?_
  refine x_iload_n hC dJ16_newLength_9 rfl rfl ?_
  refine x_icmp_geN (tgt := 21) hC (by omega) (by omega) dJ16_newLength_10 (by decide) (fun c => ?_) (fun c => ?_)
  · omega
  · refine x_iload_n hC dJ16_newLength_13 rfl rfl ?_
    refine x_ldc hC q330 dJ16_newLength_14 ?_
    refine x_icmp_gt (tgt := 21) hC dJ16_newLength_16 (by decide) (fun d => ?_) (fun d => ?_)
    · exact absurd d (by rw [show (2147483639 : Int32) = nI 2147483639 from rfl]; exact fun z => by have := (nI_ltI (by decide) (by omega)).mp z; omega)
    · refine x_iload_n hC dJ16_newLength_19 rfl rfl ?_
      exact x_iret hC hk dJ16_newLength_20 (Nat.le_of_ble_eq_true rfl) (Nat.le_of_ble_eq_true rfl) ⟨rfl, rfl⟩
theorem ct_newCap (hG : GOK G) {v n : Nat} {f : Nat → Int32} {y z : Value} (h : M q = some (ob g 12 [.ref v, .int 0, y, z])) (hv : M v = some (ba g cap f)) (hc : cap < n) (h2 : max n (2 * cap + 2) ≤ 65536) : Ct G yJ12_newCapacity cJ12_newCapacity 6 (some .int) (xrm 3 0 0) [.ref q, .int (nI n)] M (Pr (.int (nI (max n (2 * cap + 2)))) M) := by
  refine ct_open (lv := [_, _, _, _, _, _]) hG (by decide +kernel) (Nat.le_of_ble_eq_true rfl) rfl (fun C hC hk => ?_)
  refine x_aload_n hC dJ12_newCapacity_0 rfl rfl ?_
  refine x_get hC 0 h rfl (by decide) q296 rfl rfl dJ12_newCapacity_1 ?_
  refine x_alen hC hv dJ12_newCapacity_4 ?_
  dsimp only
  refine x_istore_n (lv' := [_, _, _, _, _, _]) hC dJ12_newCapacity_5 rfl (by decide) rfl ?_
  refine x_iload_n hC dJ12_newCapacity_6 rfl rfl ?_
  refine x_aload_n hC dJ12_newCapacity_7 rfl rfl ?_
  refine x_get hC 1 h rfl (by decide) q297 rfl rfl dJ12_newCapacity_8 ?_
  refine x_ishl hC dJ12_newCapacity_11 ?_
  rw [sb_shl0]
  refine x_istore_n (lv' := [_, _, _, _, _, _]) hC dJ12_newCapacity_12 rfl (by decide) rfl ?_
  refine x_iload_n hC dJ12_newCapacity_13 rfl rfl ?_
  refine x_iload_n hC dJ12_newCapacity_14 rfl rfl ?_
  refine x_isubN hC dJ12_newCapacity_15 (by omega) ?_
  refine x_istore (lv' := [_, _, _, _, _, _]) hC dJ12_newCapacity_16 (by decide) rfl ?_
  refine x_iload_n hC dJ12_newCapacity_18 rfl rfl ?_
  refine x_iload hC dJ12_newCapacity_19 rfl ?_
  refine x_iload_n hC dJ12_newCapacity_21 rfl rfl ?_
  refine x_iconst (v := nI 2) hC dJ12_newCapacity_22 (by decide) ?_
  refine x_aload_n hC dJ12_newCapacity_23 rfl rfl ?_
  refine x_get hC 1 h rfl (by decide) q297 rfl rfl dJ12_newCapacity_24 ?_
  refine x_ishl hC dJ12_newCapacity_27 ?_
  rw [sb_shl0]
  refine x_iaddN hC dJ12_newCapacity_28 ?_
  refine x_callS0 (na := 3) hC (ct_newLen hG (by omega) (by omega) _) (lw_S q324 q325 q102 q326) (by decide +kernel) rfl ⟨Nat.le_of_ble_eq_true rfl, Nat.le_of_ble_eq_true rfl⟩ rfl (Nat.le_of_ble_eq_true rfl) ⟨rfl, rfl⟩ ⟨Nat.le_of_ble_eq_true rfl, Nat.le_of_ble_eq_true rfl⟩ dJ12_newCapacity_29 ?_
  rintro _ M ⟨rfl, rfl⟩
  rw [show cap + max (n - cap) (cap + 2) = max n (2 * cap + 2) by omega]
  refine x_istore (lv' := [_, _, _, _, _, _]) hC dJ12_newCapacity_32 (by decide) rfl ?_
  refine x_iload hC dJ12_newCapacity_34 rfl ?_
  refine x_ldc hC q334 dJ12_newCapacity_36 ?_
  refine x_icmp_ne (tgt := 51) hC dJ12_newCapacity_38 (by decide) (fun d => ?_) (fun d => ?_)
  · refine x_iload hC dJ12_newCapacity_51 rfl ?_
    refine x_aload_n hC dJ12_newCapacity_53 rfl rfl ?_
    refine x_get hC 1 h rfl (by decide) q297 rfl rfl dJ12_newCapacity_54 ?_
    refine x_ishr hC dJ12_newCapacity_57 ?_
    rw [sb_shr0]
    exact x_iret hC hk dJ12_newCapacity_58 (Nat.le_of_ble_eq_true rfl) (Nat.le_of_ble_eq_true rfl) ⟨rfl, rfl⟩
  · have := (nI_eq (a := max n (2 * cap + 2)) (b := 2147483647) (by omega) (by decide)).mp d
    omega
theorem sub_le0 {a b : Nat} (ha : a < 2 ^ 30) (hb : b < 2 ^ 30) : nI a - nI b ≤ 0 ↔ a ≤ b := by
  rw [Int32.le_iff_toInt_le, Int32.toInt_sub, nI_toInt (by omega), nI_toInt (by omega), Int.bmod_eq_of_le (by omega) (by omega), show (0 : Int32).toInt = 0 by decide]
  omega
theorem ct_abEns (hG : GOK G) (hg : g ≠ 0) {n : Nat} (h : SBM M g q cap w) (hQ : gQ cap n ≤ 65536) : Ct G yJ12_ensureCapacityInternal cJ12_ensureCapacityInternal 3 none (xrm 4 (gC cap n) (gS cap n)) [.ref q, .int (nI n)] M (fun r M' => r = none ∧ SBM M' g q (gQ cap n) w ∧ Fr (fun g' => g' = g) M M') := by
  obtain ⟨v, f, h1, h2, h3, h4, h5, h6⟩ := id h
  have gi := g_inv (cap := cap) (n := n)
  refine ct_open (lv := [_, _, _]) hG (by decide +kernel) (Nat.le_of_ble_eq_true rfl) rfl (fun C hC hk => ?_)
  refine x_aload_n hC dJ12_ensureCapacityInternal_0 rfl rfl ?_
  refine x_get hC 0 h1 rfl (by decide) q296 rfl rfl dJ12_ensureCapacityInternal_1 ?_
  refine x_alen hC h2 dJ12_ensureCapacityInternal_4 ?_
  refine x_aload_n hC dJ12_ensureCapacityInternal_5 rfl rfl ?_
  refine x_get hC 1 h1 rfl (by decide) q297 rfl rfl dJ12_ensureCapacityInternal_6 ?_
  dsimp only
  refine x_ishr hC dJ12_ensureCapacityInternal_9 ?_
  rw [sb_shr0]
  refine x_istore_n (lv' := [_, _, _]) hC dJ12_ensureCapacityInternal_10 rfl (by decide) rfl ?_
  refine x_iload_n hC dJ12_ensureCapacityInternal_11 rfl rfl ?_
  refine x_iload_n hC dJ12_ensureCapacityInternal_12 rfl rfl ?_
  refine x_isub hC dJ12_ensureCapacityInternal_13 ?_
  refine x_if_le (tgt := 38) hC dJ12_ensureCapacityInternal_14 (by decide) (fun c => ?_) (fun c => ?_)
  · have c2 := (sub_le0 (by omega) (by omega)).mp c
    have e : gQ cap n = cap := if_pos c2
    refine x_vret hC hk dJ12_ensureCapacityInternal_38 (Nat.zero_le _) (Nat.zero_le _) ⟨rfl, ?_, Fr.rf⟩
    rw [e]
    exact h
  · have c2 : cap < n := Nat.lt_of_not_le fun z => c ((sub_le0 (by omega) (by omega)).mpr z)
    have e : gQ cap n = max n (2 * cap + 2) := if_neg (by omega)
    have e1 : gC cap n = 1 := if_neg (by omega)
    have e2 : gS cap n = max n (2 * cap + 2) := if_neg (by omega)
    refine x_aload_n hC dJ12_ensureCapacityInternal_17 rfl rfl ?_
    refine x_aload_n hC dJ12_ensureCapacityInternal_18 rfl rfl ?_
    refine x_get hC 0 h1 rfl (by decide) q296 rfl rfl dJ12_ensureCapacityInternal_19 ?_
    refine x_aload_n hC dJ12_ensureCapacityInternal_22 rfl rfl ?_
    refine x_iload_n hC dJ12_ensureCapacityInternal_23 rfl rfl ?_
    refine x_callP0 (na := 1) hC (ct_newCap hG h1 h2 c2 (by omega)) q320 q2879 q321 q322 q98 q323 h1 rfl (by decide +kernel) rfl ⟨Nat.le_of_ble_eq_true rfl, Nat.le_of_ble_eq_true rfl⟩ rfl (Nat.le_of_ble_eq_true rfl) ⟨rfl, rfl⟩ ⟨Nat.zero_le _, Nat.zero_le _⟩ dJ12_ensureCapacityInternal_24 ?_
    rintro _ M ⟨rfl, rfl⟩
    refine x_aload_n hC dJ12_ensureCapacityInternal_27 rfl rfl ?_
    refine x_get hC 1 h1 rfl (by decide) q297 rfl rfl dJ12_ensureCapacityInternal_28 ?_
    refine x_ishl hC dJ12_ensureCapacityInternal_31 ?_
    rw [sb_shl0]
    refine x_callS (k := 1) (n := max n (2 * cap + 2)) (na := 2) hC (ct_copyOfB hG hg h2 h4 (by omega) (by omega)) (lw_S q335 q336 q104 q337) (by decide +kernel) rfl ⟨Nat.le_of_ble_eq_true rfl, Nat.le_of_ble_eq_true rfl⟩ rfl (Nat.le_of_ble_eq_true rfl) (Nat.le_refl 1) (show 0 + max n (2 * cap + 2) ≤ max n (2 * cap + 2) by omega) ⟨(show 1 ≤ gC cap n by omega), (show max n (2 * cap + 2) ≤ gS cap n by omega)⟩ dJ12_ensureCapacityInternal_32 ?_
    rintro _ _ ⟨a, u, rfl, ha, rfl, hu, hu2⟩
    have h1' := mu_f (e := ba g (max n (2 * cap + 2)) u) ha h1
    refine x_put hC 0 h1' hg rfl (by decide) q296 rfl rfl rfl rfl rfl (show 0 < 4 by decide) (fs' := [.ref a, .int 0, .int 0, .int (nI w.length)]) rfl dJ12_ensureCapacityInternal_35 ?_
    refine x_vret hC hk dJ12_ensureCapacityInternal_38 (show 1 ≤ gC cap n by omega) (show max n (2 * cap + 2) ≤ gS cap n by omega) ⟨rfl, ?_, (Fr.new ha).tr (Fr.set h1' rfl)⟩
    have hqa : a ≠ q := fun e => by rw [e, h1] at ha; cases ha
    rw [e]
    exact ⟨a, u, mu_s, mu_o hqa mu_s, by omega, hu, fun k c hc => by rw [hu2 k (by have := (List.getElem?_eq_some_iff.mp hc).1; omega)]; exact h5 k c hc, h6⟩
theorem ct_canE (hG : GOK G) {c : Nat} (hc : c < 256) (M : X_M) : Ct G yJ19_canEncode cJ19_canEncode 1 (some .boolean) (xrm 1 0 0) [.int (nI c)] M (Pr (.int 1) M) := by
  refine ct_open (lv := [_]) hG (by decide +kernel) (Nat.le_of_ble_eq_true rfl) rfl (fun C hC hk => ?_)
  refine x_iload_n hC dJ19_canEncode_0 rfl rfl ?_
  refine x_sipush (v := nI 255) hC dJ19_canEncode_1 (by decide) ?_
  refine x_icmp_gtN (tgt := 11) hC (by omega) (by omega) dJ19_canEncode_4 (by decide) (fun d => ?_) (fun d => ?_)
  · omega
  · refine x_iconst (v := 1) hC dJ19_canEncode_7 (by decide) ?_
    refine x_goto (tgt := 12) hC dJ19_canEncode_8 (by decide) ?_
    exact x_zret hC hk dJ19_canEncode_12 (by first | rfl | exact xB_nar) (Nat.le_of_ble_eq_true rfl) (Nat.le_of_ble_eq_true rfl) ⟨rfl, rfl⟩
theorem ct_abApp (hG : GOK G) (hg : g ≠ 0) {c : Nat} (hc : c < 256) (h : SBM M g q cap w) (hQ : gQ cap (w.length + 1) ≤ 65536) : Ct G yJ12_append cJ12_append 2 (some (.object "java/lang/AbstractStringBuilder")) (xrm 5 (gC cap (w.length + 1)) (gS cap (w.length + 1))) [.ref q, .int (nI c)] M (PSb M g q (gQ cap (w.length + 1)) (w ++ [c])) := by
  obtain ⟨v, f, h1, -⟩ := id h
  have gi := g_inv (cap := cap) (n := w.length + 1)
  refine ct_open (lv := [_, _]) hG (by decide +kernel) (Nat.le_of_ble_eq_true rfl) rfl (fun C hC hk => ?_)
  obtain ⟨M0, hM0⟩ : ∃ M0, M0 = M := ⟨M, rfl⟩
  rw [← hM0] at hk
  have hF : Fm M0 M := by rw [hM0]; exact Fr.rf
  subst hM0
  refine x_aload_n hC dJ12_append_0 rfl rfl ?_
  refine x_aload_n hC dJ12_append_1 rfl rfl ?_
  refine x_get hC 3 h1 rfl (by decide) q299 rfl rfl dJ12_append_2 ?_
  refine x_iconst (v := nI 1) hC dJ12_append_5 (by decide) ?_
  refine x_iaddN hC dJ12_append_6 ?_
  refine x_callP (k := gC cap (w.length + 1)) (n := gS cap (w.length + 1)) (na := 1) hC (ct_abEns hG hg h hQ) q316 q2878 q317 q318 q98 q319 h1 rfl (by decide +kernel) rfl ⟨Nat.le_of_ble_eq_true rfl, Nat.le_of_ble_eq_true rfl⟩ rfl (Nat.le_of_ble_eq_true rfl) (show 0 + gC cap (w.length + 1) ≤ gC cap (w.length + 1) by omega) (show 0 + gS cap (w.length + 1) ≤ gS cap (w.length + 1) by omega) ⟨Nat.le_refl _, Nat.le_refl _⟩ dJ12_append_7 ?_
  rintro _ M1 ⟨rfl, hS, hF⟩
  obtain ⟨v1, f1, k1, k2, k3, k4, k5, k6⟩ := hS
  refine x_aload_n hC dJ12_append_10 rfl rfl ?_
  refine x_callU0 (owner := "java/lang/AbstractStringBuilder") (na := 0) hC (ct_abLat hG k1) q351 q353 q354 q352 q98 q355 rfl k1 rfl (by decide +kernel) rfl ⟨Nat.le_of_ble_eq_true rfl, Nat.le_of_ble_eq_true rfl⟩ rfl (Nat.le_of_ble_eq_true rfl) ⟨rfl, rfl⟩ ⟨Nat.le_refl _, Nat.le_refl _⟩ dJ12_append_11 ?_
  rintro _ M ⟨rfl, rfl⟩
  refine x_if_eq (tgt := 45) hC dJ12_append_14 (by decide) (fun d => ?_) (fun d => ?_)
  · exact absurd d (by decide)
  · refine x_iload_n hC dJ12_append_17 rfl rfl ?_
    refine x_callS0 (na := 1) hC (ct_canE hG hc _) (lw_S q356 q357 q106 q358) (by decide +kernel) rfl ⟨Nat.le_of_ble_eq_true rfl, Nat.le_of_ble_eq_true rfl⟩ rfl (Nat.le_of_ble_eq_true rfl) ⟨rfl, rfl⟩ ⟨Nat.le_refl _, Nat.le_refl _⟩ dJ12_append_18 ?_
    rintro _ M ⟨rfl, rfl⟩
    refine x_if_eq (tgt := 45) hC dJ12_append_21 (by decide) (fun d2 => ?_) (fun d2 => ?_)
    · exact absurd d2 (by decide)
    · refine x_aload_n hC dJ12_append_24 rfl rfl ?_
      refine x_get hC 0 k1 rfl (by decide) q296 rfl rfl dJ12_append_25 ?_
      refine x_aload_n hC dJ12_append_28 rfl rfl ?_
      refine x_dup hC dJ12_append_29 rfl ?_
      refine x_get hC 3 k1 rfl (by decide) q299 rfl rfl dJ12_append_30 ?_
      refine x_dup_x1 hC dJ12_append_33 rfl rfl ?_
      refine x_iconst (v := nI 1) hC dJ12_append_34 (by decide) ?_
      refine x_iaddN hC dJ12_append_35 ?_
      refine x_put hC 3 k1 hg rfl (by decide) q299 rfl rfl rfl rfl rfl (show 3 < 4 by decide) (fs' := [.ref v1, .int 0, .int 0, .int (nI (w.length + 1))]) rfl dJ12_append_36 ?_
      have hqv : v1 ≠ q := fun e => by rw [e, k1] at k2; cases k2
      have k2' := mu_o (e := ob g 12 [.ref v1, .int 0, .int 0, .int (nI (w.length + 1))]) hqv k2
      refine x_iload_n hC dJ12_append_39 rfl rfl ?_
      refine x_i2b hC dJ12_append_40 rfl ?_
      refine x_bastN hC k2' (by first | decide | assumption) (by omega) (by first | decide | omega) dJ12_append_41 ?_
      refine x_goto (tgt := 75) hC dJ12_append_42 (by decide) ?_
      refine x_aload_n hC dJ12_append_75 rfl rfl ?_
      have hnar : vp_nar .byte (nI c).toInt8.toInt32 = sb_b c := sb_nar c hc
      rw [hnar]
      refine x_aret hC hk dJ12_append_76 (Or.inl ⟨_, rfl⟩) (Or.inr ⟨_, rfl⟩) (Nat.le_refl _) (Nat.le_refl _) ⟨rfl, ?_, (hF.tr (Fr.set k1 rfl)).tr (Fr.set k2' rfl)⟩
      refine ⟨v1, _, mu_o (Ne.symm hqv) (by rw [mu_s, List.length_append]; rfl), mu_s, by rw [List.length_append]; exact gi.2.2.1, sb_fitU k4 (sb_fitB c), fun k x hx => ?_, fun x hx => ?_⟩
      · rcases ap_at hx with ⟨e1, e2⟩ | ⟨e1, e2⟩
        · rw [upd_n (by omega)]; exact k5 k x e2
        · rw [e1, upd_s, e2]
      · rcases List.mem_append.mp hx with hx | hx
        · exact k6 x hx
        · rw [List.mem_singleton.mp hx]; exact hc
theorem ct_sbApp (hG : GOK G) (hg : g ≠ 0) {c : Nat} (hc : c < 256) (h : SBM M g q cap w) (hQ : gQ cap (w.length + 1) ≤ 65536) : Ct G yJ13_append cJ13_append 2 (some (.object "java/lang/StringBuilder")) (xrm 6 (gC cap (w.length + 1)) (gS cap (w.length + 1))) [.ref q, .int (nI c)] M (PSb M g q (gQ cap (w.length + 1)) (w ++ [c])) := by
  obtain ⟨vs, hq⟩ := h.rec
  refine ct_open (lv := [_, _]) hG (by decide +kernel) (Nat.le_of_ble_eq_true rfl) rfl (fun C hC hk => ?_)
  refine x_aload_n hC dJ13_append_0 rfl rfl ?_
  refine x_iload_n hC dJ13_append_1 rfl rfl ?_
  refine x_callSU (k := gC cap (w.length + 1)) (n := gS cap (w.length + 1)) (na := 1) hC (ct_abApp hG hg hc h hQ) q313 q2877 q308 q314 q98 q315 hq rfl ⟨by decide, by decide +kernel⟩ rfl ⟨Nat.le_of_ble_eq_true rfl, Nat.le_of_ble_eq_true rfl⟩ rfl (Nat.le_of_ble_eq_true rfl) (show 0 + gC cap (w.length + 1) ≤ gC cap (w.length + 1) by omega) (show 0 + gS cap (w.length + 1) ≤ gS cap (w.length + 1) by omega) ⟨Nat.le_refl _, Nat.le_refl _⟩ dJ13_append_2 ?_
  rintro _ M1 ⟨rfl, hS, hF⟩
  refine x_pop hC dJ13_append_5 rfl ?_
  refine x_aload_n hC dJ13_append_6 rfl rfl ?_
  exact x_aret hC hk dJ13_append_7 (Or.inl ⟨_, rfl⟩) (Or.inr ⟨_, rfl⟩) (Nat.le_refl _) (Nat.le_refl _) ⟨rfl, hS, hF⟩
theorem ct_abInit (hG : GOK G) (hg : g ≠ 0) (h : M q = some (ob g 12 [.null, .int 0, .int 0, .int 0])) : Ct G yJ12_init cJ12_init 2 none (xrm 2 1 16) [.ref q, .int (nI 16)] M (fun r M' => r = none ∧ SBM M' g q 16 [] ∧ Fr (fun g' => g' = g) M M') := by
  refine ct_open (lv := [_, _]) hG (by decide +kernel) (Nat.le_of_ble_eq_true rfl) rfl (fun C hC hk => ?_)
  refine x_aload_n hC dJ12_init_0 rfl rfl ?_
  refine x_objInit hC q286 q132 q133 dJ12_init_1 (Nat.le_of_ble_eq_true rfl) ⟨Nat.le_of_ble_eq_true rfl, Nat.le_of_ble_eq_true rfl⟩ ?_
  refine x_gets hC (zs_cs hG) q287 rfl dJ12_init_4 ?_
  refine x_if_eq (tgt := 25) hC dJ12_init_7 (by decide) (fun c => ?_) (fun c => ?_)
  · exact absurd c (by decide)
  · refine x_aload_n hC dJ12_init_10 rfl rfl ?_
    refine x_iload_n hC dJ12_init_11 rfl rfl ?_
    refine x_newb hC 16 g q169 hg rfl (by decide) (Nat.le_of_ble_eq_true rfl) (Nat.le_of_ble_eq_true rfl) dJ12_init_12 (fun a ha => ?_)
    have h1 := mu_f (e := ba g 16 fun _ => 0) ha h
    have hqa : a ≠ q := fun e => by rw [e, h] at ha; cases ha
    refine x_put hC 0 h1 hg rfl (by decide) q296 rfl rfl rfl rfl rfl (show 0 < 4 by decide) (fs' := [.ref a, .int 0, .int 0, .int 0]) rfl dJ12_init_14 ?_
    refine x_aload_n hC dJ12_init_17 rfl rfl ?_
    refine x_iconst (v := 0) hC dJ12_init_18 (by decide) ?_
    refine x_put hC 1 mu_s hg rfl (by decide) q297 rfl rfl rfl rfl rfl (show 1 < 4 by decide) (fs' := [.ref a, .int 0, .int 0, .int 0]) rfl dJ12_init_19 ?_
    rw [mu_mu]
    refine x_goto (tgt := 38) hC dJ12_init_22 (by decide) ?_
    exact x_vret hC hk dJ12_init_38 (Nat.le_of_ble_eq_true rfl) (Nat.le_of_ble_eq_true rfl) ⟨rfl, ⟨a, _, mu_s, mu_o hqa mu_s, Nat.zero_le _, sb_fit0, (fun k c hk => by cases hk), (fun c hc => by cases hc)⟩, (Fr.new ha).tr (Fr.set h1 rfl)⟩
theorem ct_sbInit (hG : GOK G) (hg : g ≠ 0) (h : M q = some (ob g 12 [.null, .int 0, .int 0, .int 0])) : Ct G yJ13_init cJ13_init 1 none (xrm 3 1 16) [.ref q] M (fun r M' => r = none ∧ SBM M' g q 16 [] ∧ Fr (fun g' => g' = g) M M') := by
  refine ct_open (lv := [_]) hG (by decide +kernel) (Nat.le_of_ble_eq_true rfl) rfl (fun C hC hk => ?_)
  refine x_aload_n hC dJ13_init_0 rfl rfl ?_
  refine x_bipush (v := nI 16) hC dJ13_init_1 (by decide) ?_
  refine x_callI (k := 1) (n := 16) (na := 1) hC (ct_abInit hG hg h) q285 q98 q283 q284 rfl (by decide +kernel) rfl ⟨Nat.le_of_ble_eq_true rfl, Nat.le_of_ble_eq_true rfl⟩ rfl (Nat.le_of_ble_eq_true rfl) (Nat.le_of_ble_eq_true rfl) (Nat.le_of_ble_eq_true rfl) ⟨Nat.le_of_ble_eq_true rfl, Nat.le_of_ble_eq_true rfl⟩ dJ13_init_3 ?_
  rintro _ M1 ⟨rfl, hS, hF⟩
  exact x_vret hC hk dJ13_init_6 (Nat.le_of_ble_eq_true rfl) (Nat.le_of_ble_eq_true rfl) ⟨rfl, hS, hF⟩
end SBS

