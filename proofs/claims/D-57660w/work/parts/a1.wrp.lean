/-! ===== the law's wrappers: what they leave ===== -/
/-- all cells but o that the component may not write are kept -/
def FrO (o : Nat) (M M' : X_M) : Prop := ∀ q e, M q = some e → ¬ PW e.1 → q ≠ o → M' q = some e
theorem FrO.of {o : Nat} {M M' : X_M} (h : Fr PW M M') : FrO o M M' := fun q e h1 h2 _ => h q e h1 h2
theorem FrO.set {o : Nat} {M M' : X_M} (h : Fr PW M M') {e : X_E} : FrO o M (mu M' o e) := fun q e' h1 h2 h3 => mu_o h3 (h q e' h1 h2)
/-- a wrapper's answer: the code; with code 0 the value lies in the array o -/
def WOl (T : X_T) (a o : Nat) (S' : X_S) (code : Int32) (v : Int64) (M : X_M) : Option Value → X_M → Prop := fun r M' => r = some (.int code) ∧ CRep S' M' T a ∧ (∃ f, M' o = some (la 11 1 f) ∧ (code = 0 → f 0 = v)) ∧ FrO o M M'
def WOd (T : X_T) (a o : Nat) (S' : X_S) (code : Int32) (v : UInt64) (M : X_M) : Option Value → X_M → Prop := fun r M' => r = some (.int code) ∧ CRep S' M' T a ∧ (∃ f, M' o = some (da 11 1 f) ∧ (code = 0 → f 0 = v)) ∧ FrO o M M'
abbrev PF : Nat → String → X_M → Prop := fun _ _ _ => False
theorem pw11 : ¬ PW 11 := fun h => h.2.2 rfl
theorem CRep.out {S : X_S} {M : X_M} {T : X_T} {a o : Nat} {e e' : X_E} (h : CRep S M T a) (ho : M o = some e) (h11 : e.1 = 11) : CRep S (mu M o e') T a := h.fr (Fr.set (P := fun g => g = 11) ho h11) (by decide) (by decide) (by decide) (by decide) (fun g z e => by have e : g = 11 := e; omega)
theorem WOl.mk {T : X_T} {a o : Nat} {S' : X_S} {code : Int32} {v : Int64} {M M1 : X_M} {f : Nat → Int64} (h0 : code = 0) (hR : CRep S' M1 T a) (hF : Fr PW M M1) (ho : M1 o = some (la 11 1 f)) : WOl T a o S' code v M (some (.int 0)) (mu M1 o (la 11 1 (vp_updL f 0 v))) :=
  ⟨by rw [h0], hR.out ho rfl, ⟨_, mu_s, fun _ => by simp [vp_updL]⟩, FrO.set hF⟩
theorem WOd.mk {T : X_T} {a o : Nat} {S' : X_S} {code : Int32} {v : UInt64} {M M1 : X_M} {f : Nat → UInt64} (h0 : code = 0) (hR : CRep S' M1 T a) (hF : Fr PW M M1) (ho : M1 o = some (da 11 1 f)) : WOd T a o S' code v M (some (.int 0)) (mu M1 o (da 11 1 (vf_upd f 0 v))) :=
  ⟨by rw [h0], hR.out ho rfl, ⟨_, mu_s, fun _ => by simp [vf_upd]⟩, FrO.set hF⟩
theorem WOl.x {T : X_T} {a o k : Nat} {S' : X_S} {code : Int32} {v : Int64} {M M1 : X_M} {f : Nat → Int64} (hc : code = nI (k + 1)) (h0 : ¬ nI (k + 1) = 0) (hR : CRep S' M1 T a) (hF : Fr PW M M1) (ho : M o = some (la 11 1 f)) : WOl T a o S' code v M (some (.int (nI (k + 1)))) M1 :=
  ⟨by rw [hc], hR, ⟨f, hF o _ ho pw11, fun z => absurd (hc.symm.trans z) h0⟩, FrO.of hF⟩
theorem WOd.x {T : X_T} {a o k : Nat} {S' : X_S} {code : Int32} {v : UInt64} {M M1 : X_M} {f : Nat → UInt64} (hc : code = nI (k + 1)) (h0 : ¬ nI (k + 1) = 0) (hR : CRep S' M1 T a) (hF : Fr PW M M1) (ho : M o = some (da 11 1 f)) : WOd T a o S' code v M (some (.int (nI (k + 1)))) M1 :=
  ⟨by rw [hc], hR, ⟨f, hF o _ ho pw11, fun z => absurd (hc.symm.trans z) h0⟩, FrO.of hF⟩
theorem nw_IAE_IOB {G : X_G} (hG : GOK G) : (Jvm.Cond.not (Jvm.Cond.castable "java/lang/IllegalArgumentException" "java/lang/IndexOutOfBoundsException")).before #[Value.ref (gb G)] (gs G) = true := an_l (an_l (an_l (an_r (an_l (an_l (an_l (an_l (an_l (an_r (an_l (nw_0 hG)))))))))))
theorem nw_ISE_IOB {G : X_G} (hG : GOK G) : (Jvm.Cond.not (Jvm.Cond.castable "java/lang/IllegalStateException" "java/lang/IndexOutOfBoundsException")).before #[Value.ref (gb G)] (gs G) = true := an_r (an_r (an_r (an_r (an_l (an_l (an_l (an_l (an_l (an_l (an_r (an_l (nw_0 hG))))))))))))
theorem nw_ISE_IAE {G : X_G} (hG : GOK G) : (Jvm.Cond.not (Jvm.Cond.castable "java/lang/IllegalStateException" "java/lang/IllegalArgumentException")).before #[Value.ref (gb G)] (gs G) = true := an_r (an_r (an_l (an_l (an_r (an_l (an_r (an_r (an_r (an_l (an_l (nw_0 hG)))))))))))
theorem nw_NSE_IOB {G : X_G} (hG : GOK G) : (Jvm.Cond.not (Jvm.Cond.castable "java/util/NoSuchElementException" "java/lang/IndexOutOfBoundsException")).before #[Value.ref (gb G)] (gs G) = true := an_l (an_r (an_l (an_l (an_r (an_l (an_l (an_l (an_l (an_r (an_l (nw_0 hG)))))))))))
/-! an operation that throws leaves the state -/
theorem e_opUndo {S : X_S} : (opUndo S).1 ≠ 0 → (opUndo S).2.2 = S := by
  unfold opUndo
  split
  · intro _; rfl
  · intro h; exact absurd rfl h
theorem e_opRestore {S : X_S} : (opRestore S).1 ≠ 0 → (opRestore S).2.2 = S := by
  unfold opRestore
  cases sV S with
  | none => intro _; rfl
  | some R => intro h; exact absurd rfl h
theorem e_opReverse {S : X_S} {x : Int32} : (opReverse S x).1 ≠ 0 → (opReverse S x).2.2 = S := by
  unfold opReverse
  cases rc (sR S) x with
  | none => intro _; rfl
  | some r =>
    dsimp only [Option.elim]
    repeat' split
    all_goals first | (intro _; rfl) | (intro h; exact absurd rfl h)
theorem e_opShift {S : X_S} {x s : Int32} : (opShift S x s).1 ≠ 0 → (opShift S x s).2.2 = S := by
  unfold opShift
  cases rc (sR S) x with
  | none => intro _; rfl
  | some r =>
    dsimp only [Option.elim]
    repeat' split
    all_goals first | (intro _; rfl) | (intro h; exact absurd rfl h)
theorem e_opQuant {S : X_S} {x s : Int32} : (opQuant S x s).1 ≠ 0 → (opQuant S x s).2.2 = S := by
  unfold opQuant
  cases rc (sR S) x with
  | none => intro _; rfl
  | some r =>
    dsimp only [Option.elim]
    repeat' split
    all_goals first | (intro _; rfl) | (intro h; exact absurd rfl h)
theorem e_opKeepP {S : X_S} {x s : Int32} : (opKeepP S x s).1 ≠ 0 → (opKeepP S x s).2.2 = S := by
  unfold opKeepP
  cases rc (sR S) x with
  | none => intro _; rfl
  | some r =>
    dsimp only [Option.elim]
    repeat' split
    all_goals first | (intro _; rfl) | (intro h; exact absurd rfl h)
theorem e_opKeepA {S : X_S} {x s : Int32} : (opKeepA S x s).1 ≠ 0 → (opKeepA S x s).2.2 = S := by
  unfold opKeepA
  cases rc (sR S) x with
  | none => intro _; rfl
  | some r =>
    dsimp only [Option.elim]
    repeat' split
    all_goals first | (intro _; rfl) | (intro h; exact absurd rfl h)
theorem e_opScale {S : X_S} {x s t u : Int32} : (opScale S x s t u).1 ≠ 0 → (opScale S x s t u).2.2 = S := by
  unfold opScale
  cases rc (sR S) x with
  | none => intro _; rfl
  | some r =>
    dsimp only [Option.elim]
    repeat' split
    all_goals first | (intro _; rfl) | (intro h; exact absurd rfl h)
theorem e_opRemB {S : X_S} {x s t : Int32} : (opRemB S x s t).1 ≠ 0 → (opRemB S x s t).2.2 = S := by
  unfold opRemB
  cases rc (sR S) x with
  | none => intro _; rfl
  | some r =>
    dsimp only [Option.elim]
    repeat' split
    all_goals first | (intro _; rfl) | (intro h; exact absurd rfl h)
theorem e_opNorm {S : X_S} {x s : Int32} : (opNorm S x s).1 ≠ 0 → (opNorm S x s).2.2 = S := by
  unfold opNorm
  cases rc (sR S) x with
  | none => intro _; rfl
  | some r =>
    dsimp only [Option.elim]
    repeat' split
    all_goals first | (intro _; rfl) | (intro h; exact absurd rfl h)
theorem e_opSetS {S : X_S} {x s t : Int32} : (opSetS S x s t).1 ≠ 0 → (opSetS S x s t).2.2 = S := by
  unfold opSetS
  cases rc (sR S) x with
  | none => intro _; rfl
  | some r =>
    dsimp only [Option.elim]
    repeat' split
    all_goals first | (intro _; rfl) | (intro h; exact absurd rfl h)
theorem e_opAdd {S : X_S} {x s t : Int32} : (opAdd S x s t).1 ≠ 0 → (opAdd S x s t).2.2 = S := by
  unfold opAdd
  cases rc2 (sR S) x s with
  | none => intro _; rfl
  | some r =>
    dsimp only [Option.elim]
    repeat' split
    all_goals first | (intro _; rfl) | (intro h; exact absurd rfl h)
theorem e_opAppR {S : X_S} {x s : Int32} : (opAppR S x s).1 ≠ 0 → (opAppR S x s).2.2 = S := by
  unfold opAppR
  cases rc2 (sR S) x s with
  | none => intro _; rfl
  | some r =>
    dsimp only [Option.elim]
    repeat' split
    all_goals first | (intro _; rfl) | (intro h; exact absurd rfl h)
theorem e_opInter {S : X_S} {x s : Int32} : (opInter S x s).1 ≠ 0 → (opInter S x s).2.2 = S := by
  unfold opInter
  cases rc2 (sR S) x s with
  | none => intro _; rfl
  | some r =>
    dsimp only [Option.elim]
    repeat' split
    all_goals first | (intro _; rfl) | (intro h; exact absurd rfl h)
theorem e_opStretch {S : X_S} {x : Int32} : (opStretch S x).1 ≠ 0 → (opStretch S x).2.2 = S := by
  unfold opStretch
  cases rc (sR S) x with
  | none => intro _; rfl
  | some r =>
    dsimp only [Option.elim]
    repeat' split
    all_goals first | (intro _; rfl) | (intro h; exact absurd rfl h)
theorem e_opFold {S : X_S} {x : Int32} : (opFold S x).1 ≠ 0 → (opFold S x).2.2 = S := by
  unfold opFold
  cases rc (sR S) x with
  | none => intro _; rfl
  | some r =>
    dsimp only [Option.elim]
    repeat' split
    all_goals first | (intro _; rfl) | (intro h; exact absurd rfl h)
theorem e_opRemR {S : X_S} {x : Int32} : (opRemR S x).1 ≠ 0 → (opRemR S x).2.2 = S := by
  unfold opRemR
  cases rc (sR S) x with
  | none => intro _; rfl
  | some r =>
    dsimp only [Option.elim]
    repeat' split
    all_goals first | (intro _; rfl) | (intro h; exact absurd rfl h)
theorem e_opCopy {S : X_S} {x : Int32} : (opCopy S x).1 ≠ 0 → (opCopy S x).2.2 = S := by
  unfold opCopy
  cases rc (sR S) x with
  | none => intro _; rfl
  | some r =>
    dsimp only [Option.elim]
    repeat' split
    all_goals first | (intro _; rfl) | (intro h; exact absurd rfl h)
theorem e_opRename {S : X_S} {x : Int32} : (opRename S x).1 ≠ 0 → (opRename S x).2.2 = S := by
  unfold opRename
  cases rc (sR S) x with
  | none => intro _; rfl
  | some r =>
    dsimp only [Option.elim]
    repeat' split
    all_goals first | (intro _; rfl) | (intro h; exact absurd rfl h)
theorem e_opFmtS {S : X_S} {x : Int32} : (opFmtS S x).1 ≠ 0 → (opFmtS S x).2.2 = S := by
  unfold opFmtS
  cases rc (sR S) x with
  | none => intro _; rfl
  | some r =>
    dsimp only [Option.elim]
    repeat' split
    all_goals first | (intro _; rfl) | (intro h; exact absurd rfl h)
theorem e_opFmtP {S : X_S} {x s : Int32} : (opFmtP S x s).1 ≠ 0 → (opFmtP S x s).2.2 = S := by
  unfold opFmtP
  cases rc (sR S) x with
  | none => intro _; rfl
  | some r =>
    dsimp only [Option.elim]
    repeat' split
    all_goals first | (intro _; rfl) | (intro h; exact absurd rfl h)
theorem e_opAddS {S : X_S} {x : Int32} : (opAddS S x).1 ≠ 0 → (opAddS S x).2.2 = S := by
  unfold opAddS
  repeat' split
  all_goals first | (intro _; rfl) | (intro h; exact absurd rfl h)
theorem e_opTruncate {S : X_S} {x : Int32} : (opTruncate S x).1 ≠ 0 → (opTruncate S x).2.2 = S := by
  unfold opTruncate
  repeat' split
  all_goals first | (intro _; rfl) | (intro h; exact absurd rfl h)
theorem e_opAppend {S : X_S} {x s t u w : Int32} : (opAppend S x s t u w).1 ≠ 0 → (opAppend S x s t u w).2.2 = S := by
  unfold opAppend
  repeat' split
  all_goals first | (intro _; rfl) | (intro h; exact absurd rfl h)
/-! a float that is a number is one as a double -/
theorem f2d_n64 {x : UInt32} (h : vf_n32 x) : vf_n64 (FP.f2d x) := by
  have hx : x.toNat % 2147483648 ≤ 2139095040 := by
    unfold vf_n32 at h
    rw [UInt32.le_iff_toNat_le, UInt32.toNat_and, show (0x7fffffff : UInt32).toNat = 2 ^ 31 - 1 by decide, Nat.and_two_pow_sub_one_eq_mod] at h
    exact h
  have e1 : FP.Core.b32.tails = 8388608 := by decide +kernel
  have e2 : FP.Core.b32.exps = 256 := by decide +kernel
  have hd : (∃ s, FP.Core.decode FP.Core.b32 x.toNat = .inf s) ∨ ∃ s c q, FP.Core.decode FP.Core.b32 x.toNat = .fin s c q := by
    unfold FP.Core.decode
    split
    next h1 =>
      have h2 : FP.Core.fieldT FP.Core.b32 x.toNat = 0 := by
        unfold FP.Core.fieldE at h1
        unfold FP.Core.fieldT
        rw [e1, e2] at h1
        rw [e1]
        omega
      rw [if_pos h2]
      exact Or.inl ⟨_, rfl⟩
    · split
      · exact Or.inr ⟨_, _, _, rfl⟩
      · exact Or.inr ⟨_, _, _, rfl⟩
  have hn : FP.Core.fIsNaN x = false := by
    unfold FP.Core.fIsNaN FP.Core.isNaN
    refine decide_eq_false ?_
    rcases hd with ⟨s, e⟩ | ⟨s, c, q, e⟩ <;> rw [e] <;> intro z <;> cases z
  unfold FP.f2d
  rw [hn, if_neg (by decide)]
  unfold FP.Core.f2d FP.Core.convert
  rcases hd with ⟨s, e⟩ | ⟨s, c, q, e⟩
  · rw [e]
    exact fp_n64 (s := s) (e := FP.Core.b64.exps - 1) (t := 0) rfl (by decide +kernel) (by decide +kernel) (by decide +kernel)
  · rw [e]
    rcases fp_rr fpG64 s c 1 q with ⟨s', g⟩ | ⟨s', c', q', g, g2, g3, g4⟩
    · rw [show FP.Core.round FP.Core.b64 (.fin s c q) = .inf s' from g]
      exact fp_n64 (s := s') (e := FP.Core.b64.exps - 1) (t := 0) rfl (by decide +kernel) (by decide +kernel) (by decide +kernel)
    · rw [show FP.Core.round FP.Core.b64 (.fin s c q) = .fin s' c' q' from g]
      obtain ⟨e', t', k1, k2, k3, k4⟩ := fp_enc fpG64 (s := s') g2 g3 g4
      have e3 : FP.Core.b64.exps = 2048 := by decide +kernel
      have e4 : FP.Core.b64.tails = 4503599627370496 := by decide +kernel
      refine fp_n64 k1 ?_ (by omega) k3
      rw [e3] at k2
      rw [e4] at k3
      rw [e3, e4]
      omega
theorem opPurity_n {S : X_S} {x : Int32} (h : (opPurity S x).1 = 0) : vf_n32 (opPurity S x).2 := by
  revert h
  unfold opPurity
  cases rc (sR S) x with
  | none => intro h; exact absurd h (show ¬ (1 : Int32) = 0 by decide)
  | some r =>
    intro _
    dsimp only [Option.elim]
    split
    · unfold vf_n32; decide +kernel
    next h => exact l2f_n32 _ _ h
theorem in01 : vp_in 0 1 := by unfold vp_in; decide

