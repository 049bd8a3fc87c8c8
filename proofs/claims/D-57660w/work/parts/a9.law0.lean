/-! ===== the law: its state between two calls ===== -/
abbrev yL (nm : String) : MethodName := ⟨RX0, nm, ""⟩
/-- all but what is frozen and the reference's -/
abbrev PL : Nat → Prop := fun g => g ≠ 0 ∧ g ≠ 10
theorem pl0 : ¬ PL 0 := fun z => z.1 rfl
theorem pl10 : ¬ PL 10 := fun z => z.2 rfl
theorem FrO.q {o : Nat} {M M' : X_M} {e : X_E} (h : FrO o M M') (ho : M o = some e) (h11 : e.1 = 11) : Fr PL M M' := fun q e' h1 h2 => h q e' h1 (fun z => h2 ⟨z.1, z.2.1⟩) (fun z => by
  subst z
  rw [h1] at ho
  cases ho
  exact h2 ⟨by rw [h11]; decide, by rw [h11]; decide⟩)
theorem pw_pl {M M' : X_M} (h : Fr PW M M') : Fr PL M M' := h.wk fun g z => ⟨z.1, z.2.1⟩
theorem Mdl.pl {M M' : X_M} {m : Nat} {P : Nat → Nat} {V : Nat → Int32} {A : Nat → Nat → Int32} (h : Mdl M m P V A) (hF : Fr PL M M') : Mdl M' m P V A := ⟨hF.z pl10 h.1, fun i hi => hF.z pl10 (h.2.1 i hi), h.2.2⟩
def XLS (T : X_T) (b L x m o od : Nat) (xs : Nat → Int32) (M : X_M) : Prop :=
  M b = some (ia 0 L xs) ∧ M1c T M ∧ M2c T M ∧ (∃ S P V A, CRep S M T x ∧ Mdl M m P V A ∧ MRep S V A) ∧ (∃ f, M o = some (la 11 1 f)) ∧ (∃ f, M od = some (da 11 1 f))
section LAW0
variable {T : X_T} {b L x m o od : Nat} {xs : Nat → Int32} {M M1 M2 : X_M} {S : X_S} {P : Nat → Nat} {V : Nat → Int32} {A : Nat → Nat → Int32}
theorem XLS.nx (h : XLS T b L x m o od xs M) (hF1 : Fr PL M M1) (ho : ∃ f, M1 o = some (la 11 1 f)) (hd : ∃ f, M1 od = some (da 11 1 f)) (hR : CRep S M1 T x) (hF2 : Fm M1 M2) (hm : Mdl M2 m P V A) (hS : MRep S V A) : XLS T b L x m o od xs M2 := by
  obtain ⟨h1, h2, h3, -, -, -⟩ := h
  obtain ⟨f, ho⟩ := ho
  obtain ⟨fd, hd⟩ := hd
  exact ⟨hF2.z (by decide) (hF1.z pl0 h1), (h2.fr hF1 pl0).fr hF2 (by decide), (h3.fr hF1 pl0).fr hF2 (by decide), ⟨S, P, V, A, hR.fr hF2 (by decide) (by decide) (by decide) (by decide) (fun g z e => by have e : g = 10 := e; omega), hm, hS⟩, ⟨f, hF2.z (by decide) ho⟩, ⟨fd, hF2.z (by decide) hd⟩⟩
theorem xls_od (hF : FrO o M M1) {f : Nat → Int64} (ho : M o = some (la 11 1 f)) {fd : Nat → UInt64} (hd : M od = some (da 11 1 fd)) : ∃ f, M1 od = some (da 11 1 f) := ⟨fd, hF od _ hd pw11 (fun e => by rw [e, ho] at hd; cases hd)⟩
theorem xls_o (hF : FrO od M M1) {f : Nat → Int64} (ho : M o = some (la 11 1 f)) {fd : Nat → UInt64} (hd : M od = some (da 11 1 fd)) : ∃ f, M1 o = some (la 11 1 f) := ⟨f, hF o _ ho pw11 (fun e => by rw [e, hd] at ho; cases ho)⟩
end LAW0
/-- what follows a call -/
def LN (G : X_G) (C : X_C) (T : X_T) (b L x m o od i : Nat) (xs : Nat → Int32) (kc ks : Nat) : Prop :=
  ∀ (M : X_M) (v6 v7 v8 : Option Value), XLS T b L x m o od xs M → Wg G C M kc ks 4085 [some (.ref b), some (.ref x), some (.ref m), some (.ref o), some (.ref od), some (.int (nI i)), v6, v7, v8] []
theorem lg_same {a b : Int64} (h : a = b) : lg_cmp a b = 0 := by
  subst h
  unfold lg_cmp
  simp
theorem n64_dec {y : UInt64} (h : vf_n64 y) : FP.Core.decode FP.Core.b64 y.toNat ≠ .nan := by
  have hx : y.toNat % 9223372036854775808 ≤ 9218868437227405312 := by
    unfold vf_n64 at h
    rw [UInt64.le_iff_toNat_le, UInt64.toNat_and, show (0x7fffffffffffffff : UInt64).toNat = 2 ^ 63 - 1 by decide, Nat.and_two_pow_sub_one_eq_mod] at h
    exact h
  have e1 : FP.Core.b64.tails = 4503599627370496 := by decide +kernel
  have e2 : FP.Core.b64.exps = 2048 := by decide +kernel
  unfold FP.Core.decode
  split
  next h1 =>
    have h2 : FP.Core.fieldT FP.Core.b64 y.toNat = 0 := by
      unfold FP.Core.fieldE at h1
      unfold FP.Core.fieldT
      rw [e1, e2] at h1
      rw [e1]
      omega
    rw [if_pos h2]
    intro z; cases z
  · split
    · intro z; cases z
    · intro z; cases z
theorem ord_self {d : FP.Core.Datum} (h : d ≠ .nan) : FP.Core.order d d = some .eq := by
  have hc : ∀ a : Int, compare a a = .eq := fun a => by simp [compare, compareOfLessAndEq]
  cases d with
  | nan => exact absurd rfl h
  | inf => exact congrArg some (hc _)
  | fin s c q => exact congrArg some (hc _)
theorem dcmp_n64 {y : UInt64} {op : CmpOp} (h : vf_n64 y) : Op.cmpValue (FP.dcmp y y) op = 0 := by
  rw [show FP.dcmp y y = some .eq from ord_self (n64_dec h)]
  rfl

