/-! ===== the reference's object: ten arrays of ints, eleven numbers ===== -/
def mlen : Nat → Nat
  | 0 => 433
  | 1 => 433
  | 2 => 3464
  | 3 => 433
  | 4 => 900
  | 5 => 1000
  | _ => 64
/-- numbers: 0 isSaved 1 edits 2 filled 3 formattedLength 4 errorKind 5 errorOffset 6 thrown 7 start 8 next 9 token 10 value; arrays: 0 s 1 aside 2 history 3 saved 4 buffer 5 formatted 6 coefficients 7 others 8 peaks 9 made -/
def moF (P : Nat → Nat) (V : Nat → Int32) : List Value := [.ref (P 0), .ref (P 1), .ref (P 2), .ref (P 3), .int (V 0), .ref (P 4), .ref (P 5), .ref (P 6), .ref (P 7), .ref (P 8), .ref (P 9), .int (V 1), .int (V 2), .int (V 3), .int (V 4), .int (V 5), .int (V 6), .int (V 7), .int (V 8), .int (V 9), .int (V 10)]
def Mdl (M : X_M) (m : Nat) (P : Nat → Nat) (V : Nat → Int32) (A : Nat → Nat → Int32) : Prop := M m = some (ob 10 0 (moF P V)) ∧ (∀ i, i < 10 → M (P i) = some (ia 10 (mlen i) (A i))) ∧ ∀ i j, i < 10 → j < 10 → P i = P j → i = j
abbrev Fm (M M' : X_M) : Prop := Fr (fun g => g = 10) M M'
theorem Mdl.arr {M : X_M} {m : Nat} {P : Nat → Nat} {V : Nat → Int32} {A : Nat → Nat → Int32} (h : Mdl M m P V A) (i : Nat) (hi : i < 10) : M (P i) = some (ia 10 (mlen i) (A i)) := h.2.1 i hi
theorem Mdl.setV {M : X_M} {m : Nat} {P : Nat → Nat} {V V' : Nat → Int32} {A : Nat → Nat → Int32} (h : Mdl M m P V A) : Mdl (mu M m (ob 10 0 (moF P V'))) m P V' A ∧ Fm M (mu M m (ob 10 0 (moF P V'))) :=
  ⟨⟨mu_s, fun i hi => mu_o (mx_ne (h.2.1 i hi) h.1 (by simp)) (h.2.1 i hi), h.2.2⟩, Fr.set h.1 rfl⟩
theorem Mdl.setA {M : X_M} {m : Nat} {P : Nat → Nat} {V : Nat → Int32} {A : Nat → Nat → Int32} (h : Mdl M m P V A) {j : Nat} (hj : j < 10) (f : Nat → Int32) : Mdl (mu M (P j) (ia 10 (mlen j) f)) m P V (va_up A j f) ∧ Fm M (mu M (P j) (ia 10 (mlen j) f)) := by
  refine ⟨⟨mu_o (mx_ne h.1 (h.2.1 j hj) (by simp)) h.1, fun i hi => ?_, h.2.2⟩, Fr.set (h.2.1 j hj) rfl⟩
  by_cases hij : i = j
  · subst hij
    rw [mu_s]
    simp [va_up]
  · rw [mu_n (fun h9 => hij (h.2.2 i j hi hj h9)), h.2.1 i hi]
    simp [va_up, hij]
theorem va_up_s {α : Type} {f : Nat → α} {k : Nat} {v : α} : va_up f k v k = v := if_pos rfl
theorem va_up_n {α : Type} {f : Nat → α} {k j : Nat} {v : α} (h : j ≠ k) : va_up f k v j = f j := if_neg h
/-- the answer alone -/
abbrev Pr (v : Value) (M : X_M) : Option Value → X_M → Prop := fun r M' => r = some v ∧ M' = M
/-- a truth value as Java has it -/
def xB (p : Prop) [Decidable p] : Int32 := if p then 1 else 0
theorem xB_t {p : Prop} [Decidable p] (h : p) : xB p = 1 := if_pos h
theorem xB_f {p : Prop} [Decidable p] (h : ¬ p) : xB p = 0 := if_neg h
theorem xB_0 {p : Prop} [Decidable p] : xB p = 0 ↔ ¬ p := by
  by_cases h : p
  · rw [xB_t h]; exact ⟨fun q => absurd q (by decide), fun q => absurd h q⟩
  · rw [xB_f h]; exact ⟨fun _ => h, fun _ => rfl⟩
theorem xB_ne {p : Prop} [Decidable p] : ¬ xB p = 0 ↔ p := by rw [xB_0, Decidable.not_not]
theorem xB_nar {p : Prop} [Decidable p] : narrow .boolean (.int (xB p)) = .int (xB p) := by
  by_cases h : p
  · rw [xB_t h]; rfl
  · rw [xB_f h]; rfl
theorem xB_iff {p q : Prop} [Decidable p] [Decidable q] (h : p ↔ q) : xB p = xB q := by
  by_cases hp : p
  · rw [xB_t hp, xB_t (h.mp hp)]
  · rw [xB_f hp, xB_f (fun x => hp (h.mpr x))]
theorem nI_lit (n : Nat) : (OfNat.ofNat n : Int32) = nI n := rfl
theorem nI_eq_of {a b : Nat} (h : a = b) : nI a = nI b := congrArg nI h
/-- a place in one of the reference's arrays -/
theorem in_m (j : Nat) {x : Int32} {n : Nat} (hx : x = nI n) (h : n < mlen j) : vp_in x (mlen j) := by
  subst hx
  refine vp_in_nI h ?_
  unfold mlen
  split <;> decide
section MX
variable {G : X_G} {C : X_C} {M : X_M} {kc ks pc nL : Nat} {lv : List (Option Value)} {rest : List Value} {y : MethodName} {cc : ByteArray} {ret : Option FieldType} {rm : Room} {m : Nat} {P : Nat → Nat} {V : Nat → Int32} {A : Nat → Nat → Int32}
theorem x_mput (hC : Cx G C y cc nL ret rm) (hm : Mdl M m P V A) {index : Nat} (k j : Nat) {x : Int32} {ty : FieldType} (hk : k < 21) (hlink : Cond.fieldLink y.cls index RX3 (TX3 k).2.1 (TX3 k).2.2.1 ∈ lw_all) (href : (TX3 k).1 = RX3) (hfin : (TX3 k).2.2.2 = false) (hd : parseFieldDescriptor (TX3 k).2.2.1 = some ty) (hn : narrow ty (.int x) = .int x) (hfit : fits ty (.int x) = true) (hs : (moF P V).set k (.int x) = moF P (upd V j x)) (hdg : decode cc pc = .ok (.putfield index, 3)) (kk : ∀ M' : X_M, Mdl M' m P (upd V j x) A → Fm M M' → Wg G C M' kc ks (pc + 3) lv rest) : Wg G C M kc ks pc lv (.int x :: .ref m :: rest) :=
  x_put hC k hm.1 (by decide) rfl hk hlink href hfin hd hn hfit (by unfold moF; simpa using hk) hs hdg (kk _ hm.setV.1 hm.setV.2)
theorem x_miast (hC : Cx G C y cc nL ret rm) (hm : Mdl M m P V A) (j : Nat) {i x : Int32} (hj : j < 10) (hin : vp_in i (mlen j)) (hdg : decode cc pc = .ok (.iastore, 1)) (kk : ∀ M' : X_M, Mdl M' m P V (va_up A j (upd (A j) i.toNatClampNeg x)) → Fm M M' → Wg G C M' kc ks (pc + 1) lv rest) : Wg G C M kc ks pc lv (.int x :: .int i :: .ref (P j) :: rest) :=
  x_iast hC (hm.arr j hj) (by decide) hin hdg (kk _ (hm.setA hj _).1 (hm.setA hj _).2)
theorem x_miastN (hC : Cx G C y cc nL ret rm) (hm : Mdl M m P V A) (j : Nat) {i : Nat} {x : Int32} (hj : j < 10) (h : i < mlen j) (hn : mlen j < 2 ^ 31) (hdg : decode cc pc = .ok (.iastore, 1)) (kk : ∀ M' : X_M, Mdl M' m P V (va_up A j (upd (A j) i x)) → Fm M M' → Wg G C M' kc ks (pc + 1) lv rest) : Wg G C M kc ks pc lv (.int x :: .int (nI i) :: .ref (P j) :: rest) :=
  x_miast hC hm j hj (vp_in_nI h hn) hdg (by rw [nI_clamp (Nat.lt_trans h hn)]; exact kk)
theorem x_if_eqB (hC : Cx G C y cc nL ret rm) {p : Prop} [Decidable p] {off : Int} {tgt : Nat} (hdg : decode cc pc = .ok (.ifCond .eq off, 3)) (ht : (pc : Int) + off = (tgt : Int)) (kt : ¬ p → Wg G C M kc ks tgt lv rest) (kf : p → Wg G C M kc ks (pc + 3) lv rest) : Wg G C M kc ks pc lv (.int (xB p) :: rest) :=
  x_if_eq hC hdg ht (fun h => kt (xB_0.mp h)) (fun h => kf (xB_ne.mp h))
theorem x_if_neB (hC : Cx G C y cc nL ret rm) {p : Prop} [Decidable p] {off : Int} {tgt : Nat} (hdg : decode cc pc = .ok (.ifCond .ne off, 3)) (ht : (pc : Int) + off = (tgt : Int)) (kt : p → Wg G C M kc ks tgt lv rest) (kf : ¬ p → Wg G C M kc ks (pc + 3) lv rest) : Wg G C M kc ks pc lv (.int (xB p) :: rest) :=
  x_if_ne hC hdg ht (fun h => kt (xB_ne.mp h)) (fun h => kf (xB_0.mp h))
end MX
/-- a loop that counts up to n -/
theorem x_up {n : Nat} {I : Nat → Prop} (h : ∀ k, k ≤ n → (k < n → I (k + 1)) → I k) : ∀ k, k ≤ n → I k := by
  have aux : ∀ d k, k + d = n → I k := by
    intro d
    induction d with
    | zero => intro k hk; exact h k (by omega) (fun q => by omega)
    | succ d ih => intro k hk; exact h k (by omega) (fun _ => ih (k + 1) (by omega))
  exact fun k hk => aux (n - k) k (by omega)
def iS (g : Nat → Int32) : Nat → Int32
  | 0 => 0
  | n + 1 => iS g n + g n
def jS (g : Nat → Int64) : Nat → Int64
  | 0 => 0
  | n + 1 => jS g n + g n
theorem iS_cong {g g' : Nat → Int32} : ∀ {n : Nat}, (∀ k, k < n → g k = g' k) → iS g n = iS g' n
  | 0, _ => rfl
  | n + 1, h => by
    show iS g n + g n = iS g' n + g' n
    rw [iS_cong (fun k hk => h k (by omega)), h n (by omega)]
theorem jS_cong {g g' : Nat → Int64} : ∀ {n : Nat}, (∀ k, k < n → g k = g' k) → jS g n = jS g' n
  | 0, _ => rfl
  | n + 1, h => by
    show jS g n + g n = jS g' n + g' n
    rw [jS_cong (fun k hk => h k (by omega)), h n (by omega)]

