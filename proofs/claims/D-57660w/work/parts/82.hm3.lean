/-! ===== chains of nodes: one node written, one added, one taken out ===== -/
section HCH
variable {M M' : X_M} {g m n k t : Nat} {w : List Nat} {o : Option Nat} {l r : List HN} {B : Nat → List HN}
theorem Nd.mem : ∀ {l : List HN} {o : Option Nat}, Nd M g o l → ∀ nd ∈ l, ∃ nx, M nd.1 = some (ob g 9 [.int (spr (nmH nd.2.1)), .ref nd.2.2.1, .ref nd.2.2.2, va_rf nx]) ∧ NM M nd.2.2.1 nd.2.1
  | x :: r, _, ⟨h1, nx, h2, h3, h4⟩, nd, hm => by
    rcases List.mem_cons.mp hm with h | h
    · subst h; exact ⟨nx, h2, h3⟩
    · exact Nd.mem h4 nd h
theorem Nd.keep (hN : ∀ a w, NM M a w → NM M' a w) : ∀ {l : List HN} {o : Option Nat}, Nd M g o l → (∀ nd ∈ l, M' nd.1 = M nd.1) → Nd M' g o l
  | [], _, h, _ => h
  | x :: r, _, ⟨h1, nx, h2, h3, h4⟩, hk => ⟨h1, nx, (hk x List.mem_cons_self).trans h2, hN _ _ h3, Nd.keep hN h4 (fun nd h => hk nd (List.mem_cons_of_mem _ h))⟩
theorem nd_uni {x y : HN} {v v' : Value} {a b : Option Nat} (h1 : M x.1 = some (ob g 9 [.int (spr (nmH x.2.1)), .ref x.2.2.1, v, va_rf a])) (n1 : NM M x.2.2.1 x.2.1) (h2 : M y.1 = some (ob g 9 [.int (spr (nmH y.2.1)), .ref y.2.2.1, v', va_rf b])) (n2 : NM M y.2.2.1 y.2.1) (e : x.1 = y.1) : x.2.1 = y.2.1 := by
  rw [e, h2] at h1
  have h3 := congrArg (fun z : Option X_E => z) h1
  simp only [Option.some.injEq, Prod.mk.injEq, Sum.inl.injEq, List.cons.injEq, Value.ref.injEq, true_and, and_true] at h3
  rw [h3.2.1] at n2
  exact n1.uni n2
theorem NM.w1 {a q : Nat} {e0 e : X_E} (h : NM M a w) (hq : M q = some e0) (h0 : e0.1 ≠ 0) : NM (mu M q e) a w := h.fr (P := fun g => g = e0.1) (Fr.set hq rfl) (fun z => h0 z.symm)
theorem NM.w0 {a q : Nat} {e : X_E} (h : NM M a w) (hq : M q = none) : NM (mu M q e) a w := h.fr (P := fun _ => False) (Fr.new hq) id
/-- a cell is written that is no node's of the chain -/
theorem Nd.w1 {q : Nat} {e0 e : X_E} (h : Nd M g o l) (hq : M q = some e0) (h0 : e0.1 ≠ 0) (hne : ∀ nd ∈ l, nd.1 ≠ q) : Nd (mu M q e) g o l := Nd.keep (fun a w h => h.w1 hq h0) h (fun nd hm => mu_n (hne nd hm))
theorem Nd.w0 {q : Nat} {e : X_E} (h : Nd M g o l) (hq : M q = none) : Nd (mu M q e) g o l := Nd.keep (fun a w h => h.w0 hq) h (fun nd hm => mu_n (fun z => by obtain ⟨nx, h1, -⟩ := h.mem nd hm; rw [z, hq] at h1; cases h1))
abbrev hPw (l : List HN) : Prop := l.Pairwise fun n n' => n.2.1 ≠ n'.2.1
theorem Nd.apart {x : HN} {pre : List HN} (h : Nd M g o (pre ++ x :: r)) (hp : hPw (pre ++ x :: r)) : (∀ nd ∈ pre, nd.1 ≠ x.1) ∧ ∀ nd ∈ r, nd.1 ≠ x.1 := by
  obtain ⟨nx, h1, h2⟩ := h.mem x (List.mem_append_right _ List.mem_cons_self)
  obtain ⟨p1, p2, p3⟩ := List.pairwise_append.mp hp
  refine ⟨fun nd hm e => ?_, fun nd hm e => ?_⟩
  · obtain ⟨nx', h1', h2'⟩ := h.mem nd (List.mem_append_left _ hm)
    exact p3 nd hm x List.mem_cons_self (nd_uni h1' h2' h1 h2 e)
  · obtain ⟨nx', h1', h2'⟩ := h.mem nd (List.mem_append_right _ (List.mem_cons_of_mem _ hm))
    exact (List.pairwise_cons.mp p2).1 nd hm (nd_uni h1 h2 h1' h2' e.symm)
abbrev hC9 (g : Nat) (x : HN) (o : Option Nat) : X_E := ob g 9 [.int (spr (nmH x.2.1)), .ref x.2.2.1, .ref x.2.2.2, va_rf o]
/-- another rest behind a node -/
theorem Nd.splice {x : HN} {r' : List HN} {o' : Option Nat} (hg : g ≠ 0) (hr : Nd (mu M x.1 (hC9 g x o')) g o' r') : ∀ (pre : List HN) (o : Option Nat), Nd M g o (pre ++ x :: r) → (∀ nd ∈ pre, nd.1 ≠ x.1) → Nd (mu M x.1 (hC9 g x o')) g o (pre ++ x :: r')
  | [], o, ⟨h1, nx, h2, h3, h4⟩, _ => ⟨h1, o', mu_s, h3.w1 h2 hg, hr⟩
  | y :: pre, o, h, hne => by
    obtain ⟨nx0, h9, -⟩ := h.mem x (List.mem_append_right _ List.mem_cons_self)
    obtain ⟨h1, nx, h2, h3, h4⟩ := h
    exact ⟨h1, nx, mu_o (hne y List.mem_cons_self) h2, h3.w1 h9 hg, Nd.splice hg hr pre nx h4 (fun nd hm => hne nd (List.mem_cons_of_mem _ hm))⟩
/-- another value in a node -/
theorem Nd.val {x : HN} {v : Nat} {nx : Option Nat} (hg : g ≠ 0) (hx : M x.1 = some (hC9 g x nx)) (hr : ∀ nd ∈ r, nd.1 ≠ x.1) : ∀ (pre : List HN) (o : Option Nat), Nd M g o (pre ++ x :: r) → (∀ nd ∈ pre, nd.1 ≠ x.1) → Nd (mu M x.1 (hC9 g (x.1, x.2.1, x.2.2.1, v) nx)) g o (pre ++ (x.1, x.2.1, x.2.2.1, v) :: r)
  | [], o, ⟨h1, nx', h2, h3, h4⟩, _ => by
    have e := hx.symm.trans h2
    have e2 := congrArg (fun z : Option X_E => z) e
    simp only [Option.some.injEq, Prod.mk.injEq, Sum.inl.injEq, List.cons.injEq, true_and, and_true] at e2
    have e3 : nx = nx' := by cases nx <;> cases nx' <;> simp_all [va_rf]
    subst e3
    exact ⟨h1, nx, mu_s, h3.w1 hx hg, h4.w1 hx hg hr⟩
  | y :: pre, o, ⟨h1, nx', h2, h3, h4⟩, hne => ⟨h1, nx', mu_o (hne y List.mem_cons_self) h2, h3.w1 hx hg, Nd.val hg hx hr pre nx' h4 (fun nd hm => hne nd (List.mem_cons_of_mem _ hm))⟩
/-! the search in a list of nodes -/
theorem hFind_skip : ∀ {pre : List HN}, (∀ nd ∈ pre, ¬ nd.2.1 = w) → hFind (pre ++ r) w = hFind r w
  | [], _ => rfl
  | x :: pre, h => by
    show hFind (x :: (pre ++ r)) w = _
    rw [hFind_miss (h x List.mem_cons_self)]
    exact hFind_skip (fun nd hm => h nd (List.mem_cons_of_mem _ hm))
theorem hFind_none (h : ∀ nd ∈ l, ¬ nd.2.1 = w) : hFind l w = none := by
  have := hFind_skip (r := []) h
  rw [List.append_nil] at this
  exact this
theorem hFind_drop {x : HN} (hx : ¬ x.2.1 = w) : ∀ (pre : List HN), hFind (pre ++ x :: r) w = hFind (pre ++ r) w
  | [] => hFind_miss hx
  | y :: pre => by
    show hFind (y :: (pre ++ x :: r)) w = hFind (y :: (pre ++ r)) w
    by_cases h : y.2.1 = w
    · rw [hFind_hit h, hFind_hit h]
    · rw [hFind_miss h, hFind_miss h]
      exact hFind_drop hx pre
theorem hFind_at {x : HN} {pre : List HN} (hp : ∀ nd ∈ pre, ¬ nd.2.1 = w) (hx : x.2.1 = w) : hFind (pre ++ x :: r) w = some x.2.2.2 := by
  rw [hFind_skip hp, hFind_hit hx]
/-! the buckets -/
theorem HB.upd {f f' : Nat → Option Nat} {l' : List HN} {i : Nat} (ht : M' t = some (oa g 3 16 f')) (hf : ∀ j, j ≠ i → f' j = f j) (hB : ∀ j, j < 16 → j ≠ i → Nd M' g (f j) (B j)) (hl : Nd M' g (f' i) l') (hh : ∀ nd ∈ l', hI nd.2.1 = i) (hp : hPw l')
    (h3 : ∀ j, j < 16 → (∀ n ∈ B j, hI n.2.1 = j) ∧ hPw (B j)) : HB M' g t (va_up B i l') := by
  refine ⟨f', ht, fun j hj => ?_⟩
  by_cases e : j = i
  · subst e
    rw [va_up_self]
    exact ⟨hl, hh, hp⟩
  · rw [va_up_ne _ _ e, hf j e]
    exact ⟨hB j hj e, h3 j hj⟩
theorem hS_out {i : Nat} {l' : List HN} : ∀ {k : Nat}, k ≤ i → hS (va_up B i l') k = hS B k
  | 0, _ => rfl
  | k + 1, h => by
    show hS (va_up B i l') k + (va_up B i l' k).length = hS B k + (B k).length
    rw [hS_out (by omega), va_up_ne _ _ (by omega)]
theorem hS_up {i : Nat} {l' : List HN} : ∀ {k : Nat}, i < k → hS (va_up B i l') k + (B i).length = hS B k + l'.length
  | 0, h => by omega
  | k + 1, h => by
    show hS (va_up B i l') k + (va_up B i l' k).length + (B i).length = hS B k + (B k).length + l'.length
    by_cases e : i = k
    · subst e
      rw [hS_out (Nat.le_refl _), va_up_self]
      omega
    · have := hS_up (l' := l') (k := k) (by omega : i < k)
      rw [va_up_ne _ _ (Ne.symm e)]
      omega
theorem hS_ge {i : Nat} : ∀ {k : Nat}, i < k → (B i).length ≤ hS B k
  | 0, h => by omega
  | k + 1, h => by
    show _ ≤ hS B k + (B k).length
    by_cases e : i = k
    · subst e; omega
    · have := hS_ge (k := k) (by omega : i < k); omega
/-- nodes of other buckets lie elsewhere -/
theorem nd_other {x y : HN} {a b : Option Nat} (h1 : M x.1 = some (hC9 g x a)) (n1 : NM M x.2.2.1 x.2.1) (h2 : M y.1 = some (hC9 g y b)) (n2 : NM M y.2.2.1 y.2.1) (h : hI x.2.1 ≠ hI y.2.1) : x.1 ≠ y.1 := fun e => h (by rw [nd_uni h1 n1 h2 n2 e])
end HCH

