/-! ===== the component's parser: where it ends; a recording ===== -/
/-- behind the last token that is read -/
def enR {α : Type} (b : Nat → Nat) (L : Nat) (r : Except (Nat × Nat) (α × Nat)) : Nat := match r with
  | .ok x => tkN b L x.2
  | .error x => tkN b L x.2
theorem pS2_end {b : Nat → Nat} {L s n : Nat} {ng : Bool} {k o : Nat} (h : pS2 b L s n ng = .error (k, o)) : o = s := by
  unfold pS2 at h
  split at h
  · split at h
    · cases h; rfl
    · cases h
  · cases h; rfl
theorem pS1_end {b : Nat → Nat} {L s n : Nat} {k o : Nat} (h : pS1 b L s n = .error (k, o)) : o = smS b L s := by
  unfold pS1 at h
  show o = if tkC b L s = 5 then adv b L s else s
  split at h
  · next h5 => rw [if_pos h5]; exact pS2_end h
  · next h5 => rw [if_neg h5]; exact pS2_end h
theorem tkN_adv {b : Nat → Nat} {L s : Nat} (h : s ≤ L) : tkN b L s ≤ tkN b L (adv b L s) := by
  have h1 := tkN_le b h
  have h2 := adv_le (b := b) h
  have h3 := tkN_le b h2.2
  have h4 := tkS_le b h1.2
  have h5 : tkN b L s ≤ adv b L s := h4.1
  omega
theorem pS2_adv {b : Nat → Nat} {L s n : Nat} {ng : Bool} {x : Int32} {s2 : Nat} (h : pS2 b L s n ng = .ok (x, s2)) : s2 = adv b L s := by
  unfold pS2 at h
  split at h
  · split at h
    · cases h
    · cases h; rfl
  · cases h
theorem pS1_adv {b : Nat → Nat} {L s n : Nat} {x : Int32} {s2 : Nat} (h : pS1 b L s n = .ok (x, s2)) : s2 = adv b L (smS b L s) := by
  unfold pS1 at h
  show s2 = adv b L (if tkC b L s = 5 then adv b L s else s)
  split at h
  · next h5 => rw [if_pos h5]; exact pS2_adv h
  · next h5 => rw [if_neg h5]; exact pS2_adv h
theorem pSs_bad {b : Nat → Nat} {L d s : Nat} {acc : List Int32} (hd : 1 ≤ d) (h : tkC b L s = 1) : pSs b L d s acc = .error (1, s) := by
  cases d with
  | zero => omega
  | succ d =>
    have e1 : pS1 b L s acc.length = .error (1, s) := by rw [pS1, if_neg (by rw [h]; decide), pS2, if_neg (by rw [h]; decide)]
    rw [pSs, if_neg (fun z => by rw [h] at z; exact absurd z.2 (by decide)), e1]
theorem pSs_end {b : Nat → Nat} {L : Nat} : ∀ {d s : Nat} {acc : List Int32}, s ≤ L → acc.length + d = 65 → acc.length ≤ 64 → tkN b L s ≤ enR b L (pSs b L d s acc)
  | 0, _, _, _, hl, h4 => by omega
  | d + 1, s, acc, hs, hl, h4 => by
    unfold pSs
    split
    · exact Nat.le_refl _
    · have hsm := smS_le (b := b) hs
      cases hp : pS1 b L s acc.length with
      | error e =>
        obtain ⟨k, o⟩ := e
        rw [pS1_end hp]
        exact hsm.2.2
      | ok e =>
        obtain ⟨x, s2⟩ := e
        obtain ⟨q1, q2, q3⟩ := pS1_ok hs hp
        have ha := pS1_adv hp
        have ih := pSs_end (b := b) (d := d) (s := s2) (acc := acc ++ [x]) q1 (by simp; omega) (by simp; omega)
        have h9 := tkN_adv (b := b) hsm.2.1
        rw [← ha] at h9
        exact Nat.le_trans hsm.2.2 (Nat.le_trans h9 ih)
/-- where a statement ends -/
def stE (b : Nat → Nat) (L : Nat) (R : List Rcd) (s : Nat) : Nat :=
  if isBl b L s ∧ ¬ R.length = 6 then
    if tkC b L (adv b L s) = 2 ∧ fnd R (sub b (adv b L s) (tkN b L (adv b L s))) = none then enR b L (pSs b L 65 (adv b L (adv b L s)) [])
    else tkN b L (adv b L s)
  else tkN b L s
theorem stE_le {b : Nat → Nat} {L s : Nat} {R : List Rcd} (hs : s ≤ L) : tkN b L s ≤ stE b L R s := by
  have h1 := adv_le (b := b) hs
  have h2 := adv_le (b := b) h1.2
  have h3 := tkN_adv (b := b) hs
  have h4 := tkN_adv (b := b) h1.2
  unfold stE
  split
  · split
    · exact Nat.le_trans h3 (Nat.le_trans h4 (pSs_end h2.2 rfl (Nat.zero_le _)))
    · exact h3
  · exact Nat.le_refl _
theorem WfR.names {R : List Rcd} {w : List Nat} (h : fnd R w = none) : w ∉ R.map Prod.fst := fnd_none.mp h
theorem bell_iff {b : Nat → Nat} {L s : Nat} : (tkC b L s = 2 ∧ sub b s (tkN b L s) = [98, 101, 108, 108]) ↔ isBl b L s := by
  constructor
  · rintro ⟨h1, h2⟩
    have hl : tkN b L s - s = 4 := by
      have := congrArg List.length h2
      rw [sub_len] at this
      exact this
    have g : ∀ i, i < 4 → b (s + i) = [98, 101, 108, 108].getD i 0 := fun i hi => by
      rw [← sub_at (b := b) (s := s) (e := tkN b L s) (by omega), h2]
    exact ⟨h1, hl, g 0 (by decide), g 1 (by decide), g 2 (by decide), g 3 (by decide)⟩
  · rintro ⟨h1, h2, h3, h4, h5, h6⟩
    refine ⟨h1, ?_⟩
    unfold sub
    rw [h2]
    show [b (s + 0), b (s + 1), b (s + 2), b (s + 3)] = _
    rw [Nat.add_zero, h3, h4, h5, h6]
/-- the cells that reading a recording may write: the archive's too -/
abbrev P9 (c : Nat) : Nat → Prop := fun g => (g = 8 ∨ g = 7 ∨ g = 3 ∨ g = 5) ∨ PA c g
theorem P9_n {c : Nat} : ¬ P9 c 0 ∧ ¬ P9 c 1 ∧ ¬ P9 c 2 := by
  refine ⟨fun z => ?_, fun z => ?_, fun z => ?_⟩
  · rcases z with z | z
    · revert z; decide
    · exact PA_n0 z
  · rcases z with z | z
    · revert z; decide
    · have := z.1; omega
  · rcases z with z | z
    · revert z; decide
    · exact PA_n2 z
theorem p98 {c : Nat} {M M' : X_M} (h : Fr P8 M M') : Fr (P9 c) M M' := h.wk fun _ e => Or.inl e
theorem p9A {c : Nat} {M M' : X_M} (h : Fr (PA c) M M') : Fr (P9 c) M M' := h.wk fun _ e => Or.inr e
theorem pe98 {c : Nat} {M M' : X_M} {k o q : Nat} {E : String} (h : PEr P8 M k o q E M') : PEr (P9 c) M k o q E M' := h.wk fun _ e => Or.inl e
theorem PA_8 {c : Nat} : ∀ g, PA c g → ¬ P8 g := fun g z y => by
  have := z.1
  rcases y with y | y | y | y <;> omega
theorem RA.new {M : X_M} {x na sa : Nat} {r : Rcd} (h1 : M x = some (ob 2 3 (reF na sa .null .null))) (h2 : M sa = some (ia 0 (rz r) (rg r))) (h3 : NM M na r.1) : RA M x r := ⟨na, sa, false, false, h3, .null, ⟨.null, h1, h2, fun _ => rfl, fun h => by cases h⟩, fun _ => rfl, fun h => by cases h⟩

