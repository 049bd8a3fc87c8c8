/-! ===== the archive as a list of recordings; the parser's pure law; the reference's parser ===== -/
/-- a recording: its name's letters, its samples -/
abbrev Rcd : Type := List Nat × List Int32
def RepRow (r : Rcd) (f : Nat → Int32) (c : Nat) : Prop := f (1 + 72 * c) = nI r.1.length ∧ (∀ j, j < r.1.length → f (2 + 72 * c + j) = nI (r.1.getD j 0)) ∧ f (8 + 72 * c) = nI r.2.length ∧ ∀ k, k < r.2.length → f (9 + 72 * c + k) = r.2.getD k 0
def RepR (R : List Rcd) (f : Nat → Int32) : Prop := f 0 = nI R.length ∧ ∀ c r, R[c]? = some r → RepRow r f c
def WfRow (r : Rcd) : Prop := (1 ≤ r.1.length ∧ r.1.length ≤ 6) ∧ (∀ a ∈ r.1, isLt a) ∧ (∃ j, 1 ≤ j ∧ j ≤ 6 ∧ r.2.length = 2 ^ j) ∧ ∀ x ∈ r.2, (-9999 : Int32) ≤ x ∧ x ≤ 9999
def WfR (R : List Rcd) : Prop := R.length ≤ 6 ∧ (∀ r ∈ R, WfRow r) ∧ (R.map Prod.fst).Nodup
theorem RepRow.cong {r : Rcd} {f g : Nat → Int32} {c : Nat} (h : RepRow r f c) (h1 : r.1.length ≤ 6) (h2 : r.2.length ≤ 64) (he : ∀ q, 1 + 72 * c ≤ q → q < 1 + 72 * c + 72 → g q = f q) : RepRow r g c :=
  ⟨(he _ (by omega) (by omega)).trans h.1, fun j hj => (he _ (by omega) (by omega)).trans (h.2.1 j hj), (he _ (by omega) (by omega)).trans h.2.2.1, fun k hk => (he _ (by omega) (by omega)).trans (h.2.2.2 k hk)⟩
theorem WfRow.len {r : Rcd} (h : WfRow r) : r.2.length ≤ 64 ∧ 2 ≤ r.2.length := by
  obtain ⟨j, h1, h2, h3⟩ := h.2.2.1
  rw [h3]
  have : j = 1 ∨ j = 2 ∨ j = 3 ∨ j = 4 ∨ j = 5 ∨ j = 6 := by omega
  rcases this with rfl | rfl | rfl | rfl | rfl | rfl <;> decide
theorem pw2 : ∀ n, n < 65 → isL (nI n) → ∃ j, j < 7 ∧ 1 ≤ j ∧ n = 2 ^ j := by decide +kernel
theorem pw2' : ∀ j, j < 7 → 1 ≤ j → isL (nI (2 ^ j)) := by decide +kernel
/-- the bytes from s to e -/
def sub (b : Nat → Nat) (s e : Nat) : List Nat := (List.range (e - s)).map fun i => b (s + i)
theorem sub_len {b : Nat → Nat} {s e : Nat} : (sub b s e).length = e - s := by simp [sub]
theorem sub_at {b : Nat → Nat} {s e i : Nat} (h : i < e - s) : (sub b s e).getD i 0 = b (s + i) := by
  simp [sub, List.getD_eq_getElem?_getD, h]
/-- the first recording of that name -/
def fnd (R : List Rcd) (nm : List Nat) : Option Nat := fstI (fun c => (R.map Prod.fst)[c]? = some nm) R.length 0
theorem fstI_cong {p q : Nat → Prop} [DecidablePred p] [DecidablePred q] : ∀ {d k : Nat}, (∀ c, k ≤ c → c < k + d → (p c ↔ q c)) → fstI p d k = fstI q d k
  | 0, _, _ => rfl
  | d + 1, k, h => by
    unfold fstI
    have h1 := h k (Nat.le_refl k) (by omega)
    have h2 := fstI_cong (d := d) (k := k + 1) (fun c h3 h4 => h c (by omega) (by omega))
    by_cases hp : p k
    · rw [if_pos hp, if_pos (h1.mp hp)]
    · rw [if_neg hp, if_neg (fun x => hp (h1.mpr x)), h2]
theorem fnd_none {R : List Rcd} {nm : List Nat} : fnd R nm = none ↔ nm ∉ R.map Prod.fst := by
  constructor
  · intro h hm
    obtain ⟨c, hc⟩ := List.getElem?_of_mem hm
    have hl : c < R.length := by have := (List.getElem?_eq_some_iff.mp hc).1; rwa [List.length_map] at this
    exact fstI_none h c (Nat.zero_le _) (by omega) hc
  · intro h
    cases hf : fnd R nm with
    | none => rfl
    | some c => exact absurd (List.mem_of_getElem? (fstI_some hf).2.2.1) h
theorem nmE_iff {R : List Rcd} {f buf : Nat → Int32} {b : Nat → Nat} {s e c : Nat} (hR : RepR R f) (hW : ∀ r ∈ R, WfRow r) (hc : c < R.length) (hb : ∀ i, s ≤ i → i < e → b i < 256 ∧ buf i = nI (b i)) (he : e - s < 2 ^ 20) : nmE f buf s (e - s) c ↔ (R.map Prod.fst)[c]? = some (sub b s e) := by
  have hr : R[c]? = some R[c] := List.getElem?_eq_getElem hc
  obtain ⟨h1, h2, -, -⟩ := hR.2 c _ hr
  obtain ⟨h3, h4, -, -⟩ := hW _ (List.getElem_mem hc)
  rw [List.getElem?_map, hr, Option.map_some, Option.some.injEq]
  generalize R[c] = r at h1 h2 h3 h4
  obtain ⟨nm, xs⟩ := r
  dsimp only at h1 h2 h3 h4 ⊢
  constructor
  · rintro ⟨k1, k2⟩
    rw [h1, nI_eq (by omega) (by omega)] at k1
    apply List.ext_getElem?
    intro i
    rcases Nat.lt_or_ge i nm.length with hi | hi
    · have k3 := k2 i (by omega)
      rw [h2 i hi, (hb (s + i) (by omega) (by omega)).2] at k3
      have k4 : nm.getD i 0 = nm[i] := by simp [List.getD_eq_getElem?_getD, hi]
      have k5 := h4 nm[i] (List.getElem_mem hi)
      have k6 := (hb (s + i) (by omega) (by omega)).1
      rw [nI_eq (by rw [k4]; omega) (by omega)] at k3
      rw [List.getElem?_eq_getElem hi, ← k4, k3]
      simp [sub, show i < e - s by omega]
    · rw [List.getElem?_eq_none hi, List.getElem?_eq_none (by rw [sub_len]; omega)]
  · intro k
    subst k
    rw [sub_len] at h1 h2
    refine ⟨h1, fun i hi => ?_⟩
    rw [h2 i hi, sub_at hi, (hb (s + i) (by omega) (by omega)).2]
theorem fnd_of {R : List Rcd} {f buf : Nat → Int32} {b : Nat → Nat} {s e : Nat} (hR : RepR R f) (hW : ∀ r ∈ R, WfRow r) (hb : ∀ i, s ≤ i → i < e → b i < 256 ∧ buf i = nI (b i)) (he : e - s < 2 ^ 20) : fstI (nmE f buf s (e - s)) R.length 0 = fnd R (sub b s e) :=
  fstI_cong fun _ _ h => nmE_iff hR hW (by omega) hb he
/-- f with a list laid from p on -/
def lay (f : Nat → Int32) (p : Nat) (l : List Int32) : Nat → Int32 := pot f (fun k => l.getD k 0) p l.length
theorem lay_nil {f : Nat → Int32} {p : Nat} : lay f p [] = f := pot_0
theorem lay_snoc {f : Nat → Int32} {p : Nat} {l : List Int32} {x : Int32} : upd (lay f p l) (p + l.length) x = lay f p (l ++ [x]) := by
  funext q
  unfold upd lay pot
  simp only [List.length_append, List.length_cons, List.length_nil]
  by_cases hq : q = p + l.length
  · subst hq
    rw [if_pos rfl, if_pos (by omega), show p + l.length - p = l.length by omega]
    simp [List.getD_eq_getElem?_getD]
  · rw [if_neg hq]
    by_cases h2 : p ≤ q ∧ q < p + l.length
    · rw [if_pos h2, if_pos (by omega)]
      have h3 : q - p < l.length := by omega
      simp [List.getD_eq_getElem?_getD, List.getElem?_append_left h3]
    · rw [if_neg h2, if_neg (by omega)]
theorem lay_out {f : Nat → Int32} {p q : Nat} {l : List Int32} (h : ¬ (p ≤ q ∧ q < p + l.length)) : lay f p l q = f q := pot_out h
theorem lay_in {f : Nat → Int32} {p k : Nat} {l : List Int32} (h : k < l.length) : lay f p l (p + k) = l.getD k 0 := pot_in h
/-! the pure parser: errors are a kind and a place -/
abbrev adv (b : Nat → Nat) (L s : Nat) : Nat := tkS b L (tkN b L s)
/-- one sample, the n-th, whose number's token begins at s -/
def pS2 (b : Nat → Nat) (L s n : Nat) (neg : Bool) : Except (Nat × Nat) (Int32 × Nat) :=
  if tkC b L s = 3 then
    if n = 64 then .error (4, s) else .ok (if neg = true then -nI (vl b s (tkN b L s - s)) else nI (vl b s (tkN b L s - s)), adv b L s)
  else .error (1, s)
/-- one sample: the n-th; its value and where the next token begins -/
def pS1 (b : Nat → Nat) (L s n : Nat) : Except (Nat × Nat) (Int32 × Nat) :=
  if tkC b L s = 5 then pS2 b L (adv b L s) n true else pS2 b L s n false
def pSs (b : Nat → Nat) (L : Nat) : Nat → Nat → List Int32 → Except (Nat × Nat) (List Int32 × Nat)
  | 0, _, _ => .error (0, 0)
  | d + 1, s, acc => if 2 ≤ acc.length ∧ tkC b L s = 4 then .ok (acc, s) else
    match pS1 b L s acc.length with
    | .error e => .error e
    | .ok (x, s2) => pSs b L d s2 (acc ++ [x])
abbrev isBl (b : Nat → Nat) (L s : Nat) : Prop := tkC b L s = 2 ∧ tkN b L s - s = 4 ∧ b s = 98 ∧ b (s + 1) = 101 ∧ b (s + 2) = 108 ∧ b (s + 3) = 108
/-- one statement: the archive behind it, and where the next token begins -/
def pSt (b : Nat → Nat) (L : Nat) (R : List Rcd) (s : Nat) : Except (Nat × Nat) (List Rcd × Nat) :=
  if isBl b L s then
    if R.length = 6 then .error (4, s)
    else if tkC b L (adv b L s) = 2 then
      if fnd R (sub b (adv b L s) (tkN b L (adv b L s))) = none then
        match pSs b L 65 (adv b L (adv b L s)) [] with
        | .error e => .error e
        | .ok (xs, s3) => if isL (nI xs.length) then .ok (R ++ [(sub b (adv b L s) (tkN b L (adv b L s)), xs)], adv b L s3) else .error (2, s3)
      else .error (3, adv b L s)
    else .error (1, adv b L s)
  else .error (1, s)
def pTx (b : Nat → Nat) (L : Nat) : Nat → List Rcd → Nat → Except (Nat × Nat) (List Rcd)
  | 0, _, _ => .error (0, 0)
  | d + 1, R, s => if tkC b L s = 0 then .ok R else
    match pSt b L R s with
    | .error e => .error e
    | .ok (R2, s2) => pTx b L d R2 s2
theorem adv_le {b : Nat → Nat} {L s : Nat} (h : s ≤ L) : s ≤ adv b L s ∧ adv b L s ≤ L := by
  have h1 := tkN_le b h
  have h2 := tkS_le b h1.2
  exact ⟨Nat.le_trans h1.1 h2.1, h2.2⟩
theorem lim9 {n : Nat} (h : n < 10000) : ((-9999 : Int32) ≤ nI n ∧ nI n ≤ 9999) ∧ ((-9999 : Int32) ≤ -nI n ∧ -nI n ≤ 9999) := by
  have h1 : (nI n).toInt = n := nI_toInt (by omega)
  have h2 : (-nI n).toInt = -(n : Int) := sb_negT (by omega)
  have h3 : (9999 : Int32).toInt = 9999 := by decide
  have h4 : (-9999 : Int32).toInt = -9999 := by decide
  simp only [Int32.le_iff_toInt_le, h1, h2, h3, h4]
  omega
theorem vl_tok {b : Nat → Nat} {L s : Nat} (hs : s ≤ L) (h : tkC b L s = 3) : vl b s (tkN b L s - s) < 10000 := by
  refine (vl_lt fun i hi => ?_).1
  unfold tkC at h
  unfold tkN at hi
  split at h
  · cases h
  next h1 =>
    rw [if_neg h1] at hi
    split at h
    · split at h <;> cases h
    next h2 =>
      rw [if_neg h2] at hi
      split at h
      next h3 =>
        rw [if_pos h3] at hi
        exact rn_at (p := isDg) (d := L - s) (k := s) (by omega) (by omega)
      next => split at h; cases h; split at h <;> cases h
theorem pS2_ok {b : Nat → Nat} {L s n : Nat} {neg : Bool} {x : Int32} {s2 : Nat} (hs : s ≤ L) (h : pS2 b L s n neg = .ok (x, s2)) : s2 ≤ L ∧ ((-9999 : Int32) ≤ x ∧ x ≤ 9999) ∧ n ≠ 64 := by
  unfold pS2 at h
  by_cases h3 : tkC b L s = 3
  · rw [if_pos h3] at h
    by_cases h6 : n = 64
    · rw [if_pos h6] at h; cases h
    · rw [if_neg h6] at h
      have h7 := lim9 (vl_tok hs h3)
      have h8 := (adv_le (b := b) hs).2
      cases h
      refine ⟨h8, ?_, h6⟩
      cases neg
      · exact h7.1
      · exact h7.2
  · rw [if_neg h3] at h; cases h
theorem pS1_ok {b : Nat → Nat} {L s n : Nat} {x : Int32} {s2 : Nat} (hs : s ≤ L) (h : pS1 b L s n = .ok (x, s2)) : s2 ≤ L ∧ ((-9999 : Int32) ≤ x ∧ x ≤ 9999) ∧ n ≠ 64 := by
  unfold pS1 at h
  by_cases h5 : tkC b L s = 5
  · rw [if_pos h5] at h; exact pS2_ok (adv_le hs).2 h
  · rw [if_neg h5] at h; exact pS2_ok hs h
theorem pSs_ok {b : Nat → Nat} {L : Nat} : ∀ {d s : Nat} {acc xs : List Int32} {s3 : Nat}, s ≤ L → acc.length ≤ 64 → (∀ x ∈ acc, (-9999 : Int32) ≤ x ∧ x ≤ 9999) → pSs b L d s acc = .ok (xs, s3) → (∀ x ∈ xs, (-9999 : Int32) ≤ x ∧ x ≤ 9999) ∧ s3 ≤ L ∧ xs.length ≤ 64
  | 0, _, _, _, _, _, _, _, h => by cases h
  | d + 1, s, acc, xs, s3, hs, hl, ha, h => by
    unfold pSs at h
    split at h
    · cases h; exact ⟨ha, hs, hl⟩
    · cases hp : pS1 b L s acc.length with
      | error e => rw [hp] at h; cases h
      | ok e =>
        rw [hp] at h
        obtain ⟨x, s2⟩ := e
        obtain ⟨q1, q2, q3⟩ := pS1_ok hs hp
        refine pSs_ok q1 (by rw [List.length_append]; simp; omega) (fun z hz => ?_) h
        rcases List.mem_append.mp hz with hz | hz
        · exact ha z hz
        · rw [List.mem_singleton.mp hz]; exact q2
theorem tok_w {b : Nat → Nat} {L s : Nat} (hs : s ≤ L) (h : tkC b L s = 2) : s < tkN b L s ∧ tkN b L s - s ≤ 6 ∧ ∀ i, s ≤ i → i < tkN b L s → isLt (b i) := by
  unfold tkC at h
  unfold tkN
  split at h
  · cases h
  next h1 =>
    rw [if_neg h1]
    split at h
    next h2 =>
      rw [if_pos h2]
      split at h
      next h3 =>
        refine ⟨?_, h3, fun i h4 h5 => rn_at h4 h5⟩
        rw [rn_t (by omega) h2]
        have := (rn_ge (p := isLt) (b := b) (L - (s + 1)) (s + 1)).1
        omega
      next => cases h
    next h2 =>
      split at h
      · split at h <;> cases h
      · split at h
        · cases h
        · split at h <;> cases h
theorem pSt_wf {b : Nat → Nat} {L s : Nat} {R R2 : List Rcd} {s2 : Nat} (hs : s ≤ L) (hR : WfR R) (h : pSt b L R s = .ok (R2, s2)) : WfR R2 ∧ s2 ≤ L ∧ R2.length = R.length + 1 := by
  unfold pSt at h
  have h1 := adv_le (b := b) hs
  have h2 := adv_le (b := b) h1.2
  split at h
  next hb =>
    split at h
    · cases h
    next h6 =>
      split at h
      next hw =>
        split at h
        next hf =>
          cases hp : pSs b L 65 (adv b L (adv b L s)) [] with
          | error e => rw [hp] at h; cases h
          | ok e =>
            rw [hp] at h
            obtain ⟨xs, s3⟩ := e
            dsimp only at h
            split at h
            next hl =>
              cases h
              obtain ⟨k1, k2, k3⟩ := pSs_ok h2.2 (Nat.zero_le _) (fun x hx => by cases hx) hp
              obtain ⟨w1, w2, w3⟩ := tok_w h1.2 hw
              refine ⟨⟨by rw [List.length_append]; have := hR.1; simp; omega, fun r hr => ?_, ?_⟩, (adv_le k2).2, by simp⟩
              · rcases List.mem_append.mp hr with hr | hr
                · exact hR.2.1 r hr
                · rw [List.mem_singleton.mp hr]
                  refine ⟨by dsimp only; rw [sub_len]; omega, fun a ha => ?_, ?_, k1⟩
                  · obtain ⟨i, hi, rfl⟩ := List.mem_map.mp ha
                    have := List.mem_range.mp hi
                    exact w3 _ (by omega) (by omega)
                  · have hx64 : xs.length < 65 := by omega
                    obtain ⟨j, j1, j2, j3⟩ := pw2 _ hx64 hl
                    exact ⟨j, j2, by omega, j3⟩
              · rw [List.map_append, List.nodup_append]
                refine ⟨hR.2.2, by simp, fun a ha c hc => ?_⟩
                rw [List.map_cons, List.map_nil, List.mem_singleton] at hc
                rw [hc]
                intro e
                exact fnd_none.mp hf (by subst e; exact ha)
            next => cases h
        next => cases h
      next => cases h
  next => cases h

