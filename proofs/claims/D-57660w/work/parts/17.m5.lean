/-! ===== the reference's methods that write: copies, transform, peaks, synthesis ===== -/
/-- f, but g from lo on below k -/
def fil (f g : Nat → Int32) (lo k : Nat) : Nat → Int32 := fun q => if lo ≤ q ∧ q < k then g q else f q
theorem fil_0 {f g : Nat → Int32} {lo : Nat} : fil f g lo lo = f := funext fun q => if_neg (by omega)
theorem fil_up {f g : Nat → Int32} {lo k : Nat} {x : Int32} (h : lo ≤ k) (hx : x = g k) : upd (fil f g lo k) k x = fil f g lo (k + 1) := by
  subst hx
  funext q
  unfold upd fil
  by_cases hq : q = k
  · subst hq; rw [if_pos rfl, if_pos ⟨h, Nat.lt_succ_self q⟩]
  · rw [if_neg hq]
    by_cases h2 : lo ≤ q ∧ q < k
    · rw [if_pos h2, if_pos ⟨h2.1, by omega⟩]
    · rw [if_neg h2, if_neg (by omega)]
theorem fil_in {f g : Nat → Int32} {lo k q : Nat} (h1 : lo ≤ q) (h2 : q < k) : fil f g lo k q = g q := if_pos ⟨h1, h2⟩
theorem fil_out {f g : Nat → Int32} {lo k q : Nat} (h : ¬ (lo ≤ q ∧ q < k)) : fil f g lo k q = f q := if_neg h
theorem up_id {A : Nat → Nat → Int32} {j : Nat} : va_up A j (A j) = A := by
  funext q; unfold va_up; split
  · next h => rw [h]
  · rfl
theorem up_up {A : Nat → Nat → Int32} {j : Nat} {f g : Nat → Int32} : va_up (va_up A j f) j g = va_up A j g := by
  funext q; unfold va_up; split <;> rfl
/-- f, but the first n of g from b on -/
def pot (f g : Nat → Int32) (b n : Nat) : Nat → Int32 := fun q => if b ≤ q ∧ q < b + n then g (q - b) else f q
theorem pot_0 {f g : Nat → Int32} {b : Nat} : pot f g b 0 = f := funext fun q => if_neg (by omega)
theorem pot_up {f g : Nat → Int32} {b n : Nat} {x : Int32} (hx : x = g n) : upd (pot f g b n) (b + n) x = pot f g b (n + 1) := by
  subst hx
  funext q
  unfold upd pot
  by_cases hq : q = b + n
  · subst hq; rw [if_pos rfl, if_pos (by omega), show b + n - b = n by omega]
  · rw [if_neg hq]
    by_cases h2 : b ≤ q ∧ q < b + n
    · rw [if_pos h2, if_pos (by omega)]
    · rw [if_neg h2, if_neg (by omega)]
theorem pot_in {f g : Nat → Int32} {b n k : Nat} (h : k < n) : pot f g b n (b + k) = g k := by
  unfold pot; rw [if_pos (by omega), show b + k - b = k by omega]
theorem pot_out {f g : Nat → Int32} {b n q : Nat} (h : ¬ (b ≤ q ∧ q < b + n)) : pot f g b n q = f q := if_neg h
/-- any answer, and the reference's new state -/
abbrev Po (r0 : Option Value) (M : X_M) (m : Nat) (P : Nat → Nat) (V' : Nat → Int32) (A' : Nat → Nat → Int32) : Option Value → X_M → Prop := fun r M' => r = r0 ∧ Mdl M' m P V' A' ∧ Fm M M'
/-- how a model's fact is turned: the same by equal contents -/
theorem Mdl.to {M : X_M} {m : Nat} {P : Nat → Nat} {V V' : Nat → Int32} {A A' : Nat → Nat → Int32} (h : Mdl M m P V A) (hV : V = V') (hA : A = A') : Mdl M m P V' A' := by subst hV; subst hA; exact h
theorem optI_some (b : Nat) : optI (some b) = nI b := rfl
def sel (nw : Nat → Prop) [DecidablePred nw] (co : Nat → Int32) : Nat → Option Nat
  | 0 => none
  | i + 1 => if nw i then (match sel nw co i with
    | none => some i
    | some b => if iabs (co b) < iabs (co i) then some i else some b) else sel nw co i
/-- i comes before j among the peaks -/
def befo (co : Nat → Int32) (i j : Nat) : Prop := iabs (co j) < iabs (co i) ∨ (iabs (co i) = iabs (co j) ∧ i < j)
theorem sel_some {nw : Nat → Prop} [DecidablePred nw] {co : Nat → Int32} : ∀ {n b : Nat}, sel nw co n = some b → b < n ∧ nw b ∧ ∀ i, i < n → nw i → i ≠ b → befo co b i
  | 0, b, h => by cases h
  | n + 1, b, h => by
    unfold sel at h
    split at h
    next hn =>
      cases hs : sel nw co n with
      | none =>
        rw [hs] at h
        cases h
        refine ⟨Nat.lt_succ_self _, hn, fun i h1 h2 h3 => ?_⟩
        have hno : ∀ {k : Nat}, sel nw co k = none → ∀ i, i < k → ¬ nw i := by
          intro k
          induction k with
          | zero => intro _ i hi; omega
          | succ k ih =>
            intro hk i hi
            unfold sel at hk
            split at hk
            next => cases hq : sel nw co k <;> rw [hq] at hk <;> simp only at hk <;> (try split at hk) <;> cases hk
            next hnk =>
              rcases Nat.lt_or_ge i k with h9 | h9
              · exact ih hk i h9
              · rw [show i = k by omega]; exact hnk
        exact absurd h2 (hno hs i (by omega))
      | some c =>
        rw [hs] at h
        obtain ⟨h1, h2, h3⟩ := sel_some hs
        simp only at h
        split at h <;> cases h
        next hlt =>
          refine ⟨Nat.lt_succ_self _, hn, fun i h4 h5 h6 => ?_⟩
          by_cases hic : i = c
          · subst hic; exact Or.inl hlt
          · rcases h3 i (by omega) h5 hic with h7 | ⟨h7, _⟩
            · exact Or.inl (Int32.lt_trans h7 hlt)
            · exact Or.inl (by rw [← h7]; exact hlt)
        next hlt =>
          refine ⟨by omega, h2, fun i h4 h5 h6 => ?_⟩
          rcases Nat.lt_or_ge i n with h9 | h9
          · exact h3 i h9 h5 h6
          · have : i = n := by omega
            subst this
            rcases Int32.lt_or_eq_of_le (Int32.not_lt.mp hlt) with h7 | h7
            · exact Or.inl h7
            · exact Or.inr ⟨h7.symm, by omega⟩
    next hn =>
      obtain ⟨h1, h2, h3⟩ := sel_some h
      refine ⟨by omega, h2, fun i h4 h5 h6 => ?_⟩
      rcases Nat.lt_or_ge i n with h9 | h9
      · exact h3 i h9 h5 h6
      · exact absurd (by rw [show i = n by omega] at h5; exact h5) hn
theorem sel_none {nw : Nat → Prop} [DecidablePred nw] {co : Nat → Int32} : ∀ {k : Nat}, sel nw co k = none → ∀ i, i < k → ¬ nw i := by
  intro k
  induction k with
  | zero => intro _ i hi; omega
  | succ k ih =>
    intro hk i hi
    unfold sel at hk
    split at hk
    next => cases hq : sel nw co k <;> rw [hq] at hk <;> simp only at hk <;> (try split at hk) <;> cases hk
    next hnk =>
      rcases Nat.lt_or_ge i k with h9 | h9
      · exact ih hk i h9
      · rw [show i = k by omega]; exact hnk
/-- the first r peaks -/
def pks (co : Nat → Int32) (n : Nat) : Nat → List Nat
  | 0 => []
  | r + 1 => pks co n r ++ [(sel (fun i => i ∉ pks co n r) co n).getD 0]
theorem pks_len (co : Nat → Int32) (n : Nat) : ∀ r, (pks co n r).length = r
  | 0 => rfl
  | r + 1 => by unfold pks; rw [List.length_append, pks_len co n r]; rfl
/-- the peak of rank j -/
def pk (co : Nat → Int32) (n j : Nat) : Nat := (sel (fun i => i ∉ pks co n j) co n).getD 0
theorem pks_at (co : Nat → Int32) (n : Nat) : ∀ {r j : Nat}, j < r → (pks co n r)[j]? = some (pk co n j)
  | 0, j, h => by omega
  | r + 1, j, h => by
    unfold pks
    rcases Nat.lt_or_ge j r with h1 | h1
    · rw [List.getElem?_append_left (by rw [pks_len]; exact h1)]; exact pks_at co n h1
    · have : j = r := by omega
      subst this
      rw [List.getElem?_append_right (by rw [pks_len]; exact Nat.le_refl _), pks_len, Nat.sub_self]
      rfl
theorem pks_mem (co : Nat → Int32) (n : Nat) {r i : Nat} : i ∈ pks co n r ↔ ∃ j, j < r ∧ pk co n j = i := by
  constructor
  · intro h
    obtain ⟨j, hj⟩ := List.getElem?_of_mem h
    have hl : j < r := by have := (List.getElem?_eq_some_iff.mp hj).1; rw [pks_len] at this; exact this
    refine ⟨j, hl, ?_⟩
    rw [pks_at co n hl] at hj
    exact Option.some.inj hj
  · rintro ⟨j, h1, h2⟩
    exact List.mem_of_getElem? (by rw [← h2]; exact pks_at co n h1)
/-- more things than places -/
theorem hol : ∀ (m n : Nat) (f : Nat → Nat), (∀ i, i < n → f i < m) → (∀ i j, i < j → j < n → f i ≠ f j) → n ≤ m := by
  intro m
  induction m with
  | zero =>
    intro n f h _
    cases n with
    | zero => exact Nat.le_refl 0
    | succ n => exact absurd (h 0 (Nat.succ_pos n)) (Nat.not_lt_zero _)
  | succ m ih =>
    intro n f h h2
    cases n with
    | zero => exact Nat.zero_le _
    | succ n =>
      refine Nat.succ_le_succ (ih n (fun i => if f i = m then f n else f i) (fun i hi => ?_) (fun i j hij hj => ?_))
      · have h3 := h i (by omega)
        have h4 := h n (by omega)
        have h5 := h2 i n hi (by omega)
        split <;> omega
      · have h5 := h2 i j hij (by omega)
        have h6 := h2 i n (by omega) (by omega)
        have h7 := h2 j n hj (by omega)
        split <;> split <;> omega
theorem pk_some (co : Nat → Int32) (n : Nat) {r : Nat} (h : r < n) : sel (fun i => i ∉ pks co n r) co n = some (pk co n r) := by
  unfold pk
  cases hs : sel (fun i => i ∉ pks co n r) co n with
  | some b => rfl
  | none =>
    exfalso
    have h1 := sel_none hs
    have h2 : ∀ i, i < n → ∃ j, j < r ∧ pk co n j = i := fun i hi => (pks_mem co n).mp (Decidable.not_not.mp (h1 i hi))
    have h3 : n ≤ r := by
      refine hol r n (fun i => if hi : i < n then (h2 i hi).choose else 0) (fun i hi => ?_) (fun i j hij hj => ?_)
      · simp only [hi, dif_pos]; exact (h2 i hi).choose_spec.1
      · have hi : i < n := by omega
        simp only [hi, hj, dif_pos]
        intro he
        have e1 := (h2 i hi).choose_spec.2
        have e2 := (h2 j hj).choose_spec.2
        rw [he, e2] at e1
        omega
    omega
/-- a ranking: by the order of the peaks -/
def IsRk (co : Nat → Int32) (n : Nat) (p : Nat → Nat) : Prop := (∀ a, a < n → p a < n) ∧ ∀ a b, a < b → b < n → befo co (p a) (p b)
theorem pk_rk (co : Nat → Int32) (n : Nat) : IsRk co n (pk co n) := by
  refine ⟨fun a ha => (sel_some (pk_some co n ha)).1, fun a b hab hb => ?_⟩
  obtain ⟨-, h1, h2⟩ := sel_some (pk_some co n (Nat.lt_trans hab hb))
  obtain ⟨h3, h4, -⟩ := sel_some (pk_some co n hb)
  have h5 : ∀ j, j < b → pk co n j ≠ pk co n b := fun j hj e => h4 ((pks_mem co n).mpr ⟨j, hj, e⟩)
  refine h2 _ h3 (fun hm => ?_) (fun e => h5 a hab e.symm)
  obtain ⟨j, hj, e⟩ := (pks_mem co n).mp hm
  exact h5 j (by omega) e
section M5
variable {G : X_G} {M : X_M} {m : Nat} {P : Nat → Nat} {V : Nat → Int32} {A : Nat → Nat → Int32}
theorem ct_putAside (hG : GOK G) (hm : Mdl M m P V A) : Ct G yX3_putAside cX3_putAside 2 none (xrm 1 0 0) [.ref m] M (Po none M m P V (va_up A 1 (fil (A 1) (A 0) 0 433))) := by
  refine ct_open (lv := [_, _]) hG (by decide +kernel) (Nat.le_of_ble_eq_true rfl) rfl (fun C hC hk => ?_)
  have hF : Fm M M := Fr.rf
  refine x_iconst (v := nI 0) hC dX3_putAside_0 (by decide) ?_
  refine x_istore_n (lv' := [_, _]) hC dX3_putAside_1 rfl (by decide) rfl ?_
  refine x_up (n := 433) (I := fun k => ∀ M1, Mdl M1 m P V (va_up A 1 (fil (A 1) (A 0) 0 k)) → Fm M M1 → Wg G C M1 0 0 2 [some (.ref m), some (.int (nI k))] []) (fun k hk2 ih M hm hF => ?_) 0 (Nat.zero_le _) M (hm.to rfl (by rw [fil_0, up_id])) hF
  refine x_iload_n hC dX3_putAside_2 rfl rfl ?_
  refine x_sipush (v := nI 433) hC dX3_putAside_3 (by decide) ?_
  refine x_icmp_geN (tgt := 27) hC (by omega) (by omega) dX3_putAside_6 (by decide) (fun c1 => ?_) (fun c1 => ?_)
  · exact x_vret hC hk dX3_putAside_27 (Nat.le_of_ble_eq_true rfl) (Nat.le_of_ble_eq_true rfl) ⟨rfl, by rw [show k = 433 by omega] at hm; exact hm, hF⟩
  · refine x_aload_n hC dX3_putAside_9 rfl rfl ?_
    refine x_get hC 1 hm.1 rfl (by decide) q2331 rfl rfl dX3_putAside_10 ?_
    refine x_iload_n hC dX3_putAside_13 rfl rfl ?_
    refine x_aload_n hC dX3_putAside_14 rfl rfl ?_
    refine x_get hC 0 hm.1 rfl (by decide) q2330 rfl rfl dX3_putAside_15 ?_
    refine x_iload_n hC dX3_putAside_18 rfl rfl ?_
    refine x_ialdN hC (hm.arr 0 (by decide)) (show _ < 433 from (by omega)) (by decide) dX3_putAside_19 ?_
    refine x_miastN hC hm 1 (by decide) (show _ < 433 from (by omega)) (by decide) dX3_putAside_20 (fun M hm hF1 => ?_)
    have hF := hF.tr hF1
    refine x_iincN (lv' := [_, _]) (b := 1) hC dX3_putAside_21 rfl (by decide) (by decide) rfl ?_
    refine x_goto (tgt := 2) hC dX3_putAside_24 (by decide) ?_
    exact ih c1 _ (hm.to rfl (by rw [up_up]; congr 1; exact fil_up (Nat.zero_le _) rfl)) hF
theorem ct_layBack (hG : GOK G) (hm : Mdl M m P V A) : Ct G yX3_layBack cX3_layBack 2 none (xrm 1 0 0) [.ref m] M (Po none M m P V (va_up A 0 (fil (A 0) (A 1) 0 433))) := by
  refine ct_open (lv := [_, _]) hG (by decide +kernel) (Nat.le_of_ble_eq_true rfl) rfl (fun C hC hk => ?_)
  have hF : Fm M M := Fr.rf
  refine x_iconst (v := nI 0) hC dX3_layBack_0 (by decide) ?_
  refine x_istore_n (lv' := [_, _]) hC dX3_layBack_1 rfl (by decide) rfl ?_
  refine x_up (n := 433) (I := fun k => ∀ M1, Mdl M1 m P V (va_up A 0 (fil (A 0) (A 1) 0 k)) → Fm M M1 → Wg G C M1 0 0 2 [some (.ref m), some (.int (nI k))] []) (fun k hk2 ih M hm hF => ?_) 0 (Nat.zero_le _) M (hm.to rfl (by rw [fil_0, up_id])) hF
  refine x_iload_n hC dX3_layBack_2 rfl rfl ?_
  refine x_sipush (v := nI 433) hC dX3_layBack_3 (by decide) ?_
  refine x_icmp_geN (tgt := 27) hC (by omega) (by omega) dX3_layBack_6 (by decide) (fun c1 => ?_) (fun c1 => ?_)
  · exact x_vret hC hk dX3_layBack_27 (Nat.le_of_ble_eq_true rfl) (Nat.le_of_ble_eq_true rfl) ⟨rfl, by rw [show k = 433 by omega] at hm; exact hm, hF⟩
  · refine x_aload_n hC dX3_layBack_9 rfl rfl ?_
    refine x_get hC 0 hm.1 rfl (by decide) q2330 rfl rfl dX3_layBack_10 ?_
    refine x_iload_n hC dX3_layBack_13 rfl rfl ?_
    refine x_aload_n hC dX3_layBack_14 rfl rfl ?_
    refine x_get hC 1 hm.1 rfl (by decide) q2331 rfl rfl dX3_layBack_15 ?_
    refine x_iload_n hC dX3_layBack_18 rfl rfl ?_
    refine x_ialdN hC (hm.arr 1 (by decide)) (show _ < 433 from (by omega)) (by decide) dX3_layBack_19 ?_
    refine x_miastN hC hm 0 (by decide) (show _ < 433 from (by omega)) (by decide) dX3_layBack_20 (fun M hm hF1 => ?_)
    have hF := hF.tr hF1
    refine x_iincN (lv' := [_, _]) (b := 1) hC dX3_layBack_21 rfl (by decide) (by decide) rfl ?_
    refine x_goto (tgt := 2) hC dX3_layBack_24 (by decide) ?_
    exact ih c1 _ (hm.to rfl (by rw [up_up]; congr 1; exact fil_up (Nat.zero_le _) rfl)) hF
theorem ct_wipe (hG : GOK G) (hm : Mdl M m P V A) {a n : Nat} (h : a + n ≤ 433) : Ct G yX3_wipe cX3_wipe 4 none (xrm 1 0 0) [.ref m, .int (nI a), .int (nI n)] M (Po none M m P V (va_up A 0 (fil (A 0) (fun _ => 0) a (a + n)))) := by
  refine ct_open (lv := [_, _, _, _]) hG (by decide +kernel) (Nat.le_of_ble_eq_true rfl) rfl (fun C hC hk => ?_)
  have hF : Fm M M := Fr.rf
  refine x_iload_n hC dX3_wipe_0 rfl rfl ?_
  refine x_istore_n (lv' := [_, _, _, _]) hC dX3_wipe_1 rfl (by decide) rfl ?_
  have lp := x_up (n := n) (I := fun k => ∀ M1, Mdl M1 m P V (va_up A 0 (fil (A 0) (fun _ => 0) a (a + k))) → Fm M M1 → Wg G C M1 0 0 2 [some (.ref m), some (.int (nI a)), some (.int (nI n)), some (.int (nI (a + k)))] []) (fun k hk2 ih M hm hF => ?_) 0 (Nat.zero_le _) M (hm.to rfl (by rw [Nat.add_zero, fil_0, up_id])) hF
  · exact lp
  · refine x_iload_n hC dX3_wipe_2 rfl rfl ?_
    refine x_iload_n hC dX3_wipe_3 rfl rfl ?_
    refine x_iload_n hC dX3_wipe_4 rfl rfl ?_
    refine x_iaddN hC dX3_wipe_5 ?_
    refine x_icmp_geN (tgt := 22) hC (by omega) (by omega) dX3_wipe_6 (by decide) (fun c1 => ?_) (fun c1 => ?_)
    · exact x_vret hC hk dX3_wipe_22 (Nat.le_of_ble_eq_true rfl) (Nat.le_of_ble_eq_true rfl) ⟨rfl, by rw [show k = n by omega] at hm; exact hm, hF⟩
    · refine x_aload_n hC dX3_wipe_9 rfl rfl ?_
      refine x_get hC 0 hm.1 rfl (by decide) q2330 rfl rfl dX3_wipe_10 ?_
      refine x_iload_n hC dX3_wipe_13 rfl rfl ?_
      refine x_iconst (v := nI 0) hC dX3_wipe_14 (by decide) ?_
      refine x_miastN hC hm 0 (by decide) (show _ < 433 from (by omega)) (by decide) dX3_wipe_15 (fun M hm hF1 => ?_)
      have hF := hF.tr hF1
      refine x_iincN (lv' := [_, _, _, _]) (b := 1) hC dX3_wipe_16 rfl (by decide) (by decide) rfl ?_
      refine x_goto (tgt := 2) hC dX3_wipe_19 (by decide) ?_
      exact ih (by omega) _ (hm.to rfl (by rw [up_up]; congr 1; exact fil_up (by omega) rfl)) hF
theorem ct_transform (hG : GOK G) (hm : Mdl M m P V A) {c n : Nat} (hc : c < 6) (hn : A 0 (8 + 72 * c) = nI n) (hn6 : n ≤ 64) : Ct G yX3_transform cX3_transform 3 none (xrm 4 0 0) [.ref m, .int (nI c)] M (Po none M m P V (va_up A 6 (fil (A 6) (cfS (A 0) c n) 0 n))) := by
  refine ct_open (lv := [_, _, _]) hG (by decide +kernel) (Nat.le_of_ble_eq_true rfl) rfl (fun C hC hk => ?_)
  have hF : Fm M M := Fr.rf
  refine x_iconst (v := nI 0) hC dX3_transform_0 (by decide) ?_
  refine x_istore_n (lv' := [_, _, _]) hC dX3_transform_1 rfl (by decide) rfl ?_
  refine x_up (n := n) (I := fun k => ∀ M1, Mdl M1 m P V (va_up A 6 (fil (A 6) (cfS (A 0) c n) 0 k)) → Fm M M1 → Wg G C M1 0 0 2 [some (.ref m), some (.int (nI c)), some (.int (nI k))] []) (fun k hk2 ih M hm hF => ?_) 0 (Nat.zero_le _) M (hm.to rfl (by rw [fil_0, up_id])) hF
  refine x_iload_n hC dX3_transform_2 rfl rfl ?_
  refine x_aload_n hC dX3_transform_3 rfl rfl ?_
  refine x_iload_n hC dX3_transform_4 rfl rfl ?_
  refine x_callV0 (na := 1) hC (ct_size hG hm hc hn) (lw_V q2495 q2497 qs45 q89 q2498) hm.1 rfl rfl (by decide +kernel) rfl ⟨Nat.le_of_ble_eq_true rfl, Nat.le_of_ble_eq_true rfl⟩ rfl (Nat.le_of_ble_eq_true rfl) ⟨rfl, rfl⟩ ⟨Nat.le_of_ble_eq_true rfl, Nat.le_of_ble_eq_true rfl⟩ dX3_transform_5 ?_
  rintro _ M ⟨rfl, rfl⟩
  refine x_icmp_geN (tgt := 29) hC (by omega) (by omega) dX3_transform_8 (by decide) (fun c1 => ?_) (fun c1 => ?_)
  · exact x_vret hC hk dX3_transform_29 (Nat.le_of_ble_eq_true rfl) (Nat.le_of_ble_eq_true rfl) ⟨rfl, by rw [show k = n by omega] at hm; exact hm, hF⟩
  · refine x_aload_n hC dX3_transform_11 rfl rfl ?_
    refine x_get hC 7 hm.1 rfl (by decide) q2337 rfl rfl dX3_transform_12 ?_
    refine x_iload_n hC dX3_transform_15 rfl rfl ?_
    refine x_aload_n hC dX3_transform_16 rfl rfl ?_
    refine x_iload_n hC dX3_transform_17 rfl rfl ?_
    refine x_iload_n hC dX3_transform_18 rfl rfl ?_
    refine x_callV0 (na := 2) hC (ct_sum hG hm hc hn hn6 _) (lw_V q2591 q2593 qs52 q89 q2594) hm.1 rfl rfl (by decide +kernel) rfl ⟨Nat.le_of_ble_eq_true rfl, Nat.le_of_ble_eq_true rfl⟩ rfl (Nat.le_of_ble_eq_true rfl) ⟨rfl, rfl⟩ ⟨Nat.le_of_ble_eq_true rfl, Nat.le_of_ble_eq_true rfl⟩ dX3_transform_19 ?_
    rintro _ M ⟨rfl, rfl⟩
    refine x_miastN hC hm 6 (by decide) (show _ < 64 from (by omega)) (by decide) dX3_transform_22 (fun M hm hF1 => ?_)
    have hF := hF.tr hF1
    refine x_iincN (lv' := [_, _, _]) (b := 1) hC dX3_transform_23 rfl (by decide) (by decide) rfl ?_
    refine x_goto (tgt := 2) hC dX3_transform_26 (by decide) ?_
    exact ih c1 _ (hm.to rfl (by rw [up_up]; congr 1; exact fil_up (Nat.zero_le _) rfl)) hF
theorem ct_findPeaks (hG : GOK G) (hm : Mdl M m P V A) {c n : Nat} (hc : c < 6) (hn : A 0 (8 + 72 * c) = nI n) (hn6 : n ≤ 64) : Ct G yX3_findPeaks cX3_findPeaks 6 none (xrm 5 0 0) [.ref m, .int (nI c)] M (Po none M m P V (va_up (va_up A 6 (fil (A 6) (cfS (A 0) c n) 0 n)) 8 (fil (A 8) (fun j => nI (pk (cfS (A 0) c n) n j)) 0 n))) := by
  refine ct_open (lv := [_, _, _, _, _, _]) hG (by decide +kernel) (Nat.le_of_ble_eq_true rfl) rfl (fun C hC hk => ?_)
  have hF : Fm M M := Fr.rf
  generalize hco : cfS (A 0) c n = co
  refine x_aload_n hC dX3_findPeaks_0 rfl rfl ?_
  refine x_iload_n hC dX3_findPeaks_1 rfl rfl ?_
  refine x_callV0 (na := 1) hC (ct_transform hG hm hc hn hn6) (lw_V q2611 q2613 qs55 q89 q2614) hm.1 rfl rfl (by decide +kernel) rfl ⟨Nat.le_of_ble_eq_true rfl, Nat.le_of_ble_eq_true rfl⟩ rfl (Nat.le_of_ble_eq_true rfl) ⟨rfl, rfl⟩ ⟨Nat.le_of_ble_eq_true rfl, Nat.le_of_ble_eq_true rfl⟩ dX3_findPeaks_2 ?_
  rintro _ M ⟨rfl, hm, hF1⟩
  have hF := hF.tr hF1
  rw [hco] at hm
  refine x_iconst (v := nI 0) hC dX3_findPeaks_5 (by decide) ?_
  refine x_istore_n (lv' := [_, _, _, _, _, _]) hC dX3_findPeaks_6 rfl (by decide) rfl ?_
  refine x_up (n := n) (I := fun k => ∀ M1, Mdl M1 m P V (va_up (va_up A 6 (fil (A 6) co 0 n)) 8 (fil (A 8) (fun _ => -1) 0 k)) → Fm _ M1 → Wg G C M1 0 0 7 [some (.ref m), some (.int (nI c)), some (.int (nI k)), none, none, none] []) (fun k hk2 ih M hm hF => ?_) 0 (Nat.zero_le _) M (hm.to rfl (by rw [fil_0, show A 8 = va_up A 6 (fil (A 6) co 0 n) 8 from rfl, up_id])) hF
  refine x_iload_n hC dX3_findPeaks_7 rfl rfl ?_
  refine x_aload_n hC dX3_findPeaks_8 rfl rfl ?_
  refine x_iload_n hC dX3_findPeaks_9 rfl rfl ?_
  refine x_callV0 (na := 1) hC (ct_size hG hm hc hn) (lw_V q2495 q2497 qs45 q89 q2498) hm.1 rfl rfl (by decide +kernel) rfl ⟨Nat.le_of_ble_eq_true rfl, Nat.le_of_ble_eq_true rfl⟩ rfl (Nat.le_of_ble_eq_true rfl) ⟨rfl, rfl⟩ ⟨Nat.le_of_ble_eq_true rfl, Nat.le_of_ble_eq_true rfl⟩ dX3_findPeaks_10 ?_
  rintro _ M ⟨rfl, rfl⟩
  refine x_icmp_geN (tgt := 29) hC (by omega) (by omega) dX3_findPeaks_13 (by decide) (fun c1 => ?_) (fun c1 => ?_)
  · rw [show k = n by omega] at hm
    refine x_iconst (v := nI 0) hC dX3_findPeaks_29 (by decide) ?_
    refine x_istore_n (lv' := [_, _, _, _, _, _]) hC dX3_findPeaks_30 rfl (by decide) rfl ?_
    refine x_up (n := n) (I := fun r => ∀ M1, Mdl M1 m P V (va_up (va_up A 6 (fil (A 6) co 0 n)) 8 (fil (fil (A 8) (fun _ => -1) 0 n) (fun j => nI (pk co n j)) 0 r)) → Fm _ M1 → ∀ w3 w4 w5, Wg G C M1 0 0 31 [some (.ref m), some (.int (nI c)), some (.int (nI r)), w3, w4, w5] []) (fun r hr2 ih2 M hm hF w3 w4 w5 => ?_) 0 (Nat.zero_le _) M (hm.to rfl (by rw [fil_0])) hF none none none
    refine x_iload_n hC dX3_findPeaks_31 rfl rfl ?_
    refine x_aload_n hC dX3_findPeaks_32 rfl rfl ?_
    refine x_iload_n hC dX3_findPeaks_33 rfl rfl ?_
    refine x_callV0 (na := 1) hC (ct_size hG hm hc hn) (lw_V q2495 q2497 qs45 q89 q2498) hm.1 rfl rfl (by decide +kernel) rfl ⟨Nat.le_of_ble_eq_true rfl, Nat.le_of_ble_eq_true rfl⟩ rfl (Nat.le_of_ble_eq_true rfl) ⟨rfl, rfl⟩ ⟨Nat.le_of_ble_eq_true rfl, Nat.le_of_ble_eq_true rfl⟩ dX3_findPeaks_34 ?_
    rintro _ M ⟨rfl, rfl⟩
    refine x_icmp_geN (tgt := 130) hC (by omega) (by omega) dX3_findPeaks_37 (by decide) (fun c2 => ?_) (fun c2 => ?_)
    · exact x_vret hC hk dX3_findPeaks_130 (Nat.le_of_ble_eq_true rfl) (Nat.le_of_ble_eq_true rfl) ⟨rfl, hm.to rfl (by rw [show r = n by omega, hco]; congr 1; funext q; unfold fil; split <;> rfl), hF⟩
    · refine x_iconst (v := -1) hC dX3_findPeaks_40 (by decide) ?_
      refine x_istore_n (lv' := [_, _, _, _, _, _]) hC dX3_findPeaks_41 rfl (by decide) rfl ?_
      refine x_iconst (v := nI 0) hC dX3_findPeaks_42 (by decide) ?_
      refine x_istore (lv' := [_, _, _, _, _, _]) hC dX3_findPeaks_43 (by decide) rfl ?_
      refine x_up (n := n) (I := fun i => ∀ w5, Wg G C M 0 0 45 [some (.ref m), some (.int (nI c)), some (.int (nI r)), some (.int (optI (sel (fun i => i ∉ pks co n r) co i))), some (.int (nI i)), w5] []) (fun i hi2 ih3 w5 => ?_) 0 (Nat.zero_le _) w5
      refine x_iload hC dX3_findPeaks_45 rfl ?_
      refine x_aload_n hC dX3_findPeaks_47 rfl rfl ?_
      refine x_iload_n hC dX3_findPeaks_48 rfl rfl ?_
      refine x_callV0 (na := 1) hC (ct_size hG hm hc hn) (lw_V q2495 q2497 qs45 q89 q2498) hm.1 rfl rfl (by decide +kernel) rfl ⟨Nat.le_of_ble_eq_true rfl, Nat.le_of_ble_eq_true rfl⟩ rfl (Nat.le_of_ble_eq_true rfl) ⟨rfl, rfl⟩ ⟨Nat.le_of_ble_eq_true rfl, Nat.le_of_ble_eq_true rfl⟩ dX3_findPeaks_49 ?_
      rintro _ M ⟨rfl, rfl⟩
      refine x_icmp_geN (tgt := 117) hC (by omega) (by omega) dX3_findPeaks_52 (by decide) (fun c3 => ?_) (fun c3 => ?_)
      · rw [show i = n by omega, pk_some co n c2]
        rw [optI_some]
        refine x_aload_n hC dX3_findPeaks_117 rfl rfl ?_
        refine x_get hC 9 hm.1 rfl (by decide) q2339 rfl rfl dX3_findPeaks_118 ?_
        refine x_iload_n hC dX3_findPeaks_121 rfl rfl ?_
        refine x_iload_n hC dX3_findPeaks_122 rfl rfl ?_
        refine x_miastN hC hm 8 (by decide) (show _ < 64 from (by omega)) (by decide) dX3_findPeaks_123 (fun M hm hF1 => ?_)
        have hF := hF.tr hF1
        refine x_iincN (lv' := [_, _, _, _, _, _]) (b := 1) hC dX3_findPeaks_124 rfl (by decide) (by decide) rfl ?_
        refine x_goto (tgt := 31) hC dX3_findPeaks_127 (by decide) ?_
        exact ih2 c2 _ (hm.to rfl (by rw [up_up]; congr 1; exact fil_up (Nat.zero_le _) rfl)) hF _ _ _
      · refine x_aload_n hC dX3_findPeaks_55 rfl rfl ?_
        refine x_iload hC dX3_findPeaks_56 rfl ?_
        refine x_iload_n hC dX3_findPeaks_58 rfl rfl ?_
        refine x_callV0 (na := 2) hC (ct_isAmong hG hm (nI i) (by omega)) (lw_V q2651 q2653 qs60 q89 q2654) hm.1 rfl rfl (by decide +kernel) rfl ⟨Nat.le_of_ble_eq_true rfl, Nat.le_of_ble_eq_true rfl⟩ rfl (Nat.le_of_ble_eq_true rfl) ⟨rfl, rfl⟩ ⟨Nat.le_of_ble_eq_true rfl, Nat.le_of_ble_eq_true rfl⟩ dX3_findPeaks_59 ?_
        rintro _ M ⟨rfl, rfl⟩
        have hpi : (∃ k, k < r ∧ va_up (va_up A 6 (fil (A 6) co 0 n)) 8 (fil (fil (A 8) (fun _ => -1) 0 n) (fun j => nI (pk co n j)) 0 r) 8 k = nI i) ↔ i ∈ pks co n r := by
          rw [pks_mem]
          constructor
          · rintro ⟨k, h1, h2⟩
            rw [va_up_s, fil_in (Nat.zero_le _) h1] at h2
            exact ⟨k, h1, (nI_eq (by have := (pk_rk co n).1 k (by omega); omega) (by omega)).mp h2⟩
          · rintro ⟨k, h1, h2⟩
            refine ⟨k, h1, ?_⟩
            rw [va_up_s, fil_in (Nat.zero_le _) h1, h2]
        rw [xB_iff hpi]
        have hsl : ∀ b, sel (fun i => i ∉ pks co n r) co i = some b → b < i := fun b hb => (sel_some hb).1
        have ih4 := ih3 c3
        unfold sel at ih4
        generalize sel (fun i => i ∉ pks co n r) co i = o at hsl ih4 ⊢
        refine x_j1 (fun v => v = xB (i ∉ pks co n r)) 70 (fun hj => ?_) (fun v hv => ?_)
        · refine x_if_neB (tgt := 69) hC dX3_findPeaks_62 (by decide) (fun c4 => ?_) (fun c4 => ?_)
          · refine x_iconst (v := 0) hC dX3_findPeaks_69 (by decide) ?_
            exact hj _ (by rw [xB_f fun h => h c4])
          · refine x_iconst (v := 1) hC dX3_findPeaks_65 (by decide) ?_
            refine x_goto (tgt := 70) hC dX3_findPeaks_66 (by decide) ?_
            exact hj _ (by rw [xB_t c4])
        · subst hv
          refine x_istore (lv' := [_, _, _, _, _, _]) hC dX3_findPeaks_70 (by decide) rfl ?_
          refine x_iload hC dX3_findPeaks_72 rfl ?_
          refine x_if_eqB (tgt := 109) hC dX3_findPeaks_74 (by decide) (fun c5 => ?_) (fun c5 => ?_)
          · refine x_iload_n hC dX3_findPeaks_109 rfl rfl ?_
            refine x_istore_n (lv' := [_, _, _, _, _, _]) hC dX3_findPeaks_110 rfl (by decide) rfl ?_
            refine x_iincN (lv' := [_, _, _, _, _, _]) (b := 1) hC dX3_findPeaks_111 rfl (by decide) (by decide) rfl ?_
            refine x_goto (tgt := 45) hC dX3_findPeaks_114 (by decide) ?_
            rw [if_neg c5] at ih4
            exact ih4 _
          · rw [if_pos c5] at ih4
            cases o with
            | none =>
              refine x_iload_n hC dX3_findPeaks_77 rfl rfl ?_
              refine x_iconst (v := -1) hC dX3_findPeaks_78 (by decide) ?_
              refine x_icmp_eq (tgt := 104) hC dX3_findPeaks_79 (by decide) (fun c6 => ?_) (fun c6 => ?_)
              · refine x_iload hC dX3_findPeaks_104 rfl ?_
                refine x_goto (tgt := 110) hC dX3_findPeaks_106 (by decide) ?_
                refine x_istore_n (lv' := [_, _, _, _, _, _]) hC dX3_findPeaks_110 rfl (by decide) rfl ?_
                refine x_iincN (lv' := [_, _, _, _, _, _]) (b := 1) hC dX3_findPeaks_111 rfl (by decide) (by decide) rfl ?_
                refine x_goto (tgt := 45) hC dX3_findPeaks_114 (by decide) ?_
                exact ih4 _
              · exact absurd rfl c6
            | some b =>
              have hb := hsl b rfl
              dsimp only at ih4
              refine x_iload_n hC dX3_findPeaks_77 rfl rfl ?_
              refine x_iconst (v := -1) hC dX3_findPeaks_78 (by decide) ?_
              refine x_icmp_eq (tgt := 104) hC dX3_findPeaks_79 (by decide) (fun c6 => ?_) (fun c6 => ?_)
              · exact absurd c6 (nI_m1 (show b < 2 ^ 31 by omega))
              · refine x_aload_n hC dX3_findPeaks_82 rfl rfl ?_
                refine x_get hC 7 hm.1 rfl (by decide) q2337 rfl rfl dX3_findPeaks_83 ?_
                refine x_iload hC dX3_findPeaks_86 rfl ?_
                refine x_ialdN hC (hm.arr 6 (by decide)) (show _ < 64 from (by omega)) (by decide) dX3_findPeaks_88 ?_
                rw [show va_up (va_up A 6 (fil (A 6) co 0 n)) 8 (fil (fil (A 8) (fun _ => -1) 0 n) (fun j => nI (pk co n j)) 0 r) 6 i = co i from fil_in (Nat.zero_le _) c3]
                refine x_callS0 (na := 1) hC (ct_abs hG _ _) (lw_S q2535 q1604 q103 q1605) (by decide +kernel) rfl ⟨Nat.le_of_ble_eq_true rfl, Nat.le_of_ble_eq_true rfl⟩ rfl (Nat.le_of_ble_eq_true rfl) ⟨rfl, rfl⟩ ⟨Nat.le_of_ble_eq_true rfl, Nat.le_of_ble_eq_true rfl⟩ dX3_findPeaks_89 ?_
                rintro _ M ⟨rfl, rfl⟩
                rw [optI_some]
                refine x_aload_n hC dX3_findPeaks_92 rfl rfl ?_
                refine x_get hC 7 hm.1 rfl (by decide) q2337 rfl rfl dX3_findPeaks_93 ?_
                refine x_iload_n hC dX3_findPeaks_96 rfl rfl ?_
                refine x_ialdN hC (hm.arr 6 (by decide)) (show _ < 64 from (by omega)) (by decide) dX3_findPeaks_97 ?_
                rw [show va_up (va_up A 6 (fil (A 6) co 0 n)) 8 (fil (fil (A 8) (fun _ => -1) 0 n) (fun j => nI (pk co n j)) 0 r) 6 b = co b from fil_in (Nat.zero_le _) (by omega)]
                refine x_callS0 (na := 1) hC (ct_abs hG _ _) (lw_S q2535 q1604 q103 q1605) (by decide +kernel) rfl ⟨Nat.le_of_ble_eq_true rfl, Nat.le_of_ble_eq_true rfl⟩ rfl (Nat.le_of_ble_eq_true rfl) ⟨rfl, rfl⟩ ⟨Nat.le_of_ble_eq_true rfl, Nat.le_of_ble_eq_true rfl⟩ dX3_findPeaks_98 ?_
                rintro _ M ⟨rfl, rfl⟩
                refine x_icmp_le (tgt := 109) hC dX3_findPeaks_101 (by decide) (fun c7 => ?_) (fun c7 => ?_)
                · refine x_iload_n hC dX3_findPeaks_109 rfl rfl ?_
                  refine x_istore_n (lv' := [_, _, _, _, _, _]) hC dX3_findPeaks_110 rfl (by decide) rfl ?_
                  refine x_iincN (lv' := [_, _, _, _, _, _]) (b := 1) hC dX3_findPeaks_111 rfl (by decide) (by decide) rfl ?_
                  refine x_goto (tgt := 45) hC dX3_findPeaks_114 (by decide) ?_
                  rw [if_neg (Int32.not_lt.mpr c7)] at ih4
                  exact ih4 _
                · refine x_iload hC dX3_findPeaks_104 rfl ?_
                  refine x_goto (tgt := 110) hC dX3_findPeaks_106 (by decide) ?_
                  refine x_istore_n (lv' := [_, _, _, _, _, _]) hC dX3_findPeaks_110 rfl (by decide) rfl ?_
                  refine x_iincN (lv' := [_, _, _, _, _, _]) (b := 1) hC dX3_findPeaks_111 rfl (by decide) (by decide) rfl ?_
                  refine x_goto (tgt := 45) hC dX3_findPeaks_114 (by decide) ?_
                  rw [if_pos (Int32.not_le.mp c7)] at ih4
                  exact ih4 _
  · refine x_aload_n hC dX3_findPeaks_16 rfl rfl ?_
    refine x_get hC 9 hm.1 rfl (by decide) q2339 rfl rfl dX3_findPeaks_17 ?_
    refine x_iload_n hC dX3_findPeaks_20 rfl rfl ?_
    refine x_iconst (v := -1) hC dX3_findPeaks_21 (by decide) ?_
    refine x_miastN hC hm 8 (by decide) (show _ < 64 from (by omega)) (by decide) dX3_findPeaks_22 (fun M hm hF1 => ?_)
    have hF := hF.tr hF1
    refine x_iincN (lv' := [_, _, _, _, _, _]) (b := 1) hC dX3_findPeaks_23 rfl (by decide) (by decide) rfl ?_
    refine x_goto (tgt := 7) hC dX3_findPeaks_26 (by decide) ?_
    exact ih c1 _ (hm.to rfl (by rw [up_up]; congr 1; exact fil_up (Nat.zero_le _) rfl)) hF
/-- what is made of n coefficients, at place k -/
abbrev syS (co : Nat → Int32) (n k : Nat) : Int32 := clip (fdiv (iS (fun i => co i * sg (nI i) (nI k)) n) (nI n))
theorem ct_synthesize (hG : GOK G) (hm : Mdl M m P V A) {n : Nat} (h0 : 0 < n) (hn6 : n ≤ 64) : Ct G yX3_synthesize cX3_synthesize 5 none (xrm 3 0 0) [.ref m, .int (nI n)] M (Po none M m P V (va_up A 9 (fil (A 9) (syS (A 6) n) 0 n))) := by
  refine ct_open (lv := [_, _, _, _, _]) hG (by decide +kernel) (Nat.le_of_ble_eq_true rfl) rfl (fun C hC hk => ?_)
  have hF : Fm M M := Fr.rf
  refine x_iconst (v := nI 0) hC dX3_synthesize_0 (by decide) ?_
  refine x_istore_n (lv' := [_, _, _, _, _]) hC dX3_synthesize_1 rfl (by decide) rfl ?_
  refine x_up (n := n) (I := fun k => ∀ M1, Mdl M1 m P V (va_up A 9 (fil (A 9) (syS (A 6) n) 0 k)) → Fm M M1 → ∀ w3 w4, Wg G C M1 0 0 2 [some (.ref m), some (.int (nI n)), some (.int (nI k)), w3, w4] []) (fun k hk2 ih M hm hF w3 w4 => ?_) 0 (Nat.zero_le _) M (hm.to rfl (by rw [fil_0, up_id])) hF none none
  refine x_iload_n hC dX3_synthesize_2 rfl rfl ?_
  refine x_iload_n hC dX3_synthesize_3 rfl rfl ?_
  refine x_icmp_geN (tgt := 61) hC (by omega) (by omega) dX3_synthesize_4 (by decide) (fun c1 => ?_) (fun c1 => ?_)
  · exact x_vret hC hk dX3_synthesize_61 (Nat.le_of_ble_eq_true rfl) (Nat.le_of_ble_eq_true rfl) ⟨rfl, by rw [show k = n by omega] at hm; exact hm, hF⟩
  · refine x_iconst (v := 0) hC dX3_synthesize_7 (by decide) ?_
    refine x_istore_n (lv' := [_, _, _, _, _]) hC dX3_synthesize_8 rfl (by decide) rfl ?_
    refine x_iconst (v := nI 0) hC dX3_synthesize_9 (by decide) ?_
    refine x_istore (lv' := [_, _, _, _, _]) hC dX3_synthesize_10 (by decide) rfl ?_
    refine x_up (n := n) (I := fun i => Wg G C M 0 0 12 [some (.ref m), some (.int (nI n)), some (.int (nI k)), some (.int (iS (fun i => A 6 i * sg (nI i) (nI k)) i)), some (.int (nI i))] []) (fun i hi2 ih2 => ?_) 0 (Nat.zero_le _)
    refine x_iload hC dX3_synthesize_12 rfl ?_
    refine x_iload_n hC dX3_synthesize_14 rfl rfl ?_
    refine x_icmp_geN (tgt := 41) hC (by omega) (by omega) dX3_synthesize_15 (by decide) (fun c2 => ?_) (fun c2 => ?_)
    · rw [show i = n by omega]
      refine x_aload_n hC dX3_synthesize_41 rfl rfl ?_
      refine x_get hC 10 hm.1 rfl (by decide) q2340 rfl rfl dX3_synthesize_42 ?_
      refine x_iload_n hC dX3_synthesize_45 rfl rfl ?_
      refine x_iload_n hC dX3_synthesize_46 rfl rfl ?_
      refine x_iload_n hC dX3_synthesize_47 rfl rfl ?_
      refine x_callS0 (na := 2) hC (ct_floorDiv hG _ _ (nI_ne0 h0 (by omega)) _) (lw_S q2745 q1946 q103 q1947) (by decide +kernel) rfl ⟨Nat.le_of_ble_eq_true rfl, Nat.le_of_ble_eq_true rfl⟩ rfl (Nat.le_of_ble_eq_true rfl) ⟨rfl, rfl⟩ ⟨Nat.le_of_ble_eq_true rfl, Nat.le_of_ble_eq_true rfl⟩ dX3_synthesize_48 ?_
      rintro _ M ⟨rfl, rfl⟩
      refine x_callS0 (na := 1) hC (ct_clipped hG _ _) (lw_S q2746 q2747 q89 q2748) (by decide +kernel) rfl ⟨Nat.le_of_ble_eq_true rfl, Nat.le_of_ble_eq_true rfl⟩ rfl (Nat.le_of_ble_eq_true rfl) ⟨rfl, rfl⟩ ⟨Nat.le_of_ble_eq_true rfl, Nat.le_of_ble_eq_true rfl⟩ dX3_synthesize_51 ?_
      rintro _ M ⟨rfl, rfl⟩
      refine x_miastN hC hm 9 (by decide) (show _ < 64 from (by omega)) (by decide) dX3_synthesize_54 (fun M hm hF1 => ?_)
      have hF := hF.tr hF1
      refine x_iincN (lv' := [_, _, _, _, _]) (b := 1) hC dX3_synthesize_55 rfl (by decide) (by decide) rfl ?_
      refine x_goto (tgt := 2) hC dX3_synthesize_58 (by decide) ?_
      exact ih c1 _ (hm.to rfl (by rw [up_up]; congr 1; exact fil_up (Nat.zero_le _) rfl)) hF _ _
    · refine x_iload_n hC dX3_synthesize_18 rfl rfl ?_
      refine x_aload_n hC dX3_synthesize_19 rfl rfl ?_
      refine x_get hC 7 hm.1 rfl (by decide) q2337 rfl rfl dX3_synthesize_20 ?_
      refine x_iload hC dX3_synthesize_23 rfl ?_
      refine x_ialdN hC (hm.arr 6 (by decide)) (show _ < 64 from (by omega)) (by decide) dX3_synthesize_25 ?_
      refine x_iload hC dX3_synthesize_26 rfl ?_
      refine x_iload_n hC dX3_synthesize_28 rfl rfl ?_
      refine x_callS0 (na := 2) hC (ct_sign hG _ _ _) (lw_S q2572 q2573 q89 q2574) (by decide +kernel) rfl ⟨Nat.le_of_ble_eq_true rfl, Nat.le_of_ble_eq_true rfl⟩ rfl (Nat.le_of_ble_eq_true rfl) ⟨rfl, rfl⟩ ⟨Nat.le_of_ble_eq_true rfl, Nat.le_of_ble_eq_true rfl⟩ dX3_synthesize_29 ?_
      rintro _ M ⟨rfl, rfl⟩
      refine x_imul hC dX3_synthesize_32 ?_
      refine x_iadd hC dX3_synthesize_33 ?_
      refine x_istore_n (lv' := [_, _, _, _, _]) hC dX3_synthesize_34 rfl (by decide) rfl ?_
      refine x_iincN (lv' := [_, _, _, _, _]) (b := 1) hC dX3_synthesize_35 rfl (by decide) (by decide) rfl ?_
      refine x_goto (tgt := 12) hC dX3_synthesize_38 (by decide) ?_
      exact ih2 c2
theorem ct_replace (hG : GOK G) (hm : Mdl M m P V A) {c n : Nat} (hc : c < 6) (hn : A 0 (8 + 72 * c) = nI n) (hn6 : n ≤ 64) : Ct G yX3_replace cX3_replace 4 (some .int) (xrm 3 0 0) [.ref m, .int (nI c)] M (Po (some (.int (iS (fun k => xB (A 0 (9 + 72 * c + k) ≠ A 9 k)) n))) M m P V (va_up A 0 (pot (A 0) (A 9) (9 + 72 * c) n))) := by
  refine ct_open (lv := [_, _, _, _]) hG (by decide +kernel) (Nat.le_of_ble_eq_true rfl) rfl (fun C hC hk => ?_)
  have hF : Fm M M := Fr.rf
  refine x_iconst (v := 0) hC dX3_replace_0 (by decide) ?_
  refine x_istore_n (lv' := [_, _, _, _]) hC dX3_replace_1 rfl (by decide) rfl ?_
  refine x_iconst (v := nI 0) hC dX3_replace_2 (by decide) ?_
  refine x_istore_n (lv' := [_, _, _, _]) hC dX3_replace_3 rfl (by decide) rfl ?_
  refine x_up (n := n) (I := fun k => ∀ M1, Mdl M1 m P V (va_up A 0 (pot (A 0) (A 9) (9 + 72 * c) k)) → Fm M M1 → Wg G C M1 0 0 4 [some (.ref m), some (.int (nI c)), some (.int (iS (fun k => xB (A 0 (9 + 72 * c + k) ≠ A 9 k)) k)), some (.int (nI k))] []) (fun k hk2 ih M hm hF => ?_) 0 (Nat.zero_le _) M (hm.to rfl (by rw [pot_0, up_id])) hF
  refine x_iload_n hC dX3_replace_4 rfl rfl ?_
  refine x_aload_n hC dX3_replace_5 rfl rfl ?_
  refine x_iload_n hC dX3_replace_6 rfl rfl ?_
  refine x_callV0 (na := 1) hC (ct_size hG hm hc ((pot_out (by omega)).trans hn)) (lw_V q2495 q2497 qs45 q89 q2498) hm.1 rfl rfl (by decide +kernel) rfl ⟨Nat.le_of_ble_eq_true rfl, Nat.le_of_ble_eq_true rfl⟩ rfl (Nat.le_of_ble_eq_true rfl) ⟨rfl, rfl⟩ ⟨Nat.le_of_ble_eq_true rfl, Nat.le_of_ble_eq_true rfl⟩ dX3_replace_7 ?_
  rintro _ M ⟨rfl, rfl⟩
  refine x_icmp_geN (tgt := 62) hC (by omega) (by omega) dX3_replace_10 (by decide) (fun c1 => ?_) (fun c1 => ?_)
  · refine x_iload_n hC dX3_replace_62 rfl rfl ?_
    exact x_iret hC hk dX3_replace_63 (Nat.le_of_ble_eq_true rfl) (Nat.le_of_ble_eq_true rfl) ⟨by rw [show k = n by omega], by rw [show k = n by omega] at hm; exact hm, hF⟩
  · refine x_iload_n hC dX3_replace_13 rfl rfl ?_
    refine x_aload_n hC dX3_replace_14 rfl rfl ?_
    refine x_iload_n hC dX3_replace_15 rfl rfl ?_
    refine x_iload_n hC dX3_replace_16 rfl rfl ?_
    refine x_callV0 (na := 2) hC (ct_at hG hm hc (by omega)) (lw_V q2515 q2517 qs47 q89 q2518) hm.1 rfl rfl (by decide +kernel) rfl ⟨Nat.le_of_ble_eq_true rfl, Nat.le_of_ble_eq_true rfl⟩ rfl (Nat.le_of_ble_eq_true rfl) ⟨rfl, rfl⟩ ⟨Nat.le_of_ble_eq_true rfl, Nat.le_of_ble_eq_true rfl⟩ dX3_replace_17 ?_
    rintro _ M ⟨rfl, rfl⟩
    rw [show va_up A 0 (pot (A 0) (A 9) (9 + 72 * c) k) 0 (9 + 72 * c + k) = A 0 (9 + 72 * c + k) from pot_out (by omega)]
    refine x_aload_n hC dX3_replace_20 rfl rfl ?_
    refine x_get hC 10 hm.1 rfl (by decide) q2340 rfl rfl dX3_replace_21 ?_
    refine x_iload_n hC dX3_replace_24 rfl rfl ?_
    refine x_ialdN hC (hm.arr 9 (by decide)) (show _ < 64 from (by omega)) (by decide) dX3_replace_25 ?_
    rw [show va_up A 0 (pot (A 0) (A 9) (9 + 72 * c) k) 9 k = A 9 k from rfl]
    refine x_j2 (fun v => v = xB (A 0 (9 + 72 * c + k) ≠ A 9 k)) 34 (fun hj => ?_) (fun v hv => ?_)
    · refine x_icmp_ne (tgt := 33) hC dX3_replace_26 (by decide) (fun c2 => ?_) (fun c2 => ?_)
      · refine x_iconst (v := 1) hC dX3_replace_33 (by decide) ?_
        exact hj _ (by rw [xB_t c2])
      · refine x_iconst (v := 0) hC dX3_replace_29 (by decide) ?_
        refine x_goto (tgt := 34) hC dX3_replace_30 (by decide) ?_
        exact hj _ (by rw [xB_f fun h => h c2])
    · subst hv
      refine x_iadd hC dX3_replace_34 ?_
      refine x_istore_n (lv' := [_, _, _, _]) hC dX3_replace_35 rfl (by decide) rfl ?_
      refine x_aload_n hC dX3_replace_36 rfl rfl ?_
      refine x_get hC 0 hm.1 rfl (by decide) q2330 rfl rfl dX3_replace_37 ?_
      refine x_iload_n hC dX3_replace_40 rfl rfl ?_
      refine x_callS0 (na := 1) hC (ct_row hG _ _) (lw_S q2457 q2458 q89 q2459) (by decide +kernel) rfl ⟨Nat.le_of_ble_eq_true rfl, Nat.le_of_ble_eq_true rfl⟩ rfl (Nat.le_of_ble_eq_true rfl) ⟨rfl, rfl⟩ ⟨Nat.le_of_ble_eq_true rfl, Nat.le_of_ble_eq_true rfl⟩ dX3_replace_41 ?_
      rintro _ M ⟨rfl, rfl⟩
      refine x_bipush (v := nI 8) hC dX3_replace_44 (by decide) ?_
      refine x_iaddN hC dX3_replace_46 ?_
      refine x_iload_n hC dX3_replace_47 rfl rfl ?_
      refine x_iaddN hC dX3_replace_48 ?_
      refine x_aload_n hC dX3_replace_49 rfl rfl ?_
      refine x_get hC 10 hm.1 rfl (by decide) q2340 rfl rfl dX3_replace_50 ?_
      refine x_iload_n hC dX3_replace_53 rfl rfl ?_
      refine x_ialdN hC (hm.arr 9 (by decide)) (show _ < 64 from (by omega)) (by decide) dX3_replace_54 ?_
      rw [show 1 + 72 * c + 8 + k = 9 + 72 * c + k by omega]
      refine x_miastN hC hm 0 (by decide) (show _ < 433 from (by omega)) (by decide) dX3_replace_55 (fun M hm hF1 => ?_)
      have hF := hF.tr hF1
      refine x_iincN (lv' := [_, _, _, _]) (b := 1) hC dX3_replace_56 rfl (by decide) (by decide) rfl ?_
      refine x_goto (tgt := 4) hC dX3_replace_59 (by decide) ?_
      exact ih c1 _ (hm.to rfl (by rw [up_up]; congr 1; exact pot_up rfl)) hF
end M5

