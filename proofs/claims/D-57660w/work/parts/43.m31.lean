/-! ===== the reference's constructor ===== -/
/-- the fields while the constructor runs: j arrays are made -/
def moZ (j : Nat) (P : Nat → Nat) : List Value := [if 0 < j then .ref (P 0) else .null, if 1 < j then .ref (P 1) else .null, if 2 < j then .ref (P 2) else .null, if 3 < j then .ref (P 3) else .null, .int 0, if 4 < j then .ref (P 4) else .null, if 5 < j then .ref (P 5) else .null, if 6 < j then .ref (P 6) else .null, if 7 < j then .ref (P 7) else .null, if 8 < j then .ref (P 8) else .null, if 9 < j then .ref (P 9) else .null, .int 0, .int 0, .int 0, .int 0, .int 0, .int 0, .int 0, .int 0, .int 0, .int 0]
def MZ (j : Nat) (M : X_M) (m : Nat) (P : Nat → Nat) : Prop := M m = some (ob 10 0 (moZ j P)) ∧ (∀ i, i < j → M (P i) = some (ia 10 (mlen i) (fun _ => 0))) ∧ ∀ i k, i < j → k < j → P i = P k → i = k
theorem MZ.put {j : Nat} {M : X_M} {m q : Nat} {P : Nat → Nat} (h : MZ j M m P) (hq : M q = none) : MZ (j + 1) (mu (mu M q (ia 10 (mlen j) (fun _ => 0))) m (ob 10 0 (moZ (j + 1) (va_up P j q)))) m (va_up P j q) ∧ Fm M (mu (mu M q (ia 10 (mlen j) (fun _ => 0))) m (ob 10 0 (moZ (j + 1) (va_up P j q)))) := by
  have hqm : q ≠ m := fun e => by rw [e, h.1] at hq; cases hq
  refine ⟨⟨mu_s, fun i hi => ?_, fun i k hi hk he => ?_⟩, (Fr.new hq).tr (Fr.set (mu_f hq h.1) rfl)⟩
  · by_cases e : i = j
    · subst e
      rw [va_up_s, mu_n hqm, mu_s]
    · rw [va_up_n e]
      have h1 := h.2.1 i (by omega)
      rw [mu_n (mx_ne h1 h.1 (by simp [ia, ob, xar])), mu_f hq h1]
  · by_cases e1 : i = j
    · by_cases e2 : k = j
      · omega
      · rw [e1, va_up_s, va_up_n e2] at he
        have h1 := h.2.1 k (by omega)
        rw [← he, hq] at h1
        cases h1
    · by_cases e2 : k = j
      · rw [e2, va_up_s, va_up_n e1] at he
        have h1 := h.2.1 i (by omega)
        rw [he, hq] at h1
        cases h1
      · rw [va_up_n e1, va_up_n e2] at he
        exact h.2.2 i k (by omega) (by omega) he
section M30
variable {G : X_G} {M : X_M} {m : Nat} {P : Nat → Nat}
theorem ct_init (hG : GOK G) {P : Nat → Nat} (h : MZ 0 M m P) : Ct G yX3_init cX3_init 1 none (xrm 2 10 6919) [.ref m] M (fun r M' => r = none ∧ ∃ P, Mdl M' m P (upd (fun _ => 0) 5 (-1)) (fun _ _ => 0) ∧ Fm M M') := by
  refine ct_open (lv := [_]) hG (by decide +kernel) (Nat.le_of_ble_eq_true rfl) rfl (fun C hC hk => ?_)
  obtain ⟨M0, hM0⟩ : ∃ M0, M0 = M := ⟨M, rfl⟩
  rw [← hM0] at hk
  have hF : Fm M0 M := by rw [hM0]; exact Fr.rf
  refine x_aload_n hC dX3_init_0 rfl rfl ?_
  refine x_objInit hC q2329 q132 q133 dX3_init_1 (Nat.le_of_ble_eq_true rfl) ⟨Nat.le_of_ble_eq_true rfl, Nat.le_of_ble_eq_true rfl⟩ ?_
  suffices step : ∀ M P, MZ 1 M m P → Fm M0 M → Wg G C M 1 433 13 [some (.ref m)] [] by
    refine x_aload_n hC dX3_init_4 rfl rfl ?_
    refine x_sipush (v := 433) hC dX3_init_5 (by decide) ?_
    refine x_newi hC 433 10 q1328 (by decide) rfl (by decide) (Nat.le_of_ble_eq_true rfl) (Nat.le_of_ble_eq_true rfl) dX3_init_8 (fun q hq => ?_)
    obtain ⟨h1, hF1⟩ := h.put hq
    refine x_putF hC 0 (mu_f hq h.1) (by decide) rfl (by decide) q2330 rfl rfl rfl rfl rfl rfl rfl (show 0 < 21 by decide) (fs' := moZ 1 (va_up P 0 q)) rfl dX3_init_10 ?_
    exact step _ _ h1 (hF.tr hF1)
  clear h hF
  intro M P h hF
  suffices step : ∀ M P, MZ 2 M m P → Fm M0 M → Wg G C M 2 866 22 [some (.ref m)] [] by
    refine x_aload_n hC dX3_init_13 rfl rfl ?_
    refine x_sipush (v := 433) hC dX3_init_14 (by decide) ?_
    refine x_newi hC 433 10 q1328 (by decide) rfl (by decide) (Nat.le_of_ble_eq_true rfl) (Nat.le_of_ble_eq_true rfl) dX3_init_17 (fun q hq => ?_)
    obtain ⟨h1, hF1⟩ := h.put hq
    refine x_putF hC 1 (mu_f hq h.1) (by decide) rfl (by decide) q2331 rfl rfl rfl rfl rfl rfl rfl (show 1 < 21 by decide) (fs' := moZ 2 (va_up P 1 q)) rfl dX3_init_19 ?_
    exact step _ _ h1 (hF.tr hF1)
  clear h hF
  intro M P h hF
  suffices step : ∀ M P, MZ 3 M m P → Fm M0 M → Wg G C M 3 4330 31 [some (.ref m)] [] by
    refine x_aload_n hC dX3_init_22 rfl rfl ?_
    refine x_sipush (v := 3464) hC dX3_init_23 (by decide) ?_
    refine x_newi hC 3464 10 q1328 (by decide) rfl (by decide) (Nat.le_of_ble_eq_true rfl) (Nat.le_of_ble_eq_true rfl) dX3_init_26 (fun q hq => ?_)
    obtain ⟨h1, hF1⟩ := h.put hq
    refine x_putF hC 2 (mu_f hq h.1) (by decide) rfl (by decide) q2332 rfl rfl rfl rfl rfl rfl rfl (show 2 < 21 by decide) (fs' := moZ 3 (va_up P 2 q)) rfl dX3_init_28 ?_
    exact step _ _ h1 (hF.tr hF1)
  clear h hF
  intro M P h hF
  suffices step : ∀ M P, MZ 4 M m P → Fm M0 M → Wg G C M 4 4763 40 [some (.ref m)] [] by
    refine x_aload_n hC dX3_init_31 rfl rfl ?_
    refine x_sipush (v := 433) hC dX3_init_32 (by decide) ?_
    refine x_newi hC 433 10 q1328 (by decide) rfl (by decide) (Nat.le_of_ble_eq_true rfl) (Nat.le_of_ble_eq_true rfl) dX3_init_35 (fun q hq => ?_)
    obtain ⟨h1, hF1⟩ := h.put hq
    refine x_putF hC 3 (mu_f hq h.1) (by decide) rfl (by decide) q2333 rfl rfl rfl rfl rfl rfl rfl (show 3 < 21 by decide) (fs' := moZ 4 (va_up P 3 q)) rfl dX3_init_37 ?_
    exact step _ _ h1 (hF.tr hF1)
  clear h hF
  intro M P h hF
  suffices step : ∀ M P, MZ 5 M m P → Fm M0 M → Wg G C M 5 5663 49 [some (.ref m)] [] by
    refine x_aload_n hC dX3_init_40 rfl rfl ?_
    refine x_sipush (v := 900) hC dX3_init_41 (by decide) ?_
    refine x_newi hC 900 10 q1328 (by decide) rfl (by decide) (Nat.le_of_ble_eq_true rfl) (Nat.le_of_ble_eq_true rfl) dX3_init_44 (fun q hq => ?_)
    obtain ⟨h1, hF1⟩ := h.put hq
    refine x_putF hC 5 (mu_f hq h.1) (by decide) rfl (by decide) q2335 rfl rfl rfl rfl rfl rfl rfl (show 5 < 21 by decide) (fs' := moZ 5 (va_up P 4 q)) rfl dX3_init_46 ?_
    exact step _ _ h1 (hF.tr hF1)
  clear h hF
  intro M P h hF
  suffices step : ∀ M P, MZ 6 M m P → Fm M0 M → Wg G C M 6 6663 58 [some (.ref m)] [] by
    refine x_aload_n hC dX3_init_49 rfl rfl ?_
    refine x_sipush (v := 1000) hC dX3_init_50 (by decide) ?_
    refine x_newi hC 1000 10 q1328 (by decide) rfl (by decide) (Nat.le_of_ble_eq_true rfl) (Nat.le_of_ble_eq_true rfl) dX3_init_53 (fun q hq => ?_)
    obtain ⟨h1, hF1⟩ := h.put hq
    refine x_putF hC 6 (mu_f hq h.1) (by decide) rfl (by decide) q2336 rfl rfl rfl rfl rfl rfl rfl (show 6 < 21 by decide) (fs' := moZ 6 (va_up P 5 q)) rfl dX3_init_55 ?_
    exact step _ _ h1 (hF.tr hF1)
  clear h hF
  intro M P h hF
  suffices step : ∀ M P, MZ 7 M m P → Fm M0 M → Wg G C M 7 6727 66 [some (.ref m)] [] by
    refine x_aload_n hC dX3_init_58 rfl rfl ?_
    refine x_bipush (v := 64) hC dX3_init_59 (by decide) ?_
    refine x_newi hC 64 10 q1328 (by decide) rfl (by decide) (Nat.le_of_ble_eq_true rfl) (Nat.le_of_ble_eq_true rfl) dX3_init_61 (fun q hq => ?_)
    obtain ⟨h1, hF1⟩ := h.put hq
    refine x_putF hC 7 (mu_f hq h.1) (by decide) rfl (by decide) q2337 rfl rfl rfl rfl rfl rfl rfl (show 7 < 21 by decide) (fs' := moZ 7 (va_up P 6 q)) rfl dX3_init_63 ?_
    exact step _ _ h1 (hF.tr hF1)
  clear h hF
  intro M P h hF
  suffices step : ∀ M P, MZ 8 M m P → Fm M0 M → Wg G C M 8 6791 74 [some (.ref m)] [] by
    refine x_aload_n hC dX3_init_66 rfl rfl ?_
    refine x_bipush (v := 64) hC dX3_init_67 (by decide) ?_
    refine x_newi hC 64 10 q1328 (by decide) rfl (by decide) (Nat.le_of_ble_eq_true rfl) (Nat.le_of_ble_eq_true rfl) dX3_init_69 (fun q hq => ?_)
    obtain ⟨h1, hF1⟩ := h.put hq
    refine x_putF hC 8 (mu_f hq h.1) (by decide) rfl (by decide) q2338 rfl rfl rfl rfl rfl rfl rfl (show 8 < 21 by decide) (fs' := moZ 8 (va_up P 7 q)) rfl dX3_init_71 ?_
    exact step _ _ h1 (hF.tr hF1)
  clear h hF
  intro M P h hF
  suffices step : ∀ M P, MZ 9 M m P → Fm M0 M → Wg G C M 9 6855 82 [some (.ref m)] [] by
    refine x_aload_n hC dX3_init_74 rfl rfl ?_
    refine x_bipush (v := 64) hC dX3_init_75 (by decide) ?_
    refine x_newi hC 64 10 q1328 (by decide) rfl (by decide) (Nat.le_of_ble_eq_true rfl) (Nat.le_of_ble_eq_true rfl) dX3_init_77 (fun q hq => ?_)
    obtain ⟨h1, hF1⟩ := h.put hq
    refine x_putF hC 9 (mu_f hq h.1) (by decide) rfl (by decide) q2339 rfl rfl rfl rfl rfl rfl rfl (show 9 < 21 by decide) (fs' := moZ 9 (va_up P 8 q)) rfl dX3_init_79 ?_
    exact step _ _ h1 (hF.tr hF1)
  clear h hF
  intro M P h hF
  suffices step : ∀ M P, MZ 10 M m P → Fm M0 M → Wg G C M 10 6919 90 [some (.ref m)] [] by
    refine x_aload_n hC dX3_init_82 rfl rfl ?_
    refine x_bipush (v := 64) hC dX3_init_83 (by decide) ?_
    refine x_newi hC 64 10 q1328 (by decide) rfl (by decide) (Nat.le_of_ble_eq_true rfl) (Nat.le_of_ble_eq_true rfl) dX3_init_85 (fun q hq => ?_)
    obtain ⟨h1, hF1⟩ := h.put hq
    refine x_putF hC 10 (mu_f hq h.1) (by decide) rfl (by decide) q2340 rfl rfl rfl rfl rfl rfl rfl (show 10 < 21 by decide) (fs' := moZ 10 (va_up P 9 q)) rfl dX3_init_87 ?_
    exact step _ _ h1 (hF.tr hF1)
  clear h hF
  intro M P h hF
  have hm : Mdl M m P (fun _ => 0) (fun _ _ => 0) := ⟨h.1, fun i hi => h.2.1 i hi, fun i k hi hk => h.2.2 i k hi hk⟩
  refine x_aload_n hC dX3_init_90 rfl rfl ?_
  refine x_iconst (v := -1) hC dX3_init_91 (by decide) ?_
  refine x_mput hC hm 15 5 (by decide) q2345 rfl rfl rfl rfl rfl rfl dX3_init_92 (fun M hm hF1 => ?_)
  have hF := hF.tr hF1
  exact x_vret hC hk dX3_init_95 (Nat.le_of_ble_eq_true rfl) (Nat.le_of_ble_eq_true rfl) ⟨rfl, P, hm, hF⟩
end M30

