/-! ===== Integer.getChars, StringBuilder.append(int), append(String) ===== -/
theorem nar_b (y : Nat) : vp_nar .byte (nI y) = sb_b y := rfl
theorem app_at {l l' : List Nat} {k c : Nat} (h : (l ++ l')[k]? = some c) : (k < l.length ∧ l[k]? = some c) ∨ (l.length ≤ k ∧ l'[k - l.length]? = some c) := by
  rcases Nat.lt_or_ge k l.length with hk | hk
  · rw [List.getElem?_append_left hk] at h; exact Or.inl ⟨hk, h⟩
  · rw [List.getElem?_append_right hk] at h; exact Or.inr ⟨hk, h⟩
section CHR
variable {G : X_G} {M : X_M} {T : X_T} {g q cap b : Nat} {w : List Nat} {a : Nat → Int32}
theorem ct_getChars (hG : GOK G) (hT : T1 G T) (hM : M1c T M) (hg : g ≠ 0) {x : Int32} (hx : x.toInt.natAbs < 10 ^ 7) {n m : Nat} (hb : M b = some (ba g m a)) (hm : n + (dgI x).length ≤ m) (hm2 : m ≤ 65536) (hf : sb_Fit a) : Ct G yJ21_getChars cJ21_getChars 7 (some .int) (xrm 1 0 0) [.int x, .int (nI (n + (dgI x).length)), .ref b] M (fun r M' => r = some (.int (nI n)) ∧ ∃ u, M' = mu M b (ba g m u) ∧ sb_Fit u ∧ (∀ k, k < n → u k = a k) ∧ ∀ (k c : Nat), (dgI x)[k]? = some c → u (n + k) = sb_b c) := by
  obtain ⟨v, hv⟩ : ∃ v, v = x.toInt.natAbs := ⟨_, rfl⟩
  have hv7 : v < 10 ^ 7 := by rw [hv]; exact hx
  have hd0 : ∃ d, d = if x < 0 then 1 else 0 := ⟨_, rfl⟩
  obtain ⟨d, hd⟩ := hd0
  have hdl : (dgI x).length = d + (dgs v).length := by
    unfold dgI
    rw [List.length_append, ← hv, hd]
    split <;> rfl
  have hd1 : d ≤ 1 := by rw [hd]; split <;> decide
  obtain ⟨p, hp⟩ : ∃ p, p = n + (dgI x).length := ⟨_, rfl⟩
  have hb1 : T 1 ≠ b := fun e => by have := hM.1; rw [e, hb] at this; cases this; exact hg rfl
  have hb2 : T 2 ≠ b := fun e => by have := hM.2; rw [e, hb] at this; cases this; exact hg rfl
  have t1 : ∀ u, (mu M b (ba g m u)) (T 1) = some (ba 0 100 fun k => nI (48 + k % 10)) := fun u => mu_o hb1 hM.1
  have t2 : ∀ u, (mu M b (ba g m u)) (T 2) = some (ba 0 100 fun k => nI (48 + k / 10)) := fun u => mu_o hb2 hM.2
  rw [← hp] at hm ⊢
  refine ct_open (lv := [_, _, _, _, _, _, _]) hG (by decide +kernel) (Nat.le_of_ble_eq_true rfl) rfl (fun C hC hk => ?_)
  -- the end
  have fin : ∀ u w0, sb_Fit u → (∀ k, k < n → u k = a k) → (∀ (k c : Nat), (dgs v)[k]? = some c → u (n + d + k) = sb_b c) → Wg G C (mu M b (ba g m u)) 0 0 104 [some (.int w0), some (.int (nI p)), some (.ref b), none, none, some (.int (nI (n + d))), some (.int (nI d))] [] := by
    intro u w0 hu hu2 hu3
    refine x_iload hC dJ21_getChars_104 rfl ?_
    refine x_if_eqN (tgt := 118) hC (by omega) dJ21_getChars_106 (by decide) (fun c => ?_) (fun c => ?_)
    · have e : dgI x = dgs v := by unfold dgI; rw [if_neg (fun z => by rw [if_pos z] at hd; omega), ← hv]; rfl
      rw [c, Nat.add_zero] at hu3 ⊢
      refine x_iload hC dJ21_getChars_118 rfl ?_
      exact x_iret hC hk dJ21_getChars_120 (Nat.le_of_ble_eq_true rfl) (Nat.le_of_ble_eq_true rfl) ⟨rfl, u, rfl, hu, hu2, by rw [e]; exact hu3⟩
    · have hd2 : d = 1 := by omega
      have hx0 : x < 0 := by
        by_cases z : x < 0
        · exact z
        · rw [if_neg z] at hd; omega
      have e : dgI x = 45 :: dgs v := by unfold dgI; rw [if_pos hx0, ← hv]; rfl
      rw [hd2] at hu3 ⊢
      refine x_aload_n hC dJ21_getChars_109 rfl rfl ?_
      refine x_iincM (lv' := [_, _, _, _, _, _, _]) (b := 1) hC dJ21_getChars_110 rfl (by decide) (by decide) (by omega) rfl ?_
      refine x_iload hC dJ21_getChars_113 rfl ?_
      refine x_bipush (v := nI 45) hC dJ21_getChars_115 (by decide) ?_
      rw [Nat.add_sub_cancel]
      refine x_bastN hC mu_s (by first | decide | assumption) (by omega) (by first | decide | omega) dJ21_getChars_117 ?_
      rw [mu_mu, nar_b]
      refine x_iload hC dJ21_getChars_118 rfl ?_
      refine x_iret hC hk dJ21_getChars_120 (Nat.le_of_ble_eq_true rfl) (Nat.le_of_ble_eq_true rfl) ⟨rfl, _, rfl, sb_fitU hu (sb_fitB 45), fun k hk => by rw [upd_n (by omega)]; exact hu2 k hk, fun k c hc => ?_⟩
      rw [e] at hc
      cases k with
      | zero => cases hc; rw [Nat.add_zero, upd_s]
      | succ k => rw [upd_n (by omega), show n + (k + 1) = n + 1 + k by omega]; exact hu3 k c hc
  have lp : ∀ (f w0 : Nat) (rs : List Nat) (u : Nat → Int32) (c : Nat), w0 < f → w0 ≤ v → dgs v = dgs w0 ++ rs → c = n + d + (dgs w0).length → sb_Fit u → (∀ k, k < n → u k = a k) → (∀ (k y : Nat), rs[k]? = some y → u (c + k) = sb_b y) → Wg G C (mu M b (ba g m u)) 0 0 22 [some (.int (-nI w0)), some (.int (nI p)), some (.ref b), none, none, some (.int (nI c)), some (.int (nI d))] [] := by
    intro f
    induction f with
    | zero => intro w0 rs u c h; omega
    | succ f ih =>
      intro w0 rs u c hw hwv hdg hc hu hu2 hu3
      have hcp : c ≤ p := by
        rw [hp, hdl, hdg, List.length_append, hc]
        omega
      refine x_iload_n hC dJ21_getChars_22 rfl rfl ?_
      refine x_bipush (v := -nI 100) hC dJ21_getChars_23 (by decide) ?_
      refine x_icmp_gt (tgt := 72) hC dJ21_getChars_25 (by decide) (fun e => ?_) (fun e => ?_)
      · have e2 : w0 < 100 := (sb_nlt (by decide) (by omega)).mp e
        have hc1 : 1 ≤ (dgs w0).length := by
          rcases Nat.lt_or_ge w0 10 with h | h
          · rw [dgs_1 h]; exact Nat.le_refl 1
          · rw [dgs_2 h e2]; exact Nat.le_succ 1
        refine x_aload_n hC dJ21_getChars_72 rfl rfl ?_
        refine x_iincM (lv' := [_, _, _, _, _, _, _]) (b := 1) hC dJ21_getChars_73 rfl (by decide) (by decide) (by omega) rfl ?_
        refine x_iload hC dJ21_getChars_76 rfl ?_
        refine x_gets hC hT.1 q499 rfl dJ21_getChars_78 ?_
        refine x_iload_n hC dJ21_getChars_81 rfl rfl ?_
        refine x_ineg hC dJ21_getChars_82 ?_
        rw [Int32.neg_neg]
        refine x_baldN hC (t1 _) e2 (by first | decide | omega) dJ21_getChars_83 ?_
        refine x_bastN hC mu_s (by first | decide | assumption) (by omega) (by first | decide | omega) dJ21_getChars_84 ?_
        rw [mu_mu, nar_b]
        refine x_iload_n hC dJ21_getChars_85 rfl rfl ?_
        refine x_bipush (v := -nI 9) hC dJ21_getChars_86 (by decide) ?_
        refine x_icmp_ge (tgt := 104) hC dJ21_getChars_88 (by decide) (fun e3 => ?_) (fun e3 => ?_)
        · have e4 : w0 ≤ 9 := (sb_nle (by decide) (by omega)).mp e3
          rw [dgs_1 (w := w0) (by omega)] at hdg hc
          rw [show c - 1 = n + d by rw [hc]; rfl]
          refine fin _ _ (sb_fitU hu (sb_fitB _)) (fun k hk => by rw [upd_n (by omega)]; exact hu2 k hk) (fun k y hy => ?_)
          rw [hdg] at hy
          cases k with
          | zero => cases hy; rw [Nat.add_zero, upd_s, Nat.mod_eq_of_lt (by omega)]
          | succ k =>
            rw [upd_n (by omega), show n + d + (k + 1) = c + k by rw [hc]; show _ = n + d + 1 + k; omega]
            exact hu3 k y hy
        · have e4 : ¬ w0 ≤ 9 := fun z => e3 ((sb_nle (by decide) (by omega)).mpr z)
          rw [dgs_2 (w := w0) (by omega) e2] at hdg hc
          have hc2 : c = n + d + 2 := hc
          refine x_aload_n hC dJ21_getChars_91 rfl rfl ?_
          refine x_iincM (lv' := [_, _, _, _, _, _, _]) (b := 1) hC dJ21_getChars_92 rfl (by decide) (by decide) (by omega) rfl ?_
          refine x_iload hC dJ21_getChars_95 rfl ?_
          refine x_gets hC hT.2 q501 rfl dJ21_getChars_97 ?_
          refine x_iload_n hC dJ21_getChars_100 rfl rfl ?_
          refine x_ineg hC dJ21_getChars_101 ?_
          rw [Int32.neg_neg]
          refine x_baldN hC (t2 _) e2 (by first | decide | omega) dJ21_getChars_102 ?_
          refine x_bastN hC mu_s (by first | decide | assumption) (by omega) (by first | decide | omega) dJ21_getChars_103 ?_
          rw [mu_mu, nar_b]
          rw [show c - 1 - 1 = n + d by omega]
          refine fin _ _ (sb_fitU (sb_fitU hu (sb_fitB _)) (sb_fitB _)) (fun k hk => by rw [upd_n (by omega), upd_n (by omega)]; exact hu2 k hk) (fun k y hy => ?_)
          rw [hdg] at hy
          rcases k with _ | _ | k
          · cases hy; rw [Nat.add_zero, upd_s]
          · cases hy; rw [upd_n (by omega), show n + d + (0 + 1) = c - 1 by omega, upd_s]
          · rw [upd_n (by omega), upd_n (by omega), show n + d + (k + 1 + 1) = c + k by omega]
            exact hu3 k y hy
      · have e2 : 100 ≤ w0 := Nat.le_of_not_lt fun z => e ((sb_nlt (by decide) (by omega)).mpr z)
        rw [dgs_100 e2, List.length_append] at hc
        have hc2 : c = n + d + (dgs (w0 / 100)).length + 2 := by rw [hc]; rfl
        refine x_iload_n hC dJ21_getChars_28 rfl rfl ?_
        refine x_bipush (v := 100) hC dJ21_getChars_29 (by decide) ?_
        refine x_idiv hC dJ21_getChars_31 (by decide) ?_
        rw [sb_ndiv (by omega)]
        refine x_istore_n (lv' := [_, _, _, _, _, _, _]) hC dJ21_getChars_32 rfl (by decide) rfl ?_
        refine x_iload_n hC dJ21_getChars_33 rfl rfl ?_
        refine x_bipush (v := 100) hC dJ21_getChars_34 (by decide) ?_
        refine x_imul hC dJ21_getChars_36 ?_
        refine x_iload_n hC dJ21_getChars_37 rfl rfl ?_
        refine x_isub hC dJ21_getChars_38 ?_
        rw [sb_nrem (by omega)]
        refine x_istore (lv' := [_, _, _, _, _, _, _]) hC dJ21_getChars_39 (by decide) rfl ?_
        refine x_iload_n hC dJ21_getChars_41 rfl rfl ?_
        refine x_istore_n (lv' := [_, _, _, _, _, _, _]) hC dJ21_getChars_42 rfl (by decide) rfl ?_
        refine x_aload_n hC dJ21_getChars_43 rfl rfl ?_
        refine x_iincM (lv' := [_, _, _, _, _, _, _]) (b := 1) hC dJ21_getChars_44 rfl (by decide) (by decide) (by omega) rfl ?_
        refine x_iload hC dJ21_getChars_47 rfl ?_
        refine x_gets hC hT.1 q499 rfl dJ21_getChars_49 ?_
        refine x_iload hC dJ21_getChars_52 rfl ?_
        refine x_baldN hC (t1 _) (show w0 % 100 < 100 by omega) (by first | decide | omega) dJ21_getChars_54 ?_
        refine x_bastN hC mu_s (by first | decide | assumption) (by omega) (by first | decide | omega) dJ21_getChars_55 ?_
        rw [mu_mu, nar_b]
        refine x_aload_n hC dJ21_getChars_56 rfl rfl ?_
        refine x_iincM (lv' := [_, _, _, _, _, _, _]) (b := 1) hC dJ21_getChars_57 rfl (by decide) (by decide) (by omega) rfl ?_
        refine x_iload hC dJ21_getChars_60 rfl ?_
        refine x_gets hC hT.2 q501 rfl dJ21_getChars_62 ?_
        refine x_iload hC dJ21_getChars_65 rfl ?_
        refine x_baldN hC (t2 _) (show w0 % 100 < 100 by omega) (by first | decide | omega) dJ21_getChars_67 ?_
        refine x_bastN hC mu_s (by first | decide | assumption) (by omega) (by first | decide | omega) dJ21_getChars_68 ?_
        rw [mu_mu, nar_b]
        refine x_goto (tgt := 22) hC dJ21_getChars_69 (by decide) ?_
        refine x_forget 3 ?_
        refine x_forget 4 ?_
        refine ih (w0 / 100) ([48 + w0 % 100 / 10, 48 + w0 % 100 % 10] ++ rs) _ _ (by omega) (by omega) (by rw [hdg, dgs_100 e2, List.append_assoc]) (by omega) (sb_fitU (sb_fitU hu (sb_fitB _)) (sb_fitB _)) (fun k hk => by rw [upd_n (by omega), upd_n (by omega)]; exact hu2 k hk) (fun k y hy => ?_)
        rcases k with _ | _ | k
        · cases hy; rw [Nat.add_zero, upd_s]
        · cases hy; rw [upd_n (by omega), show c - 1 - 1 + (0 + 1) = c - 1 by omega, upd_s]
        · rw [upd_n (by omega), upd_n (by omega), show c - 1 - 1 + (k + 1 + 1) = c + k by omega]
          exact hu3 k y hy
  have go : Wg G C M 0 0 22 [some (.int (-nI v)), some (.int (nI p)), some (.ref b), none, none, some (.int (nI p)), some (.int (nI d))] [] := by
    have := lp (v + 1) v [] a p (Nat.lt_succ_self v) (Nat.le_refl v) (by rw [List.append_nil]) (by rw [hp, hdl]; omega) hf (fun _ _ => rfl) (fun k y hy => by cases hy)
    rwa [mu_id hb] at this
  refine x_iload_n hC dJ21_getChars_0 rfl rfl ?_
  refine x_istore (lv' := [_, _, _, _, _, _, _]) hC dJ21_getChars_1 (by decide) rfl ?_
  refine x_iload_n hC dJ21_getChars_3 rfl rfl ?_
  refine x_if_ge (tgt := 11) hC dJ21_getChars_4 (by decide) (fun c => ?_) (fun c => ?_)
  · rw [if_neg (Int32.not_lt.mpr c)] at hd
    subst hd
    refine x_iconst (v := 0) hC dJ21_getChars_11 (by decide) ?_
    refine x_istore (lv' := [_, _, _, _, _, _, some (.int (nI 0))]) hC dJ21_getChars_12 (by decide) rfl ?_
    refine x_iload hC dJ21_getChars_14 rfl ?_
    refine x_if_ne (tgt := 22) hC dJ21_getChars_16 (by decide) (fun e => ?_) (fun e => ?_)
    · exact absurd rfl e
    · refine x_iload_n hC dJ21_getChars_19 rfl rfl ?_
      refine x_ineg hC dJ21_getChars_20 ?_
      rw [pos_of (Int32.not_lt.mpr c), ← hv]
      refine x_istore_n (lv' := [_, _, _, _, _, _, _]) hC dJ21_getChars_21 rfl (by decide) rfl ?_
      exact go
  · have c2 : x < 0 := Int32.not_le.mp c
    rw [if_pos c2] at hd
    subst hd
    refine x_iconst (v := 1) hC dJ21_getChars_7 (by decide) ?_
    refine x_goto (tgt := 12) hC dJ21_getChars_8 (by decide) ?_
    refine x_istore (lv' := [_, _, _, _, _, _, some (.int (nI 1))]) hC dJ21_getChars_12 (by decide) rfl ?_
    refine x_iload hC dJ21_getChars_14 rfl ?_
    refine x_if_ne (tgt := 22) hC dJ21_getChars_16 (by decide) (fun e => ?_) (fun e => ?_)
    · have := go
      rw [hv, ← neg_of c2 (by omega)] at this
      exact this
    · exact absurd e (by decide)
end CHR

