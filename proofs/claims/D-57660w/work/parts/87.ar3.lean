/-! ===== Archive.copy ===== -/
section AR3
variable {G : X_G} {M : X_M} {T : X_T} {c : Nat} {R : List Rcd} {L : List Nat}
theorem IT.rec2 {g l gi q i : Nat} (h : IT M T g l L gi q i) : ∃ vs, M q = some (ob gi 11 vs) := by
  obtain ⟨mc, lr, e, h0, -⟩ := h
  exact ⟨_, h0⟩
/-- what making an archive may touch: its own cells and an iterator -/
abbrev PC (c : Nat) : Nat → Prop := fun g => g = 3 ∨ PA c g
theorem PC_0 {c : Nat} : ¬ PC c 0 := fun z => z.elim (fun h => by cases h) PA_n0
theorem PC_2 {c : Nat} : ¬ PC c 2 := fun z => z.elim (fun h => by cases h) PA_n2
theorem PA_x {c c' : Nat} (h : c ≠ c') : ∀ g, PA c g → ¬ PA c' g := fun g h1 h2 => by
  obtain ⟨a1, a2⟩ := h1
  obtain ⟨b1, b2⟩ := h2
  omega
theorem PC_x {c c' : Nat} (h : c ≠ c') : ∀ g, PA c g → ¬ PC c' g := fun g h1 h2 => h2.elim (fun e => by subst e; exact PA_n3 h1) (PA_x h g h1)
theorem AMl.at {i : Nat} {r : Rcd} (h : AMl M T c R L) (hi : R[i]? = some r) : ∃ x, L[i]? = some x ∧ RA M x r := by
  obtain ⟨l, m, D, a1, a2, a3, a4, a5, a6⟩ := h
  have hiL : i < L.length := by rw [a4]; exact (List.getElem?_eq_some_iff.mp hi).1
  exact ⟨_, List.getElem?_eq_getElem hiL, (a5 i _ r (List.getElem?_eq_getElem hiL) hi).1⟩
theorem AMl.rec (h : AMl M T c R L) : ∃ l m, M c = some (ob (tA c) 2 [.ref l, .ref m]) ∧ AL M T (tA c + 1) l L ∧ L.length = R.length := by
  obtain ⟨l, m, D, a1, a2, a3, a4, -⟩ := h
  exact ⟨l, m, a1, a2, a4⟩
theorem ct_arCopy (hG : GOK G) (hT : T0 G T) (h0 : M0c T M) (h : AMl M T c R L) (h6 : R.length ≤ 6) (hN : nmsNd R) : Ct G yX2_copy cX2_copy 4 (some (.object "WalshAnalyzer$Archive")) (xrm 11 22 197) [.ref c] M (fun r M' => ∃ c', r = some (.ref c') ∧ M c' = none ∧ AMl M' T c' R L ∧ Fr (PC c') M M') := by
  obtain ⟨l, m, a1, a2, a4⟩ := h.rec
  have hl6 : L.length ≤ 10 := by omega
  refine ct_open (lv := [_, _, _, _]) hG (by decide +kernel) (Nat.le_of_ble_eq_true rfl) rfl (fun C hC hk => ?_)
  obtain ⟨M0, hM0⟩ : ∃ M0, M0 = M := ⟨M, rfl⟩
  rw [← hM0] at hk
  have hF : Fm M0 M := by rw [hM0]; exact Fr.rf
  subst hM0
  refine x_new (ci := 2) (T := TX2) (N := 2) hC 3 [.null, .null] rfl q1057 q135 q82 tyX2 tyX2_ok (by decide) (by decide +kernel) (Nat.le_of_ble_eq_true rfl) (Nat.le_of_ble_eq_true rfl) dX2_copy_0 (fun q hq => ?_)
  refine x_tag (tA q) mu_s (by decide) ?_
  rw [mu_mu]
  have hF0 : Fr (fun _ => False) M0 (mu M0 q (ob (tA q) 2 [.null, .null])) := Fr.new hq
  have hqs : (mu M0 q (ob (tA q) 2 [.null, .null])) q = some (ob (tA q) 2 [.null, .null]) := mu_s
  have hcq : c ≠ q := fun e => by rw [e, hq] at a1; cases a1
  generalize mu M0 q (ob (tA q) 2 [.null, .null]) = M1 at hF0 hqs ⊢
  refine x_dup hC dX2_copy_3 rfl ?_
  refine x_callI (k := 3) (n := 13) (na := 0) hC (ct_arInit (T := T) hG hT (hF0.z id h0) hqs) q138 q82 q1058 q137 rfl (by decide +kernel) rfl ⟨Nat.le_of_ble_eq_true rfl, Nat.le_of_ble_eq_true rfl⟩ rfl (Nat.le_of_ble_eq_true rfl) (Nat.le_of_ble_eq_true rfl) (Nat.le_of_ble_eq_true rfl) ⟨Nat.le_of_ble_eq_true rfl, Nat.le_of_ble_eq_true rfl⟩ dX2_copy_4 ?_
  rintro _ M2 ⟨rfl, hA2, hF2⟩
  have hF02 : Fr (PC q) M0 M2 := (hF0.wk (fun _ z => z.elim)).tr (hF2.wk (fun _ z => Or.inr z))
  have hc2 := h.fr hF02 PC_0 PC_2 (PC_x hcq)
  obtain ⟨l', m', a1', a2', -⟩ := hc2.rec
  obtain ⟨vl, hl⟩ := a2'.rec
  first
    | refine x_astore_n (lv' := [_, _, _, _]) hC dX2_copy_7 rfl (by decide) rfl ?_
    | refine x_astore_nN (lv' := [_, _, _, _]) hC dX2_copy_7 rfl (by decide) rfl ?_
    | refine x_astore_nV (lv' := [_, _, _, _]) hC dX2_copy_7 rfl (by decide) rfl ?_
  first
    | refine x_aload_n hC dX2_copy_8 rfl rfl ?_
    | refine x_aload_nN hC dX2_copy_8 rfl rfl ?_
    | refine x_aload_nV hC dX2_copy_8 rfl rfl ?_
  refine x_get hC 0 a1' rfl (by decide) q202 rfl rfl dX2_copy_9 ?_
  refine x_callV (k := 4) (n := 17) (na := 0) hC (ct_alIter hG 3 (by decide) a2') (lw_V q1059 q1060 q1061 q85 q1062) hl rfl rfl (by decide +kernel) rfl ⟨Nat.le_of_ble_eq_true rfl, Nat.le_of_ble_eq_true rfl⟩ rfl (Nat.le_of_ble_eq_true rfl) (Nat.le_of_ble_eq_true rfl) (Nat.le_of_ble_eq_true rfl) ⟨Nat.le_of_ble_eq_true rfl, Nat.le_of_ble_eq_true rfl⟩ dX2_copy_12 ?_
  rintro _ M3 ⟨it, rfl, hit, hIT, hF3⟩
  have hF03 : Fr (PC q) M0 M3 := hF02.tr (hF3.wk (fun _ z => z.elim))
  first
    | refine x_astore_n (lv' := [_, _, _, _]) hC dX2_copy_15 rfl (by decide) rfl ?_
    | refine x_astore_nN (lv' := [_, _, _, _]) hC dX2_copy_15 rfl (by decide) rfl ?_
    | refine x_astore_nV (lv' := [_, _, _, _]) hC dX2_copy_15 rfl (by decide) rfl ?_
  suffices lp : ∀ d k, k + d = R.length → ∀ M4 w3 kc ks, kc = 4 + 3 * k → ks = 17 + 30 * k → AMl M4 T q (R.take k) (L.take k) → AMl M4 T c R L → IT M4 T (tA c + 1) l' L 3 it k → Fr (PC q) M0 M4 → Wg G C M4 kc ks 16 [some (.ref c), some (.ref q), some (.ref it), w3] [] from lp R.length 0 (by omega) M3 none 4 17 rfl rfl (hA2.fr hF3 id id (fun _ _ => id)) (hc2.fr hF3 id id (fun _ _ => id)) hIT hF03
  intro d
  induction d with
  | zero =>
    intro k hd M4 w3 kc ks hkc hks hA hc4 hI hF
    have hd : k = R.length := by omega
    subst hd
    obtain ⟨vs, hi⟩ := hI.rec2
    have q1 : kc ≤ 22 := by omega
    have q2 : ks ≤ 197 := by omega
    first
      | refine x_aload_n hC dX2_copy_16 rfl rfl ?_
      | refine x_aload_nN hC dX2_copy_16 rfl rfl ?_
      | refine x_aload_nV hC dX2_copy_16 rfl rfl ?_
    refine x_callF0 (na := 0) hC (ct_itHas hG hI (by omega) hl6) q1083 q1087 q1089 q125 q1091 q1085 q1084 q1090 q1088 q1086 hi rfl (by decide +kernel) rfl ⟨Nat.le_of_ble_eq_true rfl, Nat.le_of_ble_eq_true rfl⟩ rfl (Nat.le_of_ble_eq_true rfl) ⟨rfl, rfl⟩ ⟨q1, q2⟩ dX2_copy_17 ?_
    rintro _ M ⟨rfl, rfl⟩
    refine x_if_eqB (tgt := 44) hC dX2_copy_22 (by decide) (fun e => ?_) (fun e => ?_)
    · first
        | refine x_aload_n hC dX2_copy_44 rfl rfl ?_
        | refine x_aload_nN hC dX2_copy_44 rfl rfl ?_
        | refine x_aload_nV hC dX2_copy_44 rfl rfl ?_
      rw [List.take_length, show R.length = L.length from a4.symm, List.take_length] at hA
      exact x_aret hC hk dX2_copy_45 (Or.inl ⟨_, rfl⟩) (Or.inr ⟨_, rfl⟩) q1 q2 ⟨q, rfl, hq, hA, hF⟩
    · exact absurd e (by omega)
  | succ d ih =>
    intro k hd M4 w3 kc ks hkc hks hA hc4 hI hF
    have hkR : k < R.length := by omega
    have hkr : R[k]? = some R[k] := List.getElem?_eq_getElem hkR
    obtain ⟨x, hkx, hRA⟩ := hc4.at hkr
    obtain ⟨vs, hi⟩ := hI.rec2
    have q1 : kc ≤ 22 := by omega
    have q2 : ks ≤ 197 := by omega
    first
      | refine x_aload_n hC dX2_copy_16 rfl rfl ?_
      | refine x_aload_nN hC dX2_copy_16 rfl rfl ?_
      | refine x_aload_nV hC dX2_copy_16 rfl rfl ?_
    refine x_callF0 (na := 0) hC (ct_itHas hG hI (by omega) hl6) q1083 q1087 q1089 q125 q1091 q1085 q1084 q1090 q1088 q1086 hi rfl (by decide +kernel) rfl ⟨Nat.le_of_ble_eq_true rfl, Nat.le_of_ble_eq_true rfl⟩ rfl (Nat.le_of_ble_eq_true rfl) ⟨rfl, rfl⟩ ⟨q1, q2⟩ dX2_copy_17 ?_
    rintro _ M ⟨rfl, rfl⟩
    refine x_if_eqB (tgt := 44) hC dX2_copy_22 (by decide) (fun e => ?_) (fun e => ?_)
    · exact absurd (show k < L.length by omega) e
    · first
        | refine x_aload_n hC dX2_copy_25 rfl rfl ?_
        | refine x_aload_nN hC dX2_copy_25 rfl rfl ?_
        | refine x_aload_nV hC dX2_copy_25 rfl rfl ?_
      refine x_callF0 (na := 0) hC (ct_itNext hG (by decide) hI hkx) q1093 q1096 q1098 q125 q1100 q1095 q1094 q1099 q1097 q1086 hi rfl (by decide +kernel) rfl ⟨Nat.le_of_ble_eq_true rfl, Nat.le_of_ble_eq_true rfl⟩ rfl (Nat.le_of_ble_eq_true rfl) ⟨rfl, rfl⟩ ⟨q1, q2⟩ dX2_copy_26 ?_
      rintro _ M5 ⟨rfl, hI5, hF5⟩
      have h30 : ∀ {c : Nat}, ∀ g, PA c g → ¬ g = 3 := fun g h1 h2 => by subst h2; exact PA_n3 h1
      have hA5 := hA.fr hF5 (by decide) (by decide) h30
      have hc5 := hc4.fr hF5 (by decide) (by decide) h30
      have hRA5 := hRA.fr hF5 (by decide) (by decide)
      obtain ⟨na, sa, cv, rv, x1, x2, x3⟩ := hRA5.rec
      obtain ⟨lq, mq, aq, -, -⟩ := hA5.rec
      have h05 : M0c T M5 := (hF.tr (hF5.wk (fun _ z => Or.inl z))).z PC_0 h0
      have hlt : (R.take k).length = k := by rw [List.length_take]; omega
      have hnn : R[k].1 ∉ (R.take k).map Prod.fst := by
        intro z
        obtain ⟨s, hs, he⟩ := List.mem_map.mp z
        obtain ⟨j, hj⟩ := List.getElem?_of_mem hs
        have hj2 := (List.getElem?_eq_some_iff.mp hj).1
        rw [hlt] at hj2
        rw [List.getElem?_take_of_lt hj2] at hj
        have := nms_at hN hj hkr he
        omega
      refine x_castS hC x1 rfl rfl q1035 dX2_copy_31 ?_
      first
        | refine x_astore_n (lv' := [_, _, _, _]) hC dX2_copy_34 rfl (by decide) rfl ?_
        | refine x_astore_nN (lv' := [_, _, _, _]) hC dX2_copy_34 rfl (by decide) rfl ?_
        | refine x_astore_nV (lv' := [_, _, _, _]) hC dX2_copy_34 rfl (by decide) rfl ?_
      first
        | refine x_aload_n hC dX2_copy_35 rfl rfl ?_
        | refine x_aload_nN hC dX2_copy_35 rfl rfl ?_
        | refine x_aload_nV hC dX2_copy_35 rfl rfl ?_
      first
        | refine x_aload_n hC dX2_copy_36 rfl rfl ?_
        | refine x_aload_nN hC dX2_copy_36 rfl rfl ?_
        | refine x_aload_nV hC dX2_copy_36 rfl rfl ?_
      refine x_callV (k := kc + 3) (n := ks + 30) (na := 1) hC (ct_arAdd hG hT h05 hA5 hRA5 (by omega) hnn) (lw_V q1126 q1127 q1128 q82 q1129) aq rfl rfl (by decide +kernel) rfl ⟨Nat.le_of_ble_eq_true rfl, Nat.le_of_ble_eq_true rfl⟩ rfl (Nat.le_of_ble_eq_true rfl) (Nat.le_refl _) (Nat.le_refl _) ⟨(show kc + 3 ≤ 22 by omega), (show ks + 30 ≤ 197 by omega)⟩ dX2_copy_37 ?_
      rintro _ M6 ⟨rfl, hA6, hF6⟩
      refine x_pop hC dX2_copy_40 rfl ?_
      refine x_goto (tgt := 16) hC dX2_copy_41 (by decide) ?_
      have et : R.take k ++ [R[k]] = R.take (k + 1) := by rw [List.take_add_one, hkr]; rfl
      have el : L.take k ++ [x] = L.take (k + 1) := by rw [List.take_add_one, hkx]; rfl
      rw [et, el] at hA6
      exact ih (k + 1) (by omega) M6 _ _ _ (by omega) (by omega) hA6 (hc5.fr hF6 PA_n0 PA_n2 (PA_x hcq)) (hI5.fr hF6 (PA_x hcq _ PA_1) PA_n3) ((hF.tr (hF5.wk (fun _ z => Or.inl z))).tr (hF6.wk (fun _ z => Or.inr z)))
end AR3

