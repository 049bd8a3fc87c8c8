/-! ===== the component's parser: the whole text; its constructor ===== -/
theorem pSs_le {b : Nat → Nat} {L : Nat} : ∀ {d s : Nat} {acc : List Int32}, s ≤ L → acc.length + d = 65 → acc.length ≤ 64 → enR b L (pSs b L d s acc) ≤ L
  | 0, _, _, _, hl, h4 => by omega
  | d + 1, s, acc, hs, hl, h4 => by
    unfold pSs
    split
    · exact (tkN_le b hs).2
    · have hsm := smS_le (b := b) hs
      cases hp : pS1 b L s acc.length with
      | error e =>
        obtain ⟨k, o⟩ := e
        rw [pS1_end hp]
        exact (tkN_le b hsm.2.1).2
      | ok e =>
        obtain ⟨x, s2⟩ := e
        obtain ⟨q1, q2, q3⟩ := pS1_ok hs hp
        exact pSs_le (b := b) (d := d) (s := s2) (acc := acc ++ [x]) q1 (by simp; omega) (by simp; omega)
theorem pTx_bad {b : Nat → Nat} {L d s : Nat} {R : List Rcd} (hd : 1 ≤ d) (h : tkC b L s = 1) : pTx b L d R s = .error (1, s) := by
  have hnb : ¬ isBl b L s := fun z => absurd (h.symm.trans z.1) (by decide)
  cases d with
  | zero => omega
  | succ d => rw [pTx, if_neg (by rw [h]; decide), pSt, if_neg hnb]
section PS7
variable {G : X_G} {M : X_M} {T : X_T} {pa bu L ar rd rc po st so wo : Nat} {nu : Int32} {b : Nat → Nat}
theorem cq_pparse (hG : GOK G) (hT0 : T0 G T) (hT : T2 G T) (h0 : M0c T M) (hM : M2c T M) (h : M pa = some (pO bu L ar rd 0 0 0 (T 11) (T 3) 0)) (hb : PBt M bu L b) {f : Nat → Int32} (hrd : M rd = some (ia 8 64 f)) {Lr : List Nat} (hA : AMl M T ar [] Lr) :
    Cq G yX4_parse cX4_parse 1 (some (.object "WalshAnalyzer$Archive")) (xrm 13 22000 80000) [.ref pa] M
      (fun r M' => r = some (.ref ar) ∧ ∃ R Lr', pTx b L 7 [] (tkS b L 0) = .ok R ∧ WfR R ∧ AMl M' T ar R Lr' ∧ Fr (P9 ar) M M')
      (fun q E M' => ∃ k o, pTx b L 7 [] (tkS b L 0) = .error (k, o) ∧ PEr (P9 ar) M k o q E M') := by
  have hL9 := hb.le
  refine cq_open (lv := [_]) hG (by decide +kernel) (Nat.le_of_ble_eq_true rfl) rfl (fun C hC hk hx => ?_)
  obtain ⟨M0, hM0⟩ : ∃ M0, M0 = M := ⟨M, rfl⟩
  subst hM0
  have hs0 := tkS_le b (Nat.zero_le L)
  have hn0 := tkN_le b hs0.2
  refine x_aload_n hC dX4_parse_0 rfl rfl ?_
  have hpa := cq_padv hG hT hM h hb (Nat.zero_le L)
  refine x_qV (k := 1 + 22 * tkN b L (tkS b L 0)) (n := 8 + 70 * tkN b L (tkS b L 0)) (na := 0) hC (hpa) (lw_V q1399 q1401 qs6 q95 q1402) h rfl rfl (by decide +kernel) rfl ⟨Nat.le_of_ble_eq_true rfl, Nat.le_of_ble_eq_true rfl⟩ rfl (Nat.le_of_ble_eq_true rfl) (Nat.le_of_eq (Nat.zero_add _)) (Nat.le_of_eq (Nat.zero_add _)) ⟨(show 1 + 22 * tkN b L (tkS b L 0) ≤ 22000 by omega), (show 8 + 70 * tkN b L (tkS b L 0) ≤ 80000 by omega)⟩ dX4_parse_1 ?_ (fun q9 E9 M9 h9 => x_out hC hx ((show 1 + 22 * tkN b L (tkS b L 0) ≤ 22000 by omega)) ((show 8 + 70 * tkN b L (tkS b L 0) ≤ 80000 by omega)) (by obtain ⟨n9, e9⟩ := h9; exact ⟨1, _, pTx_bad (by decide) n9, pe98 (pe87 e9)⟩))
  rintro _ M1 ⟨rfl, so1, wo1, nu1, hp1, ht1, hF1⟩
  suffices loop : ∀ (d : Nat) (R : List Rcd) (Lx : List Nat) (s : Nat) (Mx : X_M) (kc ks rx : Nat) (fx : Nat → Int32), R.length + d = 7 → s ≤ L → PAt Mx T pa bu L ar rd rx b s → Mx rd = some (ia 8 64 fx) → AMl Mx T ar R Lx → WfR R → pTx b L 7 [] (tkS b L 0) = pTx b L d R s → Fr (P9 ar) M0 Mx → kc ≤ 1 + 281 * R.length + 22 * tkN b L s → ks ≤ 8 + 2308 * R.length + 70 * tkN b L s → Wg G C Mx kc ks 4 [some (.ref pa)] [] from
    loop 7 [] Lr _ M1 _ _ 0 f rfl hs0.2 ⟨so1, wo1, nu1, hp1, ht1⟩ (hF1.z (by decide) hrd) (hA.fr (p87 hF1) P8_0 P8_2 PA_8) ⟨Nat.zero_le _, (fun r h => by cases h), List.nodup_nil⟩ rfl (p98 (p87 hF1)) (by omega) (by omega)
  intro d
  induction d with
  | zero =>
    intro R Lx s Mx kc ks rx fx hl hs hPA hrx hAx hWx
    have := hWx.1
    omega
  | succ d ih =>
    intro R Lx s Mx kc ks rx fx hl hs hPA hrx hAx hWx hps hFx hkc hks
    obtain ⟨so', wo', nu', hpx, htx⟩ := id hPA
    have hcx := tkC_lt b L s
    have hR6 := hWx.1
    have hns := tkN_le b hs
    have hMx := hM.fr hFx P9_n.1
    have hbx := hb.fr hFx P9_n.2.1
    refine x_aload_n hC dX4_parse_4 rfl rfl ?_
    refine x_get hC 7 hpx rfl (by decide) q1371 rfl rfl dX4_parse_5 ?_
    refine x_gets hC hT.1.2.2.2.2 q1361 rfl dX4_parse_8 ?_
    refine x_acmp_eqR (tgt := 25) hC dX4_parse_11 (by decide) (fun c1 => ?_) (fun c1 => ?_)
    · have h0c : tkC b L s = 0 := by
        rw [htx.2.1] at c1
        exact (srt_eq hT hcx (by decide) htx.1 (by decide)).mp c1
      refine x_aload_n hC dX4_parse_25 rfl rfl ?_
      refine x_get hC 2 hpx rfl (by decide) q1366 rfl rfl dX4_parse_26 ?_
      exact x_aret hC hk dX4_parse_29 (Or.inl ⟨_, rfl⟩) (Or.inr ⟨_, rfl⟩) (show kc ≤ 22000 by omega) (show ks ≤ 80000 by omega) ⟨rfl, R, Lx, by rw [hps, pTx, if_pos h0c], hWx, hAx, hFx⟩
    · have h0c : ¬ tkC b L s = 0 := fun z => c1 (by rw [htx.2.1, z]; rfl)
      have hstep : pTx b L (d + 1) R s = match pSt b L R s with
          | .error e => .error e
          | .ok (R2, s2) => pTx b L d R2 s2 := by
        rw [pTx, if_neg h0c]
        cases pSt b L R s <;> rfl
      have hE : stE b L R s ≤ L := by
        have h1 := adv_le (b := b) hs
        have h2 := adv_le (b := b) h1.2
        have h3 := tkN_le b h1.2
        unfold stE
        split
        · split
          · exact pSs_le h2.2 rfl (Nat.zero_le _)
          · exact h3.2
        · exact hns.2
      have hE2 := stE_le (R := R) (b := b) hs
      refine x_aload_n hC dX4_parse_14 rfl rfl ?_
      refine x_qV (k := kc + (280 + 22 * (stE b L R s - tkN b L s))) (n := ks + (2300 + 70 * (stE b L R s - tkN b L s))) (na := 0) hC (cq_prec hG hT0 hT (hFx.z P9_n.1 h0) hMx hPA hbx hs hrx hAx hWx) (lw_V q1456 q1458 qs11 q95 q1459) hpx rfl rfl (by decide +kernel) rfl ⟨Nat.le_of_ble_eq_true rfl, Nat.le_of_ble_eq_true rfl⟩ rfl (Nat.le_of_ble_eq_true rfl) (Nat.le_refl _) (Nat.le_refl _) ⟨(show kc + (280 + 22 * (stE b L R s - tkN b L s)) ≤ 22000 by omega), (show ks + (2300 + 70 * (stE b L R s - tkN b L s)) ≤ 80000 by omega)⟩ dX4_parse_15 ?_ (fun q9 E9 M9 h9 => x_out hC hx ((show kc + (280 + 22 * (stE b L R s - tkN b L s)) ≤ 22000 by omega)) ((show ks + (2300 + 70 * (stE b L R s - tkN b L s)) ≤ 80000 by omega)) (by obtain ⟨k9, o9, e9, f9⟩ := h9; exact ⟨k9, o9, by rw [hps, hstep, e9], PEr.tr hFx f9⟩))
      rintro _ My ⟨rfl, nm, xs, s3, rc', f', Lr', hSt, hEs, hs3, hPA', hrd', hA', hF'⟩
      obtain ⟨soy, woy, nuy, hpy, hty⟩ := id hPA'
      have hFxy := hFx.tr hF'
      have hstep2 : pTx b L (d + 1) R s = pTx b L d (R ++ [(nm, xs)]) (adv b L s3) := by rw [hstep, hSt]
      obtain ⟨w1, w2, w3⟩ := pSt_wf hs hWx hSt
      have w4 := w1.1
      have hl2 : (R ++ [(nm, xs)]).length = R.length + 1 := by simp
      have hn3 := tkN_le b hs3
      have hk3 := tkN_adv (b := b) hs3
      have hn2 := tkN_le b w2
      rw [hEs] at hE hE2 ⊢
      refine x_aload_n hC dX4_parse_18 rfl rfl ?_
      have hpa3 := cq_padv hG hT (hM.fr hFxy P9_n.1) hpy (hb.fr hFxy P9_n.2.1) hn3.2
      rw [show tkS b L (tkN b L s3) = adv b L s3 from rfl] at hpa3
      generalize adv b L s3 = s2 at hSt hstep2 w2 hk3 hn2 hpa3
      refine x_qV (k := kc + (280 + 22 * (tkN b L s3 - tkN b L s)) + (1 + 22 * (tkN b L s2 - tkN b L s3))) (n := ks + (2300 + 70 * (tkN b L s3 - tkN b L s)) + (8 + 70 * (tkN b L s2 - tkN b L s3))) (na := 0) hC (hpa3) (lw_V q1399 q1401 qs6 q95 q1402) hpy rfl rfl (by decide +kernel) rfl ⟨Nat.le_of_ble_eq_true rfl, Nat.le_of_ble_eq_true rfl⟩ rfl (Nat.le_of_ble_eq_true rfl) (Nat.le_refl _) (Nat.le_refl _) ⟨(show kc + (280 + 22 * (tkN b L s3 - tkN b L s)) + (1 + 22 * (tkN b L s2 - tkN b L s3)) ≤ 22000 by omega), (show ks + (2300 + 70 * (tkN b L s3 - tkN b L s)) + (8 + 70 * (tkN b L s2 - tkN b L s3)) ≤ 80000 by omega)⟩ dX4_parse_19 ?_ (fun q9 E9 M9 h9 => x_out hC hx ((show kc + (280 + 22 * (tkN b L s3 - tkN b L s)) + (1 + 22 * (tkN b L s2 - tkN b L s3)) ≤ 22000 by omega)) ((show ks + (2300 + 70 * (tkN b L s3 - tkN b L s)) + (8 + 70 * (tkN b L s2 - tkN b L s3)) ≤ 80000 by omega)) (by obtain ⟨n9, e9⟩ := h9; exact ⟨1, s2, by rw [hps, hstep2, pTx_bad (by omega) n9], PEr.tr hFxy (pe98 (pe87 e9))⟩))
      rintro _ Mz ⟨rfl, soz, woz, nuz, hpz, htz, hFz⟩
      refine x_goto (tgt := 4) hC dX4_parse_22 (by decide) ?_
      exact ih _ _ s2 Mz _ _ rc' f' (by omega) w2 ⟨soz, woz, nuz, hpz, htz⟩ (hFz.z (by decide) hrd') (hA'.fr (p87 hFz) P8_0 P8_2 PA_8) w1 (hps.trans hstep2) (hFxy.tr (p98 (p87 hFz))) (by omega) (by omega)
theorem ct_pinit (hG : GOK G) (hT0 : T0 G T) (hT : T2 G T) (h0 : M0c T M) (h : M pa = some (ob 7 5 [.null, .int 0, .null, .null, .int 0, .int 0, .int 0, .null, .null, .int 0])) : Ct G yX4_init cX4_init 3 none (xrm 6 4 77) [.ref pa, .ref bu, .int (nI L)] M (fun r M' => r = none ∧ ∃ ar rd, M ar = none ∧ M' pa = some (pO bu L ar rd 0 0 0 (T 11) (T 3) 0) ∧ M' rd = some (ia 8 64 (fun _ => 0)) ∧ AMl M' T ar [] [] ∧ Fr (fun g => g = 7 ∨ PA ar g) M M') := by
  refine ct_open (lv := [_, _, _]) hG (by decide +kernel) (Nat.le_of_ble_eq_true rfl) rfl (fun C hC hk => ?_)
  obtain ⟨M0, hM0⟩ : ∃ M0, M0 = M := ⟨M, rfl⟩
  rw [← hM0] at hk
  have hF : Fm M0 M := by rw [hM0]; exact Fr.rf
  subst hM0
  refine x_aload_n hC dX4_init_0 rfl rfl ?_
  refine x_objInit hC q1358 q132 q133 dX4_init_1 (Nat.le_of_ble_eq_true rfl) ⟨Nat.le_of_ble_eq_true rfl, Nat.le_of_ble_eq_true rfl⟩ ?_
  refine x_aload_n hC dX4_init_4 rfl rfl ?_
  refine x_new (ci := 2) (T := TX2) (N := 2) hC 3 [.null, .null] rfl q1359 q135 q82 tyX2 tyX2_ok (by decide) (by decide +kernel) (Nat.le_of_ble_eq_true rfl) (Nat.le_of_ble_eq_true rfl) dX4_init_5 (fun ar har => ?_)
  refine x_dup hC dX4_init_8 rfl ?_
  refine x_tag (tA ar) mu_s (by decide) ?_
  rw [mu_mu]
  have n7 : ¬ PA ar 7 := fun z => by have := z.1; omega
  have h0a : M0c T (mu M0 ar (ob (tA ar) 2 [.null, .null])) := mu_f har h0
  refine x_callIN (k := 3) (n := 13) (na := 0) hC (ct_arInit hG hT0 h0a mu_s) q138 q137 q82 q1360 rfl (by decide +kernel) rfl ⟨Nat.le_of_ble_eq_true rfl, Nat.le_of_ble_eq_true rfl⟩ rfl (Nat.le_of_ble_eq_true rfl) (Nat.le_of_ble_eq_true rfl) (Nat.le_of_ble_eq_true rfl) ⟨Nat.le_of_ble_eq_true rfl, Nat.le_of_ble_eq_true rfl⟩ dX4_init_9 ?_
  rintro _ M1 ⟨rfl, hA, hF1⟩
  have hp1 := hF1.z n7 (mu_f har h)
  refine x_putF hC 2 hp1 (by decide) rfl (by decide) q1366 rfl rfl rfl rfl rfl rfl rfl (show 2 < 10 by decide) (fs' := [.null, .int 0, .ref ar, .null, .int 0, .int 0, .int 0, .null, .null, .int 0]) rfl dX4_init_12 ?_
  have hF2 : Fr (fun g => g = 7) M1 (mu M1 pa (ob 7 5 [.null, .int 0, .ref ar, .null, .int 0, .int 0, .int 0, .null, .null, .int 0])) := Fr.set hp1 rfl
  have hA2 := hA.fr hF2 (by decide) (by decide) (fun g z => by have := z.1; omega)
  have hp2 : (mu M1 pa (ob 7 5 [.null, .int 0, .ref ar, .null, .int 0, .int 0, .int 0, .null, .null, .int 0])) pa = some (ob 7 5 [.null, .int 0, .ref ar, .null, .int 0, .int 0, .int 0, .null, .null, .int 0]) := mu_s
  generalize mu M1 pa (ob 7 5 [.null, .int 0, .ref ar, .null, .int 0, .int 0, .int 0, .null, .null, .int 0]) = M2 at hF2 hA2 hp2 ⊢
  refine x_aload_n hC dX4_init_15 rfl rfl ?_
  refine x_bipush (v := nI 64) hC dX4_init_16 (by decide) ?_
  refine x_newi hC 64 8 q1328 (by decide) rfl (by omega) (Nat.le_of_ble_eq_true rfl) (Nat.le_of_ble_eq_true rfl) dX4_init_18 (fun rd hrd => ?_)
  have hp3 := mu_f (e := ia 8 64 (fun _ => 0)) hrd hp2
  refine x_putF hC 3 hp3 (by decide) rfl (by decide) q1367 rfl rfl rfl rfl rfl rfl rfl (show 3 < 10 by decide) (fs' := [.null, .int 0, .ref ar, .ref rd, .int 0, .int 0, .int 0, .null, .null, .int 0]) rfl dX4_init_20 ?_
  refine x_aload_n hC dX4_init_23 rfl rfl ?_
  refine x_gets hC hT.1.2.2.2.2 q1361 rfl dX4_init_24 ?_
  refine x_put hC 7 mu_s (by decide) rfl (by decide) q1371 rfl rfl rfl rfl rfl (show 7 < 10 by decide) (fs' := [.null, .int 0, .ref ar, .ref rd, .int 0, .int 0, .int 0, .ref (T 11), .null, .int 0]) rfl dX4_init_27 ?_
  rw [mu_mu]
  refine x_aload_n hC dX4_init_30 rfl rfl ?_
  refine x_ldcS hC hT.2.2.1 dX4_init_31 ?_
  refine x_put hC 8 mu_s (by decide) rfl (by decide) q1372 rfl rfl rfl rfl rfl (show 8 < 10 by decide) (fs' := [.null, .int 0, .ref ar, .ref rd, .int 0, .int 0, .int 0, .ref (T 11), .ref (T 3), .int 0]) rfl dX4_init_33 ?_
  rw [mu_mu]
  refine x_aload_n hC dX4_init_36 rfl rfl ?_
  refine x_aload_n hC dX4_init_37 rfl rfl ?_
  refine x_putF hC 0 mu_s (by decide) rfl (by decide) q1364 rfl rfl rfl rfl rfl rfl rfl (show 0 < 10 by decide) (fs' := [.ref bu, .int 0, .ref ar, .ref rd, .int 0, .int 0, .int 0, .ref (T 11), .ref (T 3), .int 0]) rfl dX4_init_38 ?_
  rw [mu_mu]
  refine x_aload_n hC dX4_init_41 rfl rfl ?_
  refine x_iload_n hC dX4_init_42 rfl rfl ?_
  refine x_putF hC 1 mu_s (by decide) rfl (by decide) q1365 rfl rfl rfl rfl rfl rfl rfl (show 1 < 10 by decide) (fs' := [.ref bu, .int (nI L), .ref ar, .ref rd, .int 0, .int 0, .int 0, .ref (T 11), .ref (T 3), .int 0]) rfl dX4_init_43 ?_
  rw [mu_mu]
  have hF3 : Fr (fun g => g = 7) M2 (mu (mu M2 rd (ia 8 64 (fun _ => 0))) pa (pO bu L ar rd 0 0 0 (T 11) (T 3) 0)) := (Fr.new hrd).tr (Fr.set hp3 rfl)
  have hpr : pa ≠ rd := mu_ne hrd hp2
  refine x_vret hC hk dX4_init_46 (Nat.le_of_ble_eq_true rfl) (Nat.le_of_ble_eq_true rfl) ⟨rfl, ar, rd, har, mu_s, mu_o (Ne.symm hpr) mu_s, hA2.fr hF3 (by decide) (by decide) (fun g z => by have := z.1; omega), ?_⟩
  exact ((Fr.new har).tr (hF1.wk fun _ e => Or.inr e)).tr ((hF2.wk fun _ e => Or.inl e).tr (hF3.wk fun _ e => Or.inl e))
end PS7

