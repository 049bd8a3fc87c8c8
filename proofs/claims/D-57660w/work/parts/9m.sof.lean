/-! ===== the component's recordings: the syntheses ===== -/
theorem mu_nn {M : X_M} {a p : Nat} {e : X_E} (h : mu M a e p = none) : M p = none := by
  unfold mu at h
  split at h
  · cases h
  · exact h
theorem PSy.new {M : X_M} {o n : Nat} {e : X_E} {F : Nat → Int32} {r : Option Value} {M' : X_M} (ho : M o = none) (h : PSy (mu M o e) n F r M') : PSy M n F r M' := by
  obtain ⟨p, u, h1, h2, h3, h4, h5⟩ := h
  exact ⟨p, u, h1, mu_nn h2, h3, h4, (Lr.new ho).tr h5⟩
theorem sh_lay1 : ((sh1.file nRec).bind (layoutFields · 0)).map (·.2.1) = some #[.object nRec, .int] := by decide +kernel
theorem sh_lay2 : ((sh2.file nRec).bind (layoutFields · 0)).map (·.2.1) = some #[.object nRec, .int] := by decide +kernel
theorem sh_lay3 : ((sh3.file nRec).bind (layoutFields · 0)).map (·.2.1) = some #[.object nRec, .int, .int, .int] := by decide +kernel
theorem sh_cap1 : sh1.captured.length = 2 := by decide +kernel
theorem sh_cap2 : sh2.captured.length = 2 := by decide +kernel
theorem sh_cap3 : sh3.captured.length = 4 := by decide +kernel
theorem site_1 {G : X_G} (hG : GOK G) : ∃ cK, LamS G ⟨nRec, "synthesisOfPeaks", "(I)[I"⟩ 3 89 sh1 cK := lam_of (show (Cond.lambdaSite ⟨nRec, "synthesisOfPeaks", "(I)[I"⟩ 3 89 sh1).before #[Value.ref (gb G)] (gs G) = true from an_r (an_r (an_l (nw_0 hG)))) (fun e => by have := sh_cap1; rw [e] at this; cases this)
theorem site_2 {G : X_G} (hG : GOK G) : ∃ cK, LamS G ⟨nRec, "synthesisAbove", "(I)[I"⟩ 3 103 sh2 cK := lam_of (show (Cond.lambdaSite ⟨nRec, "synthesisAbove", "(I)[I"⟩ 3 103 sh2).before #[Value.ref (gb G)] (gs G) = true from an_l (an_r (nw_0 hG))) (fun e => by have := sh_cap2; rw [e] at this; cases this)
theorem site_3 {G : X_G} (hG : GOK G) : ∃ cK, LamS G ⟨nRec, "synthesisOfBand", "(III)[I"⟩ 5 100 sh3 cK := lam_of (show (Cond.lambdaSite ⟨nRec, "synthesisOfBand", "(III)[I"⟩ 5 100 sh3).before #[Value.ref (gb G)] (gs G) = true from an_l (an_r (an_r (nw_0 hG)))) (fun e => by have := sh_cap3; rw [e] at this; cases this)
theorem fit2 {q : Nat} {x : Int32} : ∀ (i : Nat) (v : Value), [Value.ref q, .int x][i]? = some v → ∃ t, (#[.object nRec, .int] : Array FieldType)[i]? = some t ∧ fits t v = true := by
  intro i v h
  match i, h with
  | 0, h => cases h; exact ⟨_, rfl, rfl⟩
  | 1, h => cases h; exact ⟨_, rfl, rfl⟩
  | i + 2, h => cases h
theorem fit4 {q : Nat} {x y z : Int32} : ∀ (i : Nat) (v : Value), [Value.ref q, .int x, .int y, .int z][i]? = some v → ∃ t, (#[.object nRec, .int, .int, .int] : Array FieldType)[i]? = some t ∧ fits t v = true := by
  intro i v h
  match i, h with
  | 0, h => cases h; exact ⟨_, rfl, rfl⟩
  | 1, h => cases h; exact ⟨_, rfl, rfl⟩
  | 2, h => cases h; exact ⟨_, rfl, rfl⟩
  | 3, h => cases h; exact ⟨_, rfl, rfl⟩
  | i + 4, h => cases h
section SOF
variable {G : X_G} {M : X_M} {q na sa n j : Nat} {f : Nat → Int32} {cv rv : Value}
theorem ct_rsyP (hG : GOK G) {b c : Bool} (h : RcR M q na sa n f b c) (hj1 : 1 ≤ j) (hj : j ≤ 6 ∧ n = 2 ^ j) (c0 : Int32) : Ct G yX7_synthesisOfPeaks cX7_synthesisOfPeaks 2 (some (.array .int)) (xrm 10 (2 + fC b c) (66 + fS b c)) [.ref q, .int c0] M (PSy M n (fun k => syS (fun i => xB (rkN f n i < c0) * cfN f n i) n k)) := by
  obtain ⟨cK, hat⟩ := site_1 hG
  obtain ⟨cv, rv, g1, g2⟩ := h.rec
  refine ct_openN (lv := [_, _]) hG (by decide +kernel) (Nat.le_of_ble_eq_true rfl) rfl (fun C hC hN hk => ?_)
  refine x_aload_n hC dX7_synthesisOfPeaks_0 rfl rfl ?_
  refine x_aload_n hC dX7_synthesisOfPeaks_1 rfl rfl ?_
  refine x_iload_n hC dX7_synthesisOfPeaks_2 rfl rfl ?_
  refine x_indy hC hN (index := 89) (σ := sh1) (vals := [.ref q, .int c0]) (rest := [.ref q]) 6 hat q2931 sh_lay1 sh_cap1.symm rfl fit2 rfl (show 3 + 3072 ≤ 64 * 10 + 4096 by omega) (show 0 + 1 ≤ 2 + fC b c by omega) (show 0 + 2 ≤ 66 + fS b c by omega) (by decide) dX7_synthesisOfPeaks_3 (fun o ho => ?_)
  refine x_callV (k := 2 + fC b c) (n := 66 + fS b c) (na := 1) hC (ct_rsynth hG (h.nw ho) hj lam_ok1 hat rfl mu_s fw_dec2 (Nat.le_of_ble_eq_true rfl) (na' := 2) (z := yX7_lambda_synthesisOfPeaks_0) (by decide +kernel) (fl_P hG hj1 hj c0) q1932 q1931 q1933 (by decide +kernel) rfl (Nat.le_of_ble_eq_true rfl)) (lw_V q1937 q1938 q1939 q115 q1940) (mu_f ho g1) rfl rfl (by decide +kernel) rfl ⟨Nat.le_of_ble_eq_true rfl, Nat.le_of_ble_eq_true rfl⟩ rfl (Nat.le_of_ble_eq_true rfl) (show 0 + 1 + (1 + fC b c) ≤ 2 + fC b c by omega) (show 0 + 2 + (64 + fS b c) ≤ 66 + fS b c by omega) ⟨Nat.le_refl _, Nat.le_refl _⟩ dX7_synthesisOfPeaks_8 ?_
  rintro _ M2 hps
  obtain ⟨p, u, rfl, hps2⟩ := PSy.new ho hps
  exact x_aret hC hk dX7_synthesisOfPeaks_11 (Or.inr ⟨_, rfl⟩) (Or.inr ⟨_, rfl⟩) (Nat.le_refl _) (Nat.le_refl _) ⟨p, u, rfl, hps2⟩
theorem ct_rsyA (hG : GOK G) {b c : Bool} (h : RcR M q na sa n f b c) (hj : j ≤ 6 ∧ n = 2 ^ j) (t : Int32) : Ct G yX7_synthesisAbove cX7_synthesisAbove 2 (some (.array .int)) (xrm 10 (2 + fC b c) (66 + fS b c)) [.ref q, .int t] M (PSy M n (fun k => syS (fun i => xB (t ≤ iabs (cfN f n i)) * cfN f n i) n k)) := by
  obtain ⟨cK, hat⟩ := site_2 hG
  obtain ⟨cv, rv, g1, g2⟩ := h.rec
  refine ct_openN (lv := [_, _]) hG (by decide +kernel) (Nat.le_of_ble_eq_true rfl) rfl (fun C hC hN hk => ?_)
  refine x_aload_n hC dX7_synthesisAbove_0 rfl rfl ?_
  refine x_aload_n hC dX7_synthesisAbove_1 rfl rfl ?_
  refine x_iload_n hC dX7_synthesisAbove_2 rfl rfl ?_
  refine x_indy hC hN (index := 103) (σ := sh2) (vals := [.ref q, .int t]) (rest := [.ref q]) 6 hat q2931 sh_lay2 sh_cap2.symm rfl fit2 rfl (show 3 + 3072 ≤ 64 * 10 + 4096 by omega) (show 0 + 1 ≤ 2 + fC b c by omega) (show 0 + 2 ≤ 66 + fS b c by omega) (by decide) dX7_synthesisAbove_3 (fun o ho => ?_)
  refine x_callV (k := 2 + fC b c) (n := 66 + fS b c) (na := 1) hC (ct_rsynth hG (h.nw ho) hj lam_ok2 hat rfl mu_s fw_dec2 (Nat.le_of_ble_eq_true rfl) (na' := 2) (z := yX7_lambda_synthesisAbove_2) (by decide +kernel) (fl_A hG hj t) q2142 q2141 q2143 (by decide +kernel) rfl (Nat.le_of_ble_eq_true rfl)) (lw_V q1937 q1938 q1939 q115 q1940) (mu_f ho g1) rfl rfl (by decide +kernel) rfl ⟨Nat.le_of_ble_eq_true rfl, Nat.le_of_ble_eq_true rfl⟩ rfl (Nat.le_of_ble_eq_true rfl) (show 0 + 1 + (1 + fC b c) ≤ 2 + fC b c by omega) (show 0 + 2 + (64 + fS b c) ≤ 66 + fS b c by omega) ⟨Nat.le_refl _, Nat.le_refl _⟩ dX7_synthesisAbove_8 ?_
  rintro _ M2 hps
  obtain ⟨p, u, rfl, hps2⟩ := PSy.new ho hps
  exact x_aret hC hk dX7_synthesisAbove_11 (Or.inr ⟨_, rfl⟩) (Or.inr ⟨_, rfl⟩) (Nat.le_refl _) (Nat.le_refl _) ⟨p, u, rfl, hps2⟩
theorem ct_rsyB (hG : GOK G) {b c : Bool} (h : RcR M q na sa n f b c) (hj1 : 1 ≤ j) (hj : j ≤ 6 ∧ n = 2 ^ j) (lo hi fc : Int32) : Ct G yX7_synthesisOfBand cX7_synthesisOfBand 4 (some (.array .int)) (xrm 10 (2 + fC b c) (68 + fS b c)) [.ref q, .int lo, .int hi, .int fc] M (PSy M n (fun k => syS (fun i => (if lo ≤ chg (nI i) n ∧ chg (nI i) n ≤ hi then fc else 1) * cfN f n i) n k)) := by
  obtain ⟨cK, hat⟩ := site_3 hG
  obtain ⟨cv, rv, g1, g2⟩ := h.rec
  refine ct_openN (lv := [_, _, _, _]) hG (by decide +kernel) (Nat.le_of_ble_eq_true rfl) rfl (fun C hC hN hk => ?_)
  refine x_aload_n hC dX7_synthesisOfBand_0 rfl rfl ?_
  refine x_aload_n hC dX7_synthesisOfBand_1 rfl rfl ?_
  refine x_iload_n hC dX7_synthesisOfBand_2 rfl rfl ?_
  refine x_iload_n hC dX7_synthesisOfBand_3 rfl rfl ?_
  refine x_iload_n hC dX7_synthesisOfBand_4 rfl rfl ?_
  refine x_indy hC hN (index := 100) (σ := sh3) (vals := [.ref q, .int lo, .int hi, .int fc]) (rest := [.ref q]) 6 hat q2931 sh_lay3 sh_cap3.symm rfl fit4 rfl (show 5 + 3072 ≤ 64 * 10 + 4096 by omega) (show 0 + 1 ≤ 2 + fC b c by omega) (show 0 + 4 ≤ 68 + fS b c by omega) (by decide) dX7_synthesisOfBand_5 (fun o ho => ?_)
  refine x_callV (k := 2 + fC b c) (n := 68 + fS b c) (na := 1) hC (ct_rsynth hG (h.nw ho) hj lam_ok3 hat rfl mu_s fw_dec4 (Nat.le_of_ble_eq_true rfl) (na' := 4) (z := yX7_lambda_synthesisOfBand_1) (by decide +kernel) (fl_B hG hj1 hj lo hi fc) q2156 q2155 q2157 (by decide +kernel) rfl (Nat.le_of_ble_eq_true rfl)) (lw_V q1937 q1938 q1939 q115 q1940) (mu_f ho g1) rfl rfl (by decide +kernel) rfl ⟨Nat.le_of_ble_eq_true rfl, Nat.le_of_ble_eq_true rfl⟩ rfl (Nat.le_of_ble_eq_true rfl) (show 0 + 1 + (1 + fC b c) ≤ 2 + fC b c by omega) (show 0 + 4 + (64 + fS b c) ≤ 68 + fS b c by omega) ⟨Nat.le_refl _, Nat.le_refl _⟩ dX7_synthesisOfBand_10 ?_
  rintro _ M2 hps
  obtain ⟨p, u, rfl, hps2⟩ := PSy.new ho hps
  exact x_aret hC hk dX7_synthesisOfBand_13 (Or.inr ⟨_, rfl⟩) (Or.inr ⟨_, rfl⟩) (Nat.le_refl _) (Nat.le_refl _) ⟨p, u, rfl, hps2⟩
theorem ct_rsyW (hG : GOK G) {b c : Bool} (h : RcR M q na sa n f b c) (hj1 : 1 ≤ j) (hj : j ≤ 6 ∧ n = 2 ^ j) (lo hi : Int32) : Ct G yX7_synthesisWithoutBand cX7_synthesisWithoutBand 3 (some (.array .int)) (xrm 11 (2 + fC b c) (68 + fS b c)) [.ref q, .int lo, .int hi] M (PSy M n (fun k => syS (fun i => (if lo ≤ chg (nI i) n ∧ chg (nI i) n ≤ hi then 0 else 1) * cfN f n i) n k)) := by
  obtain ⟨cv, rv, g1, g2⟩ := h.rec
  refine ct_open (lv := [_, _, _]) hG (by decide +kernel) (Nat.le_of_ble_eq_true rfl) rfl (fun C hC hk => ?_)
  refine x_aload_n hC dX7_synthesisWithoutBand_0 rfl rfl ?_
  refine x_iload_n hC dX7_synthesisWithoutBand_1 rfl rfl ?_
  refine x_iload_n hC dX7_synthesisWithoutBand_2 rfl rfl ?_
  refine x_iconst (v := 0) hC dX7_synthesisWithoutBand_3 (by decide) ?_
  refine x_callV (k := 2 + fC b c) (n := 68 + fS b c) (na := 3) hC (ct_rsyB hG h hj1 hj lo hi 0) (lw_V q2176 q2152 q2153 q115 q2154) g1 rfl rfl (by decide +kernel) rfl ⟨Nat.le_of_ble_eq_true rfl, Nat.le_of_ble_eq_true rfl⟩ rfl (Nat.le_of_ble_eq_true rfl) (Nat.le_of_eq (Nat.zero_add _)) (Nat.le_of_eq (Nat.zero_add _)) ⟨Nat.le_refl _, Nat.le_refl _⟩ dX7_synthesisWithoutBand_4 ?_
  rintro _ M2 ⟨p, u, rfl, hps⟩
  exact x_aret hC hk dX7_synthesisWithoutBand_7 (Or.inr ⟨_, rfl⟩) (Or.inr ⟨_, rfl⟩) (Nat.le_refl _) (Nat.le_refl _) ⟨p, u, rfl, hps⟩
end SOF

