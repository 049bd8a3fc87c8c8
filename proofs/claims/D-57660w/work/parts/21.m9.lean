/-! ===== the reference's parser: walks ===== -/
/-- the parser stands at the token that begins at s -/
def TkS (b : Nat → Nat) (L : Nat) (V : Nat → Int32) (s : Nat) : Prop := V 7 = nI s ∧ V 8 = nI (tkN b L s) ∧ V 9 = nI (tkC b L s) ∧ (tkC b L s = 3 → V 10 = nI (vl b s (tkN b L s - s)))
theorem tkC_lt (b : Nat → Nat) (L s : Nat) : tkC b L s < 6 := by
  unfold tkC
  split
  · decide
  · split
    · split <;> decide
    · split
      · split <;> decide
      · split
        · decide
        · split <;> decide
theorem Ct.mono {G : X_G} {y : MethodName} {cc : ByteArray} {nL : Nat} {ret : Option FieldType} {rm : Room} {av : List Value} {M : X_M} {post post' : Option Value → X_M → Prop} (h : Ct G y cc nL ret rm av M post) (hp : ∀ r M', post r M' → post' r M') : Ct G y cc nL ret rm av M post' := by
  intro p e ha hc hk s m args below hf happ hP hK
  obtain ⟨n, o, h1, h2, h3, h4, h5⟩ := h p e ha hc hk s m args below hf happ hP hK
  obtain ⟨r, M', k1, k2, k3⟩ := h4
  exact ⟨n, o, h1, h2, h3, ⟨r, M', k1, hp r M' k2, k3⟩, h5⟩
section M9
variable {G : X_G} {M : X_M} {m : Nat} {P : Nat → Nat} {V : Nat → Int32} {A : Nat → Nat → Int32} {b : Nat → Nat} {L : Nat}
theorem ct_adv (hG : GOK G) (hm : Mdl M m P V A) (hL : V 2 = nI L) (hL9 : L ≤ 900) (hb : ∀ i, i < L → b i < 256 ∧ A 4 i = nI (b i)) {s : Nat} (hs : s ≤ L) (ht : TkS b L V s) : Ct G yX3_advance cX3_advance 2 (some .boolean) (xrm 2 0 0) [.ref m] M (fun r M' => r = some (.int 1) ∧ ∃ V', Mdl M' m P V' A ∧ Fm M M' ∧ TkS b L V' (adv b L s) ∧ ∀ q, q < 7 → V' q = V q) := by
  refine (ct_advance hG hm hL hL9 hb ht.2.1 (tkN_le b hs).2).mono ?_
  rintro r M' ⟨h1, V', h2, h3, h4, h5, h6, h7, h8⟩
  exact ⟨h1, V', h2, h3, ⟨h4, h5, h6, h7⟩, h8⟩
/-- what sampleHere leaves -/
def pS1q (M : X_M) (m : Nat) (P : Nat → Nat) (V : Nat → Int32) (A : Nat → Nat → Int32) (b : Nat → Nat) (L N n : Nat) (e : Except (Nat × Nat) (Int32 × Nat)) : Option Value → X_M → Prop := fun r M' => ∃ V' A', Mdl M' m P V' A' ∧ Fm M M' ∧ (∀ q, q < 4 → V' q = V q) ∧ V' 6 = V 6 ∧ match e with
  | .error ko => r = some (.int 0) ∧ A' = A ∧ V' 4 = nI ko.1 ∧ V' 5 = nI ko.2
  | .ok xs => r = some (.int 1) ∧ A' = va_up A 0 (upd (A 0) (9 + 72 * N + n) xs.1) ∧ V' 4 = V 4 ∧ V' 5 = V 5 ∧ TkS b L V' xs.2
theorem ct_sampleHere (hG : GOK G) (hm : Mdl M m P V A) (hL : V 2 = nI L) (hL9 : L ≤ 900) (hb : ∀ i, i < L → b i < 256 ∧ A 4 i = nI (b i)) {s N n : Nat} (hs : s ≤ L) (ht : TkS b L V s) (hN : A 0 0 = nI N) (hN6 : N < 6) (hn : n ≤ 64) : Ct G yX3_sampleHere cX3_sampleHere 3 (some .boolean) (xrm 3 0 0) [.ref m, .int (nI n)] M (pS1q M m P V A b L N n (pS1 b L s n)) := by
  refine ct_open (lv := [_, _, _]) hG (by decide +kernel) (Nat.le_of_ble_eq_true rfl) rfl (fun C hC hk => ?_)
  have hF : Fm M M := Fr.rf
  have rest : ∀ (M1 : X_M) (V1 : Nat → Int32) (s1 : Nat) (ng : Bool), Mdl M1 m P V1 A → Fm M M1 → TkS b L V1 s1 → (∀ q, q < 7 → V1 q = V q) → s1 ≤ L → pS1 b L s n = pS2 b L s1 n ng → Wg G C M1 0 0 23 [some (.ref m), some (.int (nI n)), some (.int (xB (ng = true)))] [] := by
    intro M V1 s1 ng hm hF ht hV hs1 hp
    unfold pS2 at hp
    refine x_aload_n hC dX3_sampleHere_23 rfl rfl ?_
    refine x_get hC 19 hm.1 rfl (by decide) q2349 rfl rfl dX3_sampleHere_24 ?_
    rw [ht.2.2.1]
    refine x_iconst (v := nI 3) hC dX3_sampleHere_27 (by decide) ?_
    have hc := tkC_lt b L s1
    refine x_icmp_eqN (tgt := 37) hC (by omega) (by omega) dX3_sampleHere_28 (by decide) (fun c1 => ?_) (fun c1 => ?_)
    · rw [if_pos c1] at hp
      refine x_iload_n hC dX3_sampleHere_37 rfl rfl ?_
      refine x_bipush (v := nI 64) hC dX3_sampleHere_38 (by decide) ?_
      refine x_icmp_neN (tgt := 49) hC (by omega) (by omega) dX3_sampleHere_40 (by decide) (fun c2 => ?_) (fun c2 => ?_)
      · rw [if_neg c2] at hp
        refine x_aload_n hC dX3_sampleHere_49 rfl rfl ?_
        refine x_get hC 0 hm.1 rfl (by decide) q2330 rfl rfl dX3_sampleHere_50 ?_
        refine x_aload_n hC dX3_sampleHere_53 rfl rfl ?_
        refine x_get hC 0 hm.1 rfl (by decide) q2330 rfl rfl dX3_sampleHere_54 ?_
        refine x_iconst (v := nI 0) hC dX3_sampleHere_57 (by decide) ?_
        refine x_ialdN hC (hm.arr 0 (by decide)) (show _ < 433 from (by omega)) (by decide) dX3_sampleHere_58 ?_
        rw [hN]
        refine x_callS0 (na := 1) hC (ct_row hG _ _) (lw_S q2457 q2458 q89 q2459) (by decide +kernel) rfl ⟨Nat.le_of_ble_eq_true rfl, Nat.le_of_ble_eq_true rfl⟩ rfl (Nat.le_of_ble_eq_true rfl) ⟨rfl, rfl⟩ ⟨Nat.le_of_ble_eq_true rfl, Nat.le_of_ble_eq_true rfl⟩ dX3_sampleHere_59 ?_
        rintro _ M ⟨rfl, rfl⟩
        refine x_bipush (v := nI 8) hC dX3_sampleHere_62 (by decide) ?_
        refine x_iaddN hC dX3_sampleHere_64 ?_
        refine x_iload_n hC dX3_sampleHere_65 rfl rfl ?_
        refine x_iaddN hC dX3_sampleHere_66 ?_
        have put : ∀ v : Int32, v = (if ng = true then -nI (vl b s1 (tkN b L s1 - s1)) else nI (vl b s1 (tkN b L s1 - s1))) → Wg G C M 0 0 83 [some (.ref m), some (.int (nI n)), some (.int (xB (ng = true)))] [.int v, .int (nI (1 + 72 * N + 8 + n)), .ref (P 0)] := by
          intro v hv
          refine x_miastN hC hm 0 (by decide) (show _ < 433 from (by omega)) (by decide) dX3_sampleHere_83 (fun M hm hF1 => ?_)
          have hF := hF.tr hF1
          refine x_aload_n hC dX3_sampleHere_84 rfl rfl ?_
          refine x_callV0 (na := 0) hC (ct_adv (V := V1) (A := va_up A 0 (upd (A 0) (9 + 72 * N + n) v)) hG (hm.to rfl (by rw [show 9 + 72 * N + n = 1 + 72 * N + 8 + n by omega])) ((hV 2 (by decide)).trans hL) hL9 hb hs1 ht) (lw_V q2433 q2435 qs35 q89 q2436) hm.1 rfl rfl (by decide +kernel) rfl ⟨Nat.le_of_ble_eq_true rfl, Nat.le_of_ble_eq_true rfl⟩ rfl (Nat.le_of_ble_eq_true rfl) ⟨rfl, rfl⟩ ⟨Nat.le_of_ble_eq_true rfl, Nat.le_of_ble_eq_true rfl⟩ dX3_sampleHere_85 ?_
          rintro _ M ⟨rfl, V2, hm2, hF2, ht2, hV2⟩
          exact x_zret hC hk dX3_sampleHere_88 (by first | rfl | exact xB_nar) (Nat.le_of_ble_eq_true rfl) (Nat.le_of_ble_eq_true rfl) ⟨V2, _, hm2, hF.tr hF2, (fun q hq => (hV2 q (by omega)).trans (hV q (by omega))), (hV2 6 (by decide)).trans (hV 6 (by decide)), by rw [hp]; exact ⟨rfl, by rw [hv], (hV2 4 (by decide)).trans (hV 4 (by decide)), (hV2 5 (by decide)).trans (hV 5 (by decide)), ht2⟩⟩
        refine x_iload_n hC dX3_sampleHere_67 rfl rfl ?_
        refine x_if_eqB (tgt := 79) hC dX3_sampleHere_68 (by decide) (fun c3 => ?_) (fun c3 => ?_)
        · refine x_aload_n hC dX3_sampleHere_79 rfl rfl ?_
          refine x_get hC 20 hm.1 rfl (by decide) q2350 rfl rfl dX3_sampleHere_80 ?_
          exact put _ (by rw [if_neg c3]; exact ht.2.2.2 c1)
        · refine x_aload_n hC dX3_sampleHere_71 rfl rfl ?_
          refine x_get hC 20 hm.1 rfl (by decide) q2350 rfl rfl dX3_sampleHere_72 ?_
          refine x_ineg hC dX3_sampleHere_75 ?_
          refine x_goto (tgt := 83) hC dX3_sampleHere_76 (by decide) ?_
          exact put _ (by rw [if_pos c3, ht.2.2.2 c1])
      · rw [if_pos c2] at hp
        refine x_aload_n hC dX3_sampleHere_43 rfl rfl ?_
        refine x_iconst (v := 4) hC dX3_sampleHere_44 (by decide) ?_
        refine x_callV0 (na := 1) hC (ct_fail hG hm _) (lw_V q2449 q2451 qs39 q89 q2452) hm.1 rfl rfl (by decide +kernel) rfl ⟨Nat.le_of_ble_eq_true rfl, Nat.le_of_ble_eq_true rfl⟩ rfl (Nat.le_of_ble_eq_true rfl) ⟨rfl, rfl⟩ ⟨Nat.le_of_ble_eq_true rfl, Nat.le_of_ble_eq_true rfl⟩ dX3_sampleHere_45 ?_
        rintro _ M ⟨rfl, hm, hF1⟩
        exact x_zret hC hk dX3_sampleHere_48 (by first | rfl | exact xB_nar) (Nat.le_of_ble_eq_true rfl) (Nat.le_of_ble_eq_true rfl) ⟨_, _, hm, hF.tr hF1, (fun q hq => by rw [upd_n (by omega), upd_n (by omega)]; exact hV q (by omega)), by rw [upd_n (by decide), upd_n (by decide)]; exact hV 6 (by decide), by rw [hp]; exact ⟨rfl, rfl, rfl, ht.1⟩⟩
    · rw [if_neg c1] at hp
      refine x_aload_n hC dX3_sampleHere_31 rfl rfl ?_
      refine x_iconst (v := 1) hC dX3_sampleHere_32 (by decide) ?_
      refine x_callV0 (na := 1) hC (ct_fail hG hm _) (lw_V q2449 q2451 qs39 q89 q2452) hm.1 rfl rfl (by decide +kernel) rfl ⟨Nat.le_of_ble_eq_true rfl, Nat.le_of_ble_eq_true rfl⟩ rfl (Nat.le_of_ble_eq_true rfl) ⟨rfl, rfl⟩ ⟨Nat.le_of_ble_eq_true rfl, Nat.le_of_ble_eq_true rfl⟩ dX3_sampleHere_33 ?_
      rintro _ M ⟨rfl, hm, hF1⟩
      exact x_zret hC hk dX3_sampleHere_36 (by first | rfl | exact xB_nar) (Nat.le_of_ble_eq_true rfl) (Nat.le_of_ble_eq_true rfl) ⟨_, _, hm, hF.tr hF1, (fun q hq => by rw [upd_n (by omega), upd_n (by omega)]; exact hV q (by omega)), by rw [upd_n (by decide), upd_n (by decide)]; exact hV 6 (by decide), by rw [hp]; exact ⟨rfl, rfl, rfl, ht.1⟩⟩
  refine x_aload_n hC dX3_sampleHere_0 rfl rfl ?_
  refine x_get hC 19 hm.1 rfl (by decide) q2349 rfl rfl dX3_sampleHere_1 ?_
  rw [ht.2.2.1]
  refine x_iconst (v := nI 5) hC dX3_sampleHere_4 (by decide) ?_
  have hc := tkC_lt b L s
  unfold pS1 at rest
  refine x_icmp_neN (tgt := 12) hC (by omega) (by omega) dX3_sampleHere_5 (by decide) (fun c1 => ?_) (fun c1 => ?_)
  · refine x_iconst (v := 0) hC dX3_sampleHere_12 (by decide) ?_
    refine x_istore_n (lv' := [_, _, _]) hC dX3_sampleHere_13 rfl (by decide) rfl ?_
    refine x_iload_n hC dX3_sampleHere_14 rfl rfl ?_
    refine x_if_eq (tgt := 23) hC dX3_sampleHere_15 (by decide) (fun c2 => ?_) (fun c2 => ?_)
    · exact rest M V s false hm hF ht (fun _ _ => rfl) hs (by rw [if_neg c1])
    · exact absurd rfl c2
  · refine x_iconst (v := 1) hC dX3_sampleHere_8 (by decide) ?_
    refine x_goto (tgt := 13) hC dX3_sampleHere_9 (by decide) ?_
    refine x_istore_n (lv' := [_, _, _]) hC dX3_sampleHere_13 rfl (by decide) rfl ?_
    refine x_iload_n hC dX3_sampleHere_14 rfl rfl ?_
    refine x_if_eq (tgt := 23) hC dX3_sampleHere_15 (by decide) (fun c2 => ?_) (fun c2 => ?_)
    · exact absurd c2 (by decide)
    · refine x_aload_n hC dX3_sampleHere_18 rfl rfl ?_
      refine x_callV0 (na := 0) hC (ct_adv hG hm hL hL9 hb hs ht) (lw_V q2433 q2435 qs35 q89 q2436) hm.1 rfl rfl (by decide +kernel) rfl ⟨Nat.le_of_ble_eq_true rfl, Nat.le_of_ble_eq_true rfl⟩ rfl (Nat.le_of_ble_eq_true rfl) ⟨rfl, rfl⟩ ⟨Nat.le_of_ble_eq_true rfl, Nat.le_of_ble_eq_true rfl⟩ dX3_sampleHere_19 ?_
      rintro _ M1 ⟨rfl, V2, hm2, hF2, ht2, hV2⟩
      refine x_pop hC dX3_sampleHere_22 rfl ?_
      exact rest _ V2 _ true hm2 hF2 ht2 hV2 (adv_le hs).2 (by rw [if_pos c1])
/-- what a statement leaves -/
def pStq (M : X_M) (m : Nat) (P : Nat → Nat) (V : Nat → Int32) (A : Nat → Nat → Int32) (b : Nat → Nat) (L : Nat) (e : Except (Nat × Nat) (List Rcd × Nat)) : Option Value → X_M → Prop := fun r M' => ∃ V' f', Mdl M' m P V' (va_up A 0 f') ∧ Fm M M' ∧ (∀ q, q < 4 → V' q = V q) ∧ V' 6 = V 6 ∧ match e with
  | .error ko => r = some (.int 0) ∧ V' 4 = nI ko.1 ∧ V' 5 = nI ko.2
  | .ok Rs => r = some (.int 1) ∧ RepR Rs.1 f' ∧ V' 4 = V 4 ∧ V' 5 = V 5 ∧ TkS b L V' Rs.2
theorem rep_add {R : List Rcd} {f : Nat → Int32} {buf : Nat → Int32} {b : Nat → Nat} {s e : Nat} {xs : List Int32} (hR : RepR R f) (hW : WfR R) (hN : R.length < 6) (hb : ∀ i, s ≤ i → i < e → buf i = nI (b i)) (he : e - s ≤ 6) (hx : xs.length ≤ 64) : RepR (R ++ [(sub b s e, xs)]) (upd (upd (lay (pnm f buf R.length s (e - s)) (9 + 72 * R.length) xs) (8 + 72 * R.length) (nI xs.length)) 0 (nI (R.length + 1))) := by
  have hlow : ∀ q, 0 < q → q < 1 + 72 * R.length → upd (upd (lay (pnm f buf R.length s (e - s)) (9 + 72 * R.length) xs) (8 + 72 * R.length) (nI xs.length)) 0 (nI (R.length + 1)) q = f q := by
    intro q h0 hq
    rw [upd_n (by omega), upd_n (by omega), lay_out (by omega), pnm, pot_out (by omega), upd_n (by omega), fil_out (by omega)]
  refine ⟨by rw [upd_s, List.length_append]; rfl, fun c r hr => ?_⟩
  rcases Nat.lt_or_ge c R.length with h | h
  · rw [List.getElem?_append_left h] at hr
    have hw := hW.2.1 r (List.mem_of_getElem? hr)
    exact (hR.2 c r hr).cong hw.1.2 hw.len.1 (fun q h1 h2 => hlow q (by omega) (by omega))
  · rw [List.getElem?_append_right h] at hr
    have hc : c = R.length := by
      have := (List.getElem?_eq_some_iff.mp hr).1
      simp at this
      omega
    subst hc
    rw [Nat.sub_self] at hr
    cases hr
    refine ⟨?_, fun j hj => ?_, ?_, fun k hk => ?_⟩
    · dsimp only
      rw [sub_len, upd_n (by omega), upd_n (by omega), lay_out (by omega), pnm, pot_out (by omega), upd_s]
    · dsimp only at hj ⊢
      rw [sub_len] at hj
      rw [sub_at hj, upd_n (by omega), upd_n (by omega), lay_out (by omega), pnm, show 2 + 72 * R.length + j = 1 + 72 * R.length + 1 + j by omega, pot_in hj, hb _ (by omega) (by omega)]
    · rw [upd_n (by omega), upd_s]
    · dsimp only at hk ⊢
      rw [upd_n (by omega), upd_n (by omega), lay_in hk]
theorem ct_statement (hG : GOK G) {M0 : X_M} (hm : Mdl M0 m P V A) (hL : V 2 = nI L) (hL9 : L ≤ 900) (hb : ∀ i, i < L → b i < 256 ∧ A 4 i = nI (b i)) {s : Nat} (hs : s ≤ L) (ht : TkS b L V s) {R : List Rcd} (hR : RepR R (A 0)) (hW : WfR R) : Ct G yX3_statement cX3_statement 2 (some .boolean) (xrm 4 0 0) [.ref m] M0 (pStq M0 m P V A b L (pSt b L R s)) := by
  refine ct_open (lv := [_, _]) hG (by decide +kernel) (Nat.le_of_ble_eq_true rfl) rfl (fun C hC hk => ?_)
  obtain ⟨M, hMe⟩ : ∃ M, M = M0 := ⟨M0, rfl⟩
  have hF : Fm M0 M := by rw [hMe]; exact Fr.rf
  rw [← hMe] at hm ⊢
  have err : ∀ (M1 : X_M) (V1 : Nat → Int32) (f1 : Nat → Int32) (k o : Nat), Mdl M1 m P (upd (upd V1 4 (nI k)) 5 (V1 7)) (va_up A 0 f1) → Fm M0 M1 → (∀ q, q < 4 → V1 q = V q) → V1 6 = V 6 → V1 7 = nI o → pSt b L R s = .error (k, o) → pStq M0 m P V A b L (pSt b L R s) (some (.int 0)) M1 := by
    intro M1 V1 f1 k o h1 h2 h3 h4 h5 h6
    rw [h6]
    exact ⟨_, f1, h1, h2, (fun q hq => by rw [upd_n (by omega), upd_n (by omega)]; exact h3 q hq), by rw [upd_n (by decide), upd_n (by decide)]; exact h4, rfl, rfl, h5⟩
  unfold pSt at err hk
  have hn := tkN_le b hs
  refine x_aload_n hC dX3_statement_0 rfl rfl ?_
  refine x_callV0 (na := 0) hC (ct_isBell hG hm ht.1 ht.2.1 hn.1 (by omega)) (lw_V q2445 q2447 qs38 q89 q2448) hm.1 rfl rfl (by decide +kernel) rfl ⟨Nat.le_of_ble_eq_true rfl, Nat.le_of_ble_eq_true rfl⟩ rfl (Nat.le_of_ble_eq_true rfl) ⟨rfl, rfl⟩ ⟨Nat.le_of_ble_eq_true rfl, Nat.le_of_ble_eq_true rfl⟩ dX3_statement_1 ?_
  rintro _ M ⟨rfl, rfl⟩
  have hbl : (V 9 = 2 ∧ tkN b L s - s = 4 ∧ A 4 s = 98 ∧ A 4 (s + 1) = 101 ∧ A 4 (s + 2) = 108 ∧ A 4 (s + 3) = 108) ↔ isBl b L s := by
    have hc := tkC_lt b L s
    rw [ht.2.2.1, show (2 : Int32) = nI 2 from rfl, nI_eq (by omega) (by decide)]
    refine and_congr_right fun _ => and_congr_right fun h4 => ?_
    have g0 := hb s (by omega)
    have g1 := hb (s + 1) (by omega)
    have g2 := hb (s + 2) (by omega)
    have g3 := hb (s + 3) (by omega)
    rw [g0.2, g1.2, g2.2, g3.2, show (98 : Int32) = nI 98 from rfl, show (101 : Int32) = nI 101 from rfl, show (108 : Int32) = nI 108 from rfl, nI_eq (by omega) (by decide), nI_eq (by omega) (by decide), nI_eq (by omega) (by decide), nI_eq (by omega) (by decide)]
  rw [xB_iff hbl]
  refine x_if_neB (tgt := 13) hC dX3_statement_4 (by decide) (fun c1 => ?_) (fun c1 => ?_)
  · rw [if_pos c1] at err hk
    refine x_aload_n hC dX3_statement_13 rfl rfl ?_
    refine x_get hC 0 hm.1 rfl (by decide) q2330 rfl rfl dX3_statement_14 ?_
    refine x_iconst (v := nI 0) hC dX3_statement_17 (by decide) ?_
    refine x_ialdN hC (hm.arr 0 (by decide)) (show _ < 433 from (by omega)) (by decide) dX3_statement_18 ?_
    refine x_bipush (v := nI 6) hC dX3_statement_19 (by decide) ?_
    rw [hR.1]
    have hR6 := hW.1
    refine x_icmp_neN (tgt := 30) hC (by omega) (by omega) dX3_statement_21 (by decide) (fun c2 => ?_) (fun c2 => ?_)
    · rw [if_neg c2] at err hk
      refine x_aload_n hC dX3_statement_30 rfl rfl ?_
      refine x_callV0 (na := 0) hC (ct_adv hG hm hL hL9 hb hs ht) (lw_V q2433 q2435 qs35 q89 q2436) hm.1 rfl rfl (by decide +kernel) rfl ⟨Nat.le_of_ble_eq_true rfl, Nat.le_of_ble_eq_true rfl⟩ rfl (Nat.le_of_ble_eq_true rfl) ⟨rfl, rfl⟩ ⟨Nat.le_of_ble_eq_true rfl, Nat.le_of_ble_eq_true rfl⟩ dX3_statement_31 ?_
      rintro _ M ⟨rfl, V1, hm, hF1, ht1, hV1⟩
      have hF := hF.tr hF1
      have hs1 := (adv_le (b := b) hs).2
      generalize adv b L s = s1 at ht1 hs1 err hk
      refine x_pop hC dX3_statement_34 rfl ?_
      refine x_aload_n hC dX3_statement_35 rfl rfl ?_
      refine x_get hC 19 hm.1 rfl (by decide) q2349 rfl rfl dX3_statement_36 ?_
      rw [ht1.2.2.1]
      have hc1 := tkC_lt b L s1
      refine x_iconst (v := nI 2) hC dX3_statement_39 (by decide) ?_
      refine x_icmp_eqN (tgt := 49) hC (by omega) (by omega) dX3_statement_40 (by decide) (fun c3 => ?_) (fun c3 => ?_)
      · rw [if_pos c3] at err hk
        obtain ⟨w1, w2, w3⟩ := tok_w hs1 c3
        have hn1 := tkN_le b hs1
        refine x_aload_n hC dX3_statement_49 rfl rfl ?_
        refine x_aload_n hC dX3_statement_50 rfl rfl ?_
        refine x_get hC 17 hm.1 rfl (by decide) q2347 rfl rfl dX3_statement_51 ?_
        rw [ht1.1]
        refine x_aload_n hC dX3_statement_54 rfl rfl ?_
        refine x_get hC 18 hm.1 rfl (by decide) q2348 rfl rfl dX3_statement_55 ?_
        rw [ht1.2.1]
        refine x_aload_n hC dX3_statement_58 rfl rfl ?_
        refine x_get hC 17 hm.1 rfl (by decide) q2347 rfl rfl dX3_statement_59 ?_
        rw [ht1.1]
        refine x_isubN hC dX3_statement_62 (by omega) ?_
        refine x_callV0 (na := 2) hC (ct_named (n := R.length) hG hm (by omega) (by omega) hR.1 hW.1) (lw_V q2453 q2455 qs40 q89 q2456) hm.1 rfl rfl (by decide +kernel) rfl ⟨Nat.le_of_ble_eq_true rfl, Nat.le_of_ble_eq_true rfl⟩ rfl (Nat.le_of_ble_eq_true rfl) ⟨rfl, rfl⟩ ⟨Nat.le_of_ble_eq_true rfl, Nat.le_of_ble_eq_true rfl⟩ dX3_statement_63 ?_
        rintro _ M ⟨rfl, rfl⟩
        rw [fnd_of hR hW.2.1 (fun i h1 h2 => hb i (by omega)) (by omega)]
        have ho : optI (fnd R (sub b s1 (tkN b L s1))) = -1 ↔ fnd R (sub b s1 (tkN b L s1)) = none := optI_m1 fun q hq => by have := (fstI_some hq).2.1; omega
        refine x_iconst (v := -1) hC dX3_statement_66 (by decide) ?_
        refine x_icmp_eq (tgt := 76) hC dX3_statement_67 (by decide) (fun c4 => ?_) (fun c4 => ?_)
        · rw [if_pos (ho.mp c4)] at err hk
          refine x_aload_n hC dX3_statement_76 rfl rfl ?_
          refine x_aload_n hC dX3_statement_77 rfl rfl ?_
          refine x_get hC 17 hm.1 rfl (by decide) q2347 rfl rfl dX3_statement_78 ?_
          rw [ht1.1]
          refine x_aload_n hC dX3_statement_81 rfl rfl ?_
          refine x_get hC 18 hm.1 rfl (by decide) q2348 rfl rfl dX3_statement_82 ?_
          rw [ht1.2.1]
          refine x_aload_n hC dX3_statement_85 rfl rfl ?_
          refine x_get hC 17 hm.1 rfl (by decide) q2347 rfl rfl dX3_statement_86 ?_
          rw [ht1.1]
          refine x_isubN hC dX3_statement_89 (by omega) ?_
          refine x_callV0 (na := 2) hC (ct_putName hG hm hR.1 (by omega) w2 (by omega)) (lw_V q2460 q2462 qs41 q89 q2463) hm.1 rfl rfl (by decide +kernel) rfl ⟨Nat.le_of_ble_eq_true rfl, Nat.le_of_ble_eq_true rfl⟩ rfl (Nat.le_of_ble_eq_true rfl) ⟨rfl, rfl⟩ ⟨Nat.le_of_ble_eq_true rfl, Nat.le_of_ble_eq_true rfl⟩ dX3_statement_90 ?_
          rintro _ M ⟨rfl, hm, hF1⟩
          have hF := hF.tr hF1
          refine x_aload_n hC dX3_statement_93 rfl rfl ?_
          have hb1 : ∀ i, i < L → b i < 256 ∧ va_up A 0 (pnm (A 0) (A 4) R.length s1 (tkN b L s1 - s1)) 4 i = nI (b i) := hb
          refine x_callV0 (na := 0) hC (ct_adv hG hm ((hV1 2 (by decide)).trans hL) hL9 hb1 hs1 ht1) (lw_V q2433 q2435 qs35 q89 q2436) hm.1 rfl rfl (by decide +kernel) rfl ⟨Nat.le_of_ble_eq_true rfl, Nat.le_of_ble_eq_true rfl⟩ rfl (Nat.le_of_ble_eq_true rfl) ⟨rfl, rfl⟩ ⟨Nat.le_of_ble_eq_true rfl, Nat.le_of_ble_eq_true rfl⟩ dX3_statement_94 ?_
          rintro _ M ⟨rfl, V2, hm, hF1, ht2, hV2⟩
          have hF := hF.tr hF1
          have hs2 := (adv_le (b := b) hs1).2
          generalize adv b L s1 = s2 at ht2 hs2 err hk
          have hV : ∀ q, q < 7 → V2 q = V q := fun q hq => (hV2 q hq).trans (hV1 q hq)
          refine x_pop hC dX3_statement_97 rfl ?_
          refine x_iconst (v := nI 0) hC dX3_statement_98 (by decide) ?_
          refine x_istore_n (lv' := [_, _]) hC dX3_statement_99 rfl (by decide) rfl ?_
          have hz : ∀ acc : List Int32, lay (pnm (A 0) (A 4) R.length s1 (tkN b L s1 - s1)) (9 + 72 * R.length) acc 0 = nI R.length := fun acc => by
            rw [lay_out (by omega), pnm, pot_out (by omega), upd_n (by omega), fil_out (by omega), hR.1]
          have loop : ∀ (d : Nat) (acc : List Int32) (s3 : Nat) (M1 : X_M) (V3 : Nat → Int32), acc.length + d = 65 → acc.length ≤ 64 → s3 ≤ L → TkS b L V3 s3 → (∀ q, q < 4 → V3 q = V q) → V3 6 = V 6 → V3 4 = V 4 → V3 5 = V 5 → pSs b L 65 s2 [] = pSs b L d s3 acc → Mdl M1 m P V3 (va_up A 0 (lay (pnm (A 0) (A 4) R.length s1 (tkN b L s1 - s1)) (9 + 72 * R.length) acc)) → Fm M0 M1 → Wg G C M1 0 0 100 [some (.ref m), some (.int (nI acc.length))] [] := by
            intro d
            induction d with
            | zero =>
              intro acc s3 M1 V3 h1 h2
              omega
            | succ d ih =>
              intro acc s3 M V3 h1 h2 hs3 ht3 hV3 h6 h4 h5 hp hm hF
              have hp2 : pSs b L (d + 1) s3 acc = if 2 ≤ acc.length ∧ tkC b L s3 = 4 then .ok (acc, s3) else match pS1 b L s3 acc.length with
                | .error e => .error e
                | .ok (x, s2) => pSs b L d s2 (acc ++ [x]) := rfl
              rw [hp2] at hp
              have endd : 2 ≤ acc.length ∧ tkC b L s3 = 4 → Wg G C M 0 0 129 [some (.ref m), some (.int (nI acc.length))] [] := by
                intro hc
                rw [hp, if_pos hc] at err hk
                dsimp only at err hk
                refine x_iload_n hC dX3_statement_129 rfl rfl ?_
                refine x_callS0 (na := 1) hC (ct_isLength hG _ _) (lw_S q2468 q2469 q89 q2470) (by decide +kernel) rfl ⟨Nat.le_of_ble_eq_true rfl, Nat.le_of_ble_eq_true rfl⟩ rfl (Nat.le_of_ble_eq_true rfl) ⟨rfl, rfl⟩ ⟨Nat.le_of_ble_eq_true rfl, Nat.le_of_ble_eq_true rfl⟩ dX3_statement_130 ?_
                rintro _ M ⟨rfl, rfl⟩
                refine x_if_neB (tgt := 142) hC dX3_statement_133 (by decide) (fun c6 => ?_) (fun c6 => ?_)
                · rw [if_pos c6] at hk
                  refine x_aload_n hC dX3_statement_142 rfl rfl ?_
                  refine x_get hC 0 hm.1 rfl (by decide) q2330 rfl rfl dX3_statement_143 ?_
                  refine x_aload_n hC dX3_statement_146 rfl rfl ?_
                  refine x_get hC 0 hm.1 rfl (by decide) q2330 rfl rfl dX3_statement_147 ?_
                  refine x_iconst (v := nI 0) hC dX3_statement_150 (by decide) ?_
                  refine x_ialdN hC (hm.arr 0 (by decide)) (show _ < 433 from (by omega)) (by decide) dX3_statement_151 ?_
                  rw [show va_up A 0 (lay (pnm (A 0) (A 4) R.length s1 (tkN b L s1 - s1)) (9 + 72 * R.length) acc) 0 0 = nI R.length from hz acc]
                  refine x_callS0 (na := 1) hC (ct_row hG _ _) (lw_S q2457 q2458 q89 q2459) (by decide +kernel) rfl ⟨Nat.le_of_ble_eq_true rfl, Nat.le_of_ble_eq_true rfl⟩ rfl (Nat.le_of_ble_eq_true rfl) ⟨rfl, rfl⟩ ⟨Nat.le_of_ble_eq_true rfl, Nat.le_of_ble_eq_true rfl⟩ dX3_statement_152 ?_
                  rintro _ M ⟨rfl, rfl⟩
                  refine x_bipush (v := nI 7) hC dX3_statement_155 (by decide) ?_
                  refine x_iaddN hC dX3_statement_157 ?_
                  refine x_iload_n hC dX3_statement_158 rfl rfl ?_
                  refine x_miastN hC hm 0 (by decide) (show _ < 433 from (by omega)) (by decide) dX3_statement_159 (fun M hm hF1 => ?_)
                  have hF := hF.tr hF1
                  refine x_aload_n hC dX3_statement_160 rfl rfl ?_
                  refine x_get hC 0 hm.1 rfl (by decide) q2330 rfl rfl dX3_statement_161 ?_
                  refine x_iconst (v := nI 0) hC dX3_statement_164 (by decide) ?_
                  refine x_dup2_11 hC dX3_statement_165 rfl rfl ?_
                  refine x_ialdN hC (hm.arr 0 (by decide)) (show _ < 433 from (by omega)) (by decide) dX3_statement_166 ?_
                  rw [show va_up (va_up A 0 (lay (pnm (A 0) (A 4) R.length s1 (tkN b L s1 - s1)) (9 + 72 * R.length) acc)) 0 (upd (va_up A 0 (lay (pnm (A 0) (A 4) R.length s1 (tkN b L s1 - s1)) (9 + 72 * R.length) acc) 0) (1 + 72 * R.length + 7) (nI acc.length)) 0 0 = nI R.length by rw [va_up_s, upd_n (by omega), va_up_s, hz]]
                  refine x_iconst (v := nI 1) hC dX3_statement_167 (by decide) ?_
                  refine x_iaddN hC dX3_statement_168 ?_
                  refine x_miastN hC hm 0 (by decide) (show _ < 433 from (by omega)) (by decide) dX3_statement_169 (fun M hm hF1 => ?_)
                  have hF := hF.tr hF1
                  refine x_aload_n hC dX3_statement_170 rfl rfl ?_
                  have hmx := hm.to (V' := V3) rfl (show _ = va_up A 0 (upd (upd (lay (pnm (A 0) (A 4) R.length s1 (tkN b L s1 - s1)) (9 + 72 * R.length) acc) (8 + 72 * R.length) (nI acc.length)) 0 (nI (R.length + 1))) by
                    rw [up_up, up_up, va_up_s, va_up_s, show 1 + 72 * R.length + 7 = 8 + 72 * R.length by omega])
                  refine x_callV0 (na := 0) hC (ct_adv hG hmx ((hV3 2 (by decide)).trans hL) hL9 hb hs3 ht3) (lw_V q2433 q2435 qs35 q89 q2436) hm.1 rfl rfl (by decide +kernel) rfl ⟨Nat.le_of_ble_eq_true rfl, Nat.le_of_ble_eq_true rfl⟩ rfl (Nat.le_of_ble_eq_true rfl) ⟨rfl, rfl⟩ ⟨Nat.le_of_ble_eq_true rfl, Nat.le_of_ble_eq_true rfl⟩ dX3_statement_171 ?_
                  rintro _ M ⟨rfl, V4, hm4, hF4, ht4, hV4⟩
                  exact x_zret hC hk dX3_statement_174 (by first | rfl | exact xB_nar) (Nat.le_of_ble_eq_true rfl) (Nat.le_of_ble_eq_true rfl) ⟨V4, _, hm4, hF.tr hF4, (fun q hq => (hV4 q (by omega)).trans (hV3 q hq)), (hV4 6 (by decide)).trans h6, rfl, rep_add hR hW (by omega) (fun i h1 h2 => (hb i (by omega)).2) w2 h2, (hV4 4 (by decide)).trans h4, (hV4 5 (by decide)).trans h5, ht4⟩
                · rw [if_neg c6] at err hk
                  refine x_aload_n hC dX3_statement_136 rfl rfl ?_
                  refine x_iconst (v := 2) hC dX3_statement_137 (by decide) ?_
                  refine x_callV0 (na := 1) hC (ct_fail hG hm _) (lw_V q2449 q2451 qs39 q89 q2452) hm.1 rfl rfl (by decide +kernel) rfl ⟨Nat.le_of_ble_eq_true rfl, Nat.le_of_ble_eq_true rfl⟩ rfl (Nat.le_of_ble_eq_true rfl) ⟨rfl, rfl⟩ ⟨Nat.le_of_ble_eq_true rfl, Nat.le_of_ble_eq_true rfl⟩ dX3_statement_138 ?_
                  rintro _ M ⟨rfl, hm, hF1⟩
                  exact x_zret hC hk dX3_statement_141 (by first | rfl | exact xB_nar) (Nat.le_of_ble_eq_true rfl) (Nat.le_of_ble_eq_true rfl) (err _ V3 _ 2 s3 hm (hF.tr hF1) hV3 h6 ht3.1 rfl)
              have samp : ¬ (2 ≤ acc.length ∧ tkC b L s3 = 4) → Wg G C M 0 0 113 [some (.ref m), some (.int (nI acc.length))] [] := by
                intro hc
                rw [if_neg hc] at hp
                refine x_aload_n hC dX3_statement_113 rfl rfl ?_
                refine x_iload_n hC dX3_statement_114 rfl rfl ?_
                refine x_callV0 (na := 1) hC (ct_sampleHere hG hm ((hV3 2 (by decide)).trans hL) hL9 hb hs3 ht3 (hz acc) (by omega) h2) (lw_V q2464 q2466 qs42 q89 q2467) hm.1 rfl rfl (by decide +kernel) rfl ⟨Nat.le_of_ble_eq_true rfl, Nat.le_of_ble_eq_true rfl⟩ rfl (Nat.le_of_ble_eq_true rfl) ⟨rfl, rfl⟩ ⟨Nat.le_of_ble_eq_true rfl, Nat.le_of_ble_eq_true rfl⟩ dX3_statement_115 ?_
                rintro _ M ⟨V4, A4, hm4, hF4, hV4, h64, hq⟩
                have hF := hF.tr hF4
                cases hp1 : pS1 b L s3 acc.length with
                | error ko =>
                  obtain ⟨k, o⟩ := ko
                  rw [hp1] at hq hp
                  dsimp only at hp
                  rw [hp] at hk
                  obtain ⟨rfl, rfl, e4, e5⟩ := hq
                  refine x_if_ne (tgt := 123) hC dX3_statement_118 (by decide) (fun c7 => ?_) (fun c7 => ?_)
                  · exact absurd rfl c7
                  · refine x_iconst (v := 0) hC dX3_statement_121 (by decide) ?_
                    exact x_zret hC hk dX3_statement_122 (by first | rfl | exact xB_nar) (Nat.le_of_ble_eq_true rfl) (Nat.le_of_ble_eq_true rfl) ⟨V4, _, hm4, hF, (fun q hq => (hV4 q hq).trans (hV3 q hq)), h64.trans h6, rfl, e4, e5⟩
                | ok xs =>
                  obtain ⟨x, s4⟩ := xs
                  obtain ⟨g1, g2, g3⟩ := pS1_ok hs3 hp1
                  rw [hp1] at hq hp
                  dsimp only at hp
                  obtain ⟨rfl, rfl, e4, e5, ht4⟩ := hq
                  refine x_if_ne (tgt := 123) hC dX3_statement_118 (by decide) (fun c7 => ?_) (fun c7 => ?_)
                  · refine x_iincN (lv' := [_, _]) (b := 1) hC dX3_statement_123 rfl (by decide) (by decide) rfl ?_
                    refine x_goto (tgt := 100) hC dX3_statement_126 (by decide) ?_
                    have hl1 : (acc ++ [x]).length = acc.length + 1 := by simp
                    have := ih (acc ++ [x]) s4 M V4 (by omega) (by omega) g1 ht4 (fun q hq => (hV4 q hq).trans (hV3 q hq)) (h64.trans h6) (e4.trans h4) (e5.trans h5) hp (hm4.to rfl (by rw [up_up, va_up_s]; congr 1; exact lay_snoc)) hF
                    rw [hl1] at this
                    exact this
                  · exact absurd c7 (by decide)
              refine x_iload_n hC dX3_statement_100 rfl rfl ?_
              refine x_iconst (v := nI 2) hC dX3_statement_101 (by decide) ?_
              refine x_icmp_ltN (tgt := 113) hC (by omega) (by omega) dX3_statement_102 (by decide) (fun c5 => ?_) (fun c5 => ?_)
              · exact samp (fun h => by omega)
              · refine x_aload_n hC dX3_statement_105 rfl rfl ?_
                refine x_get hC 19 hm.1 rfl (by decide) q2349 rfl rfl dX3_statement_106 ?_
                rw [ht3.2.2.1]
                have hc3 := tkC_lt b L s3
                refine x_iconst (v := nI 4) hC dX3_statement_109 (by decide) ?_
                refine x_icmp_eqN (tgt := 129) hC (by omega) (by omega) dX3_statement_110 (by decide) (fun c6 => ?_) (fun c6 => ?_)
                · exact endd ⟨c5, c6⟩
                · exact samp (fun h => c6 h.2)
          refine loop 65 [] s2 M V2 rfl (Nat.zero_le _) hs2 ht2 (fun q hq => hV q (by omega)) (hV 6 (by decide)) (hV 4 (by decide)) (hV 5 (by decide)) rfl (hm.to rfl (by rw [lay_nil])) hF
        · rw [if_neg (fun h => c4 (ho.mpr h))] at err hk
          refine x_aload_n hC dX3_statement_70 rfl rfl ?_
          refine x_iconst (v := 3) hC dX3_statement_71 (by decide) ?_
          refine x_callV0 (na := 1) hC (ct_fail hG hm _) (lw_V q2449 q2451 qs39 q89 q2452) hm.1 rfl rfl (by decide +kernel) rfl ⟨Nat.le_of_ble_eq_true rfl, Nat.le_of_ble_eq_true rfl⟩ rfl (Nat.le_of_ble_eq_true rfl) ⟨rfl, rfl⟩ ⟨Nat.le_of_ble_eq_true rfl, Nat.le_of_ble_eq_true rfl⟩ dX3_statement_72 ?_
          rintro _ M ⟨rfl, hm, hF1⟩
          exact x_zret hC hk dX3_statement_75 (by first | rfl | exact xB_nar) (Nat.le_of_ble_eq_true rfl) (Nat.le_of_ble_eq_true rfl) (err _ V1 (A 0) 3 s1 (hm.to rfl (by rw [up_id])) (hF.tr hF1) (fun q hq => hV1 q (by omega)) (hV1 6 (by decide)) ht1.1 rfl)
      · rw [if_neg c3] at err hk
        refine x_aload_n hC dX3_statement_43 rfl rfl ?_
        refine x_iconst (v := 1) hC dX3_statement_44 (by decide) ?_
        refine x_callV0 (na := 1) hC (ct_fail hG hm _) (lw_V q2449 q2451 qs39 q89 q2452) hm.1 rfl rfl (by decide +kernel) rfl ⟨Nat.le_of_ble_eq_true rfl, Nat.le_of_ble_eq_true rfl⟩ rfl (Nat.le_of_ble_eq_true rfl) ⟨rfl, rfl⟩ ⟨Nat.le_of_ble_eq_true rfl, Nat.le_of_ble_eq_true rfl⟩ dX3_statement_45 ?_
        rintro _ M ⟨rfl, hm, hF1⟩
        exact x_zret hC hk dX3_statement_48 (by first | rfl | exact xB_nar) (Nat.le_of_ble_eq_true rfl) (Nat.le_of_ble_eq_true rfl) (err _ V1 (A 0) 1 s1 (hm.to rfl (by rw [up_id])) (hF.tr hF1) (fun q hq => hV1 q (by omega)) (hV1 6 (by decide)) ht1.1 rfl)
    · rw [if_pos c2] at err hk
      refine x_aload_n hC dX3_statement_24 rfl rfl ?_
      refine x_iconst (v := 4) hC dX3_statement_25 (by decide) ?_
      refine x_callV0 (na := 1) hC (ct_fail hG hm _) (lw_V q2449 q2451 qs39 q89 q2452) hm.1 rfl rfl (by decide +kernel) rfl ⟨Nat.le_of_ble_eq_true rfl, Nat.le_of_ble_eq_true rfl⟩ rfl (Nat.le_of_ble_eq_true rfl) ⟨rfl, rfl⟩ ⟨Nat.le_of_ble_eq_true rfl, Nat.le_of_ble_eq_true rfl⟩ dX3_statement_26 ?_
      rintro _ M ⟨rfl, hm, hF1⟩
      exact x_zret hC hk dX3_statement_29 (by first | rfl | exact xB_nar) (Nat.le_of_ble_eq_true rfl) (Nat.le_of_ble_eq_true rfl) (err _ V (A 0) 4 s (hm.to rfl (by rw [up_id])) (hF.tr hF1) (fun q hq => rfl) rfl ht.1 rfl)
  · rw [if_neg c1] at err hk
    refine x_aload_n hC dX3_statement_7 rfl rfl ?_
    refine x_iconst (v := 1) hC dX3_statement_8 (by decide) ?_
    refine x_callV0 (na := 1) hC (ct_fail hG hm _) (lw_V q2449 q2451 qs39 q89 q2452) hm.1 rfl rfl (by decide +kernel) rfl ⟨Nat.le_of_ble_eq_true rfl, Nat.le_of_ble_eq_true rfl⟩ rfl (Nat.le_of_ble_eq_true rfl) ⟨rfl, rfl⟩ ⟨Nat.le_of_ble_eq_true rfl, Nat.le_of_ble_eq_true rfl⟩ dX3_statement_9 ?_
    rintro _ M ⟨rfl, hm, hF1⟩
    exact x_zret hC hk dX3_statement_12 (by first | rfl | exact xB_nar) (Nat.le_of_ble_eq_true rfl) (Nat.le_of_ble_eq_true rfl) (err _ V (A 0) 1 s (hm.to rfl (by rw [up_id])) (hF.tr hF1) (fun q hq => rfl) rfl ht.1 rfl)
end M9

