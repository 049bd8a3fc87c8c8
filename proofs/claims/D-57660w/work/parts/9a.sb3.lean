/-! ===== StringBuilder.toString, the builder of a string ===== -/
section SBT
variable {G : X_G} {M : X_M} {g q cap s : Nat} {w : List Nat}
theorem ct_strAB (hG : GOK G) (hg : g ≠ 0) (h : SBM M g q cap w) (hcap : cap ≤ 65536) (hw : w.length ≤ 1000) {g2 : Nat} (hg2 : g2 ≠ 0) (hs : M s = some (ob g2 13 [.null, .int 0, .int 0, .int 0])) : Ct G yJ14_init_2 cJ14_init_2 5 none (xrm 4 1 w.length) [.ref s, .ref q, .null] M (fun r M' => r = none ∧ ∃ b u, M' b = some (ba g2 w.length u) ∧ M' s = some (ob g2 13 [.ref b, .int 0, .int 0, .int 0]) ∧ Fr (fun g' => g' = g2) M M' ∧ ∀ (k c : Nat), w[k]? = some c → u k = sb_b c) := by
  obtain ⟨v, f, h1, h2, h3, h4, h5, h6⟩ := id h
  refine ct_open (lv := [_, _, _, _, _]) hG (by decide +kernel) (Nat.le_of_ble_eq_true rfl) rfl (fun C hC hk => ?_)
  obtain ⟨M0, hM0⟩ : ∃ M0, M0 = M := ⟨M, rfl⟩
  rw [← hM0] at hk
  have hF : Fm M0 M := by rw [hM0]; exact Fr.rf
  subst hM0
  refine x_aload_n hC dJ14_init_2_0 rfl rfl ?_
  refine x_objInit hC q416 q132 q133 dJ14_init_2_1 (Nat.le_of_ble_eq_true rfl) ⟨Nat.le_of_ble_eq_true rfl, Nat.le_of_ble_eq_true rfl⟩ ?_
  refine x_aload_n hC dJ14_init_2_4 rfl rfl ?_
  refine x_callU0 (owner := "java/lang/AbstractStringBuilder") (na := 0) hC (ct_abVal hG h1) q417 q419 q420 q418 q98 q421 rfl h1 rfl (by decide +kernel) rfl ⟨Nat.le_of_ble_eq_true rfl, Nat.le_of_ble_eq_true rfl⟩ rfl (Nat.le_of_ble_eq_true rfl) ⟨rfl, rfl⟩ ⟨Nat.zero_le _, Nat.zero_le _⟩ dJ14_init_2_5 ?_
  rintro _ M ⟨rfl, rfl⟩
  refine x_astore_n (lv' := [_, _, _, _, _]) hC dJ14_init_2_8 rfl (by decide) rfl ?_
  refine x_aload_n hC dJ14_init_2_9 rfl rfl ?_
  refine x_callO0 (na := 0) hC (ct_sbLen hG h) q422 q424 q425 q426 q99 q427 q423 q429 h1 rfl (by decide +kernel) rfl ⟨Nat.le_of_ble_eq_true rfl, Nat.le_of_ble_eq_true rfl⟩ rfl (Nat.le_of_ble_eq_true rfl) ⟨rfl, rfl⟩ ⟨Nat.zero_le _, Nat.zero_le _⟩ dJ14_init_2_10 ?_
  rintro _ M ⟨rfl, rfl⟩
  refine x_istore (lv' := [_, _, _, _, _]) hC dJ14_init_2_13 (by decide) rfl ?_
  refine x_aload_n hC dJ14_init_2_15 rfl rfl ?_
  refine x_callU0 (owner := "java/lang/AbstractStringBuilder") (na := 0) hC (ct_abLat hG h1) q430 q353 q354 q352 q98 q355 rfl h1 rfl (by decide +kernel) rfl ⟨Nat.le_of_ble_eq_true rfl, Nat.le_of_ble_eq_true rfl⟩ rfl (Nat.le_of_ble_eq_true rfl) ⟨rfl, rfl⟩ ⟨Nat.zero_le _, Nat.zero_le _⟩ dJ14_init_2_16 ?_
  rintro _ M ⟨rfl, rfl⟩
  refine x_if_eq (tgt := 41) hC dJ14_init_2_19 (by decide) (fun c => ?_) (fun c => ?_)
  · exact absurd c (by decide)
  · refine x_aload_n hC dJ14_init_2_22 rfl rfl ?_
    refine x_iconst (v := 0) hC dJ14_init_2_23 (by decide) ?_
    refine x_putF hC 1 hs hg2 rfl (by decide) q599 rfl rfl rfl rfl rfl rfl rfl (show 1 < 4 by decide) (fs' := [.null, .int 0, .int 0, .int 0]) rfl dJ14_init_2_24 ?_
    have hsq : s ≠ q := fun e => by rw [e, h1] at hs; cases hs
    have hsv : s ≠ v := fun e => by rw [e, h2] at hs; cases hs
    have h2' := mu_o (e := ob g2 13 [.null, .int 0, .int 0, .int 0]) (Ne.symm hsv) h2
    refine x_aload_n hC dJ14_init_2_27 rfl rfl ?_
    refine x_aload_n hC dJ14_init_2_28 rfl rfl ?_
    refine x_iconst (v := 0) hC dJ14_init_2_29 (by decide) ?_
    refine x_iload hC dJ14_init_2_30 rfl ?_
    refine x_callS (k := 1) (n := w.length) (na := 3) hC (ct_copyR hG hg2 h2' h4 h3 hcap) (lw_S q431 q432 q104 q433) (by decide +kernel) rfl ⟨Nat.le_of_ble_eq_true rfl, Nat.le_of_ble_eq_true rfl⟩ rfl (Nat.le_of_ble_eq_true rfl) (Nat.le_refl 1) (show 0 + w.length ≤ w.length by omega) ⟨Nat.le_refl _, Nat.le_refl _⟩ dJ14_init_2_32 ?_
    rintro _ _ ⟨b, u, rfl, hb, rfl, hu, hu2⟩
    have hbs : b ≠ s := fun e => by rw [e, mu_s] at hb; cases hb
    have hF1 : Fr (fun g' => g' = g2) M (mu M s (ob g2 13 [.null, .int 0, .int 0, .int 0])) := Fr.set hs rfl
    have hF2 : Fr (fun g' => g' = g2) (mu M s (ob g2 13 [.null, .int 0, .int 0, .int 0])) (mu (mu M s (ob g2 13 [.null, .int 0, .int 0, .int 0])) b (ba g2 w.length u)) := Fr.new hb
    have hs2 := mu_f (e := ba g2 w.length u) hb mu_s
    refine x_putF hC 0 hs2 hg2 rfl (by decide) q598 rfl rfl rfl rfl rfl rfl rfl (show 0 < 4 by decide) (fs' := [.ref b, .int 0, .int 0, .int 0]) rfl dJ14_init_2_35 ?_
    refine x_goto (tgt := 97) hC dJ14_init_2_38 (by decide) ?_
    exact x_vret hC hk dJ14_init_2_97 (Nat.le_refl _) (Nat.le_refl _) ⟨rfl, b, u, mu_o hbs mu_s, mu_s, (hF1.tr hF2).tr (Fr.set hs2 rfl), fun k c hc => by rw [hu2 k (List.getElem?_eq_some_iff.mp hc).1]; exact h5 k c hc⟩
theorem ct_strSB (hG : GOK G) (hg : g ≠ 0) (h : SBM M g q cap w) (hcap : cap ≤ 65536) (hw : w.length ≤ 1000) {g2 : Nat} (hg2 : g2 ≠ 0) (hs : M s = some (ob g2 13 [.null, .int 0, .int 0, .int 0])) : Ct G yJ14_init cJ14_init 2 none (xrm 5 1 w.length) [.ref s, .ref q] M (fun r M' => r = none ∧ ∃ b u, M' b = some (ba g2 w.length u) ∧ M' s = some (ob g2 13 [.ref b, .int 0, .int 0, .int 0]) ∧ Fr (fun g' => g' = g2) M M' ∧ ∀ (k c : Nat), w[k]? = some c → u k = sb_b c) := by
  refine ct_open (lv := [_, _]) hG (by decide +kernel) (Nat.le_of_ble_eq_true rfl) rfl (fun C hC hk => ?_)
  refine x_aload_n hC dJ14_init_0 rfl rfl ?_
  refine x_aload_n hC dJ14_init_1 rfl rfl ?_
  refine x_null hC dJ14_init_2 ?_
  refine x_callI (k := 1) (n := w.length) (na := 2) hC (ct_strAB hG hg h hcap hw hg2 hs) q415 q100 q413 q414 rfl (by decide +kernel) rfl ⟨Nat.le_of_ble_eq_true rfl, Nat.le_of_ble_eq_true rfl⟩ rfl (Nat.le_of_ble_eq_true rfl) (Nat.le_refl 1) (show 0 + w.length ≤ w.length by omega) ⟨Nat.le_refl _, Nat.le_refl _⟩ dJ14_init_3 ?_
  rintro _ M1 ⟨rfl, h9⟩
  exact x_vret hC hk dJ14_init_6 (Nat.le_refl _) (Nat.le_refl _) ⟨rfl, h9⟩
theorem ct_sbStr (hG : GOK G) (hg : g ≠ 0) (h : SBM M g q cap w) (hcap : cap ≤ 65536) (hw : w.length ≤ 1000) : Ct G yJ13_toString cJ13_toString 1 (some (.object "java/lang/String")) (xrm 6 2 (4 + w.length)) [.ref q] M (fun r M' => ∃ s, r = some (.ref s) ∧ M s = none ∧ SM M' s w ∧ Fr (fun g' => g' = 3) M M') := by
  obtain ⟨v, f, h1, h2, h3, h4, h5, h6⟩ := id h
  refine ct_open (lv := [_]) hG (by decide +kernel) (Nat.le_of_ble_eq_true rfl) rfl (fun C hC hk => ?_)
  obtain ⟨M0, hM0⟩ : ∃ M0, M0 = M := ⟨M, rfl⟩
  rw [← hM0] at hk
  have hF : Fm M0 M := by rw [hM0]; exact Fr.rf
  subst hM0
  refine x_new (ci := 13) (T := TJ14) (N := 4) hC 3 [.null, .int 0, .int 0, .int 0] rfl q408 q409 q100 tyJ14 tyJ14_ok (by decide) (by decide +kernel) (show 0 + 1 ≤ 2 by omega) (show 0 + 4 ≤ 4 + w.length by omega) dJ13_toString_0 (fun s hs => ?_)
  have hF : Fr (fun _ => False) M0 (mu M0 s (ob 3 13 [.null, .int 0, .int 0, .int 0])) := Fr.new hs
  refine x_dup hC dJ13_toString_3 rfl ?_
  refine x_aload_n hC dJ13_toString_4 rfl rfl ?_
  refine x_callI (k := 2) (n := 4 + w.length) (na := 1) hC (ct_strSB hG hg (h.fr hF id) hcap hw (by decide) mu_s) q412 q100 q410 q411 rfl (by decide +kernel) rfl ⟨Nat.le_of_ble_eq_true rfl, Nat.le_of_ble_eq_true rfl⟩ rfl (Nat.le_of_ble_eq_true rfl) (Nat.le_refl 2) (Nat.le_refl _) ⟨Nat.le_refl _, Nat.le_refl _⟩ dJ13_toString_5 ?_
  rintro _ M2 ⟨rfl, b, u, hb, hs2, hF2, hu⟩
  have hbs : b ≠ s := fun e => by rw [e, hs2] at hb; cases hb
  refine x_tag 0 hs2 (by decide) ?_
  have hF3 : Fr (fun g' => g' = 3) M2 (mu M2 s (ob 0 13 [.ref b, .int 0, .int 0, .int 0])) := Fr.set hs2 rfl
  have hb3 := mu_o (e := ob 0 13 [.ref b, .int 0, .int 0, .int 0]) hbs hb
  refine x_tag 0 hb3 (by decide) ?_
  refine x_aret hC hk dJ13_toString_8 (Or.inl ⟨_, rfl⟩) (Or.inr ⟨_, rfl⟩) (Nat.le_refl _) (Nat.le_refl _) ⟨s, rfl, hs, ⟨b, 0, 0, u, mu_o (Ne.symm hbs) mu_s, mu_s, hu, hw, h6⟩, ?_⟩
  exact (((hF.wk (fun _ z => z.elim)).tr hF2).tr hF3).tr (Fr.set hb3 rfl)
end SBT

