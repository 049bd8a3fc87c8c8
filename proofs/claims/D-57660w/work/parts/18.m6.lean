/-! ===== the reference's methods that write: bytes, names, history, text ===== -/
theorem upd_upd {V : Nat → Int32} {j : Nat} {x z : Int32} : upd (upd V j x) j z = upd V j z := by
  funext q; unfold upd; split <;> rfl
theorem upd_s {V : Nat → Int32} {j : Nat} {x : Int32} : upd V j x j = x := if_pos rfl
theorem upd_n {V : Nat → Int32} {j q : Nat} {x : Int32} (h : q ≠ j) : upd V j x q = V q := if_neg h
theorem upd_id {V : Nat → Int32} {j : Nat} {x : Int32} (h : x = V j) : upd V j x = V := by
  subst h; funext q; unfold upd; split
  · next h => rw [h]
  · rfl
/-- the four bytes of a word -/
def byt (w : Int32) (i : Nat) : Int32 := us w (nI (24 - 8 * i)) &&& 255
/-- the history with its eldest state thrown away -/
def hsh (f : Nat → Int32) (i : Nat) : Nat → Int32 := fun q => if q + 433 < i then f (q + 433) else f q
theorem hsh_up {f : Nat → Int32} {i : Nat} (h : 433 ≤ i) : upd (hsh f i) (i - 433) (hsh f i i) = hsh f (i + 1) := by
  funext q
  show (if q = i - 433 then (if i + 433 < i then f (i + 433) else f i) else (if q + 433 < i then f (q + 433) else f q)) = if q + 433 < i + 1 then f (q + 433) else f q
  by_cases hq : q = i - 433
  · rw [if_pos hq, if_neg (show ¬ i + 433 < i by omega), if_pos (show q + 433 < i + 1 by omega), show q + 433 = i by omega]
  · rw [if_neg hq]
    by_cases h2 : q + 433 < i
    · rw [if_pos h2, if_pos (show q + 433 < i + 1 by omega)]
    · rw [if_neg h2, if_neg (show ¬ q + 433 < i + 1 by omega)]
/-- the history behind one more state -/
def rmb (h s : Nat → Int32) (e : Nat) : Nat → Int32 := if e = 8 then pot (hsh h 3464) s (433 * 7) 433 else pot h s (433 * e) 433
/-- the archive behind one more name, not counted yet -/
def pnm (f b : Nat → Int32) (N fr L : Nat) : Nat → Int32 := pot (upd (fil f (fun _ => 0) (1 + 72 * N) (1 + 72 * N + 72)) (1 + 72 * N) (nI L)) (fun i => b (fr + i)) (1 + 72 * N + 1) L
section M6
variable {G : X_G} {M : X_M} {m : Nat} {P : Nat → Nat} {V : Nat → Int32} {A : Nat → Nat → Int32}
theorem ct_take (hG : GOK G) (hm : Mdl M m P V A) (w : Int32) {L : Nat} (hL : V 2 = nI L) (hL9 : L + 4 ≤ 900) : Ct G yX3_take cX3_take 3 none (xrm 1 0 0) [.ref m, .int w] M (Po none M m P (upd V 2 (nI (L + 4))) (va_up A 4 (pot (A 4) (byt w) L 4))) := by
  refine ct_open (lv := [_, _, _]) hG (by decide +kernel) (Nat.le_of_ble_eq_true rfl) rfl (fun C hC hk => ?_)
  have hF : Fm M M := Fr.rf
  refine x_bipush (v := nI 24) hC dX3_take_0 (by decide) ?_
  refine x_istore_n (lv' := [_, _, _]) hC dX3_take_2 rfl (by decide) rfl ?_
  refine x_iload_n hC dX3_take_3 rfl rfl ?_
  have step : ∀ i M1, i < 4 → Mdl M1 m P (upd V 2 (nI (L + i))) (va_up A 4 (pot (A 4) (byt w) L i)) → Fm M M1 → (∀ M2, Mdl M2 m P (upd V 2 (nI (L + (i + 1)))) (va_up A 4 (pot (A 4) (byt w) L (i + 1))) → Fm M M2 → Wg G C M2 0 0 33 [some (.ref m), some (.int w), some (.int (nI (24 - 8 * i)))] []) → Wg G C M1 0 0 7 [some (.ref m), some (.int w), some (.int (nI (24 - 8 * i)))] [] := by
    intro i M hi hm hF k
    refine x_aload_n hC dX3_take_7 rfl rfl ?_
    refine x_get hC 5 hm.1 rfl (by decide) q2335 rfl rfl dX3_take_8 ?_
    refine x_aload_n hC dX3_take_11 rfl rfl ?_
    refine x_get hC 12 hm.1 rfl (by decide) q2342 rfl rfl dX3_take_12 ?_
    rw [show upd V 2 (nI (L + i)) 2 = nI (L + i) from upd_s]
    refine x_iload_n hC dX3_take_15 rfl rfl ?_
    refine x_iload_n hC dX3_take_16 rfl rfl ?_
    refine x_iushr hC dX3_take_17 rfl ?_
    refine x_sipush (v := 255) hC dX3_take_18 (by decide) ?_
    refine x_iand hC dX3_take_21 ?_
    refine x_miastN hC hm 4 (by decide) (show _ < 900 from (by omega)) (by decide) dX3_take_22 (fun M hm hF1 => ?_)
    have hF := hF.tr hF1
    refine x_aload_n hC dX3_take_23 rfl rfl ?_
    refine x_dup hC dX3_take_24 rfl ?_
    refine x_get hC 12 hm.1 rfl (by decide) q2342 rfl rfl dX3_take_25 ?_
    rw [show upd V 2 (nI (L + i)) 2 = nI (L + i) from upd_s]
    refine x_iconst (v := nI 1) hC dX3_take_28 (by decide) ?_
    refine x_iaddN hC dX3_take_29 ?_
    refine x_mput hC hm 12 2 (by decide) q2342 rfl rfl rfl rfl rfl rfl dX3_take_30 (fun M hm hF1 => ?_)
    have hF := hF.tr hF1
    exact k M (hm.to (by rw [upd_upd]; rfl) (by rw [up_up]; congr 1; exact pot_up (by rfl))) hF
  refine x_if_ltN (tgt := 39) hC (by omega) dX3_take_4 (by decide) (fun c0 => ?_) (fun c0 => ?_)
  · exact absurd c0 (by omega)
  refine step 0 M (by omega) (hm.to (upd_id hL.symm).symm (by rw [pot_0, up_id])) hF (fun M hm hF => ?_)
  refine x_iincM (lv' := [_, _, _]) (b := 8) hC dX3_take_33 rfl (by decide) (by decide) (by decide) rfl ?_
  refine x_goto (tgt := 3) hC dX3_take_36 (by decide) ?_
  refine x_iload_n hC dX3_take_3 rfl rfl ?_
  refine x_if_ltN (tgt := 39) hC (by omega) dX3_take_4 (by decide) (fun c1 => ?_) (fun c1 => ?_)
  · exact absurd c1 (by omega)
  refine step 1 M (by omega) hm hF (fun M hm hF => ?_)
  refine x_iincM (lv' := [_, _, _]) (b := 8) hC dX3_take_33 rfl (by decide) (by decide) (by decide) rfl ?_
  refine x_goto (tgt := 3) hC dX3_take_36 (by decide) ?_
  refine x_iload_n hC dX3_take_3 rfl rfl ?_
  refine x_if_ltN (tgt := 39) hC (by omega) dX3_take_4 (by decide) (fun c2 => ?_) (fun c2 => ?_)
  · exact absurd c2 (by omega)
  refine step 2 M (by omega) hm hF (fun M hm hF => ?_)
  refine x_iincM (lv' := [_, _, _]) (b := 8) hC dX3_take_33 rfl (by decide) (by decide) (by decide) rfl ?_
  refine x_goto (tgt := 3) hC dX3_take_36 (by decide) ?_
  refine x_iload_n hC dX3_take_3 rfl rfl ?_
  refine x_if_ltN (tgt := 39) hC (by omega) dX3_take_4 (by decide) (fun c3 => ?_) (fun c3 => ?_)
  · exact absurd c3 (by omega)
  refine step 3 M (by omega) hm hF (fun M hm hF => ?_)
  refine x_iinc (lv' := [_, _, _]) (v := -8) hC dX3_take_33 rfl (by decide) (by decide) rfl ?_
  refine x_goto (tgt := 3) hC dX3_take_36 (by decide) ?_
  refine x_iload_n hC dX3_take_3 rfl rfl ?_
  refine x_if_lt (tgt := 39) hC dX3_take_4 (by decide) (fun c4 => ?_) (fun c4 => ?_)
  · exact x_vret hC hk dX3_take_39 (Nat.le_of_ble_eq_true rfl) (Nat.le_of_ble_eq_true rfl) ⟨rfl, hm, hF⟩
  · exact absurd (show nI (24 - 8 * 3) + -8 < 0 by decide) c4
theorem ct_fail (hG : GOK G) (hm : Mdl M m P V A) (x : Int32) : Ct G yX3_fail cX3_fail 2 (some .boolean) (xrm 1 0 0) [.ref m, .int x] M (Po (some (.int 0)) M m P (upd (upd V 4 x) 5 (V 7)) A) := by
  refine ct_open (lv := [_, _]) hG (by decide +kernel) (Nat.le_of_ble_eq_true rfl) rfl (fun C hC hk => ?_)
  have hF : Fm M M := Fr.rf
  refine x_aload_n hC dX3_fail_0 rfl rfl ?_
  refine x_iload_n hC dX3_fail_1 rfl rfl ?_
  refine x_mput hC hm 14 4 (by decide) q2344 rfl rfl rfl rfl rfl rfl dX3_fail_2 (fun M hm hF1 => ?_)
  have hF := hF.tr hF1
  refine x_aload_n hC dX3_fail_5 rfl rfl ?_
  refine x_aload_n hC dX3_fail_6 rfl rfl ?_
  refine x_get hC 17 hm.1 rfl (by decide) q2347 rfl rfl dX3_fail_7 ?_
  refine x_mput hC hm 15 5 (by decide) q2345 rfl rfl rfl rfl rfl rfl dX3_fail_10 (fun M hm hF1 => ?_)
  have hF := hF.tr hF1
  refine x_iconst (v := 0) hC dX3_fail_13 (by decide) ?_
  exact x_zret hC hk dX3_fail_14 (by first | rfl | exact xB_nar) (Nat.le_of_ble_eq_true rfl) (Nat.le_of_ble_eq_true rfl) ⟨rfl, hm, hF⟩
theorem ct_putName (hG : GOK G) (hm : Mdl M m P V A) {fr L N : Nat} (hN : A 0 0 = nI N) (hN6 : N < 6) (hL : L ≤ 6) (hfr : fr + L ≤ 900) : Ct G yX3_putName cX3_putName 5 none (xrm 2 0 0) [.ref m, .int (nI fr), .int (nI L)] M (Po none M m P V (va_up A 0 (pnm (A 0) (A 4) N fr L))) := by
  refine ct_open (lv := [_, _, _, _, _]) hG (by decide +kernel) (Nat.le_of_ble_eq_true rfl) rfl (fun C hC hk => ?_)
  have hF : Fm M M := Fr.rf
  refine x_aload_n hC dX3_putName_0 rfl rfl ?_
  refine x_get hC 0 hm.1 rfl (by decide) q2330 rfl rfl dX3_putName_1 ?_
  refine x_iconst (v := nI 0) hC dX3_putName_4 (by decide) ?_
  refine x_ialdN hC (hm.arr 0 (by decide)) (show _ < 433 from (by omega)) (by decide) dX3_putName_5 ?_
  rw [hN]
  refine x_callS0 (na := 1) hC (ct_row hG _ _) (lw_S q2457 q2458 q89 q2459) (by decide +kernel) rfl ⟨Nat.le_of_ble_eq_true rfl, Nat.le_of_ble_eq_true rfl⟩ rfl (Nat.le_of_ble_eq_true rfl) ⟨rfl, rfl⟩ ⟨Nat.le_of_ble_eq_true rfl, Nat.le_of_ble_eq_true rfl⟩ dX3_putName_6 ?_
  rintro _ M ⟨rfl, rfl⟩
  refine x_istore_n (lv' := [_, _, _, _, _]) hC dX3_putName_9 rfl (by decide) rfl ?_
  refine x_aload_n hC dX3_putName_10 rfl rfl ?_
  refine x_iload_n hC dX3_putName_11 rfl rfl ?_
  refine x_bipush (v := nI 72) hC dX3_putName_12 (by decide) ?_
  refine x_callV0 (na := 2) hC (ct_wipe hG hm (a := 1 + 72 * N) (n := 72) (by omega)) (lw_V q2425 q2427 qs33 q89 q2428) hm.1 rfl rfl (by decide +kernel) rfl ⟨Nat.le_of_ble_eq_true rfl, Nat.le_of_ble_eq_true rfl⟩ rfl (Nat.le_of_ble_eq_true rfl) ⟨rfl, rfl⟩ ⟨Nat.le_of_ble_eq_true rfl, Nat.le_of_ble_eq_true rfl⟩ dX3_putName_14 ?_
  rintro _ M ⟨rfl, hm, hF1⟩
  have hF := hF.tr hF1
  refine x_aload_n hC dX3_putName_17 rfl rfl ?_
  refine x_get hC 0 hm.1 rfl (by decide) q2330 rfl rfl dX3_putName_18 ?_
  refine x_iload_n hC dX3_putName_21 rfl rfl ?_
  refine x_iload_n hC dX3_putName_22 rfl rfl ?_
  refine x_miastN hC hm 0 (by decide) (show _ < 433 from (by omega)) (by decide) dX3_putName_23 (fun M hm hF1 => ?_)
  have hF := hF.tr hF1
  refine x_iconst (v := nI 0) hC dX3_putName_24 (by decide) ?_
  refine x_istore (lv' := [_, _, _, _, _]) hC dX3_putName_25 (by decide) rfl ?_
  rw [up_up, va_up_s] at hm
  refine x_up (n := L) (I := fun k => ∀ M1, Mdl M1 m P V (va_up A 0 (pot (upd (fil (A 0) (fun _ => 0) (1 + 72 * N) (1 + 72 * N + 72)) (1 + 72 * N) (nI L)) (fun i => A 4 (fr + i)) (1 + 72 * N + 1) k)) → Fm _ M1 → Wg G C M1 0 0 27 [some (.ref m), some (.int (nI fr)), some (.int (nI L)), some (.int (nI (1 + 72 * N))), some (.int (nI k))] []) (fun k hk2 ih M hm hF => ?_) 0 (Nat.zero_le _) M (hm.to rfl (by rw [pot_0])) hF
  refine x_iload hC dX3_putName_27 rfl ?_
  refine x_iload_n hC dX3_putName_29 rfl rfl ?_
  refine x_icmp_geN (tgt := 59) hC (by omega) (by omega) dX3_putName_30 (by decide) (fun c1 => ?_) (fun c1 => ?_)
  · exact x_vret hC hk dX3_putName_59 (Nat.le_of_ble_eq_true rfl) (Nat.le_of_ble_eq_true rfl) ⟨rfl, hm.to rfl (by rw [show k = L by omega]; rfl), hF⟩
  · refine x_aload_n hC dX3_putName_33 rfl rfl ?_
    refine x_get hC 0 hm.1 rfl (by decide) q2330 rfl rfl dX3_putName_34 ?_
    refine x_iload_n hC dX3_putName_37 rfl rfl ?_
    refine x_iconst (v := nI 1) hC dX3_putName_38 (by decide) ?_
    refine x_iaddN hC dX3_putName_39 ?_
    refine x_iload hC dX3_putName_40 rfl ?_
    refine x_iaddN hC dX3_putName_42 ?_
    refine x_aload_n hC dX3_putName_43 rfl rfl ?_
    refine x_get hC 5 hm.1 rfl (by decide) q2335 rfl rfl dX3_putName_44 ?_
    refine x_iload_n hC dX3_putName_47 rfl rfl ?_
    refine x_iload hC dX3_putName_48 rfl ?_
    refine x_iaddN hC dX3_putName_50 ?_
    refine x_ialdN hC (hm.arr 4 (by decide)) (show _ < 900 from (by omega)) (by decide) dX3_putName_51 ?_
    refine x_miastN hC hm 0 (by decide) (show _ < 433 from (by omega)) (by decide) dX3_putName_52 (fun M hm hF1 => ?_)
    have hF := hF.tr hF1
    refine x_iincN (lv' := [_, _, _, _, _]) (b := 1) hC dX3_putName_53 rfl (by decide) (by decide) rfl ?_
    refine x_goto (tgt := 27) hC dX3_putName_56 (by decide) ?_
    exact ih c1 _ (hm.to rfl (by rw [up_up]; congr 1; rw [va_up_s]; exact pot_up (g := fun i => A 4 (fr + i)) rfl)) hF
theorem ct_remember (hG : GOK G) (hm : Mdl M m P V A) {e : Nat} (he : V 1 = nI e) (he8 : e ≤ 8) : Ct G yX3_remember cX3_remember 2 none (xrm 1 0 0) [.ref m] M (Po none M m P (upd V 1 (nI (if e = 8 then 8 else e + 1))) (va_up A 2 (rmb (A 2) (A 0) e))) := by
  refine ct_open (lv := [_, _]) hG (by decide +kernel) (Nat.le_of_ble_eq_true rfl) rfl (fun C hC hk => ?_)
  have hF : Fm M M := Fr.rf
  have tail : ∀ (M1 : X_M) (e1 : Nat) (f : Nat → Int32), e1 ≤ 7 → Mdl M1 m P (upd V 1 (nI e1)) (va_up A 2 f) → Fm M M1 → (∀ M2, Mdl M2 m P (upd V 1 (nI (e1 + 1))) (va_up A 2 (pot f (A 0) (433 * e1) 433)) → Fm M M2 → Po none M m P (upd V 1 (nI (if e = 8 then 8 else e + 1))) (va_up A 2 (rmb (A 2) (A 0) e)) none M2) → ∀ w1, Wg G C M1 0 0 52 [some (.ref m), w1] [] := by
    intro M1 e1 f he1 hm hF hfin w1
    refine x_iconst (v := nI 0) hC dX3_remember_52 (by decide) ?_
    refine x_istore_n (lv' := [_, _]) hC dX3_remember_53 rfl (by decide) rfl ?_
    refine x_up (n := 433) (I := fun k => ∀ M1, Mdl M1 m P (upd V 1 (nI e1)) (va_up A 2 (pot f (A 0) (433 * e1) k)) → Fm M M1 → Wg G C M1 0 0 54 [some (.ref m), some (.int (nI k))] []) (fun k hk2 ih M hm hF => ?_) 0 (Nat.zero_le _) M1 (hm.to rfl (by rw [pot_0])) hF
    refine x_iload_n hC dX3_remember_54 rfl rfl ?_
    refine x_sipush (v := nI 433) hC dX3_remember_55 (by decide) ?_
    refine x_icmp_geN (tgt := 88) hC (by omega) (by omega) dX3_remember_58 (by decide) (fun c1 => ?_) (fun c1 => ?_)
    · refine x_aload_n hC dX3_remember_88 rfl rfl ?_
      refine x_dup hC dX3_remember_89 rfl ?_
      refine x_get hC 11 hm.1 rfl (by decide) q2341 rfl rfl dX3_remember_90 ?_
      rw [show upd V 1 (nI e1) 1 = nI e1 from upd_s]
      refine x_iconst (v := nI 1) hC dX3_remember_93 (by decide) ?_
      refine x_iaddN hC dX3_remember_94 ?_
      refine x_mput hC hm 11 1 (by decide) q2341 rfl rfl rfl rfl rfl rfl dX3_remember_95 (fun M hm hF1 => ?_)
      have hF := hF.tr hF1
      exact x_vret hC hk dX3_remember_98 (Nat.le_of_ble_eq_true rfl) (Nat.le_of_ble_eq_true rfl) (hfin M (hm.to (by rw [upd_upd]) (by rw [show k = 433 by omega])) hF)
    · refine x_aload_n hC dX3_remember_61 rfl rfl ?_
      refine x_get hC 2 hm.1 rfl (by decide) q2332 rfl rfl dX3_remember_62 ?_
      refine x_sipush (v := nI 433) hC dX3_remember_65 (by decide) ?_
      refine x_aload_n hC dX3_remember_68 rfl rfl ?_
      refine x_get hC 11 hm.1 rfl (by decide) q2341 rfl rfl dX3_remember_69 ?_
      rw [show upd V 1 (nI e1) 1 = nI e1 from upd_s]
      refine x_imulN hC dX3_remember_72 ?_
      refine x_iload_n hC dX3_remember_73 rfl rfl ?_
      refine x_iaddN hC dX3_remember_74 ?_
      refine x_aload_n hC dX3_remember_75 rfl rfl ?_
      refine x_get hC 0 hm.1 rfl (by decide) q2330 rfl rfl dX3_remember_76 ?_
      refine x_iload_n hC dX3_remember_79 rfl rfl ?_
      refine x_ialdN hC (hm.arr 0 (by decide)) (show _ < 433 from (by omega)) (by decide) dX3_remember_80 ?_
      refine x_miastN hC hm 2 (by decide) (show _ < 3464 from (by omega)) (by decide) dX3_remember_81 (fun M hm hF1 => ?_)
      have hF := hF.tr hF1
      refine x_iincN (lv' := [_, _]) (b := 1) hC dX3_remember_82 rfl (by decide) (by decide) rfl ?_
      refine x_goto (tgt := 54) hC dX3_remember_85 (by decide) ?_
      exact ih c1 _ (hm.to rfl (by rw [up_up]; congr 1; exact pot_up (by rfl))) hF
  refine x_aload_n hC dX3_remember_0 rfl rfl ?_
  refine x_get hC 11 hm.1 rfl (by decide) q2341 rfl rfl dX3_remember_1 ?_
  refine x_bipush (v := nI 8) hC dX3_remember_4 (by decide) ?_
  rw [he]
  refine x_icmp_neN (tgt := 52) hC (by omega) (by omega) dX3_remember_6 (by decide) (fun c0 => ?_) (fun c0 => ?_)
  · exact tail M e (A 2) (by omega) (hm.to (upd_id he.symm).symm (by rw [up_id])) hF (fun M2 hm hF => ⟨rfl, hm.to (by rw [if_neg c0]) (by rw [rmb, if_neg c0]), hF⟩) none
  · refine x_sipush (v := nI 433) hC dX3_remember_9 (by decide) ?_
    refine x_istore_n (lv' := [_, _]) hC dX3_remember_12 rfl (by decide) rfl ?_
    have lp := x_up (n := 3464 - 433) (I := fun k => ∀ M1, Mdl M1 m P V (va_up A 2 (hsh (A 2) (433 + k))) → Fm M M1 → Wg G C M1 0 0 13 [some (.ref m), some (.int (nI (433 + k)))] []) (fun k hk2 ih M1 hm hF => ?_) 0 (Nat.zero_le _) M (hm.to rfl (by
      rw [show hsh (A 2) (433 + 0) = A 2 from funext fun q => if_neg (by omega), up_id])) hF
    · exact lp
    · refine x_iload_n hC dX3_remember_13 rfl rfl ?_
      refine x_sipush (v := nI 3464) hC dX3_remember_14 (by decide) ?_
      refine x_icmp_geN (tgt := 42) hC (by omega) (by omega) dX3_remember_17 (by decide) (fun c1 => ?_) (fun c1 => ?_)
      · refine x_aload_n hC dX3_remember_42 rfl rfl ?_
        refine x_dup hC dX3_remember_43 rfl ?_
        refine x_get hC 11 hm.1 rfl (by decide) q2341 rfl rfl dX3_remember_44 ?_
        rw [he, c0]
        refine x_iconst (v := nI 1) hC dX3_remember_47 (by decide) ?_
        refine x_isubN hC dX3_remember_48 (by decide) ?_
        refine x_mput hC hm 11 1 (by decide) q2341 rfl rfl rfl rfl rfl rfl dX3_remember_49 (fun M hm hF1 => ?_)
        have hF := hF.tr hF1
        refine tail M 7 (hsh (A 2) 3464) (by omega) (hm.to (by rw [show (8 - 1 : Nat) = 7 from rfl]) (by rw [show 433 + k = 3464 by omega])) hF (fun M2 hm hF => ⟨rfl, hm.to (by rw [if_pos c0]) (by rw [rmb, if_pos c0]), hF⟩) _
      · refine x_aload_n hC dX3_remember_20 rfl rfl ?_
        refine x_get hC 2 hm.1 rfl (by decide) q2332 rfl rfl dX3_remember_21 ?_
        refine x_iload_n hC dX3_remember_24 rfl rfl ?_
        refine x_sipush (v := nI 433) hC dX3_remember_25 (by decide) ?_
        refine x_isubN hC dX3_remember_28 (by omega) ?_
        refine x_aload_n hC dX3_remember_29 rfl rfl ?_
        refine x_get hC 2 hm.1 rfl (by decide) q2332 rfl rfl dX3_remember_30 ?_
        refine x_iload_n hC dX3_remember_33 rfl rfl ?_
        refine x_ialdN hC (hm.arr 2 (by decide)) (show _ < 3464 from (by omega)) (by decide) dX3_remember_34 ?_
        refine x_miastN hC hm 2 (by decide) (show _ < 3464 from (by omega)) (by decide) dX3_remember_35 (fun M hm hF1 => ?_)
        have hF := hF.tr hF1
        refine x_iincN (lv' := [_, _]) (b := 1) hC dX3_remember_36 rfl (by decide) (by decide) rfl ?_
        refine x_goto (tgt := 13) hC dX3_remember_39 (by decide) ?_
        exact ih (by omega) _ (hm.to rfl (by rw [up_up]; congr 1; exact hsh_up (by omega))) hF
theorem ct_write (hG : GOK G) (hm : Mdl M m P V A) (x : Int32) {L : Nat} (hL : V 3 = nI L) (hL9 : L < 1000) : Ct G yX3_write cX3_write 2 none (xrm 1 0 0) [.ref m, .int x] M (Po none M m P (upd V 3 (nI (L + 1))) (va_up A 5 (upd (A 5) L x))) := by
  refine ct_open (lv := [_, _]) hG (by decide +kernel) (Nat.le_of_ble_eq_true rfl) rfl (fun C hC hk => ?_)
  have hF : Fm M M := Fr.rf
  refine x_aload_n hC dX3_write_0 rfl rfl ?_
  refine x_get hC 6 hm.1 rfl (by decide) q2336 rfl rfl dX3_write_1 ?_
  refine x_aload_n hC dX3_write_4 rfl rfl ?_
  refine x_get hC 13 hm.1 rfl (by decide) q2343 rfl rfl dX3_write_5 ?_
  rw [hL]
  refine x_iload_n hC dX3_write_8 rfl rfl ?_
  refine x_miastN hC hm 5 (by decide) (show _ < 1000 from (by omega)) (by decide) dX3_write_9 (fun M hm hF1 => ?_)
  have hF := hF.tr hF1
  refine x_aload_n hC dX3_write_10 rfl rfl ?_
  refine x_dup hC dX3_write_11 rfl ?_
  refine x_get hC 13 hm.1 rfl (by decide) q2343 rfl rfl dX3_write_12 ?_
  rw [hL]
  refine x_iconst (v := nI 1) hC dX3_write_15 (by decide) ?_
  refine x_iaddN hC dX3_write_16 ?_
  refine x_mput hC hm 13 3 (by decide) q2343 rfl rfl rfl rfl rfl rfl dX3_write_17 (fun M hm hF1 => ?_)
  have hF := hF.tr hF1
  exact x_vret hC hk dX3_write_20 (Nat.le_of_ble_eq_true rfl) (Nat.le_of_ble_eq_true rfl) ⟨rfl, hm, hF⟩
end M6

