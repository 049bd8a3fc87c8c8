/-! ===== the reference's methods that only read: sums, searches ===== -/
theorem nI_xor (a b : Nat) : nI a ^^^ nI b = nI (a ^^^ b) := by
  apply Int32.toBitVec_inj.mp
  show (BitVec.ofNat 32 a) ^^^ (BitVec.ofNat 32 b) = BitVec.ofNat 32 (a ^^^ b)
  rw [BitVec.ofNat_xor]
def sq (x : Int32) : Int64 := x.toInt64 * x.toInt64
/-- the last place of the greatest of the first k, earlier ones first -/
def amx (lt : Nat → Nat → Bool) : Nat → Nat
  | 0 => 0
  | k + 1 => if lt (amx lt k) k = true then k else amx lt k
theorem amx_le (lt : Nat → Nat → Bool) : ∀ k, amx lt k ≤ k - 1
  | 0 => Nat.le_refl 0
  | k + 1 => by
    unfold amx
    split
    · exact Nat.le_refl k
    · exact Nat.le_trans (amx_le lt k) (Nat.sub_le k 1)
theorem amx_lt {lt : Nat → Nat → Bool} {k : Nat} (h : 0 < k) : amx lt k < k := by
  have := amx_le lt k
  omega
def optI (o : Option Nat) : Int32 := match o with
  | none => -1
  | some b => nI b
/-- the first of d places from k on that has the property -/
def fstI (p : Nat → Prop) [DecidablePred p] : Nat → Nat → Option Nat
  | 0, _ => none
  | d + 1, k => if p k then some k else fstI p d (k + 1)
def sgF (g : Nat → Int32) : Nat → Int32 × Int32
  | 0 => (0, 0)
  | k + 1 => ((sgF g k).1 + xB ((g k < 0 ∧ 0 < (sgF g k).2) ∨ (0 < g k ∧ (sgF g k).2 < 0)), if g k = 0 then (sgF g k).2 else g k)
def mxA (g : Nat → Int32) : Nat → Int32
  | 0 => 0
  | k + 1 => imax (mxA g k) (iabs (g k))
def nrs (al : Nat → Prop) [DecidablePred al] (ap : Nat → Int32) : Nat → Option Nat
  | 0 => none
  | k + 1 => if al k then (match nrs al ap k with
    | none => some k
    | some b => if ap k < ap b then some k else some b) else nrs al ap k
theorem nrs_lt {al : Nat → Prop} [DecidablePred al] {ap : Nat → Int32} : ∀ {k b : Nat}, nrs al ap k = some b → b < k ∧ al b
  | 0, b, h => by cases h
  | k + 1, b, h => by
    unfold nrs at h
    split at h
    next ha =>
      cases hn : nrs al ap k with
      | none => rw [hn] at h; cases h; exact ⟨Nat.lt_succ_self k, ha⟩
      | some c =>
        rw [hn] at h
        simp only at h
        have := nrs_lt hn
        split at h <;> cases h
        · exact ⟨Nat.lt_succ_self k, ha⟩
        · exact ⟨by omega, this.2⟩
    next => have := nrs_lt h; exact ⟨by omega, this.2⟩
theorem x_lcmp {G : X_G} {C : X_C} {M : X_M} {kc ks pc nL : Nat} {lv : List (Option Value)} {rest : List Value} {y : MethodName} {cc : ByteArray} {ret : Option FieldType} {rm : Room} (hC : Cx G C y cc nL ret rm) {a b : Int64} (hdg : decode cc pc = .ok (.lcmp, 1)) (k : Wg G C M kc ks (pc + 1) lv (.int (lg_cmp a b) :: rest)) : Wg G C M kc ks pc lv (.long b :: .long a :: rest) := fun H locs ls hW hz hq hl9 => W.lcmp hC.1 hC.2.1 hdg (k H locs ls hW hz hq hl9)
section M3
variable {G : X_G} {M : X_M} {m : Nat} {P : Nat → Nat} {V : Nat → Int32} {A : Nat → Nat → Int32}
theorem ct_square (hG : GOK G) (x : Int32) (M : X_M) : Ct G yX3_square cX3_square 1 (some .long) (xrm 1 0 0) [.int x] M (Pr (.long (sq x)) M) := by
  refine ct_open (lv := [_]) hG (by decide +kernel) (Nat.le_of_ble_eq_true rfl) rfl (fun C hC hk => ?_)
  refine x_iload_n hC dX3_square_0 rfl rfl ?_
  refine x_i2l hC dX3_square_1 rfl ?_
  refine x_iload_n hC dX3_square_2 rfl rfl ?_
  refine x_i2l hC dX3_square_3 rfl ?_
  refine x_lmul hC dX3_square_4 ?_
  exact x_lret hC hk dX3_square_5 (Nat.le_of_ble_eq_true rfl) (Nat.le_of_ble_eq_true rfl) ⟨rfl, rfl⟩
theorem ct_energyOf (hG : GOK G) (hm : Mdl M m P V A) {c n : Nat} (hc : c < 6) (hn : A 0 (8 + 72 * c) = nI n) (hn6 : n ≤ 64) : Ct G yX3_energyOf cX3_energyOf 5 (some .long) (xrm 3 0 0) [.ref m, .int (nI c)] M (Pr (.long (jS (fun k => sq (A 0 (9 + 72 * c + k))) n)) M) := by
  refine ct_open (lv := [_, _, _, _, _]) hG (by decide +kernel) (Nat.le_of_ble_eq_true rfl) rfl (fun C hC hk => ?_)
  refine x_lconst (v := 0) hC dX3_energyOf_0 (by decide) ?_
  refine x_lstore_n (lv' := [_, _, _, _, _]) hC dX3_energyOf_1 rfl (by decide) rfl ?_
  refine x_iconst (v := nI 0) hC dX3_energyOf_2 (by decide) ?_
  refine x_istore (lv' := [_, _, _, _, _]) hC dX3_energyOf_3 (by decide) rfl ?_
  refine x_up (n := n) (I := fun k => Wg G C M 0 0 5 [some (.ref m), some (.int (nI c)), some (.long (jS (fun k => sq (A 0 (9 + 72 * c + k))) k)), none, some (.int (nI k))] []) (fun k hk2 ih => ?_) 0 (Nat.zero_le _)
  refine x_iload hC dX3_energyOf_5 rfl ?_
  refine x_aload_n hC dX3_energyOf_7 rfl rfl ?_
  refine x_iload_n hC dX3_energyOf_8 rfl rfl ?_
  refine x_callV0 (na := 1) hC (ct_size hG hm hc hn) (lw_V q2495 q2497 qs45 q89 q2498) hm.1 rfl rfl (by decide +kernel) rfl ⟨Nat.le_of_ble_eq_true rfl, Nat.le_of_ble_eq_true rfl⟩ rfl (Nat.le_of_ble_eq_true rfl) ⟨rfl, rfl⟩ ⟨Nat.le_of_ble_eq_true rfl, Nat.le_of_ble_eq_true rfl⟩ dX3_energyOf_9 ?_
  rintro _ M ⟨rfl, rfl⟩
  refine x_icmp_geN (tgt := 34) hC (by omega) (by omega) dX3_energyOf_12 (by decide) (fun c1 => ?_) (fun c1 => ?_)
  · refine x_lload_n hC dX3_energyOf_34 rfl rfl ?_
    exact x_lret hC hk dX3_energyOf_35 (Nat.le_of_ble_eq_true rfl) (Nat.le_of_ble_eq_true rfl) ⟨by rw [show k = n by omega], rfl⟩
  · refine x_lload_n hC dX3_energyOf_15 rfl rfl ?_
    refine x_aload_n hC dX3_energyOf_16 rfl rfl ?_
    refine x_iload_n hC dX3_energyOf_17 rfl rfl ?_
    refine x_iload hC dX3_energyOf_18 rfl ?_
    refine x_callV0 (na := 2) hC (ct_at hG hm hc (by omega)) (lw_V q2515 q2517 qs47 q89 q2518) hm.1 rfl rfl (by decide +kernel) rfl ⟨Nat.le_of_ble_eq_true rfl, Nat.le_of_ble_eq_true rfl⟩ rfl (Nat.le_of_ble_eq_true rfl) ⟨rfl, rfl⟩ ⟨Nat.le_of_ble_eq_true rfl, Nat.le_of_ble_eq_true rfl⟩ dX3_energyOf_20 ?_
    rintro _ M ⟨rfl, rfl⟩
    refine x_callS0 (na := 1) hC (ct_square hG _ _) (lw_S q2528 q2529 q89 q2530) (by decide +kernel) rfl ⟨Nat.le_of_ble_eq_true rfl, Nat.le_of_ble_eq_true rfl⟩ rfl (Nat.le_of_ble_eq_true rfl) ⟨rfl, rfl⟩ ⟨Nat.le_of_ble_eq_true rfl, Nat.le_of_ble_eq_true rfl⟩ dX3_energyOf_23 ?_
    rintro _ M ⟨rfl, rfl⟩
    refine x_ladd hC dX3_energyOf_26 ?_
    refine x_lstore_n (lv' := [_, _, _, _, _]) hC dX3_energyOf_27 rfl (by decide) rfl ?_
    refine x_iincN (lv' := [_, _, _, _, _]) (b := 1) hC dX3_energyOf_28 rfl (by decide) (by decide) rfl ?_
    refine x_goto (tgt := 5) hC dX3_energyOf_31 (by decide) ?_
    exact ih c1
theorem ct_coefficientEnergy (hG : GOK G) (hm : Mdl M m P V A) {n : Nat} (hn6 : n ≤ 64) : Ct G yX3_coefficientEnergy cX3_coefficientEnergy 5 (some .long) (xrm 3 0 0) [.ref m, .int (nI n)] M (Pr (.long (jS (fun k => sq (A 6 k)) n)) M) := by
  refine ct_open (lv := [_, _, _, _, _]) hG (by decide +kernel) (Nat.le_of_ble_eq_true rfl) rfl (fun C hC hk => ?_)
  refine x_lconst (v := 0) hC dX3_coefficientEnergy_0 (by decide) ?_
  refine x_lstore_n (lv' := [_, _, _, _, _]) hC dX3_coefficientEnergy_1 rfl (by decide) rfl ?_
  refine x_iconst (v := nI 0) hC dX3_coefficientEnergy_2 (by decide) ?_
  refine x_istore (lv' := [_, _, _, _, _]) hC dX3_coefficientEnergy_3 (by decide) rfl ?_
  refine x_up (n := n) (I := fun k => Wg G C M 0 0 5 [some (.ref m), some (.int (nI n)), some (.long (jS (fun k => sq (A 6 k)) k)), none, some (.int (nI k))] []) (fun k hk2 ih => ?_) 0 (Nat.zero_le _)
  refine x_iload hC dX3_coefficientEnergy_5 rfl ?_
  refine x_iload_n hC dX3_coefficientEnergy_7 rfl rfl ?_
  refine x_icmp_geN (tgt := 30) hC (by omega) (by omega) dX3_coefficientEnergy_8 (by decide) (fun c1 => ?_) (fun c1 => ?_)
  · refine x_lload_n hC dX3_coefficientEnergy_30 rfl rfl ?_
    exact x_lret hC hk dX3_coefficientEnergy_31 (Nat.le_of_ble_eq_true rfl) (Nat.le_of_ble_eq_true rfl) ⟨by rw [show k = n by omega], rfl⟩
  · refine x_lload_n hC dX3_coefficientEnergy_11 rfl rfl ?_
    refine x_aload_n hC dX3_coefficientEnergy_12 rfl rfl ?_
    refine x_get hC 7 hm.1 rfl (by decide) q2337 rfl rfl dX3_coefficientEnergy_13 ?_
    refine x_iload hC dX3_coefficientEnergy_16 rfl ?_
    refine x_ialdN hC (hm.arr 6 (by decide)) (show _ < 64 from (by omega)) (by decide) dX3_coefficientEnergy_18 ?_
    refine x_callS0 (na := 1) hC (ct_square hG _ _) (lw_S q2528 q2529 q89 q2530) (by decide +kernel) rfl ⟨Nat.le_of_ble_eq_true rfl, Nat.le_of_ble_eq_true rfl⟩ rfl (Nat.le_of_ble_eq_true rfl) ⟨rfl, rfl⟩ ⟨Nat.le_of_ble_eq_true rfl, Nat.le_of_ble_eq_true rfl⟩ dX3_coefficientEnergy_19 ?_
    rintro _ M ⟨rfl, rfl⟩
    refine x_ladd hC dX3_coefficientEnergy_22 ?_
    refine x_lstore_n (lv' := [_, _, _, _, _]) hC dX3_coefficientEnergy_23 rfl (by decide) rfl ?_
    refine x_iincN (lv' := [_, _, _, _, _]) (b := 1) hC dX3_coefficientEnergy_24 rfl (by decide) (by decide) rfl ?_
    refine x_goto (tgt := 5) hC dX3_coefficientEnergy_27 (by decide) ?_
    exact ih c1
theorem ct_isAmong (hG : GOK G) (hm : Mdl M m P V A) (x : Int32) {r : Nat} (hr : r ≤ 64) : Ct G yX3_isAmong cX3_isAmong 4 (some .boolean) (xrm 1 0 0) [.ref m, .int x, .int (nI r)] M (Pr (.int (xB (∃ k, k < r ∧ A 8 k = x))) M) := by
  refine ct_open (lv := [_, _, _, _]) hG (by decide +kernel) (Nat.le_of_ble_eq_true rfl) rfl (fun C hC hk => ?_)
  refine x_iconst (v := nI 0) hC dX3_isAmong_0 (by decide) ?_
  refine x_istore_n (lv' := [_, _, _, _]) hC dX3_isAmong_1 rfl (by decide) rfl ?_
  refine x_up (n := r) (I := fun k => (∀ j, j < k → A 8 j ≠ x) → Wg G C M 0 0 2 [some (.ref m), some (.int x), some (.int (nI r)), some (.int (nI k))] []) (fun k hk2 ih h0 => ?_) 0 (Nat.zero_le _) (fun j hj => absurd hj (Nat.not_lt_zero j))
  refine x_iload_n hC dX3_isAmong_2 rfl rfl ?_
  refine x_iload_n hC dX3_isAmong_3 rfl rfl ?_
  refine x_icmp_geN (tgt := 25) hC (by omega) (by omega) dX3_isAmong_4 (by decide) (fun c1 => ?_) (fun c1 => ?_)
  · refine x_iconst (v := 0) hC dX3_isAmong_25 (by decide) ?_
    exact x_zret hC hk dX3_isAmong_26 (by first | rfl | exact xB_nar) (Nat.le_of_ble_eq_true rfl) (Nat.le_of_ble_eq_true rfl) ⟨by rw [xB_f]; rintro ⟨j, h1, h2⟩; exact h0 j (by omega) h2, rfl⟩
  · refine x_aload_n hC dX3_isAmong_7 rfl rfl ?_
    refine x_get hC 9 hm.1 rfl (by decide) q2339 rfl rfl dX3_isAmong_8 ?_
    refine x_iload_n hC dX3_isAmong_11 rfl rfl ?_
    refine x_ialdN hC (hm.arr 8 (by decide)) (show _ < 64 from (by omega)) (by decide) dX3_isAmong_12 ?_
    refine x_iload_n hC dX3_isAmong_13 rfl rfl ?_
    refine x_icmp_ne (tgt := 19) hC dX3_isAmong_14 (by decide) (fun c2 => ?_) (fun c2 => ?_)
    · refine x_iincN (lv' := [_, _, _, _]) (b := 1) hC dX3_isAmong_19 rfl (by decide) (by decide) rfl ?_
      refine x_goto (tgt := 2) hC dX3_isAmong_22 (by decide) ?_
      exact ih c1 (fun j hj => by
        rcases Nat.lt_or_ge j k with h | h
        · exact h0 j h
        · rw [show j = k by omega]; exact c2)
    · refine x_iconst (v := 1) hC dX3_isAmong_17 (by decide) ?_
      exact x_zret hC hk dX3_isAmong_18 (by first | rfl | exact xB_nar) (Nat.le_of_ble_eq_true rfl) (Nat.le_of_ble_eq_true rfl) ⟨by rw [xB_t ⟨k, c1, c2⟩], rfl⟩
theorem ct_byteAt (hG : GOK G) (hm : Mdl M m P V A) {i L : Nat} (hL : V 2 = nI L) (hL9 : L ≤ 900) (hi : i < 2 ^ 30) : Ct G yX3_byteAt cX3_byteAt 2 (some .int) (xrm 1 0 0) [.ref m, .int (nI i)] M (Pr (.int (if i < L then A 4 i else -1)) M) := by
  refine ct_open (lv := [_, _]) hG (by decide +kernel) (Nat.le_of_ble_eq_true rfl) rfl (fun C hC hk => ?_)
  refine x_iload_n hC dX3_byteAt_0 rfl rfl ?_
  refine x_aload_n hC dX3_byteAt_1 rfl rfl ?_
  refine x_get hC 12 hm.1 rfl (by decide) q2342 rfl rfl dX3_byteAt_2 ?_
  rw [hL]
  refine x_icmp_geN (tgt := 17) hC (by omega) (by omega) dX3_byteAt_5 (by decide) (fun c1 => ?_) (fun c1 => ?_)
  · refine x_iconst (v := -1) hC dX3_byteAt_17 (by decide) ?_
    exact x_iret hC hk dX3_byteAt_18 (Nat.le_of_ble_eq_true rfl) (Nat.le_of_ble_eq_true rfl) ⟨by rw [if_neg (by omega)], rfl⟩
  · refine x_aload_n hC dX3_byteAt_8 rfl rfl ?_
    refine x_get hC 5 hm.1 rfl (by decide) q2335 rfl rfl dX3_byteAt_9 ?_
    refine x_iload_n hC dX3_byteAt_12 rfl rfl ?_
    refine x_ialdN hC (hm.arr 4 (by decide)) (show _ < 900 from (by omega)) (by decide) dX3_byteAt_13 ?_
    refine x_goto (tgt := 18) hC dX3_byteAt_14 (by decide) ?_
    exact x_iret hC hk dX3_byteAt_18 (Nat.le_of_ble_eq_true rfl) (Nat.le_of_ble_eq_true rfl) ⟨by rw [if_pos c1], rfl⟩
theorem ct_isBell (hG : GOK G) (hm : Mdl M m P V A) {st nx : Nat} (hs : V 7 = nI st) (hx : V 8 = nI nx) (h1 : st ≤ nx) (h2 : nx ≤ 900) : Ct G yX3_isBell cX3_isBell 1 (some .boolean) (xrm 1 0 0) [.ref m] M (Pr (.int (xB (V 9 = 2 ∧ nx - st = 4 ∧ A 4 st = 98 ∧ A 4 (st + 1) = 101 ∧ A 4 (st + 2) = 108 ∧ A 4 (st + 3) = 108))) M) := by
  refine ct_open (lv := [_]) hG (by decide +kernel) (Nat.le_of_ble_eq_true rfl) rfl (fun C hC hk => ?_)
  refine x_aload_n hC dX3_isBell_0 rfl rfl ?_
  refine x_get hC 19 hm.1 rfl (by decide) q2349 rfl rfl dX3_isBell_1 ?_
  refine x_iconst (v := 2) hC dX3_isBell_4 (by decide) ?_
  refine x_icmp_ne (tgt := 87) hC dX3_isBell_5 (by decide) (fun c1 => ?_) (fun c1 => ?_)
  · refine x_iconst (v := 0) hC dX3_isBell_87 (by decide) ?_
    exact x_zret hC hk dX3_isBell_88 (by first | rfl | exact xB_nar) (Nat.le_of_ble_eq_true rfl) (Nat.le_of_ble_eq_true rfl) ⟨by rw [xB_f fun h => c1 h.1], rfl⟩
  · refine x_aload_n hC dX3_isBell_8 rfl rfl ?_
    refine x_get hC 18 hm.1 rfl (by decide) q2348 rfl rfl dX3_isBell_9 ?_
    refine x_aload_n hC dX3_isBell_12 rfl rfl ?_
    refine x_get hC 17 hm.1 rfl (by decide) q2347 rfl rfl dX3_isBell_13 ?_
    rw [hs, hx]
    refine x_isubN hC dX3_isBell_16 h1 ?_
    refine x_iconst (v := nI 4) hC dX3_isBell_17 (by decide) ?_
    refine x_icmp_neN (tgt := 87) hC (by omega) (by omega) dX3_isBell_18 (by decide) (fun c2 => ?_) (fun c2 => ?_)
    · refine x_iconst (v := 0) hC dX3_isBell_87 (by decide) ?_
      exact x_zret hC hk dX3_isBell_88 (by first | rfl | exact xB_nar) (Nat.le_of_ble_eq_true rfl) (Nat.le_of_ble_eq_true rfl) ⟨by rw [xB_f fun h => c2 h.2.1], rfl⟩
    · refine x_aload_n hC dX3_isBell_21 rfl rfl ?_
      refine x_get hC 5 hm.1 rfl (by decide) q2335 rfl rfl dX3_isBell_22 ?_
      refine x_aload_n hC dX3_isBell_25 rfl rfl ?_
      refine x_get hC 17 hm.1 rfl (by decide) q2347 rfl rfl dX3_isBell_26 ?_
      rw [hs]
      refine x_ialdN hC (hm.arr 4 (by decide)) (show _ < 900 from (by omega)) (by decide) dX3_isBell_29 ?_
      refine x_bipush (v := 98) hC dX3_isBell_30 (by decide) ?_
      refine x_icmp_ne (tgt := 87) hC dX3_isBell_32 (by decide) (fun c3 => ?_) (fun c3 => ?_)
      · refine x_iconst (v := 0) hC dX3_isBell_87 (by decide) ?_
        exact x_zret hC hk dX3_isBell_88 (by first | rfl | exact xB_nar) (Nat.le_of_ble_eq_true rfl) (Nat.le_of_ble_eq_true rfl) ⟨by rw [xB_f fun h => c3 h.2.2.1], rfl⟩
      · refine x_aload_n hC dX3_isBell_35 rfl rfl ?_
        refine x_get hC 5 hm.1 rfl (by decide) q2335 rfl rfl dX3_isBell_36 ?_
        refine x_aload_n hC dX3_isBell_39 rfl rfl ?_
        refine x_get hC 17 hm.1 rfl (by decide) q2347 rfl rfl dX3_isBell_40 ?_
        rw [hs]
        refine x_iconst (v := nI 1) hC dX3_isBell_43 (by decide) ?_
        refine x_iaddN hC dX3_isBell_44 ?_
        refine x_ialdN hC (hm.arr 4 (by decide)) (show _ < 900 from (by omega)) (by decide) dX3_isBell_45 ?_
        refine x_bipush (v := 101) hC dX3_isBell_46 (by decide) ?_
        refine x_icmp_ne (tgt := 87) hC dX3_isBell_48 (by decide) (fun c4 => ?_) (fun c4 => ?_)
        · refine x_iconst (v := 0) hC dX3_isBell_87 (by decide) ?_
          exact x_zret hC hk dX3_isBell_88 (by first | rfl | exact xB_nar) (Nat.le_of_ble_eq_true rfl) (Nat.le_of_ble_eq_true rfl) ⟨by rw [xB_f fun h => c4 h.2.2.2.1], rfl⟩
        · refine x_aload_n hC dX3_isBell_51 rfl rfl ?_
          refine x_get hC 5 hm.1 rfl (by decide) q2335 rfl rfl dX3_isBell_52 ?_
          refine x_aload_n hC dX3_isBell_55 rfl rfl ?_
          refine x_get hC 17 hm.1 rfl (by decide) q2347 rfl rfl dX3_isBell_56 ?_
          rw [hs]
          refine x_iconst (v := nI 2) hC dX3_isBell_59 (by decide) ?_
          refine x_iaddN hC dX3_isBell_60 ?_
          refine x_ialdN hC (hm.arr 4 (by decide)) (show _ < 900 from (by omega)) (by decide) dX3_isBell_61 ?_
          refine x_bipush (v := 108) hC dX3_isBell_62 (by decide) ?_
          refine x_icmp_ne (tgt := 87) hC dX3_isBell_64 (by decide) (fun c5 => ?_) (fun c5 => ?_)
          · refine x_iconst (v := 0) hC dX3_isBell_87 (by decide) ?_
            exact x_zret hC hk dX3_isBell_88 (by first | rfl | exact xB_nar) (Nat.le_of_ble_eq_true rfl) (Nat.le_of_ble_eq_true rfl) ⟨by rw [xB_f fun h => c5 h.2.2.2.2.1], rfl⟩
          · refine x_aload_n hC dX3_isBell_67 rfl rfl ?_
            refine x_get hC 5 hm.1 rfl (by decide) q2335 rfl rfl dX3_isBell_68 ?_
            refine x_aload_n hC dX3_isBell_71 rfl rfl ?_
            refine x_get hC 17 hm.1 rfl (by decide) q2347 rfl rfl dX3_isBell_72 ?_
            rw [hs]
            refine x_iconst (v := nI 3) hC dX3_isBell_75 (by decide) ?_
            refine x_iaddN hC dX3_isBell_76 ?_
            refine x_ialdN hC (hm.arr 4 (by decide)) (show _ < 900 from (by omega)) (by decide) dX3_isBell_77 ?_
            refine x_bipush (v := 108) hC dX3_isBell_78 (by decide) ?_
            refine x_icmp_ne (tgt := 87) hC dX3_isBell_80 (by decide) (fun c6 => ?_) (fun c6 => ?_)
            · refine x_iconst (v := 0) hC dX3_isBell_87 (by decide) ?_
              exact x_zret hC hk dX3_isBell_88 (by first | rfl | exact xB_nar) (Nat.le_of_ble_eq_true rfl) (Nat.le_of_ble_eq_true rfl) ⟨by rw [xB_f fun h => c6 h.2.2.2.2.2], rfl⟩
            · refine x_iconst (v := 1) hC dX3_isBell_83 (by decide) ?_
              refine x_goto (tgt := 88) hC dX3_isBell_84 (by decide) ?_
              exact x_zret hC hk dX3_isBell_88 (by first | rfl | exact xB_nar) (Nat.le_of_ble_eq_true rfl) (Nat.le_of_ble_eq_true rfl) ⟨by rw [xB_t ⟨c1, c2, c3, c4, c5, c6⟩], rfl⟩
/-- the recording c bears the name of L bytes from fr on -/
abbrev nmE (f b : Nat → Int32) (fr L c : Nat) : Prop := f (1 + 72 * c) = nI L ∧ ∀ i, i < L → f (2 + 72 * c + i) = b (fr + i)
theorem ct_named (hG : GOK G) (hm : Mdl M m P V A) {fr L n : Nat} (h1 : fr + L ≤ 900) (hL : L ≤ 6) (hn : A 0 0 = nI n) (hn6 : n ≤ 6) : Ct G yX3_named cX3_named 6 (some .int) (xrm 2 0 0) [.ref m, .int (nI fr), .int (nI L)] M (Pr (.int (optI (fstI (nmE (A 0) (A 4) fr L) n 0))) M) := by
  refine ct_open (lv := [_, _, _, _, _, _]) hG (by decide +kernel) (Nat.le_of_ble_eq_true rfl) rfl (fun C hC hk => ?_)
  refine x_iconst (v := nI 0) hC dX3_named_0 (by decide) ?_
  refine x_istore_n (lv' := [_, _, _, _, _, _]) hC dX3_named_1 rfl (by decide) rfl ?_
  refine x_up (n := n) (I := fun k => fstI (nmE (A 0) (A 4) fr L) n 0 = fstI (nmE (A 0) (A 4) fr L) (n - k) k → ∀ w4 w5, Wg G C M 0 0 2 [some (.ref m), some (.int (nI fr)), some (.int (nI L)), some (.int (nI k)), w4, w5] []) (fun k hk2 ih h0 w4 w5 => ?_) 0 (Nat.zero_le _) rfl none none
  refine x_iload_n hC dX3_named_2 rfl rfl ?_
  refine x_aload_n hC dX3_named_3 rfl rfl ?_
  refine x_get hC 0 hm.1 rfl (by decide) q2330 rfl rfl dX3_named_4 ?_
  refine x_iconst (v := nI 0) hC dX3_named_7 (by decide) ?_
  refine x_ialdN hC (hm.arr 0 (by decide)) (show _ < 433 from (by omega)) (by decide) dX3_named_8 ?_
  rw [hn]
  refine x_icmp_geN (tgt := 98) hC (by omega) (by omega) dX3_named_9 (by decide) (fun c1 => ?_) (fun c1 => ?_)
  · refine x_iconst (v := -1) hC dX3_named_98 (by decide) ?_
    exact x_iret hC hk dX3_named_99 (Nat.le_of_ble_eq_true rfl) (Nat.le_of_ble_eq_true rfl) ⟨by rw [h0, show n - k = 0 by omega]; rfl, rfl⟩
  · have hstep : fstI (nmE (A 0) (A 4) fr L) (n - k) k = if nmE (A 0) (A 4) fr L k then some k else fstI (nmE (A 0) (A 4) fr L) (n - (k + 1)) (k + 1) := by
      rw [show n - k = (n - (k + 1)) + 1 by omega]; rfl
    refine x_aload_n hC dX3_named_12 rfl rfl ?_
    refine x_get hC 0 hm.1 rfl (by decide) q2330 rfl rfl dX3_named_13 ?_
    refine x_iload_n hC dX3_named_16 rfl rfl ?_
    refine x_callS0 (na := 1) hC (ct_row hG _ _) (lw_S q2457 q2458 q89 q2459) (by decide +kernel) rfl ⟨Nat.le_of_ble_eq_true rfl, Nat.le_of_ble_eq_true rfl⟩ rfl (Nat.le_of_ble_eq_true rfl) ⟨rfl, rfl⟩ ⟨Nat.le_of_ble_eq_true rfl, Nat.le_of_ble_eq_true rfl⟩ dX3_named_17 ?_
    rintro _ M ⟨rfl, rfl⟩
    refine x_ialdN hC (hm.arr 0 (by decide)) (show _ < 433 from (by omega)) (by decide) dX3_named_20 ?_
    refine x_iload_n hC dX3_named_21 rfl rfl ?_
    refine x_j2 (fun v => v = xB (A 0 (1 + 72 * k) = nI L)) 30 (fun hj => ?_) (fun v hv => ?_)
    · refine x_icmp_ne (tgt := 29) hC dX3_named_22 (by decide) (fun c2 => ?_) (fun c2 => ?_)
      · refine x_iconst (v := 0) hC dX3_named_29 (by decide) ?_
        exact hj _ (by rw [xB_f c2])
      · refine x_iconst (v := 1) hC dX3_named_25 (by decide) ?_
        refine x_goto (tgt := 30) hC dX3_named_26 (by decide) ?_
        exact hj _ (by rw [xB_t c2])
    · subst hv
      refine x_istore (lv' := [_, _, _, _, _, _]) hC dX3_named_30 (by decide) rfl ?_
      refine x_iconst (v := nI 0) hC dX3_named_32 (by decide) ?_
      refine x_istore (lv' := [_, _, _, _, _, _]) hC dX3_named_33 (by decide) rfl ?_
      have lp : ∀ i, i ≤ L → Wg G C M 0 0 35 [some (.ref m), some (.int (nI fr)), some (.int (nI L)), some (.int (nI k)), some (.int (xB (A 0 (1 + 72 * k) = nI L ∧ ∀ j, j < i → A 0 (2 + 72 * k + j) = A 4 (fr + j)))), some (.int (nI i))] [] := by
        have fin : ∀ i, (xB (A 0 (1 + 72 * k) = nI L ∧ ∀ j, j < i → A 0 (2 + 72 * k + j) = A 4 (fr + j))) = xB (nmE (A 0) (A 4) fr L k) → Wg G C M 0 0 85 [some (.ref m), some (.int (nI fr)), some (.int (nI L)), some (.int (nI k)), some (.int (xB (A 0 (1 + 72 * k) = nI L ∧ ∀ j, j < i → A 0 (2 + 72 * k + j) = A 4 (fr + j)))), some (.int (nI i))] [] := by
          intro i he
          rw [he]
          refine x_iload hC dX3_named_85 rfl ?_
          refine x_if_eqB (tgt := 92) hC dX3_named_87 (by decide) (fun c5 => ?_) (fun c5 => ?_)
          · refine x_iincN (lv' := [_, _, _, _, _, _]) (b := 1) hC dX3_named_92 rfl (by decide) (by decide) rfl ?_
            refine x_goto (tgt := 2) hC dX3_named_95 (by decide) ?_
            exact ih c1 (by rw [h0, hstep, if_neg c5]) _ _
          · refine x_iload_n hC dX3_named_90 rfl rfl ?_
            exact x_iret hC hk dX3_named_91 (Nat.le_of_ble_eq_true rfl) (Nat.le_of_ble_eq_true rfl) ⟨by rw [h0, hstep, if_pos c5]; rfl, rfl⟩
        refine x_up (n := L) (I := fun i => Wg G C M 0 0 35 [some (.ref m), some (.int (nI fr)), some (.int (nI L)), some (.int (nI k)), some (.int (xB (A 0 (1 + 72 * k) = nI L ∧ ∀ j, j < i → A 0 (2 + 72 * k + j) = A 4 (fr + j)))), some (.int (nI i))] []) (fun i hi2 ih2 => ?_)
        refine x_iload hC dX3_named_35 rfl ?_
        refine x_if_eqB (tgt := 85) hC dX3_named_37 (by decide) (fun c3 => ?_) (fun c3 => ?_)
        · exact fin i (xB_iff ⟨fun h => absurd h c3, fun h => absurd ⟨h.1, fun j hj => h.2 j (by omega)⟩ c3⟩)
        · refine x_iload hC dX3_named_40 rfl ?_
          refine x_iload_n hC dX3_named_42 rfl rfl ?_
          refine x_icmp_geN (tgt := 85) hC (by omega) (by omega) dX3_named_43 (by decide) (fun c4 => ?_) (fun c4 => ?_)
          · exact fin i (xB_iff ⟨fun h => ⟨h.1, fun j hj => h.2 j (by omega)⟩, fun h => c3⟩)
          · refine x_aload_n hC dX3_named_46 rfl rfl ?_
            refine x_get hC 0 hm.1 rfl (by decide) q2330 rfl rfl dX3_named_47 ?_
            refine x_iload_n hC dX3_named_50 rfl rfl ?_
            refine x_callS0 (na := 1) hC (ct_row hG _ _) (lw_S q2457 q2458 q89 q2459) (by decide +kernel) rfl ⟨Nat.le_of_ble_eq_true rfl, Nat.le_of_ble_eq_true rfl⟩ rfl (Nat.le_of_ble_eq_true rfl) ⟨rfl, rfl⟩ ⟨Nat.le_of_ble_eq_true rfl, Nat.le_of_ble_eq_true rfl⟩ dX3_named_51 ?_
            rintro _ M ⟨rfl, rfl⟩
            refine x_iconst (v := nI 1) hC dX3_named_54 (by decide) ?_
            refine x_iaddN hC dX3_named_55 ?_
            refine x_iload hC dX3_named_56 rfl ?_
            refine x_iaddN hC dX3_named_58 ?_
            refine x_ialdN hC (hm.arr 0 (by decide)) (show _ < 433 from (by omega)) (by decide) dX3_named_59 ?_
            refine x_aload_n hC dX3_named_60 rfl rfl ?_
            refine x_get hC 5 hm.1 rfl (by decide) q2335 rfl rfl dX3_named_61 ?_
            refine x_iload_n hC dX3_named_64 rfl rfl ?_
            refine x_iload hC dX3_named_65 rfl ?_
            refine x_iaddN hC dX3_named_67 ?_
            refine x_ialdN hC (hm.arr 4 (by decide)) (show _ < 900 from (by omega)) (by decide) dX3_named_68 ?_
            rw [show 1 + 72 * k + 1 + i = 2 + 72 * k + i by omega]
            refine x_j2 (fun v => v = xB (A 0 (1 + 72 * k) = nI L ∧ ∀ j, j < i + 1 → A 0 (2 + 72 * k + j) = A 4 (fr + j))) 77 (fun hj => ?_) (fun v hv => ?_)
            · refine x_icmp_ne (tgt := 76) hC dX3_named_69 (by decide) (fun c5 => ?_) (fun c5 => ?_)
              · refine x_iconst (v := 0) hC dX3_named_76 (by decide) ?_
                exact hj _ (by rw [xB_f fun h => c5 (h.2 i (Nat.lt_succ_self i))])
              · refine x_iconst (v := 1) hC dX3_named_72 (by decide) ?_
                refine x_goto (tgt := 77) hC dX3_named_73 (by decide) ?_
                exact hj _ (by
                  rw [xB_t]
                  refine ⟨c3.1, fun j hj => ?_⟩
                  rcases Nat.lt_or_ge j i with h | h
                  · exact c3.2 j h
                  · rw [show j = i by omega]; exact c5)
            · subst hv
              refine x_istore (lv' := [_, _, _, _, _, _]) hC dX3_named_77 (by decide) rfl ?_
              refine x_iincN (lv' := [_, _, _, _, _, _]) (b := 1) hC dX3_named_79 rfl (by decide) (by decide) rfl ?_
              refine x_goto (tgt := 35) hC dX3_named_82 (by decide) ?_
              exact ih2 c4
      have := lp 0 (Nat.zero_le _)
      rw [xB_iff (q := A 0 (1 + 72 * k) = nI L) ⟨fun h => h.1, fun h => ⟨h, fun j hj => absurd hj (Nat.not_lt_zero j)⟩⟩] at this
      exact this
end M3

