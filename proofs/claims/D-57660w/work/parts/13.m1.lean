/-! ===== Math, bitCount; the reference's small methods ===== -/
def us (x k : Int32) : Int32 := (x.toUInt32 >>> (k.toUInt32 &&& Int32.toUInt32 31)).toInt32
def bc1 (x : Int32) : Int32 := x - (us x 1 &&& 1431655765)
def bc2 (x : Int32) : Int32 := (x &&& 858993459) + (us x 2 &&& 858993459)
def bc3 (x : Int32) : Int32 := x + us x 4 &&& 252645135
def bc4 (x : Int32) : Int32 := x + us x 8
def bc5 (x : Int32) : Int32 := x + us x 16
def bitC (x : Int32) : Int32 := bc5 (bc4 (bc3 (bc2 (bc1 x)))) &&& 63
def fdiv (x y : Int32) : Int32 := if x ^^^ y < 0 ∧ ¬ x / y * y = x then x / y - 1 else x / y
def iabs (x : Int32) : Int32 := if 0 ≤ x then x else -x
def imax (x y : Int32) : Int32 := if x < y then y else x
def imin (x y : Int32) : Int32 := if x ≤ y then x else y
def jmax (x y : Int64) : Int64 := if x < y then y else x
def sg (i k : Int32) : Int32 := if bitC (i &&& k) - bitC (i &&& k) / 2 * 2 = 0 then 1 else -1
def chg (i : Int32) : Nat → Int32
  | 0 => 0
  | 1 => 0
  | k + 2 => chg i (k + 1) + (if sg i (nI (k + 1)) = sg i (nI k) then 0 else 1)
section M1
variable {G : X_G} {M : X_M} {m : Nat} {P : Nat → Nat} {V : Nat → Int32} {A : Nat → Nat → Int32}
theorem ct_bitCount (hG : GOK G) (x : Int32) (M : X_M) : Ct G yJ21_bitCount cJ21_bitCount 1 (some .int) (xrm 1 0 0) [.int x] M (Pr (.int (bitC x)) M) := by
  refine ct_open (lv := [_]) hG (by decide +kernel) (Nat.le_of_ble_eq_true rfl) rfl (fun C hC hk => ?_)
  refine x_iload_n hC dJ21_bitCount_0 rfl rfl ?_
  refine x_iload_n hC dJ21_bitCount_1 rfl rfl ?_
  refine x_iconst (v := 1) hC dJ21_bitCount_2 (by decide) ?_
  refine x_iushr hC dJ21_bitCount_3 rfl ?_
  refine x_ldcw hC q1680 dJ21_bitCount_4 ?_
  refine x_iand hC dJ21_bitCount_7 ?_
  refine x_isub hC dJ21_bitCount_8 ?_
  have e1 : bc1 x = bc1 x := rfl
  refine x_istore_n (lv' := [_]) hC dJ21_bitCount_9 rfl (by decide) rfl ?_
  refine x_iload_n hC dJ21_bitCount_10 rfl rfl ?_
  refine x_ldcw hC q1681 dJ21_bitCount_11 ?_
  refine x_iand hC dJ21_bitCount_14 ?_
  refine x_iload_n hC dJ21_bitCount_15 rfl rfl ?_
  refine x_iconst (v := 2) hC dJ21_bitCount_16 (by decide) ?_
  refine x_iushr hC dJ21_bitCount_17 rfl ?_
  refine x_ldcw hC q1681 dJ21_bitCount_18 ?_
  refine x_iand hC dJ21_bitCount_21 ?_
  refine x_iadd hC dJ21_bitCount_22 ?_
  refine x_istore_n (lv' := [_]) hC dJ21_bitCount_23 rfl (by decide) rfl ?_
  refine x_iload_n hC dJ21_bitCount_24 rfl rfl ?_
  refine x_iload_n hC dJ21_bitCount_25 rfl rfl ?_
  refine x_iconst (v := 4) hC dJ21_bitCount_26 (by decide) ?_
  refine x_iushr hC dJ21_bitCount_27 rfl ?_
  refine x_iadd hC dJ21_bitCount_28 ?_
  refine x_ldcw hC q1682 dJ21_bitCount_29 ?_
  refine x_iand hC dJ21_bitCount_32 ?_
  refine x_istore_n (lv' := [_]) hC dJ21_bitCount_33 rfl (by decide) rfl ?_
  refine x_iload_n hC dJ21_bitCount_34 rfl rfl ?_
  refine x_iload_n hC dJ21_bitCount_35 rfl rfl ?_
  refine x_bipush (v := 8) hC dJ21_bitCount_36 (by decide) ?_
  refine x_iushr hC dJ21_bitCount_38 rfl ?_
  refine x_iadd hC dJ21_bitCount_39 ?_
  refine x_istore_n (lv' := [_]) hC dJ21_bitCount_40 rfl (by decide) rfl ?_
  refine x_iload_n hC dJ21_bitCount_41 rfl rfl ?_
  refine x_iload_n hC dJ21_bitCount_42 rfl rfl ?_
  refine x_bipush (v := 16) hC dJ21_bitCount_43 (by decide) ?_
  refine x_iushr hC dJ21_bitCount_45 rfl ?_
  refine x_iadd hC dJ21_bitCount_46 ?_
  refine x_istore_n (lv' := [_]) hC dJ21_bitCount_47 rfl (by decide) rfl ?_
  refine x_iload_n hC dJ21_bitCount_48 rfl rfl ?_
  refine x_bipush (v := 63) hC dJ21_bitCount_49 (by decide) ?_
  refine x_iand hC dJ21_bitCount_51 ?_
  exact x_iret hC hk dJ21_bitCount_52 (Nat.le_of_ble_eq_true rfl) (Nat.le_of_ble_eq_true rfl) ⟨rfl, rfl⟩
theorem ct_max (hG : GOK G) (x y : Int32) (M : X_M) : Ct G yJ17_max cJ17_max 2 (some .int) (xrm 1 0 0) [.int x, .int y] M (Pr (.int (imax x y)) M) := by
  refine ct_open (lv := [_, _]) hG (by decide +kernel) (Nat.le_of_ble_eq_true rfl) rfl (fun C hC hk => ?_)
  refine x_iload_n hC dJ17_max_0 rfl rfl ?_
  refine x_iload_n hC dJ17_max_1 rfl rfl ?_
  refine x_icmp_lt (tgt := 9) hC dJ17_max_2 (by decide) (fun c => ?_) (fun c => ?_)
  · refine x_iload_n hC dJ17_max_9 rfl rfl ?_
    exact x_iret hC hk dJ17_max_10 (Nat.le_of_ble_eq_true rfl) (Nat.le_of_ble_eq_true rfl) ⟨by rw [imax, if_pos c], rfl⟩
  · refine x_iload_n hC dJ17_max_5 rfl rfl ?_
    refine x_goto (tgt := 10) hC dJ17_max_6 (by decide) ?_
    exact x_iret hC hk dJ17_max_10 (Nat.le_of_ble_eq_true rfl) (Nat.le_of_ble_eq_true rfl) ⟨by rw [imax, if_neg c], rfl⟩
theorem ct_min (hG : GOK G) (x y : Int32) (M : X_M) : Ct G yJ17_min cJ17_min 2 (some .int) (xrm 1 0 0) [.int x, .int y] M (Pr (.int (imin x y)) M) := by
  refine ct_open (lv := [_, _]) hG (by decide +kernel) (Nat.le_of_ble_eq_true rfl) rfl (fun C hC hk => ?_)
  refine x_iload_n hC dJ17_min_0 rfl rfl ?_
  refine x_iload_n hC dJ17_min_1 rfl rfl ?_
  refine x_icmp_gt (tgt := 9) hC dJ17_min_2 (by decide) (fun c => ?_) (fun c => ?_)
  · refine x_iload_n hC dJ17_min_9 rfl rfl ?_
    exact x_iret hC hk dJ17_min_10 (Nat.le_of_ble_eq_true rfl) (Nat.le_of_ble_eq_true rfl) ⟨by rw [imin, if_neg (Int32.not_le.mpr c)], rfl⟩
  · refine x_iload_n hC dJ17_min_5 rfl rfl ?_
    refine x_goto (tgt := 10) hC dJ17_min_6 (by decide) ?_
    exact x_iret hC hk dJ17_min_10 (Nat.le_of_ble_eq_true rfl) (Nat.le_of_ble_eq_true rfl) ⟨by rw [imin, if_pos (Int32.not_lt.mp c)], rfl⟩
theorem ct_abs (hG : GOK G) (x : Int32) (M : X_M) : Ct G yJ17_abs cJ17_abs 1 (some .int) (xrm 1 0 0) [.int x] M (Pr (.int (iabs x)) M) := by
  refine ct_open (lv := [_]) hG (by decide +kernel) (Nat.le_of_ble_eq_true rfl) rfl (fun C hC hk => ?_)
  refine x_iload_n hC dJ17_abs_0 rfl rfl ?_
  refine x_if_ge (tgt := 9) hC dJ17_abs_1 (by decide) (fun c => ?_) (fun c => ?_)
  · refine x_iload_n hC dJ17_abs_9 rfl rfl ?_
    exact x_iret hC hk dJ17_abs_10 (Nat.le_of_ble_eq_true rfl) (Nat.le_of_ble_eq_true rfl) ⟨by rw [iabs, if_pos c], rfl⟩
  · refine x_iload_n hC dJ17_abs_4 rfl rfl ?_
    refine x_ineg hC dJ17_abs_5 ?_
    refine x_goto (tgt := 10) hC dJ17_abs_6 (by decide) ?_
    exact x_iret hC hk dJ17_abs_10 (Nat.le_of_ble_eq_true rfl) (Nat.le_of_ble_eq_true rfl) ⟨by rw [iabs, if_neg c], rfl⟩
theorem ct_floorDiv (hG : GOK G) (x y : Int32) (hy : ¬ y = 0) (M : X_M) : Ct G yJ17_floorDiv cJ17_floorDiv 3 (some .int) (xrm 1 0 0) [.int x, .int y] M (Pr (.int (fdiv x y)) M) := by
  refine ct_open (lv := [_, _, _]) hG (by decide +kernel) (Nat.le_of_ble_eq_true rfl) rfl (fun C hC hk => ?_)
  refine x_iload_n hC dJ17_floorDiv_0 rfl rfl ?_
  refine x_iload_n hC dJ17_floorDiv_1 rfl rfl ?_
  refine x_idiv hC dJ17_floorDiv_2 hy ?_
  refine x_istore_n (lv' := [_, _, _]) hC dJ17_floorDiv_3 rfl (by decide) rfl ?_
  refine x_iload_n hC dJ17_floorDiv_4 rfl rfl ?_
  refine x_iload_n hC dJ17_floorDiv_5 rfl rfl ?_
  refine x_ixor hC dJ17_floorDiv_6 ?_
  refine x_if_ge (tgt := 21) hC dJ17_floorDiv_7 (by decide) (fun c => ?_) (fun c => ?_)
  · refine x_iload_n hC dJ17_floorDiv_21 rfl rfl ?_
    exact x_iret hC hk dJ17_floorDiv_22 (Nat.le_of_ble_eq_true rfl) (Nat.le_of_ble_eq_true rfl) ⟨by rw [fdiv, if_neg (fun h => Int32.not_lt.mpr c h.1)], rfl⟩
  · refine x_iload_n hC dJ17_floorDiv_10 rfl rfl ?_
    refine x_iload_n hC dJ17_floorDiv_11 rfl rfl ?_
    refine x_imul hC dJ17_floorDiv_12 ?_
    refine x_iload_n hC dJ17_floorDiv_13 rfl rfl ?_
    refine x_icmp_eq (tgt := 21) hC dJ17_floorDiv_14 (by decide) (fun c2 => ?_) (fun c2 => ?_)
    · refine x_iload_n hC dJ17_floorDiv_21 rfl rfl ?_
      exact x_iret hC hk dJ17_floorDiv_22 (Nat.le_of_ble_eq_true rfl) (Nat.le_of_ble_eq_true rfl) ⟨by rw [fdiv, if_neg (fun h => h.2 c2)], rfl⟩
    · refine x_iload_n hC dJ17_floorDiv_17 rfl rfl ?_
      refine x_iconst (v := 1) hC dJ17_floorDiv_18 (by decide) ?_
      refine x_isub hC dJ17_floorDiv_19 ?_
      exact x_iret hC hk dJ17_floorDiv_20 (Nat.le_of_ble_eq_true rfl) (Nat.le_of_ble_eq_true rfl) ⟨by rw [fdiv, if_pos ⟨Int32.not_le.mp c, c2⟩], rfl⟩
theorem ct_isIn (hG : GOK G) (v lo hi : Int32) (M : X_M) : Ct G yX3_isIn cX3_isIn 3 (some .boolean) (xrm 1 0 0) [.int v, .int lo, .int hi] M (Pr (.int (xB (lo ≤ v ∧ v ≤ hi))) M) := by
  refine ct_open (lv := [_, _, _]) hG (by decide +kernel) (Nat.le_of_ble_eq_true rfl) rfl (fun C hC hk => ?_)
  refine x_iload_n hC dX3_isIn_0 rfl rfl ?_
  refine x_iload_n hC dX3_isIn_1 rfl rfl ?_
  refine x_icmp_lt (tgt := 14) hC dX3_isIn_2 (by decide) (fun c => ?_) (fun c => ?_)
  · refine x_iconst (v := 0) hC dX3_isIn_14 (by decide) ?_
    exact x_zret hC hk dX3_isIn_15 (by first | rfl | exact xB_nar) (Nat.le_of_ble_eq_true rfl) (Nat.le_of_ble_eq_true rfl) ⟨by rw [xB_f fun h => Int32.not_le.mpr c h.1], rfl⟩
  · refine x_iload_n hC dX3_isIn_5 rfl rfl ?_
    refine x_iload_n hC dX3_isIn_6 rfl rfl ?_
    refine x_icmp_gt (tgt := 14) hC dX3_isIn_7 (by decide) (fun c2 => ?_) (fun c2 => ?_)
    · refine x_iconst (v := 0) hC dX3_isIn_14 (by decide) ?_
      exact x_zret hC hk dX3_isIn_15 (by first | rfl | exact xB_nar) (Nat.le_of_ble_eq_true rfl) (Nat.le_of_ble_eq_true rfl) ⟨by rw [xB_f fun h => Int32.not_le.mpr c2 h.2], rfl⟩
    · refine x_iconst (v := 1) hC dX3_isIn_10 (by decide) ?_
      refine x_goto (tgt := 15) hC dX3_isIn_11 (by decide) ?_
      exact x_zret hC hk dX3_isIn_15 (by first | rfl | exact xB_nar) (Nat.le_of_ble_eq_true rfl) (Nat.le_of_ble_eq_true rfl) ⟨by rw [xB_t ⟨Int32.not_lt.mp c, Int32.not_lt.mp c2⟩], rfl⟩
theorem ct_row (hG : GOK G) (c : Nat) (M : X_M) : Ct G yX3_row cX3_row 1 (some .int) (xrm 1 0 0) [.int (nI c)] M (Pr (.int (nI (1 + 72 * c))) M) := by
  refine ct_open (lv := [_]) hG (by decide +kernel) (Nat.le_of_ble_eq_true rfl) rfl (fun C hC hk => ?_)
  refine x_iconst (v := nI 1) hC dX3_row_0 (by decide) ?_
  refine x_bipush (v := nI 72) hC dX3_row_1 (by decide) ?_
  refine x_iload_n hC dX3_row_3 rfl rfl ?_
  refine x_imulN hC dX3_row_4 ?_
  refine x_iaddN hC dX3_row_5 ?_
  exact x_iret hC hk dX3_row_6 (Nat.le_of_ble_eq_true rfl) (Nat.le_of_ble_eq_true rfl) ⟨rfl, rfl⟩
theorem ct_thrown (hG : GOK G) (hm : Mdl M m P V A) : Ct G yX3_thrown cX3_thrown 1 (some .int) (xrm 1 0 0) [.ref m] M (Pr (.int (V 6)) M) := by
  refine ct_open (lv := [_]) hG (by decide +kernel) (Nat.le_of_ble_eq_true rfl) rfl (fun C hC hk => ?_)
  refine x_aload_n hC dX3_thrown_0 rfl rfl ?_
  refine x_get hC 16 hm.1 rfl (by decide) q2346 rfl rfl dX3_thrown_1 ?_
  exact x_iret hC hk dX3_thrown_4 (Nat.le_of_ble_eq_true rfl) (Nat.le_of_ble_eq_true rfl) ⟨rfl, rfl⟩
/-- the answer, and the reference's new state -/
abbrev Pm (v : Value) (M : X_M) (m : Nat) (P : Nat → Nat) (V' : Nat → Int32) (A' : Nat → Nat → Int32) : Option Value → X_M → Prop := fun r M' => r = some v ∧ Mdl M' m P V' A' ∧ Fm M M'
theorem ct_good (hG : GOK G) (hm : Mdl M m P V A) (p : Prop) [Decidable p] : Ct G yX3_good cX3_good 2 (some .boolean) (xrm 1 0 0) [.ref m, .int (xB p)] M (Pm (.int (xB p)) M m P (upd V 6 (if p then 0 else 1)) A) := by
  refine ct_open (lv := [_, _]) hG (by decide +kernel) (Nat.le_of_ble_eq_true rfl) rfl (fun C hC hk => ?_)
  have hF : Fm M M := Fr.rf
  refine x_aload_n hC dX3_good_0 rfl rfl ?_
  refine x_iload_n hC dX3_good_1 rfl rfl ?_
  refine x_if_eqB (tgt := 9) hC dX3_good_2 (by decide) (fun c => ?_) (fun c => ?_)
  · refine x_iconst (v := 1) hC dX3_good_9 (by decide) ?_
    refine x_mput hC hm 16 6 (by decide) q2346 rfl rfl rfl rfl rfl rfl dX3_good_10 (fun M hm hF1 => ?_)
    have hF := hF.tr hF1
    refine x_iload_n hC dX3_good_13 rfl rfl ?_
    exact x_zret hC hk dX3_good_14 (by first | rfl | exact xB_nar) (Nat.le_of_ble_eq_true rfl) (Nat.le_of_ble_eq_true rfl) ⟨rfl, by rw [if_neg c]; exact hm, hF⟩
  · refine x_iconst (v := 0) hC dX3_good_5 (by decide) ?_
    refine x_goto (tgt := 10) hC dX3_good_6 (by decide) ?_
    refine x_mput hC hm 16 6 (by decide) q2346 rfl rfl rfl rfl rfl rfl dX3_good_10 (fun M hm hF1 => ?_)
    have hF := hF.tr hF1
    refine x_iload_n hC dX3_good_13 rfl rfl ?_
    exact x_zret hC hk dX3_good_14 (by first | rfl | exact xB_nar) (Nat.le_of_ble_eq_true rfl) (Nat.le_of_ble_eq_true rfl) ⟨rfl, by rw [if_pos c]; exact hm, hF⟩
theorem ct_good2 (hG : GOK G) (hm : Mdl M m P V A) (p q : Prop) [Decidable p] [Decidable q] : Ct G yX3_good_2 cX3_good_2 3 (some .boolean) (xrm 1 0 0) [.ref m, .int (xB p), .int (xB q)] M (Pm (.int (xB (p ∧ q))) M m P (upd V 6 (if p then if q then 0 else 2 else 1)) A) := by
  refine ct_open (lv := [_, _, _]) hG (by decide +kernel) (Nat.le_of_ble_eq_true rfl) rfl (fun C hC hk => ?_)
  have hF : Fm M M := Fr.rf
  refine x_aload_n hC dX3_good_2_0 rfl rfl ?_
  refine x_iload_n hC dX3_good_2_1 rfl rfl ?_
  refine x_if_neB (tgt := 9) hC dX3_good_2_2 (by decide) (fun c => ?_) (fun c => ?_)
  · refine x_iload_n hC dX3_good_2_9 rfl rfl ?_
    refine x_if_eqB (tgt := 17) hC dX3_good_2_10 (by decide) (fun c2 => ?_) (fun c2 => ?_)
    · refine x_iconst (v := 2) hC dX3_good_2_17 (by decide) ?_
      refine x_mput hC hm 16 6 (by decide) q2346 rfl rfl rfl rfl rfl rfl dX3_good_2_18 (fun M hm hF1 => ?_)
      have hF := hF.tr hF1
      refine x_aload_n hC dX3_good_2_21 rfl rfl ?_
      refine x_get hC 16 hm.1 rfl (by decide) q2346 rfl rfl dX3_good_2_22 ?_
      refine x_if_ne (tgt := 32) hC dX3_good_2_25 (by decide) (fun c3 => ?_) (fun c3 => ?_)
      · refine x_iconst (v := 0) hC dX3_good_2_32 (by decide) ?_
        exact x_zret hC hk dX3_good_2_33 (by first | rfl | exact xB_nar) (Nat.le_of_ble_eq_true rfl) (Nat.le_of_ble_eq_true rfl) ⟨by rw [xB_f fun h => c2 h.2], by rw [if_pos c, if_neg c2]; exact hm, hF⟩
      · exact absurd c3 (show ¬ (2 : Int32) = 0 by decide)
    · refine x_iconst (v := 0) hC dX3_good_2_13 (by decide) ?_
      refine x_goto (tgt := 18) hC dX3_good_2_14 (by decide) ?_
      refine x_mput hC hm 16 6 (by decide) q2346 rfl rfl rfl rfl rfl rfl dX3_good_2_18 (fun M hm hF1 => ?_)
      have hF := hF.tr hF1
      refine x_aload_n hC dX3_good_2_21 rfl rfl ?_
      refine x_get hC 16 hm.1 rfl (by decide) q2346 rfl rfl dX3_good_2_22 ?_
      refine x_if_ne (tgt := 32) hC dX3_good_2_25 (by decide) (fun c3 => ?_) (fun c3 => ?_)
      · exact absurd (show upd V 6 0 6 = 0 from rfl) c3
      · refine x_iconst (v := 1) hC dX3_good_2_28 (by decide) ?_
        refine x_goto (tgt := 33) hC dX3_good_2_29 (by decide) ?_
        exact x_zret hC hk dX3_good_2_33 (by first | rfl | exact xB_nar) (Nat.le_of_ble_eq_true rfl) (Nat.le_of_ble_eq_true rfl) ⟨by rw [xB_t ⟨c, c2⟩], by rw [if_pos c, if_pos c2]; exact hm, hF⟩
  · refine x_iconst (v := 1) hC dX3_good_2_5 (by decide) ?_
    refine x_goto (tgt := 18) hC dX3_good_2_6 (by decide) ?_
    refine x_mput hC hm 16 6 (by decide) q2346 rfl rfl rfl rfl rfl rfl dX3_good_2_18 (fun M hm hF1 => ?_)
    have hF := hF.tr hF1
    refine x_aload_n hC dX3_good_2_21 rfl rfl ?_
    refine x_get hC 16 hm.1 rfl (by decide) q2346 rfl rfl dX3_good_2_22 ?_
    refine x_if_ne (tgt := 32) hC dX3_good_2_25 (by decide) (fun c3 => ?_) (fun c3 => ?_)
    · refine x_iconst (v := 0) hC dX3_good_2_32 (by decide) ?_
      exact x_zret hC hk dX3_good_2_33 (by first | rfl | exact xB_nar) (Nat.le_of_ble_eq_true rfl) (Nat.le_of_ble_eq_true rfl) ⟨by rw [xB_f fun h => c h.1], by rw [if_neg c]; exact hm, hF⟩
    · exact absurd c3 (show ¬ (1 : Int32) = 0 by decide)
end M1

