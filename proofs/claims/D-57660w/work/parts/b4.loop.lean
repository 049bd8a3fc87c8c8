/-! ===== the law's loop, its beginning ===== -/
section LOOP
variable {G : X_G} {C : X_C} {nm : String} {M : X_M} {T : X_T} {b L x m o od i kc ks : Nat} {xs : Nat → Int32} {v6 v7 v8 : Option Value}
theorem x_tableIn {lv : List (Option Value)} {rest : List Value} {pc nL : Nat} {y : MethodName} {cc : ByteArray} {ret : Option FieldType} {rm : Room} (hC : Cx G C y cc nL ret rm) {dflt lo hi : Int} {offs : Array Int} {len k : Nat} {off : Int} {tgt : Nat} (hdg : decode cc pc = .ok (.tableswitch dflt lo hi offs, len)) (h1 : ¬ (nI k).toInt < lo) (h2 : ¬ hi < (nI k).toInt) (ho : offs[((nI k).toInt - lo).toNat]? = some off) (ht : (pc : Int) + off = (tgt : Int))
    (kk : Wg G C M kc ks tgt lv rest) : Wg G C M kc ks pc lv (.int (nI k) :: rest) := fun H locs ls hW hz hq hl9 => lv_tableIn hC.1 hC.2.1 hdg h1 h2 ho ht (kk H locs ls hW hz hq hl9)
theorem x_tableOut {lv : List (Option Value)} {rest : List Value} {pc nL : Nat} {y : MethodName} {cc : ByteArray} {ret : Option FieldType} {rm : Room} (hC : Cx G C y cc nL ret rm) {dflt lo hi : Int} {offs : Array Int} {len : Nat} {z : Int32} {tgt : Nat} (hdg : decode cc pc = .ok (.tableswitch dflt lo hi offs, len)) (h : z.toInt < lo ∨ hi < z.toInt) (ht : (pc : Int) + dflt = (tgt : Int))
    (kk : Wg G C M kc ks tgt lv rest) : Wg G C M kc ks pc lv (.int z :: rest) := fun H locs ls hW hz hq hl9 => lv_tableOut hC.1 hC.2.1 hdg h ht (kk H locs ls hW hz hq hl9)
theorem and63 (y : Int32) : ∃ k, k < 64 ∧ y &&& 63 = nI k := by
  refine ⟨(y.toBitVec.toNat) % 64, Nat.mod_lt _ (by decide), ?_⟩
  apply Int32.toBitVec_inj.mp
  rw [Int32.toBitVec_and]
  apply BitVec.eq_of_toNat_eq
  have e : (63 : Int32).toBitVec.toNat = 2 ^ 6 - 1 := by decide
  rw [BitVec.toNat_and, e, Nat.and_two_pow_sub_one_eq_mod]
  show _ = (Int32.ofNat (y.toBitVec.toNat % 64)).toBitVec.toNat
  rw [show (Int32.ofNat (y.toBitVec.toNat % 64)).toBitVec = BitVec.ofNat 32 (y.toBitVec.toNat % 64) from rfl, BitVec.toNat_ofNat]
  have : y.toBitVec.toNat % 64 < 64 := Nat.mod_lt _ (by decide)
  rw [Nat.mod_eq_of_lt (a := y.toBitVec.toNat % 64) (b := 2 ^ 32) (by omega)]
theorem law_sw (hG : GOK G) (hC : Cx G C (yL nm) cL_law 9 (some .boolean) room_1) (hT0 : T0 G T) (hT1 : T1 G T) (hT2 : T2 G T) (h : XLS T b L x m o od xs M) (hi : i + 5 < L) (hL : L ≤ 144) (hr : kc + 22010 ≤ room_1.cells ∧ ks + 80100 ≤ room_1.slots) (next : LN G C T b L x m o od i xs (kc + 22010) (ks + 80100)) {k : Nat} (hk : k < 64) : Wg G C M kc ks 45 [some (.ref b), some (.ref x), some (.ref m), some (.ref o), some (.ref od), some (.int (nI i)), v6, v7, v8] [.int (nI k)] := by
  rcases Nat.lt_or_ge k 61 with h61 | h61
  · match k, h61 with
    | 0, _ => exact x_tableIn (tgt := 304) hC dL_law_45 (by decide) (by decide) (by decide +kernel : _ = some (259 : Int)) rfl (lc_0 hG hC hT0 hT1 hT2 h hi hL hr next)
    | 1, _ => exact x_tableIn (tgt := 408) hC dL_law_45 (by decide) (by decide) (by decide +kernel : _ = some (363 : Int)) rfl (lc_1 hG hC hT0 hT1 hT2 h hi hL hr next)
    | 2, _ => exact x_tableIn (tgt := 464) hC dL_law_45 (by decide) (by decide) (by decide +kernel : _ = some (419 : Int)) rfl (lc_2 hG hC hT0 hT1 hT2 h hi hL hr next)
    | 3, _ => exact x_tableIn (tgt := 508) hC dL_law_45 (by decide) (by decide) (by decide +kernel : _ = some (463 : Int)) rfl (lc_3 hG hC hT0 hT1 hT2 h hi hL hr next)
    | 4, _ => exact x_tableIn (tgt := 521) hC dL_law_45 (by decide) (by decide) (by decide +kernel : _ = some (476 : Int)) rfl (lc_4 hG hC hT0 hT1 hT2 h hi hL hr next)
    | 5, _ => exact x_tableIn (tgt := 534) hC dL_law_45 (by decide) (by decide) (by decide +kernel : _ = some (489 : Int)) rfl (lc_5 hG hC hT0 hT1 hT2 h hi hL hr next)
    | 6, _ => exact x_tableIn (tgt := 547) hC dL_law_45 (by decide) (by decide) (by decide +kernel : _ = some (502 : Int)) rfl (lc_6 hG hC hT0 hT1 hT2 h hi hL hr next)
    | 7, _ => exact x_tableIn (tgt := 603) hC dL_law_45 (by decide) (by decide) (by decide +kernel : _ = some (558 : Int)) rfl (lc_7 hG hC hT0 hT1 hT2 h hi hL hr next)
    | 8, _ => exact x_tableIn (tgt := 671) hC dL_law_45 (by decide) (by decide) (by decide +kernel : _ = some (626 : Int)) rfl (lc_8 hG hC hT0 hT1 hT2 h hi hL hr next)
    | 9, _ => exact x_tableIn (tgt := 684) hC dL_law_45 (by decide) (by decide) (by decide +kernel : _ = some (639 : Int)) rfl (lc_9 hG hC hT0 hT1 hT2 h hi hL hr next)
    | 10, _ => exact x_tableIn (tgt := 752) hC dL_law_45 (by decide) (by decide) (by decide +kernel : _ = some (707 : Int)) rfl (lc_10 hG hC hT0 hT1 hT2 h hi hL hr next)
    | 11, _ => exact x_tableIn (tgt := 807) hC dL_law_45 (by decide) (by decide) (by decide +kernel : _ = some (762 : Int)) rfl (lc_11 hG hC hT0 hT1 hT2 h hi hL hr next)
    | 12, _ => exact x_tableIn (tgt := 863) hC dL_law_45 (by decide) (by decide) (by decide +kernel : _ = some (818 : Int)) rfl (lc_12 hG hC hT0 hT1 hT2 h hi hL hr next)
    | 13, _ => exact x_tableIn (tgt := 940) hC dL_law_45 (by decide) (by decide) (by decide +kernel : _ = some (895 : Int)) rfl (lc_13 hG hC hT0 hT1 hT2 h hi hL hr next)
    | 14, _ => exact x_tableIn (tgt := 996) hC dL_law_45 (by decide) (by decide) (by decide +kernel : _ = some (951 : Int)) rfl (lc_14 hG hC hT0 hT1 hT2 h hi hL hr next)
    | 15, _ => exact x_tableIn (tgt := 1076) hC dL_law_45 (by decide) (by decide) (by decide +kernel : _ = some (1031 : Int)) rfl (lc_15 hG hC hT0 hT1 hT2 h hi hL hr next)
    | 16, _ => exact x_tableIn (tgt := 1139) hC dL_law_45 (by decide) (by decide) (by decide +kernel : _ = some (1094 : Int)) rfl (lc_16 hG hC hT0 hT1 hT2 h hi hL hr next)
    | 17, _ => exact x_tableIn (tgt := 1183) hC dL_law_45 (by decide) (by decide) (by decide +kernel : _ = some (1138 : Int)) rfl (lc_17 hG hC hT0 hT1 hT2 h hi hL hr next)
    | 18, _ => exact x_tableIn (tgt := 1263) hC dL_law_45 (by decide) (by decide) (by decide +kernel : _ = some (1218 : Int)) rfl (lc_18 hG hC hT0 hT1 hT2 h hi hL hr next)
    | 19, _ => exact x_tableIn (tgt := 1331) hC dL_law_45 (by decide) (by decide) (by decide +kernel : _ = some (1286 : Int)) rfl (lc_19 hG hC hT0 hT1 hT2 h hi hL hr next)
    | 20, _ => exact x_tableIn (tgt := 1399) hC dL_law_45 (by decide) (by decide) (by decide +kernel : _ = some (1354 : Int)) rfl (lc_20 hG hC hT0 hT1 hT2 h hi hL hr next)
    | 21, _ => exact x_tableIn (tgt := 1467) hC dL_law_45 (by decide) (by decide) (by decide +kernel : _ = some (1422 : Int)) rfl (lc_21 hG hC hT0 hT1 hT2 h hi hL hr next)
    | 22, _ => exact x_tableIn (tgt := 1523) hC dL_law_45 (by decide) (by decide) (by decide +kernel : _ = some (1478 : Int)) rfl (lc_22 hG hC hT0 hT1 hT2 h hi hL hr next)
    | 23, _ => exact x_tableIn (tgt := 1602) hC dL_law_45 (by decide) (by decide) (by decide +kernel : _ = some (1557 : Int)) rfl (lc_23 hG hC hT0 hT1 hT2 h hi hL hr next)
    | 24, _ => exact x_tableIn (tgt := 1670) hC dL_law_45 (by decide) (by decide) (by decide +kernel : _ = some (1625 : Int)) rfl (lc_24 hG hC hT0 hT1 hT2 h hi hL hr next)
    | 25, _ => exact x_tableIn (tgt := 1738) hC dL_law_45 (by decide) (by decide) (by decide +kernel : _ = some (1693 : Int)) rfl (lc_25 hG hC hT0 hT1 hT2 h hi hL hr next)
    | 26, _ => exact x_tableIn (tgt := 1815) hC dL_law_45 (by decide) (by decide) (by decide +kernel : _ = some (1770 : Int)) rfl (lc_26 hG hC hT0 hT1 hT2 h hi hL hr next)
    | 27, _ => exact x_tableIn (tgt := 1883) hC dL_law_45 (by decide) (by decide) (by decide +kernel : _ = some (1838 : Int)) rfl (lc_27 hG hC hT0 hT1 hT2 h hi hL hr next)
    | 28, _ => exact x_tableIn (tgt := 1951) hC dL_law_45 (by decide) (by decide) (by decide +kernel : _ = some (1906 : Int)) rfl (lc_28 hG hC hT0 hT1 hT2 h hi hL hr next)
    | 29, _ => exact x_tableIn (tgt := 2019) hC dL_law_45 (by decide) (by decide) (by decide +kernel : _ = some (1974 : Int)) rfl (lc_29 hG hC hT0 hT1 hT2 h hi hL hr next)
    | 30, _ => exact x_tableIn (tgt := 2097) hC dL_law_45 (by decide) (by decide) (by decide +kernel : _ = some (2052 : Int)) rfl (lc_30 hG hC hT0 hT1 hT2 h hi hL hr next)
    | 31, _ => exact x_tableIn (tgt := 2165) hC dL_law_45 (by decide) (by decide) (by decide +kernel : _ = some (2120 : Int)) rfl (lc_31 hG hC hT0 hT1 hT2 h hi hL hr next)
    | 32, _ => exact x_tableIn (tgt := 2254) hC dL_law_45 (by decide) (by decide) (by decide +kernel : _ = some (2209 : Int)) rfl (lc_32 hG hC hT0 hT1 hT2 h hi hL hr next)
    | 33, _ => exact x_tableIn (tgt := 2310) hC dL_law_45 (by decide) (by decide) (by decide +kernel : _ = some (2265 : Int)) rfl (lc_33 hG hC hT0 hT1 hT2 h hi hL hr next)
    | 34, _ => exact x_tableIn (tgt := 2389) hC dL_law_45 (by decide) (by decide) (by decide +kernel : _ = some (2344 : Int)) rfl (lc_34 hG hC hT0 hT1 hT2 h hi hL hr next)
    | 35, _ => exact x_tableIn (tgt := 2457) hC dL_law_45 (by decide) (by decide) (by decide +kernel : _ = some (2412 : Int)) rfl (lc_35 hG hC hT0 hT1 hT2 h hi hL hr next)
    | 36, _ => exact x_tableIn (tgt := 2537) hC dL_law_45 (by decide) (by decide) (by decide +kernel : _ = some (2492 : Int)) rfl (lc_36 hG hC hT0 hT1 hT2 h hi hL hr next)
    | 37, _ => exact x_tableIn (tgt := 2604) hC dL_law_45 (by decide) (by decide) (by decide +kernel : _ = some (2559 : Int)) rfl (lc_37 hG hC hT0 hT1 hT2 h hi hL hr next)
    | 38, _ => exact x_tableIn (tgt := 2660) hC dL_law_45 (by decide) (by decide) (by decide +kernel : _ = some (2615 : Int)) rfl (lc_38 hG hC hT0 hT1 hT2 h hi hL hr next)
    | 39, _ => exact x_tableIn (tgt := 2716) hC dL_law_45 (by decide) (by decide) (by decide +kernel : _ = some (2671 : Int)) rfl (lc_39 hG hC hT0 hT1 hT2 h hi hL hr next)
    | 40, _ => exact x_tableIn (tgt := 2772) hC dL_law_45 (by decide) (by decide) (by decide +kernel : _ = some (2727 : Int)) rfl (lc_40 hG hC hT0 hT1 hT2 h hi hL hr next)
    | 41, _ => exact x_tableIn (tgt := 2828) hC dL_law_45 (by decide) (by decide) (by decide +kernel : _ = some (2783 : Int)) rfl (lc_41 hG hC hT0 hT1 hT2 h hi hL hr next)
    | 42, _ => exact x_tableIn (tgt := 2908) hC dL_law_45 (by decide) (by decide) (by decide +kernel : _ = some (2863 : Int)) rfl (lc_42 hG hC hT0 hT1 hT2 h hi hL hr next)
    | 43, _ => exact x_tableIn (tgt := 2988) hC dL_law_45 (by decide) (by decide) (by decide +kernel : _ = some (2943 : Int)) rfl (lc_43 hG hC hT0 hT1 hT2 h hi hL hr next)
    | 44, _ => exact x_tableIn (tgt := 3056) hC dL_law_45 (by decide) (by decide) (by decide +kernel : _ = some (3011 : Int)) rfl (lc_44 hG hC hT0 hT1 hT2 h hi hL hr next)
    | 45, _ => exact x_tableIn (tgt := 3124) hC dL_law_45 (by decide) (by decide) (by decide +kernel : _ = some (3079 : Int)) rfl (lc_45 hG hC hT0 hT1 hT2 h hi hL hr next)
    | 46, _ => exact x_tableIn (tgt := 3216) hC dL_law_45 (by decide) (by decide) (by decide +kernel : _ = some (3171 : Int)) rfl (lc_46 hG hC hT0 hT1 hT2 h hi hL hr next)
    | 47, _ => exact x_tableIn (tgt := 3284) hC dL_law_45 (by decide) (by decide) (by decide +kernel : _ = some (3239 : Int)) rfl (lc_47 hG hC hT0 hT1 hT2 h hi hL hr next)
    | 48, _ => exact x_tableIn (tgt := 3364) hC dL_law_45 (by decide) (by decide) (by decide +kernel : _ = some (3319 : Int)) rfl (lc_48 hG hC hT0 hT1 hT2 h hi hL hr next)
    | 49, _ => exact x_tableIn (tgt := 3432) hC dL_law_45 (by decide) (by decide) (by decide +kernel : _ = some (3387 : Int)) rfl (lc_49 hG hC hT0 hT1 hT2 h hi hL hr next)
    | 50, _ => exact x_tableIn (tgt := 3488) hC dL_law_45 (by decide) (by decide) (by decide +kernel : _ = some (3443 : Int)) rfl (lc_50 hG hC hT0 hT1 hT2 h hi hL hr next)
    | 51, _ => exact x_tableIn (tgt := 3556) hC dL_law_45 (by decide) (by decide) (by decide +kernel : _ = some (3511 : Int)) rfl (lc_51 hG hC hT0 hT1 hT2 h hi hL hr next)
    | 52, _ => exact x_tableIn (tgt := 3624) hC dL_law_45 (by decide) (by decide) (by decide +kernel : _ = some (3579 : Int)) rfl (lc_52 hG hC hT0 hT1 hT2 h hi hL hr next)
    | 53, _ => exact x_tableIn (tgt := 3692) hC dL_law_45 (by decide) (by decide) (by decide +kernel : _ = some (3647 : Int)) rfl (lc_53 hG hC hT0 hT1 hT2 h hi hL hr next)
    | 54, _ => exact x_tableIn (tgt := 3748) hC dL_law_45 (by decide) (by decide) (by decide +kernel : _ = some (3703 : Int)) rfl (lc_54 hG hC hT0 hT1 hT2 h hi hL hr next)
    | 55, _ => exact x_tableIn (tgt := 3804) hC dL_law_45 (by decide) (by decide) (by decide +kernel : _ = some (3759 : Int)) rfl (lc_55 hG hC hT0 hT1 hT2 h hi hL hr next)
    | 56, _ => exact x_tableIn (tgt := 3848) hC dL_law_45 (by decide) (by decide) (by decide +kernel : _ = some (3803 : Int)) rfl (lc_56 hG hC hT0 hT1 hT2 h hi hL hr next)
    | 57, _ => exact x_tableIn (tgt := 3861) hC dL_law_45 (by decide) (by decide) (by decide +kernel : _ = some (3816 : Int)) rfl (lc_57 hG hC hT0 hT1 hT2 h hi hL hr next)
    | 58, _ => exact x_tableIn (tgt := 3905) hC dL_law_45 (by decide) (by decide) (by decide +kernel : _ = some (3860 : Int)) rfl (lc_58 hG hC hT0 hT1 hT2 h hi hL hr next)
    | 59, _ => exact x_tableIn (tgt := 3961) hC dL_law_45 (by decide) (by decide) (by decide +kernel : _ = some (3916 : Int)) rfl (lc_59 hG hC hT0 hT1 hT2 h hi hL hr next)
    | 60, _ => exact x_tableIn (tgt := 4029) hC dL_law_45 (by decide) (by decide) (by decide +kernel : _ = some (3984 : Int)) rfl (lc_60 hG hC hT0 hT1 hT2 h hi hL hr next)
    | n + 61, h9 => exact absurd h9 (by omega)
  · refine x_tableOut (tgt := 4085) hC dL_law_45 (Or.inr ?_) rfl (x_widen (Nat.le_add_right _ _) (Nat.le_add_right _ _) (next M _ _ _ h))
    rw [nI_toInt (by omega)]
    omega
theorem law_loop (hG : GOK G) (hC : Cx G C (yL nm) cL_law 9 (some .boolean) room_1) (hT0 : T0 G T) (hT1 : T1 G T) (hT2 : T2 G T) (hL : L ≤ 144) (hE : ∀ (M : X_M) (kc ks : Nat) (lv : List (Option Value)), kc ≤ 1200144 → ks ≤ 5496058 → Wg G C M kc ks 4092 lv [.int 1]) : ∀ (n c : Nat) (M : X_M) (v6 v7 v8 : Option Value), c + n = 24 → XLS T b L x m o od xs M → Wg G C M (20 + 22010 * c) (7890 + 80100 * c) 28 [some (.ref b), some (.ref x), some (.ref m), some (.ref o), some (.ref od), some (.int (nI (6 * c))), v6, v7, v8] [] := by
  intro n
  induction n with
  | zero =>
    intro c M v6 v7 v8 hc h
    have hb := h.1
    refine x_iload hC dL_law_28 rfl ?_
    refine x_aload_n hC dL_law_30 rfl rfl ?_
    refine x_alen hC hb dL_law_31 ?_
    refine x_bipush (v := 6) hC dL_law_32 (by decide) ?_
    refine x_isub hC dL_law_34 ?_
    refine x_icmp_gt (tgt := 4091) hC dL_law_35 (by decide) (fun _ => ?_) (fun d => ?_)
    · refine x_iconst (v := 1) hC dL_law_4091 (by decide) ?_
      exact hE _ _ _ _ (by omega) (by omega)
    · exfalso
      apply d
      rw [Int32.lt_iff_toInt_lt, nI_toInt (by omega), Int32.toInt_sub, nI_toInt (by omega), show (6 : Int32).toInt = 6 by decide, Int.bmod_eq_of_le (by omega) (by omega)]
      omega
  | succ n ih =>
    intro c M v6 v7 v8 hc h
    have hb := h.1
    refine x_iload hC dL_law_28 rfl ?_
    refine x_aload_n hC dL_law_30 rfl rfl ?_
    refine x_alen hC hb dL_law_31 ?_
    refine x_bipush (v := 6) hC dL_law_32 (by decide) ?_
    refine x_isub hC dL_law_34 ?_
    refine x_icmp_gt (tgt := 4091) hC dL_law_35 (by decide) (fun _ => ?_) (fun d => ?_)
    · refine x_iconst (v := 1) hC dL_law_4091 (by decide) ?_
      exact hE _ _ _ _ (by omega) (by omega)
    · have hi : 6 * c + 6 ≤ L := by
        refine Nat.not_lt.mp fun hlt => d ?_
        rw [Int32.lt_iff_toInt_lt, nI_toInt (by omega), Int32.toInt_sub, nI_toInt (by omega), show (6 : Int32).toInt = 6 by decide, Int.bmod_eq_of_le (by omega) (by omega)]
        omega
      refine x_aload_n hC dL_law_38 rfl rfl ?_
      refine x_iload hC dL_law_39 rfl ?_
      refine x_ialdN hC hb (by omega) (by first | decide | omega) dL_law_41 ?_
      refine x_bipush (v := 63) hC dL_law_42 (by decide) ?_
      refine x_iand hC dL_law_44 ?_
      obtain ⟨k, hk, ek⟩ := and63 (xs (6 * c))
      rw [ek]
      refine law_sw hG hC hT0 hT1 hT2 h (by omega) hL ⟨?_, ?_⟩ (fun M' w6 w7 w8 h' => ?_) hk
      · have : 20 + 22010 * c + 22010 ≤ 1200144 := by omega
        exact this
      · have : 7890 + 80100 * c + 80100 ≤ 5496058 := by omega
        exact this
      · refine x_iincN (lv' := [_, _, _, _, _, _, _, _, _]) (b := 6) hC dL_law_4085 rfl (by decide) (by decide) rfl ?_
        refine x_goto (tgt := 28) hC dL_law_4088 (by decide) ?_
        have g := ih (c + 1) M' w6 w7 w8 (by omega) h'
        rw [show 20 + 22010 * (c + 1) = 20 + 22010 * c + 22010 by omega, show 7890 + 80100 * (c + 1) = 7890 + 80100 * c + 80100 by omega, show 6 * (c + 1) = 6 * c + 6 by omega] at g
        exact g
theorem mrep0 : MRep ([], [], none, [], (0, -1), []) (upd (fun _ => 0) 5 (-1)) (fun _ _ => 0) := by
  refine ⟨⟨⟨rfl, fun c r h => by cases h⟩, Nat.zero_le _, (fun r h => by cases h), List.nodup_nil⟩, ⟨rfl, Nat.zero_le _, fun j R h => by cases h⟩, ⟨(xB_f (by decide)).symm, fun R h => by cases h⟩, ⟨rfl, Nat.zero_le _, fun j R h => by cases h⟩, ⟨rfl, rfl⟩, ⟨rfl, Nat.zero_le _, fun j R h => by cases h⟩⟩
theorem law_run (hG : GOK G) (hC : Cx G C (yL nm) cL_law 9 (some .boolean) room_1) (hT0 : T0 G T) (hT1 : T1 G T) (hT2 : T2 G T) (hL : L ≤ 144) (hb : M b = some (ia 0 L xs)) (h0 : M0c T M) (h1 : M1c T M) (h2 : M2c T M) (hE : ∀ (M : X_M) (kc ks : Nat) (lv : List (Option Value)), kc ≤ 1200144 → ks ≤ 5496058 → Wg G C M kc ks 4092 lv [.int 1]) : Wg G C M 0 0 0 [some (.ref b), none, none, none, none, none, none, none, none] [] := by
  refine x_new (ci := 1) (T := TX1) (N := 8) hC 1 [.null, .int 0, .int 0, .int 0, .null, .null, .null, .null] rfl q126 q127 q81 tyX1 tyX1_ok (by decide) (by decide +kernel) (Nat.le_of_ble_eq_true rfl) (Nat.le_of_ble_eq_true rfl) dL_law_0 (fun x hx => ?_)
  have hF0 : Fr PW M (mu M x (ob 1 1 [.null, .int 0, .int 0, .int 0, .null, .null, .null, .null])) := Fr.new hx
  have nz : ¬ PW 0 := fun z => z.1 rfl
  have h01 := hF0.z nz h0
  have h11 := h1.fr hF0 nz
  have h21 := h2.fr hF0 nz
  have hb1 := hF0.z nz hb
  refine x_dup hC dL_law_3 rfl ?_
  refine x_callI (k := 7) (n := 948) (na := 0) hC (ct_cinit hG hT0 hT2 h01 h21 mu_s) q130 q81 q128 q129 rfl (by decide +kernel) rfl ⟨Nat.le_of_ble_eq_true rfl, Nat.le_of_ble_eq_true rfl⟩ rfl (Nat.le_of_ble_eq_true rfl) (Nat.le_of_ble_eq_true rfl) (Nat.le_of_ble_eq_true rfl) ⟨Nat.le_of_ble_eq_true rfl, Nat.le_of_ble_eq_true rfl⟩ dL_law_4 ?_
  rintro _ M1 ⟨rfl, hR, hF1⟩
  have h12 := h11.fr hF1 nz
  have h22 := h21.fr hF1 nz
  have hb2 := hF1.z nz hb1
  refine x_astore_n (lv' := [_, _, _, _, _, _, _, _, _]) hC dL_law_7 rfl (by decide) rfl ?_
  refine x_new (ci := 0) (T := TX3) (N := 21) hC 10 (moZ 0 (fun _ => 0)) rfl q2324 q2325 q89 tyX3 tyX3_ok (by decide) (by decide +kernel) (Nat.le_of_ble_eq_true rfl) (Nat.le_of_ble_eq_true rfl) dL_law_8 (fun m hm => ?_)
  have hF2 : Fm M1 (mu M1 m (ob 10 0 (moZ 0 (fun _ => 0)))) := Fr.new hm
  refine x_dup hC dL_law_11 rfl ?_
  refine x_callI (k := 18) (n := 7888) (na := 0) hC (ct_init hG (P := fun _ => 0) ⟨mu_s, (fun i h => absurd h (Nat.not_lt_zero _)), (fun i k h => absurd h (Nat.not_lt_zero _))⟩) q2328 q89 q2326 q2327 rfl (by decide +kernel) rfl ⟨Nat.le_of_ble_eq_true rfl, Nat.le_of_ble_eq_true rfl⟩ rfl (Nat.le_of_ble_eq_true rfl) (Nat.le_of_ble_eq_true rfl) (Nat.le_of_ble_eq_true rfl) ⟨Nat.le_of_ble_eq_true rfl, Nat.le_of_ble_eq_true rfl⟩ dL_law_12 ?_
  rintro _ M2 ⟨rfl, P, hm2, hF3⟩
  have hF4 := hF2.tr hF3
  have hR2 : CRep ([], [], none, [], (0, -1), []) M2 T x := hR.fr hF4 (by decide) (by decide) (by decide) (by decide) (fun g z e => by have e : g = 10 := e; omega)
  have h13 := h12.fr hF4 (by decide)
  have h23 := h22.fr hF4 (by decide)
  have hb3 := hF4.z (by decide) hb2
  refine x_astore_n (lv' := [_, _, _, _, _, _, _, _, _]) hC dL_law_15 rfl (by decide) rfl ?_
  refine x_iconst (v := 1) hC dL_law_16 (by decide) ?_
  refine x_newl hC 1 11 q2875 (by decide) rfl (by decide) (Nat.le_of_ble_eq_true rfl) (Nat.le_of_ble_eq_true rfl) dL_law_17 (fun o ho => ?_)
  refine x_astore_n (lv' := [_, _, _, _, _, _, _, _, _]) hC dL_law_19 rfl (by decide) rfl ?_
  refine x_iconst (v := 1) hC dL_law_20 (by decide) ?_
  refine x_newd hC 1 11 q2876 (by decide) rfl (by decide) (Nat.le_of_ble_eq_true rfl) (Nat.le_of_ble_eq_true rfl) dL_law_21 (fun od hod => ?_)
  refine x_astore (lv' := [_, _, _, _, _, _, _, _, _]) hC dL_law_23 (by decide) rfl ?_
  refine x_iconst (v := 0) hC dL_law_25 (by decide) ?_
  refine x_istore (lv' := [_, _, _, _, _, _, _, _, _]) hC dL_law_26 (by decide) rfl ?_
  have n1 : Fr (fun g => g = 11) M2 (mu M2 o (xar 11 4 (1, .inr (.inl (fun _ => 0))))) := Fr.new ho
  have n2 : Fr (fun g => g = 12) (mu M2 o (xar 11 4 (1, .inr (.inl (fun _ => 0))))) (mu (mu M2 o (xar 11 4 (1, .inr (.inl (fun _ => 0))))) od (xar 11 5 (1, .inr (.inr (.inr (.inl (fun _ => FP.dconst0))))))) := Fr.new hod
  have hR3 := (hR2.fr n1 (by decide) (by decide) (by decide) (by decide) (fun g z e => by have e : g = 11 := e; omega)).fr n2 (by decide) (by decide) (by decide) (by decide) (fun g z e => by have e : g = 12 := e; omega)
  refine law_loop hG hC hT0 hT1 hT2 hL hE 24 0 _ _ _ _ rfl ⟨n2.z (by decide) (n1.z (by decide) hb3), (h13.fr n1 (by decide)).fr n2 (by decide), (h23.fr n1 (by decide)).fr n2 (by decide), ⟨_, P, _, _, hR3, ⟨n2.z (by decide) (n1.z (by decide) hm2.1), fun i hi => n2.z (by decide) (n1.z (by decide) (hm2.2.1 i hi)), hm2.2.2⟩, mrep0⟩, ⟨_, n2.z (by decide) mu_s⟩, ⟨_, mu_s⟩⟩
end LOOP

