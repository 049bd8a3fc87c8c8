/-! ===== the component's parser: its object, check, isNext ===== -/
abbrev sDs : String := "LWalshAnalyzer$Sort;"
abbrev sNm : String := "WalshAnalyzer$Sort"
/-- the strings and the sorts of tokens of the start -/
def T2 (G : X_G) (T : X_T) : Prop := (Zs G sNm "WORD" sDs (.ref (T 7)) ∧ Zs G sNm "NUMBER" sDs (.ref (T 8)) ∧ Zs G sNm "HYPHEN" sDs (.ref (T 9)) ∧ Zs G sNm "SEMICOLON" sDs (.ref (T 10)) ∧ Zs G sNm "END" sDs (.ref (T 11))) ∧ (∀ i j, 7 ≤ i → i < 12 → 7 ≤ j → j < 12 → T i = T j → i = j) ∧ vk_R "WalshAnalyzer$Parser" 31 "" (T 3) (gs G) ∧ vk_R "WalshAnalyzer$Parser" 109 "bell" (T 5) (gs G) ∧ vk_R "WalshAnalyzer" 56 "" (T 3) (gs G)
def M2c (T : X_T) (M : X_M) : Prop := SM M (T 3) [] ∧ SM M (T 5) [98, 101, 108, 108]
theorem M2c.fr {P : Nat → Prop} {M M' : X_M} {T : X_T} (h : M2c T M) (hF : Fr P M M') (h0 : ¬ P 0) : M2c T M' := ⟨h.1.fr hF h0, h.2.fr hF h0⟩
theorem x_ldcS {G : X_G} {C : X_C} {M : X_M} {kc ks pc nL : Nat} {lv : List (Option Value)} {rest : List Value} {y : MethodName} {cc : ByteArray} {ret : Option FieldType} {rm : Room} (hC : Cx G C y cc nL ret rm) {tx : String} {index q : Nat} (hZ : vk_R y.cls index tx q (gs G)) (hdg : decode cc pc = .ok (.ldc index, 2)) (kk : Wg G C M kc ks (pc + 2) lv (.ref q :: rest)) : Wg G C M kc ks pc lv rest := fun H locs ls hW hz hq hl => va_ldcS hC.1 hC.2.1 hC.own (vk_R.warm hC.warm hZ) hdg (kk H locs ls hW hz hq hl)
abbrev pF (bu L ar rd rc po st so wo : Nat) (nu : Int32) : List Value := [.ref bu, .int (nI L), .ref ar, .ref rd, .int (nI rc), .int (nI po), .int (nI st), .ref so, .ref wo, .int nu]
abbrev pO (bu L ar rd rc po st so wo : Nat) (nu : Int32) : X_E := ob 7 5 (pF bu L ar rd rc po st so wo nu)
/-- the bytes that the parser reads -/
def PBt (M : X_M) (bu L : Nat) (b : Nat → Nat) : Prop := ∃ bf, M bu = some (ba 1 900 bf) ∧ L ≤ 900 ∧ ∀ i, i < L → b i < 256 ∧ bf i = sb_b (b i)
theorem PBt.fr {P : Nat → Prop} {M M' : X_M} {bu L : Nat} {b : Nat → Nat} (h : PBt M bu L b) (hF : Fr P M M') (h1 : ¬ P 1) : PBt M' bu L b := by
  obtain ⟨bf, a1, a2, a3⟩ := h
  exact ⟨bf, hF.z h1 a1, a2, a3⟩
theorem PBt.le {M : X_M} {bu L : Nat} {b : Nat → Nat} (h : PBt M bu L b) : L ≤ 900 := by
  obtain ⟨bf, a1, a2, a3⟩ := h
  exact a2
abbrev peF (v0 v1 v2 : Value) (k o : Nat) : List Value := [v0, v1, v2, .null, .null, .int 0, .int (nI k), .int (nI o)]
/-- the error that is thrown, behind what P allows to change -/
def PEr (P : Nat → Prop) (M : X_M) (k o : Nat) : Nat → String → X_M → Prop := fun q E M' => E = nPE ∧ (∃ v0 v1 v2, M' q = some (ob 12 6 (peF v0 v1 v2 k o))) ∧ Fr P M M'
theorem PEr.tr {P : Nat → Prop} {M M1 M' : X_M} {k o q : Nat} {E : String} (hF : Fr P M M1) (h : PEr P M1 k o q E M') : PEr P M k o q E M' := ⟨h.1, h.2.1, hF.tr h.2.2⟩
theorem PEr.wk {P P' : Nat → Prop} {M M' : X_M} {k o q : Nat} {E : String} (h : PEr P M k o q E M') (hp : ∀ g, P g → P' g) : PEr P' M k o q E M' := ⟨h.1, h.2.1, h.2.2.wk hp⟩
/-- the cells that reading a token may write -/
abbrev P7 : Nat → Prop := fun g => g = 7 ∨ g = 3 ∨ g = 5
theorem P7_1 : ¬ P7 1 := by decide
theorem P7_0 : ¬ P7 0 := by decide
theorem p73 {M M' : X_M} (h : Fr (fun g => g = 3) M M') : Fr P7 M M' := h.wk fun _ e => Or.inr (Or.inl e)
theorem p75 {M M' : X_M} (h : Fr (fun g => g = 5) M M') : Fr P7 M M' := h.wk fun _ e => Or.inr (Or.inr e)
theorem p77 {M : X_M} {q : Nat} {x y : (Nat × List Value) ⊕ ((Nat × vp_A) ⊕ Cell)} {g : Nat} (h : M q = some (7, x)) : Fr P7 M (mu M q (g, y)) := Fr.set h (Or.inl rfl)
theorem sb_T : ∀ c, c < 256 → (sb_b c).toInt = if c < 128 then (c : Int) else (c : Int) - 256 := by decide +kernel
theorem sb_rng {c lo hi : Nat} (hc : c < 256) (h1 : 1 ≤ lo) (h2 : hi < 128) (h3 : lo < 128) : (nI lo ≤ sb_b c ∧ sb_b c ≤ nI hi) ↔ (lo ≤ c ∧ c ≤ hi) := by
  rw [Int32.le_iff_toInt_le, Int32.le_iff_toInt_le, nI_toInt (by omega), nI_toInt (by omega), sb_T c hc]
  split <;> omega
theorem sb_chr : ∀ c, c < 128 → ((sb_b c).toUInt32 % 65536).toInt32 = nI c := by decide +kernel
theorem sb_low : ∀ c, c < 128 → sb_b c = nI c := by decide +kernel
section PS1
variable {G : X_G} {M : X_M} {T : X_T} {pa bu L ar rd rc po st so wo : Nat} {nu : Int32} {b : Nat → Nat}
theorem ct_peInit (hG : GOK G) {q : Nat} {ce : Cell} (he : M q = some (xrw 12 ce)) (hF : FrX G ce) (k o : Int32) : Ct G yX5_init cX5_init 3 none (xrm 2 0 0) [.ref q, .int k, .int o] M (fun r M' => r = none ∧ ∃ v0 v1 v2, M' = mu M q (ob 12 6 [v0, v1, v2, .null, .null, .int 0, .int k, .int o])) := by
  refine ct_open (lv := [_, _, _]) hG (by decide +kernel) (Nat.le_of_ble_eq_true rfl) rfl (fun C hC hk => ?_)
  refine x_aload_n hC dX5_init_0 rfl rfl ?_
  refine x_super hC rfl he (by decide) hF dX5_init_1 (Nat.le_of_ble_eq_true rfl) (Nat.le_of_ble_eq_true rfl) (Nat.zero_le _) (Nat.zero_le _) (fun v1 v2 => ?_)
  refine x_aload_n hC dX5_init_4 rfl rfl ?_
  refine x_iload_n hC dX5_init_5 rfl rfl ?_
  refine x_putF hC 6 mu_s (by decide) rfl (by decide) q1433 rfl rfl rfl rfl rfl rfl rfl (show 6 < 8 by decide) (fs' := [.ref q, v1, v2, .null, .null, .int 0, .int k, .int 0]) rfl dX5_init_6 ?_
  rw [mu_mu]
  refine x_aload_n hC dX5_init_9 rfl rfl ?_
  refine x_iload_n hC dX5_init_10 rfl rfl ?_
  refine x_putF hC 7 mu_s (by decide) rfl (by decide) q1435 rfl rfl rfl rfl rfl rfl rfl (show 7 < 8 by decide) (fs' := [.ref q, v1, v2, .null, .null, .int 0, .int k, .int o]) rfl dX5_init_11 ?_
  rw [mu_mu]
  exact x_vret hC hk dX5_init_14 (Nat.le_of_ble_eq_true rfl) (Nat.le_of_ble_eq_true rfl) ⟨rfl, _, v1, v2, rfl⟩
theorem cq_check (hG : GOK G) (h : M pa = some (pO bu L ar rd rc po st so wo nu)) (p : Prop) [Decidable p] (k : Nat) : Cq G yX4_check cX4_check 3 none (xrm 3 1 8) [.ref pa, .int (xB p), .int (nI k)] M (Pok p M) (fun q E M' => ¬ p ∧ PEr (fun _ => False) M k st q E M') := by
  refine cq_open (lv := [_, _, _]) hG (by decide +kernel) (Nat.le_of_ble_eq_true rfl) rfl (fun C hC hk hx => ?_)
  refine x_iload_n hC dX4_check_0 rfl rfl ?_
  refine x_if_neB (tgt := 17) hC dX4_check_1 (by decide) (fun c => ?_) (fun c => ?_)
  · exact x_vret hC hk dX4_check_17 (Nat.le_of_ble_eq_true rfl) (Nat.le_of_ble_eq_true rfl) ⟨rfl, rfl, c⟩
  · refine x_newR hC 12 q1420 (by decide) (Nat.le_of_ble_eq_true rfl) (Nat.le_of_ble_eq_true rfl) dX4_check_4 (fun q ce hq hF => ?_)
    refine x_dup hC dX4_check_7 rfl ?_
    refine x_iload_n hC dX4_check_8 rfl rfl ?_
    refine x_aload_n hC dX4_check_9 rfl rfl ?_
    refine x_get hC 6 (mu_f hq h) rfl (by decide) q1370 rfl rfl dX4_check_10 ?_
    refine x_callI0 (na := 2) hC (ct_peInit hG mu_s hF _ _) q1431 q108 q1429 q1430 rfl (by decide +kernel) rfl ⟨Nat.le_of_ble_eq_true rfl, Nat.le_of_ble_eq_true rfl⟩ rfl (Nat.le_of_ble_eq_true rfl) ⟨rfl, rfl⟩ ⟨Nat.le_of_ble_eq_true rfl, Nat.le_of_ble_eq_true rfl⟩ dX4_check_13 ?_
    rintro _ _ ⟨rfl, v0, v1, v2, rfl⟩
    rw [mu_mu]
    exact x_athrow hC mu_s rfl dX4_check_16 (x_out hC hx (Nat.le_of_ble_eq_true rfl) (Nat.le_of_ble_eq_true rfl) ⟨c, rfl, ⟨v0, v1, v2, mu_s⟩, Fr.new hq⟩)
theorem ct_isNext (hG : GOK G) (h : M pa = some (pO bu L ar rd rc po st so wo nu)) (hb : PBt M bu L b) (hpo : po ≤ L) {lo hi : Nat} (h1 : 1 ≤ lo) (h2 : hi < 128) (h3 : lo < 128) : Ct G yX4_isNext cX4_isNext 3 (some .boolean) (xrm 2 0 0) [.ref pa, .int (nI lo), .int (nI hi)] M (Pr (.int (xB (po < L ∧ lo ≤ b po ∧ b po ≤ hi))) M) := by
  obtain ⟨bf, b1, b2, b3⟩ := hb
  refine ct_open (lv := [_, _, _]) hG (by decide +kernel) (Nat.le_of_ble_eq_true rfl) rfl (fun C hC hk => ?_)
  refine x_aload_n hC dX4_isNext_0 rfl rfl ?_
  refine x_get hC 5 h rfl (by decide) q1369 rfl rfl dX4_isNext_1 ?_
  refine x_aload_n hC dX4_isNext_4 rfl rfl ?_
  refine x_get hC 1 h rfl (by decide) q1365 rfl rfl dX4_isNext_5 ?_
  refine x_icmp_geN (tgt := 32) hC (by omega) (by omega) dX4_isNext_8 (by decide) (fun c1 => ?_) (fun c1 => ?_)
  · refine x_iconst (v := 0) hC dX4_isNext_32 (by decide) ?_
    exact x_zret hC hk dX4_isNext_33 (by first | rfl | exact xB_nar) (Nat.le_of_ble_eq_true rfl) (Nat.le_of_ble_eq_true rfl) ⟨by rw [xB_f (fun z => absurd z.1 (by omega))], rfl⟩
  · obtain ⟨b4, b5⟩ := b3 po c1
    refine x_aload_n hC dX4_isNext_11 rfl rfl ?_
    refine x_get hC 0 h rfl (by decide) q1364 rfl rfl dX4_isNext_12 ?_
    refine x_aload_n hC dX4_isNext_15 rfl rfl ?_
    refine x_get hC 5 h rfl (by decide) q1369 rfl rfl dX4_isNext_16 ?_
    refine x_baldN hC b1 (show po < 900 by omega) (by first | decide | omega) dX4_isNext_19 ?_
    rw [b5]
    refine x_iload_n hC dX4_isNext_20 rfl rfl ?_
    refine x_iload_n hC dX4_isNext_21 rfl rfl ?_
    refine x_callSN0 (na := 3) hC (ct_isBetween hG _ _ _ _) q643 q642 q81 q1407 (by decide +kernel) rfl ⟨Nat.le_of_ble_eq_true rfl, Nat.le_of_ble_eq_true rfl⟩ rfl (Nat.le_of_ble_eq_true rfl) ⟨rfl, rfl⟩ ⟨Nat.le_of_ble_eq_true rfl, Nat.le_of_ble_eq_true rfl⟩ dX4_isNext_22 ?_
    rintro _ M ⟨rfl, rfl⟩
    rw [xB_iff (sb_rng b4 h1 h2 h3)]
    refine x_if_eqB (tgt := 32) hC dX4_isNext_25 (by decide) (fun c2 => ?_) (fun c2 => ?_)
    · refine x_iconst (v := 0) hC dX4_isNext_32 (by decide) ?_
      exact x_zret hC hk dX4_isNext_33 (by first | rfl | exact xB_nar) (Nat.le_of_ble_eq_true rfl) (Nat.le_of_ble_eq_true rfl) ⟨by rw [xB_f (fun z => c2 z.2)], rfl⟩
    · refine x_iconst (v := 1) hC dX4_isNext_28 (by decide) ?_
      refine x_goto (tgt := 33) hC dX4_isNext_29 (by decide) ?_
      exact x_zret hC hk dX4_isNext_33 (by first | rfl | exact xB_nar) (Nat.le_of_ble_eq_true rfl) (Nat.le_of_ble_eq_true rfl) ⟨by rw [xB_t ⟨c1, c2⟩], rfl⟩
end PS1

