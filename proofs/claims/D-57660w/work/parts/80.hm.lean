/-! ===== java/util/HashMap with names as keys ===== -/
/-- the spread code of a name -/
def spr (h : Int32) : Int32 := h ^^^ (h.toUInt32 >>> ((16 : Int32).toUInt32 &&& Int32.toUInt32 31)).toInt32
theorem and15 (x : Int32) : ∃ i, i < 16 ∧ nI 15 &&& x = nI i := by
  have h1 : (nI 15 &&& x).toBitVec.toNat = 15 &&& x.toBitVec.toNat := by
    show (BitVec.and (nI 15).toBitVec x.toBitVec).toNat = _
    exact BitVec.toNat_and ..
  refine ⟨15 &&& x.toBitVec.toNat, Nat.lt_of_le_of_lt Nat.and_le_left (by decide), ?_⟩
  have h2 : 15 &&& x.toBitVec.toNat < 16 := Nat.lt_of_le_of_lt Nat.and_le_left (by decide)
  refine Int32.toBitVec_inj.mp (BitVec.eq_of_toNat_eq ?_)
  rw [h1]
  show _ = (BitVec.ofNat 32 (15 &&& x.toBitVec.toNat)).toNat
  rw [BitVec.toNat_ofNat, Nat.mod_eq_of_lt (Nat.lt_trans h2 (by decide))]
/-- the bucket of the letters w -/
def hI (w : List Nat) : Nat := (nI 15 &&& spr (nmH w)).toNatClampNeg
theorem hI_ok (w : List Nat) : hI w < 16 ∧ nI 15 &&& spr (nmH w) = nI (hI w) := by
  obtain ⟨i, h1, h2⟩ := and15 (spr (nmH w))
  have : hI w = i := by unfold hI; rw [h2, nI_clamp (by omega)]
  rw [this]
  exact ⟨h1, h2⟩
/-- a node: its address, the letters, the key, the value -/
abbrev HN : Type := Nat × List Nat × Nat × Nat
/-- a chain of nodes -/
def Nd (M : X_M) (g : Nat) : Option Nat → List HN → Prop
  | o, [] => o = none
  | o, n :: r => o = some n.1 ∧ ∃ nx, M n.1 = some (ob g 9 [.int (spr (nmH n.2.1)), .ref n.2.2.1, .ref n.2.2.2, va_rf nx]) ∧ NM M n.2.2.1 n.2.1 ∧ Nd M g nx r
def hFind (l : List HN) (w : List Nat) : Option Nat := (l.find? fun n => n.2.1 = w).map fun n => n.2.2.2
def HB (M : X_M) (g t : Nat) (B : Nat → List HN) : Prop := ∃ f, M t = some (oa g 3 16 f) ∧ ∀ i, i < 16 → Nd M g (f i) (B i) ∧ (∀ n ∈ B i, hI n.2.1 = i) ∧ (B i).Pairwise fun n n' => n.2.1 ≠ n'.2.1
/-- the entries of the first buckets, counted -/
def hS (B : Nat → List HN) : Nat → Nat
  | 0 => 0
  | k + 1 => hS B k + (B k).length
/-- the map m: what it holds for letters, how many entries -/
def HM (M : X_M) (g m : Nat) (D : List Nat → Option Nat) (n : Nat) : Prop := ∃ (mc : Int32) (lf : UInt32),
  (M m = some (ob g 8 [.null, .null, .null, .null, .int (nI n), .int mc, .int 0, .float lf]) ∧ (∀ w, D w = none) ∧ n = 0) ∨
  ∃ t B, M m = some (ob g 8 [.null, .null, .ref t, .null, .int (nI n), .int mc, .int 12, .float lf]) ∧ HB M g t B ∧ (∀ w, D w = hFind (B (hI w)) w) ∧ hS B 16 = n
theorem Nd.fr {P : Nat → Prop} {M M' : X_M} {g : Nat} (hF : Fr P M M') (hg : ¬ P g) (h0 : ¬ P 0) : ∀ {l : List HN} {o : Option Nat}, Nd M g o l → Nd M' g o l
  | [], _, h => h
  | n :: r, _, ⟨h1, nx, h2, h3, h4⟩ => ⟨h1, nx, hF.z hg h2, h3.fr hF h0, Nd.fr hF hg h0 h4⟩
theorem HB.fr {P : Nat → Prop} {M M' : X_M} {g t : Nat} {B : Nat → List HN} (h : HB M g t B) (hF : Fr P M M') (hg : ¬ P g) (h0 : ¬ P 0) : HB M' g t B := by
  obtain ⟨f, h1, h2⟩ := h
  exact ⟨f, hF.z hg h1, fun i hi => ⟨Nd.fr hF hg h0 (h2 i hi).1, (h2 i hi).2⟩⟩
theorem HM.fr {P : Nat → Prop} {M M' : X_M} {g m n : Nat} {D : List Nat → Option Nat} (h : HM M g m D n) (hF : Fr P M M') (hg : ¬ P g) (h0 : ¬ P 0) : HM M' g m D n := by
  obtain ⟨mc, lf, ⟨h1, h2⟩ | ⟨t, B, h1, h2, h3⟩⟩ := h
  · exact ⟨mc, lf, Or.inl ⟨hF.z hg h1, h2⟩⟩
  · exact ⟨mc, lf, Or.inr ⟨t, B, hF.z hg h1, h2.fr hF hg h0, h3⟩⟩
section XLF
variable {G : X_G} {C : X_C} {M : X_M} {kc ks pc nL : Nat} {lv : List (Option Value)} {rest : List Value} {y : MethodName} {cc : ByteArray} {ret : Option FieldType} {rm : Room}
theorem x_ldcF (hC : Cx G C y cc nL ret rm) {index : Nat} {v : UInt32} (hconst : Cond.constantFloat y.cls index v ∈ lw_all) (hdg : decode cc pc = .ok (.ldc index, 2)) (k : Wg G C M kc ks (pc + 2) lv (.float v :: rest)) : Wg G C M kc ks pc lv rest := fun H locs ls hW hz hq hl9 => lv_ldcf hC.1 hC.2.1 hC.own (hC.w hconst) hdg (k H locs ls hW hz hq hl9)
end XLF
section HMS
variable {G : X_G} {M : X_M} {g m n k : Nat} {w : List Nat} {D : List Nat → Option Nat}
theorem ct_amInit (hG : GOK G) (M : X_M) (m : Nat) : Ct G yJ3_init cJ3_init 1 none (xrm 1 0 0) [.ref m] M (fun r M' => r = none ∧ M' = M) := by
  refine ct_open (lv := [_]) hG (by decide +kernel) (Nat.le_of_ble_eq_true rfl) rfl (fun C hC hk => ?_)
  refine x_aload_n hC dJ3_init_0 rfl rfl ?_
  refine x_objInit hC q178 q132 q133 dJ3_init_1 (Nat.le_of_ble_eq_true rfl) ⟨Nat.le_of_ble_eq_true rfl, Nat.le_of_ble_eq_true rfl⟩ ?_
  exact x_vret hC hk dJ3_init_4 (Nat.le_of_ble_eq_true rfl) (Nat.le_of_ble_eq_true rfl) ⟨rfl, rfl⟩
theorem ct_hmInit (hG : GOK G) (hg : g ≠ 0) (h : M m = some (ob g 8 [.null, .null, .null, .null, .int 0, .int 0, .int 0, .float 0])) : Ct G yJ4_init cJ4_init 1 none (xrm 2 0 0) [.ref m] M (fun r M' => r = none ∧ HM M' g m (fun _ => none) 0 ∧ Fr (fun g' => g' = g) M M') := by
  refine ct_open (lv := [_]) hG (by decide +kernel) (Nat.le_of_ble_eq_true rfl) rfl (fun C hC hk => ?_)
  refine x_aload_n hC dJ4_init_0 rfl rfl ?_
  refine x_callI0 (na := 0) hC (ct_amInit hG M m) q177 q86 q175 q176 rfl (by decide +kernel) rfl ⟨Nat.le_of_ble_eq_true rfl, Nat.le_of_ble_eq_true rfl⟩ rfl (Nat.le_of_ble_eq_true rfl) ⟨rfl, rfl⟩ ⟨Nat.le_of_ble_eq_true rfl, Nat.le_of_ble_eq_true rfl⟩ dJ4_init_1 ?_
  rintro _ M ⟨rfl, rfl⟩
  refine x_aload_n hC dJ4_init_4 rfl rfl ?_
  refine x_ldcF hC q179 dJ4_init_5 ?_
  refine x_putF hC 7 h hg rfl (by decide) q184 rfl rfl rfl rfl rfl rfl rfl (show 7 < 8 by decide) (fs' := [.null, .null, .null, .null, .int 0, .int 0, .int 0, .float 1061158912]) rfl dJ4_init_7 ?_
  exact x_vret hC hk dJ4_init_10 (Nat.le_of_ble_eq_true rfl) (Nat.le_of_ble_eq_true rfl) ⟨rfl, ⟨0, 1061158912, Or.inl ⟨mu_s, fun _ => rfl, rfl⟩⟩, Fr.set h rfl⟩
theorem ct_hmHash (hG : GOK G) (h : NM M k w) : Ct G yJ4_hash cJ4_hash 2 (some .int) (xrm 6 0 0) [.ref k] M (Pr (.int (spr (nmH w))) M) := by
  obtain ⟨s, h1, h2⟩ := id h
  refine ct_open (lv := [_, _]) hG (by decide +kernel) (Nat.le_of_ble_eq_true rfl) rfl (fun C hC hk => ?_)
  refine x_aload_n hC dJ4_hash_0 rfl rfl ?_
  refine x_ifnonnull (tgt := 8) hC dJ4_hash_1 (by decide) ?_
  refine x_aload_n hC dJ4_hash_8 rfl rfl ?_
  refine x_callA0 (owner := "java/lang/Object") (na := 0) hC (ct_nmHash hG h) q660 q662 q665 q666 q111 q667 q659 h1 rfl (by decide +kernel) rfl ⟨Nat.le_of_ble_eq_true rfl, Nat.le_of_ble_eq_true rfl⟩ rfl (Nat.le_of_ble_eq_true rfl) ⟨rfl, rfl⟩ ⟨Nat.le_of_ble_eq_true rfl, Nat.le_of_ble_eq_true rfl⟩ dJ4_hash_9 ?_
  rintro _ M ⟨rfl, rfl⟩
  refine x_dup hC dJ4_hash_12 rfl ?_
  refine x_istore_n (lv' := [_, _]) hC dJ4_hash_13 rfl (by decide) rfl ?_
  refine x_iload_n hC dJ4_hash_14 rfl rfl ?_
  refine x_bipush (v := 16) hC dJ4_hash_15 (by decide) ?_
  refine x_iushr hC dJ4_hash_17 rfl ?_
  refine x_ixor hC dJ4_hash_18 ?_
  exact x_iret hC hk dJ4_hash_19 (Nat.le_of_ble_eq_true rfl) (Nat.le_of_ble_eq_true rfl) ⟨rfl, rfl⟩
theorem ct_hnInit (hG : GOK G) {a v : Nat} {h : Int32} {o : Option Nat} (hg : g ≠ 0) (ha : M a = some (ob g 9 [.int 0, .null, .null, .null])) : Ct G yJ24_init cJ24_init 5 none (xrm 1 0 0) [.ref a, .int h, .ref k, .ref v, va_rf o] M (fun r M' => r = none ∧ M' = mu M a (ob g 9 [.int h, .ref k, .ref v, va_rf o])) := by
  cases o with
  | none =>
    dsimp only [va_rf]
    refine ct_open (lv := [_, _, _, _, _]) hG (by decide +kernel) (Nat.le_of_ble_eq_true rfl) rfl (fun C hC hk => ?_)
    first
      | refine x_aload_n hC dJ24_init_0 rfl rfl ?_
      | refine x_aload_nN hC dJ24_init_0 rfl rfl ?_
      | refine x_aload_nV hC dJ24_init_0 rfl rfl ?_
    refine x_objInit hC q1192 q132 q133 dJ24_init_1 (Nat.le_of_ble_eq_true rfl) ⟨Nat.le_of_ble_eq_true rfl, Nat.le_of_ble_eq_true rfl⟩ ?_
    first
      | refine x_aload_n hC dJ24_init_4 rfl rfl ?_
      | refine x_aload_nN hC dJ24_init_4 rfl rfl ?_
      | refine x_aload_nV hC dJ24_init_4 rfl rfl ?_
    refine x_iload_n hC dJ24_init_5 rfl rfl ?_
    refine x_putF hC 0 ha hg rfl (by decide) q1193 rfl rfl rfl rfl rfl rfl rfl (show 0 < 4 by decide) (fs' := [.int h, .null, .null, .null]) rfl dJ24_init_6 ?_
    first
      | refine x_aload_n hC dJ24_init_9 rfl rfl ?_
      | refine x_aload_nN hC dJ24_init_9 rfl rfl ?_
      | refine x_aload_nV hC dJ24_init_9 rfl rfl ?_
    first
      | refine x_aload_n hC dJ24_init_10 rfl rfl ?_
      | refine x_aload_nN hC dJ24_init_10 rfl rfl ?_
      | refine x_aload_nV hC dJ24_init_10 rfl rfl ?_
    refine x_putF hC 1 mu_s hg rfl (by decide) q1197 rfl rfl rfl rfl rfl rfl rfl (show 1 < 4 by decide) (fs' := [.int h, .ref k, .null, .null]) rfl dJ24_init_11 ?_
    first
      | refine x_aload_n hC dJ24_init_14 rfl rfl ?_
      | refine x_aload_nN hC dJ24_init_14 rfl rfl ?_
      | refine x_aload_nV hC dJ24_init_14 rfl rfl ?_
    first
      | refine x_aload_n hC dJ24_init_15 rfl rfl ?_
      | refine x_aload_nN hC dJ24_init_15 rfl rfl ?_
      | refine x_aload_nV hC dJ24_init_15 rfl rfl ?_
    refine x_put hC 2 mu_s hg rfl (by decide) q1201 rfl rfl rfl rfl rfl (show 2 < 4 by decide) (fs' := [.int h, .ref k, .ref v, .null]) rfl dJ24_init_16 ?_
    first
      | refine x_aload_n hC dJ24_init_19 rfl rfl ?_
      | refine x_aload_nN hC dJ24_init_19 rfl rfl ?_
      | refine x_aload_nV hC dJ24_init_19 rfl rfl ?_
    first
      | refine x_aload hC dJ24_init_20 rfl ?_
      | refine x_aloadN hC dJ24_init_20 rfl ?_
      | refine x_aloadV hC dJ24_init_20 rfl ?_
    refine x_put hC 3 mu_s hg rfl (by decide) q1203 rfl rfl rfl rfl rfl (show 3 < 4 by decide) (fs' := [.int h, .ref k, .ref v, .null]) rfl dJ24_init_22 ?_
    rw [mu_mu, mu_mu, mu_mu]
    exact x_vret hC hk dJ24_init_25 (Nat.le_of_ble_eq_true rfl) (Nat.le_of_ble_eq_true rfl) ⟨rfl, rfl⟩
  | some b =>
    dsimp only [va_rf]
    refine ct_open (lv := [_, _, _, _, _]) hG (by decide +kernel) (Nat.le_of_ble_eq_true rfl) rfl (fun C hC hk => ?_)
    first
      | refine x_aload_n hC dJ24_init_0 rfl rfl ?_
      | refine x_aload_nN hC dJ24_init_0 rfl rfl ?_
      | refine x_aload_nV hC dJ24_init_0 rfl rfl ?_
    refine x_objInit hC q1192 q132 q133 dJ24_init_1 (Nat.le_of_ble_eq_true rfl) ⟨Nat.le_of_ble_eq_true rfl, Nat.le_of_ble_eq_true rfl⟩ ?_
    first
      | refine x_aload_n hC dJ24_init_4 rfl rfl ?_
      | refine x_aload_nN hC dJ24_init_4 rfl rfl ?_
      | refine x_aload_nV hC dJ24_init_4 rfl rfl ?_
    refine x_iload_n hC dJ24_init_5 rfl rfl ?_
    refine x_putF hC 0 ha hg rfl (by decide) q1193 rfl rfl rfl rfl rfl rfl rfl (show 0 < 4 by decide) (fs' := [.int h, .null, .null, .null]) rfl dJ24_init_6 ?_
    first
      | refine x_aload_n hC dJ24_init_9 rfl rfl ?_
      | refine x_aload_nN hC dJ24_init_9 rfl rfl ?_
      | refine x_aload_nV hC dJ24_init_9 rfl rfl ?_
    first
      | refine x_aload_n hC dJ24_init_10 rfl rfl ?_
      | refine x_aload_nN hC dJ24_init_10 rfl rfl ?_
      | refine x_aload_nV hC dJ24_init_10 rfl rfl ?_
    refine x_putF hC 1 mu_s hg rfl (by decide) q1197 rfl rfl rfl rfl rfl rfl rfl (show 1 < 4 by decide) (fs' := [.int h, .ref k, .null, .null]) rfl dJ24_init_11 ?_
    first
      | refine x_aload_n hC dJ24_init_14 rfl rfl ?_
      | refine x_aload_nN hC dJ24_init_14 rfl rfl ?_
      | refine x_aload_nV hC dJ24_init_14 rfl rfl ?_
    first
      | refine x_aload_n hC dJ24_init_15 rfl rfl ?_
      | refine x_aload_nN hC dJ24_init_15 rfl rfl ?_
      | refine x_aload_nV hC dJ24_init_15 rfl rfl ?_
    refine x_put hC 2 mu_s hg rfl (by decide) q1201 rfl rfl rfl rfl rfl (show 2 < 4 by decide) (fs' := [.int h, .ref k, .ref v, .null]) rfl dJ24_init_16 ?_
    first
      | refine x_aload_n hC dJ24_init_19 rfl rfl ?_
      | refine x_aload_nN hC dJ24_init_19 rfl rfl ?_
      | refine x_aload_nV hC dJ24_init_19 rfl rfl ?_
    first
      | refine x_aload hC dJ24_init_20 rfl ?_
      | refine x_aloadN hC dJ24_init_20 rfl ?_
      | refine x_aloadV hC dJ24_init_20 rfl ?_
    refine x_put hC 3 mu_s hg rfl (by decide) q1203 rfl rfl rfl rfl rfl (show 3 < 4 by decide) (fs' := [.int h, .ref k, .ref v, .ref b]) rfl dJ24_init_22 ?_
    rw [mu_mu, mu_mu, mu_mu]
    exact x_vret hC hk dJ24_init_25 (Nat.le_of_ble_eq_true rfl) (Nat.le_of_ble_eq_true rfl) ⟨rfl, rfl⟩
theorem ct_hmNew (hG : GOK G) {v : Nat} {h : Int32} (hg : g ≠ 0) : Ct G yJ4_newNode cJ4_newNode 5 (some (.object "java/util/HashMap$Node")) (xrm 2 1 4) [.ref m, .int h, .ref k, .ref v, .null] M (fun r M' => ∃ a, r = some (.ref a) ∧ M a = none ∧ M' = mu M a (ob g 9 [.int h, .ref k, .ref v, .null])) := by
  refine ct_open (lv := [_, _, _, _, _]) hG (by decide +kernel) (Nat.le_of_ble_eq_true rfl) rfl (fun C hC hk => ?_)
  refine x_new (ci := 9) (T := TJ24) (N := 4) hC g [.int 0, .null, .null, .null] rfl q1173 q1188 q116 tyJ24 tyJ24_ok hg (by decide +kernel) (Nat.le_of_ble_eq_true rfl) (Nat.le_of_ble_eq_true rfl) dJ4_newNode_0 (fun a ha => ?_)
  refine x_dup hC dJ4_newNode_3 rfl ?_
  refine x_iload_n hC dJ4_newNode_4 rfl rfl ?_
  first
    | refine x_aload_n hC dJ4_newNode_5 rfl rfl ?_
    | refine x_aload_nN hC dJ4_newNode_5 rfl rfl ?_
    | refine x_aload_nV hC dJ4_newNode_5 rfl rfl ?_
  first
    | refine x_aload_n hC dJ4_newNode_6 rfl rfl ?_
    | refine x_aload_nN hC dJ4_newNode_6 rfl rfl ?_
    | refine x_aload_nV hC dJ4_newNode_6 rfl rfl ?_
  first
    | refine x_aload hC dJ4_newNode_7 rfl ?_
    | refine x_aloadN hC dJ4_newNode_7 rfl ?_
    | refine x_aloadV hC dJ4_newNode_7 rfl ?_
  refine x_callI0 (na := 4) hC (ct_hnInit (k := k) (v := v) (h := h) (o := none) hG hg mu_s) q1191 q116 q1189 q1190 rfl (by decide +kernel) rfl ⟨Nat.le_of_ble_eq_true rfl, Nat.le_of_ble_eq_true rfl⟩ rfl (Nat.le_of_ble_eq_true rfl) ⟨rfl, rfl⟩ ⟨Nat.le_of_ble_eq_true rfl, Nat.le_of_ble_eq_true rfl⟩ dJ4_newNode_9 ?_
  rintro _ M ⟨rfl, rfl⟩
  rw [mu_mu]
  exact x_aret hC hk dJ4_newNode_12 (Or.inl ⟨_, rfl⟩) (Or.inr ⟨_, rfl⟩) (Nat.le_of_ble_eq_true rfl) (Nat.le_of_ble_eq_true rfl) ⟨a, rfl, ha, rfl⟩
end HMS

