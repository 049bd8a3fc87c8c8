/-! ===== a byte array's clone() and its cast; Arrays.copyOf, copyOfRange of bytes ===== -/
section XCLN
variable {G : X_G} {C : X_C} {M : X_M} {kc ks pc nL : Nat} {lv : List (Option Value)} {rest : List Value} {y : MethodName} {cc : ByteArray} {ret : Option FieldType} {rm : Room}
theorem x_castB (hC : Cx G C y cc nL ret rm) {a g n index : Nat} {f : Nat → Int32} (he : M a = some (ba g n f)) (hlink : Cond.classLink y.cls index "[B" ∈ lw_all) (hdg : decode cc pc = .ok (.checkcast index, 3)) (kk : Wg G C M kc ks (pc + 3) lv (.ref a :: rest)) : Wg G C M kc ks pc lv (.ref a :: rest) := by
  intro H locs ls hW hz hq hl T hT X
  have hc0 : H[a]? = some (vp_cell (gA G 1) (n, .inl f)) := (hW.2.2 _ _ he).2.2
  have hnm : (xs C).vm.findClass "[B" = some (gA G 1) := va_nm_byte (hC.K.2 1 _ (xtys_at G (t := 1) (by decide))).2
  obtain ⟨vm', X', st⟩ := X.checkcastYes hC.1 hC.own (hC.w hlink) (by rw [hT]; exact hc0) rfl hnm (va_asg _ _) (g := F0 (xm C) pc ls (.ref a :: rest)) rfl rfl (by rw [hC.2.1]; exact hdg)
  obtain ⟨t, a1, b1⟩ := kk H locs ls hW hz hq hl (T.setVm vm') hT X'
  exact ⟨t, st t a1, b1⟩
theorem x_cloneB (hC : Cx G C y cc nL ret rm) {index a n g0' : Nat} {f : Nat → Int32} (g : Nat) (hg : g ≠ 0) (he : M a = some (ba g0' n f)) (hf : sb_Fit f)
    (hlink : Cond.methodLink y.cls index ⟨"[B", "clone", "()Ljava/lang/Object;"⟩ ∈ lw_all) (hsame : Cond.sameMethod "[B" "java/lang/Object" "clone" "()Ljava/lang/Object;" ∈ lw_all) (hnat : Cond.native ⟨"java/lang/Object", "clone", "()Ljava/lang/Object;"⟩ ∈ lw_all) (hinst : Cond.instanceMethod ⟨"java/lang/Object", "clone", "()Ljava/lang/Object;"⟩ ∈ lw_all) (hsel : Cond.selects "[B" ⟨"[B", "clone", "()Ljava/lang/Object;"⟩ ⟨"java/lang/Object", "clone", "()Ljava/lang/Object;"⟩ ∈ lw_all) (hcl : Cond.castable "[B" "java/lang/Cloneable" ∈ lw_tbl)
    (hframes : 1 ≤ rm.frames) (hlocals : (rest.map fun v => v.category).sum + 14 ≤ rm.locals) (hcells : kc + 1 ≤ rm.cells) (hslots : ks + n ≤ rm.slots) (hdg : decode cc pc = .ok (.invokevirtual index, 3))
    (kk : ∀ q : Nat, M q = none → Wg G C (mu M q (ba g n f)) (kc + 1) (ks + n) (pc + 3) lv (.ref q :: rest)) : Wg G C M kc ks pc lv (.ref a :: rest) := by
  intro H locs ls hW hz hq hl T hT X
  have hc0 : H[a]? = some (vp_cell (gA G 1) (n, .inl f)) := (hW.2.2 _ _ he).2.2
  have hsz : (vp_cell (gA G 1) (n, .inl f)).slots.size = n := arrV_size _ _ _
  have hnm : (xs C).vm.findClass "[B" = some (gA G 1) := va_nm_byte (hC.K.2 1 _ (xtys_at G (t := 1) (by decide))).2
  have hcellE : ({ cls := (vp_cell (gA G 1) (n, .inl f)).cls, slots := (vp_cell (gA G 1) (n, .inl f)).slots } : Cell) = vp_cell (gA G 1) (n, .inl f) := rfl
  obtain ⟨c0, t0', f1, f2, f3⟩ := Cond.castable_spec (va_Nw.use (A := #[]) rfl (x_casty hC hcl))
  cases hnm.symm.trans f1
  obtain ⟨-, kA, hkA, comp, hkind⟩ := State.isArrayOf_alike X.warmed.alike ((hC.K.2 1 _ (xtys_at G (t := 1) (by decide))).1 0 (fun _ => .null))
  obtain ⟨-, kS, hkS, compS, hkindS⟩ := (hC.K.2 1 _ (xtys_at G (t := 1) (by decide))).1 0 (fun _ => .null)
  obtain ⟨vm', X', st⟩ := X.cloneArray hC.1 hC.own (hC.w hlink) (hC.w hsame) (hC.w hnat) (hC.w hinst) (hC.w hsel) (a := a) (cell := vp_cell (gA G 1) (n, .inl f)) (by rw [hT]; exact hc0) (fun k h => by cases h) (fun h => by cases h) hnm f2 f3
    (fun i v hv => by
      have hk' : T.vm.classes[gA G 1]? = some kA := hkA
      have hv2 : fits (xty 1) v = true := show fits .byte v = true from va_fit (cA := gA G 1) (n := n) (F := fun j => .int (f j)) (fun i _ => hf i) i v hv
      show T.fitsSlot (gA G 1) .none i v = true
      simpa [State.fitsSlot, State.slotType?, hk', hkind] using hv2)
    (g := F0 (xm C) pc ls (.ref a :: rest)) rfl hl.1 rfl (by rw [hC.2.1]; exact hdg) (by rw [hC.room]; exact hframes) (by rw [hC.room]; show 2 * 0 + _ + 14 ≤ _; omega) (by rw [hC.room]; exact hcells) (by rw [hsz, hC.room]; exact hslots) (hloader := Vm.clonesLoader_of_array hkS hkindS)
  rw [hcellE, hsz] at X'
  generalize hH1 : H.push (vp_cell (gA G 1) (n, .inl f)) = H1
  have z1 : H1.size = H.size + 1 := by rw [← hH1, Array.size_push]
  have e1 : H1[H.size]? = some (vp_cell (gA G 1) (n, .inl f)) := by rw [← hH1, Array.getElem?_push_size]
  have o1 : ∀ q : Nat, q < H.size → H1[q]? = H[q]? := fun q hq => by rw [← hH1, Array.getElem?_push, if_neg (Nat.ne_of_lt hq)]
  obtain ⟨t, b1, b2⟩ := kk H.size hW.fresh H1 locs ls (hW.push z1 o1 ⟨(by decide : 1 < 6), e1⟩) (by omega) hq hl _ (by rw [← hH1, ← hT]; rfl) X'
  refine ⟨t, st t ?_, b2⟩
  rw [hcellE, hT]
  exact b1
end XCLN
section CPB
theorem imin_l {a b : Nat} (h : a ≤ b) (hb : b < 2 ^ 31) : imin (nI a) (nI b) = nI a := by
  unfold imin
  rw [if_pos ((nI_leI (by omega) hb).mpr h)]
theorem imin_r {a b : Nat} (h : b ≤ a) (ha : a < 2 ^ 31) : imin (nI a) (nI b) = nI b := by
  unfold imin
  split
  next h1 =>
    have h2 := (nI_leI ha (by omega)).mp h1
    rw [show a = b by omega]
  next => rfl
theorem imax_n {a b : Nat} (ha : a < 2 ^ 31) (hb : b < 2 ^ 31) : imax (nI a) (nI b) = nI (max a b) := by
  unfold imax
  split
  next h1 =>
    have h2 := (nI_ltI ha hb).mp h1
    rw [Nat.max_eq_right (by omega)]
  next h1 =>
    have h2 : ¬ a < b := fun z => h1 ((nI_ltI ha hb).mpr z)
    rw [Nat.max_eq_left (by omega)]
variable {G : X_G} {M : X_M} {v m g' : Nat} {f : Nat → Int32}
/-- a new byte array of n places, that begins as f -/
def PNb (M : X_M) (g n k : Nat) (f : Nat → Int32) : Option Value → X_M → Prop := fun r M' => ∃ a u, r = some (.ref a) ∧ M a = none ∧ M' = mu M a (ba g n u) ∧ sb_Fit u ∧ ∀ i, i < k → u i = f i
theorem ct_copyOfB (hG : GOK G) {g n : Nat} (hg : g ≠ 0) (h : M v = some (ba g' m f)) (hf : sb_Fit f) (hm : m < n) (hn : n ≤ 65536) : Ct G yJ18_copyOf cJ18_copyOf 3 (some (.array .byte)) (xrm 2 1 n) [.ref v, .int (nI n)] M (PNb M g n m f) := by
  refine ct_open (lv := [_, _, _]) hG (by decide +kernel) (Nat.le_of_ble_eq_true rfl) rfl (fun C hC hk => ?_)
  refine x_iload_n hC dJ18_copyOf_0 rfl rfl ?_
  refine x_aload_n hC dJ18_copyOf_1 rfl rfl ?_
  refine x_alen hC h dJ18_copyOf_2 ?_
  dsimp only
  refine x_icmp_neN (tgt := 14) hC (by omega) (by omega) dJ18_copyOf_3 (by decide) (fun c => ?_) (fun c => ?_)
  · refine x_iload_n hC dJ18_copyOf_14 rfl rfl ?_
    refine x_newb hC n g q169 hg rfl (by omega) (Nat.le_of_ble_eq_true rfl) (show 0 + n ≤ n by omega) dJ18_copyOf_15 (fun a ha => ?_)
    refine x_astore_n (lv' := [_, _, _]) hC dJ18_copyOf_17 rfl (by decide) rfl ?_
    refine x_aload_n hC dJ18_copyOf_18 rfl rfl ?_
    refine x_iconst (v := nI 0) hC dJ18_copyOf_19 (by decide) ?_
    refine x_aload_n hC dJ18_copyOf_20 rfl rfl ?_
    refine x_iconst (v := nI 0) hC dJ18_copyOf_21 (by decide) ?_
    refine x_aload_n hC dJ18_copyOf_22 rfl rfl ?_
    refine x_alen hC (mu_f ha h) dJ18_copyOf_23 ?_
    dsimp only
    refine x_iload_n hC dJ18_copyOf_24 rfl rfl ?_
    refine x_callS0 (na := 2) hC (ct_min hG _ _ _) (lw_S q345 q346 q103 q347) (by decide +kernel) rfl ⟨Nat.le_of_ble_eq_true rfl, Nat.le_of_ble_eq_true rfl⟩ rfl (Nat.le_of_ble_eq_true rfl) ⟨rfl, rfl⟩ ⟨Nat.le_of_ble_eq_true rfl, (show 0 + n ≤ n by omega)⟩ dJ18_copyOf_25 ?_
    rintro _ M ⟨rfl, rfl⟩
    rw [imin_l (Nat.le_of_lt hm) (by omega)]
    refine x_copyi hC (mu_f ha h) mu_s hg rfl q348 q350 q349 q105 (by omega) (by omega) (by omega) (by omega) (fun i hi => hf _) (Nat.le_of_ble_eq_true rfl) (Nat.le_of_ble_eq_true rfl) dJ18_copyOf_28 ?_
    rw [mu_mu]
    refine x_aload_n hC dJ18_copyOf_31 rfl rfl ?_
    exact x_aret hC hk dJ18_copyOf_32 (Or.inr ⟨_, rfl⟩) (Or.inr ⟨_, rfl⟩) (Nat.le_of_ble_eq_true rfl) (show 0 + n ≤ n by omega) ⟨a, _, rfl, ha, rfl, sb_fitC hf sb_fit0, fun i hi => cpy_at hi⟩
  · omega
theorem ct_checkLen (hG : GOK G) {n : Nat} (hn : n < 2 ^ 31) (M : X_M) : Ct G yJ18_checkLength cJ18_checkLength 2 none (xrm 1 0 0) [.int 0, .int (nI n)] M (fun r M' => r = none ∧ M' = M) := by
  refine ct_open (lv := [_, _]) hG (by decide +kernel) (Nat.le_of_ble_eq_true rfl) rfl (fun C hC hk => ?_)
  refine x_iload_n hC dJ18_checkLength_0 rfl rfl ?_
  refine x_iload_n (x := nI 0) hC dJ18_checkLength_1 rfl rfl ?_
  refine x_icmp_geN (tgt := 37) hC (by omega) (by omega) dJ18_checkLength_2 (by decide) (fun c => ?_) (fun c => ?_)
  · exact x_vret hC hk dJ18_checkLength_37 (Nat.le_of_ble_eq_true rfl) (Nat.le_of_ble_eq_true rfl) ⟨rfl, rfl⟩
  · omega
theorem ct_copyRB (hG : GOK G) {g n : Nat} (hg : g ≠ 0) (h : M v = some (ba g' m f)) (hf : sb_Fit f) (hm : n ≤ m) (hn : m ≤ 65536) : Ct G yJ18_copyOfRangeByte cJ18_copyOfRangeByte 5 (some (.array .byte)) (xrm 2 1 n) [.ref v, .int 0, .int (nI n)] M (PNb M g n n f) := by
  refine ct_open (lv := [_, _, _, _, _]) hG (by decide +kernel) (Nat.le_of_ble_eq_true rfl) rfl (fun C hC hk => ?_)
  refine x_iload_n hC dJ18_copyOfRangeByte_0 rfl rfl ?_
  refine x_iload_n hC dJ18_copyOfRangeByte_1 rfl rfl ?_
  refine x_callS0 (na := 2) hC (ct_checkLen hG (by omega) _) (lw_S q437 q438 q104 q439) (by decide +kernel) rfl ⟨Nat.le_of_ble_eq_true rfl, Nat.le_of_ble_eq_true rfl⟩ rfl (Nat.le_of_ble_eq_true rfl) ⟨rfl, rfl⟩ ⟨Nat.le_of_ble_eq_true rfl, (show 0 ≤ n by omega)⟩ dJ18_copyOfRangeByte_2 ?_
  rintro _ M ⟨rfl, rfl⟩
  refine x_iload_n hC dJ18_copyOfRangeByte_5 rfl rfl ?_
  refine x_iload_n hC dJ18_copyOfRangeByte_6 rfl rfl ?_
  refine x_isub hC dJ18_copyOfRangeByte_7 ?_
  refine x_istore_n (lv' := [_, _, _, _, _]) hC dJ18_copyOfRangeByte_8 rfl (by decide) rfl ?_
  refine x_iload_n hC dJ18_copyOfRangeByte_9 rfl rfl ?_
  rw [Int32.sub_zero]
  refine x_newb hC n g q169 hg rfl (by omega) (Nat.le_of_ble_eq_true rfl) (show 0 + n ≤ n by omega) dJ18_copyOfRangeByte_10 (fun a ha => ?_)
  refine x_astore (lv' := [_, _, _, _, _]) hC dJ18_copyOfRangeByte_12 (by decide) rfl ?_
  refine x_aload_n hC dJ18_copyOfRangeByte_14 rfl rfl ?_
  refine x_iload_n hC dJ18_copyOfRangeByte_15 rfl rfl ?_
  refine x_aload hC dJ18_copyOfRangeByte_16 rfl ?_
  refine x_iconst (v := 0) hC dJ18_copyOfRangeByte_18 (by decide) ?_
  refine x_aload_n hC dJ18_copyOfRangeByte_19 rfl rfl ?_
  refine x_alen hC (mu_f ha h) dJ18_copyOfRangeByte_20 ?_
  refine x_iload_n hC dJ18_copyOfRangeByte_21 rfl rfl ?_
  refine x_isub hC dJ18_copyOfRangeByte_22 ?_
  refine x_iload_n hC dJ18_copyOfRangeByte_23 rfl rfl ?_
  rw [Int32.sub_zero]
  refine x_callS0 (na := 2) hC (ct_min hG _ _ _) (lw_S q345 q346 q103 q347) (by decide +kernel) rfl ⟨Nat.le_of_ble_eq_true rfl, Nat.le_of_ble_eq_true rfl⟩ rfl (Nat.le_of_ble_eq_true rfl) ⟨rfl, rfl⟩ ⟨Nat.le_of_ble_eq_true rfl, (show 0 + n ≤ n by omega)⟩ dJ18_copyOfRangeByte_24 ?_
  rintro _ M ⟨rfl, rfl⟩
  rw [imin_r hm (by omega)]
  refine x_copyi (sp := 0) (dp := 0) hC (mu_f ha h) mu_s hg rfl q348 q350 q349 q105 (by omega) (by omega) (by omega) (by omega) (fun i hi => hf _) (Nat.le_of_ble_eq_true rfl) (Nat.le_of_ble_eq_true rfl) dJ18_copyOfRangeByte_27 ?_
  rw [mu_mu]
  refine x_aload hC dJ18_copyOfRangeByte_30 rfl ?_
  exact x_aret hC hk dJ18_copyOfRangeByte_32 (Or.inr ⟨_, rfl⟩) (Or.inr ⟨_, rfl⟩) (Nat.le_of_ble_eq_true rfl) (show 0 + n ≤ n by omega) ⟨a, _, rfl, ha, rfl, sb_fitC hf sb_fit0, fun i hi => cpy_at hi⟩
theorem ct_copyR (hG : GOK G) {g n : Nat} (hg : g ≠ 0) (h : M v = some (ba g' m f)) (hf : sb_Fit f) (hm : n ≤ m) (hn : m ≤ 65536) : Ct G yJ18_copyOfRange cJ18_copyOfRange 3 (some (.array .byte)) (xrm 3 1 n) [.ref v, .int 0, .int (nI n)] M (PNb M g n n f) := by
  refine ct_open (lv := [_, _, _]) hG (by decide +kernel) (Nat.le_of_ble_eq_true rfl) rfl (fun C hC hk => ?_)
  refine x_iload_n hC dJ18_copyOfRange_0 rfl rfl ?_
  refine x_if_ne (tgt := 10) hC dJ18_copyOfRange_1 (by decide) (fun c => ?_) (fun c => ?_)
  · exact absurd rfl c
  · refine x_iload_n hC dJ18_copyOfRange_4 rfl rfl ?_
    refine x_aload_n hC dJ18_copyOfRange_5 rfl rfl ?_
    refine x_alen hC h dJ18_copyOfRange_6 ?_
    dsimp only
    refine x_icmp_eqN (tgt := 17) hC (by omega) (by omega) dJ18_copyOfRange_7 (by decide) (fun d => ?_) (fun d => ?_)
    · subst d
      refine x_aload_n hC dJ18_copyOfRange_17 rfl rfl ?_
      refine x_cloneB hC g hg h hf q338 q339 q340 q341 q342 q343 (Nat.le_of_ble_eq_true rfl) (Nat.le_of_ble_eq_true rfl) (Nat.le_of_ble_eq_true rfl) (show 0 + n ≤ n by omega) dJ18_copyOfRange_18 (fun q hq => ?_)
      refine x_castB hC mu_s q344 dJ18_copyOfRange_21 ?_
      exact x_aret hC hk dJ18_copyOfRange_24 (Or.inr ⟨_, rfl⟩) (Or.inr ⟨_, rfl⟩) (Nat.le_of_ble_eq_true rfl) (show 0 + n ≤ n by omega) ⟨q, _, rfl, hq, rfl, hf, fun i hi => rfl⟩
    · refine x_aload_n hC dJ18_copyOfRange_10 rfl rfl ?_
      refine x_iload_n hC dJ18_copyOfRange_11 rfl rfl ?_
      refine x_iload_n hC dJ18_copyOfRange_12 rfl rfl ?_
      refine x_callS (k := 1) (n := n) (na := 3) hC (ct_copyRB hG hg h hf hm hn) (lw_S q434 q435 q104 q436) (by decide +kernel) rfl ⟨Nat.le_of_ble_eq_true rfl, Nat.le_of_ble_eq_true rfl⟩ rfl (Nat.le_of_ble_eq_true rfl) (Nat.le_refl 1) (show 0 + n ≤ n by omega) ⟨Nat.le_of_ble_eq_true rfl, (show n ≤ n by omega)⟩ dJ18_copyOfRange_13 ?_
      rintro _ _ ⟨q, u, rfl, hq, rfl, hu⟩
      exact x_aret hC hk dJ18_copyOfRange_16 (Or.inr ⟨_, rfl⟩) (Or.inr ⟨_, rfl⟩) (Nat.le_of_ble_eq_true rfl) (show n ≤ n by omega) ⟨q, u, rfl, hq, rfl, hu⟩
end CPB

