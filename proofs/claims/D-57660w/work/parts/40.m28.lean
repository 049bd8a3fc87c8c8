/-! ===== bounds of sums; the formatted texts of the reference ===== -/
theorem iS_b {f : Nat → Int32} {B : Nat} : ∀ {n : Nat}, (∀ k, k < n → (f k).toInt.natAbs ≤ B) → n * B < 2 ^ 31 → (iS f n).toInt.natAbs ≤ n * B
  | 0, _, _ => by
    show ((0 : Int32).toInt).natAbs ≤ 0 * B
    rw [Nat.zero_mul]; decide
  | n + 1, h, hB => by
    have h1 : (n + 1) * B = n * B + B := Nat.succ_mul n B
    have ih := iS_b (n := n) (fun k hk => h k (by omega)) (by omega)
    have h2 := h n (by omega)
    show ((iS f n + f n).toInt).natAbs ≤ (n + 1) * B
    rw [Int32.toInt_add, Int.bmod_eq_of_le (by omega) (by omega)]
    omega
theorem sg_1 (x y : Int32) : sg x y = 1 ∨ sg x y = -1 := by
  unfold sg
  split
  · exact Or.inl rfl
  · exact Or.inr rfl
theorem mul_sg {a x y : Int32} (h : a.toInt.natAbs < 2 ^ 31) : (a * sg x y).toInt.natAbs = a.toInt.natAbs := by
  rcases sg_1 x y with e | e
  · rw [e, Int32.mul_one]
  · rw [e, Int32.toInt_mul, show (-1 : Int32).toInt = -1 by decide, Int.bmod_eq_of_le (by omega) (by omega)]
    omega
theorem cf_b {g : Nat → Int32} {n i : Nat} (hn : n ≤ 64) (h : ∀ k, k < n → lim (g k)) : (cfN g n i).toInt.natAbs ≤ 639936 := by
  have h1 : (cfN g n i).toInt.natAbs ≤ n * 9999 := iS_b (fun k hk => by
    have := lim_i.mp (h k hk)
    rw [mul_sg (by omega)]
    omega) (by omega)
  omega
theorem chg_b {x : Int32} : ∀ {n : Nat}, 1 ≤ n → ∃ q, q < n ∧ chg x n = nI q
  | 0, h => by omega
  | 1, _ => ⟨0, by omega, rfl⟩
  | n + 2, _ => by
    obtain ⟨q, h1, h2⟩ := chg_b (x := x) (n := n + 1) (by omega)
    unfold chg
    split
    · exact ⟨q, by omega, by rw [h2]; exact Int32.add_zero _⟩
    · exact ⟨q + 1, by omega, by rw [h2]; exact nI_add q 1⟩
theorem flat_len {α : Type} {f : α → List Nat} {B : Nat} : ∀ {l : List α}, (∀ x ∈ l, (f x).length ≤ B) → (l.flatMap f).length ≤ l.length * B
  | [], _ => by simp
  | a :: l, h => by
    rw [List.flatMap_cons, List.length_append, List.length_cons, Nat.succ_mul]
    have h1 := h a (List.mem_cons_self ..)
    have h2 := flat_len (l := l) (fun x hx => h x (List.mem_cons_of_mem _ hx))
    omega
/-- the samples' text -/
def fmS (r : Rcd) : List Nat := r.1 ++ r.2.flatMap (fun x => 32 :: dgI x)
/-- the peaks' text from the k-th rank on -/
def fmP (r : Rcd) : Nat → Nat → List Nat
  | 0, _ => []
  | d + 1, k => if cfN (rg r) (rz r) (pkN r k) = 0 then [] else (if k = 0 then [] else [32]) ++ dgI (chg (nI (pkN r k)) (rz r)) ++ [58] ++ dgI (cfN (rg r) (rz r) (pkN r k)) ++ fmP r d (k + 1)
def fmPk (r : Rcd) (c : Nat) : List Nat := if fmP r c 0 = [] then [45] else fmP r c 0
abbrev txtS (S : X_S) (T : List Nat) : X_S := (sR S, sH S, sV S, sB S, sE S, T)
def opFmtS (S : X_S) (x : Int32) : Int32 × Int32 × X_S := (rc (sR S) x).elim (1, 0, S) fun r => (0, nI (fmS r).length, txtS S (fmS r))
def opFmtP (S : X_S) (x c : Int32) : Int32 × Int32 × X_S := (rc (sR S) x).elim (1, 0, S) fun r => if 0 ≤ c ∧ c ≤ nI (rz r) then (0, nI (fmPk r c.toNatClampNeg).length, txtS S (fmPk r c.toNatClampNeg)) else (2, 0, S)
def opFmtC (S : X_S) (z : Int32) : Int32 × Int32 := if inI (sT S).length z then (0, nI ((sT S).getD z.toNatClampNeg 0)) else (1, 0)
theorem char_n {c : Nat} (h : c < 65536) : ((nI c).toUInt32 % 65536).toInt32 = nI c := by
  have e : (nI c).toUInt32 = UInt32.ofNat c := rfl
  have e2 : UInt32.ofNat c % 65536 = UInt32.ofNat c := by
    apply UInt32.toNat_inj.mp
    rw [UInt32.toNat_mod, UInt32.toNat_ofNat_of_lt' (show c < 2 ^ 32 by omega), show (65536 : UInt32).toNat = 65536 by decide, Nat.mod_eq_of_lt h]
  rw [e, e2]
  rfl
section M28
variable {G : X_G} {M : X_M} {m : Nat} {P : Nat → Nat} {V : Nat → Int32} {A : Nat → Nat → Int32} {S : X_S} {R : List Rcd} {i k j : Nat} {r s : Rcd} {T : List Nat}
theorem MRep.txt (hS : MRep S V A) {f : Nat → Int32} (hl : T.length ≤ 1000) (hf : ∀ i c, T[i]? = some c → c < 65536 ∧ f i = nI c) : MRep (txtS S T) (upd V 3 (nI T.length)) (va_up A 5 f) := by
  obtain ⟨k1, k2, k3, k4, k5, k6⟩ := hS
  exact ⟨k1, k2, k3, k4, k5, ⟨rfl, hl, hf⟩⟩
theorem smp_len {x : Int32} (h : lim x) : (32 :: dgI x).length ≤ 6 := by
  have h1 := lim_i.mp h
  have h2 := dgI_len (x := x) (k := 4) (by decide) (by omega)
  rw [List.length_cons]
  omega
theorem take_flat {l : List Int32} {f : Int32 → List Nat} {k : Nat} (h : k < l.length) : (l.take (k + 1)).flatMap f = (l.take k).flatMap f ++ f (l.getD k 0) := by
  rw [List.take_add_one, List.flatMap_append, List.getD_eq_getElem?_getD, List.getElem?_eq_getElem h]
  simp
theorem ct_formatSamples (hG : GOK G) (hm : Mdl M m P V A) (hS : MRep S V A) (x : Int32) : Ct G yX3_formatSamples cX3_formatSamples 3 (some .int) (xrm 4 0 0) [.ref m, .int x] M (MOi M m P (opFmtS S x).2.2 (opFmtS S x).1 (opFmtS S x).2.1) := by
  refine ct_open (lv := [_, _, _]) hG (by decide +kernel) (Nat.le_of_ble_eq_true rfl) rfl (fun C hC hk => ?_)
  obtain ⟨M0, hM0⟩ : ∃ M0, M0 = M := ⟨M, rfl⟩
  rw [← hM0] at hk
  have hF : Fm M0 M := by rw [hM0]; exact Fr.rf
  unfold opFmtS at hk
  refine x_aload_n hC dX3_formatSamples_0 rfl rfl ?_
  refine x_aload_n hC dX3_formatSamples_1 rfl rfl ?_
  refine x_iload_n hC dX3_formatSamples_2 rfl rfl ?_
  refine x_callV0 (na := 1) hC (ct_isRecording hG hm _) (lw_V q2491 q2493 qs44 q89 q2494) hm.1 rfl rfl (by decide +kernel) rfl ⟨Nat.le_of_ble_eq_true rfl, Nat.le_of_ble_eq_true rfl⟩ rfl (Nat.le_of_ble_eq_true rfl) ⟨rfl, rfl⟩ ⟨Nat.le_of_ble_eq_true rfl, Nat.le_of_ble_eq_true rfl⟩ dX3_formatSamples_3 ?_
  rintro _ M ⟨rfl, rfl⟩
  refine x_callV0 (na := 1) hC (ct_good hG hm _) (lw_V q2402 q2404 qs30 q89 q2405) hm.1 rfl rfl (by decide +kernel) rfl ⟨Nat.le_of_ble_eq_true rfl, Nat.le_of_ble_eq_true rfl⟩ rfl (Nat.le_of_ble_eq_true rfl) ⟨rfl, rfl⟩ ⟨Nat.le_of_ble_eq_true rfl, Nat.le_of_ble_eq_true rfl⟩ dX3_formatSamples_6 ?_
  rintro _ M ⟨rfl, hm, hF1⟩
  have hF := hF.tr hF1
  refine x_if_neB (tgt := 14) hC dX3_formatSamples_9 (by decide) (fun c => ?_) (fun c => ?_)
  · obtain ⟨i, r, hx, rfl, hw⟩ := rc_ok hS.1.1 hS.1.2 c
    have h6 := hw.n6
    have hi6 := hw.c6
    have hl := hw.2.2.2.1
    have hlt := hw.2.2.2.2.1
    obtain ⟨p1, p2, p3, p4⟩ := hw.2.2.1
    rw [hx] at hk
    dsimp only [Option.elim] at hk
    have hS6 := hS.k6 (x := if isR (A 0) (nI i) then 0 else 1)
    generalize hV6 : upd V 6 (if isR (A 0) (nI i) then 0 else 1) = V6 at hm hS6
    have h66 : V6 6 = 0 := by rw [← hV6, upd_s, if_pos c]
    refine x_aload_n hC dX3_formatSamples_14 rfl rfl ?_
    refine x_iconst (v := 0) hC dX3_formatSamples_15 (by decide) ?_
    refine x_mput hC hm 13 3 (by decide) q2343 rfl rfl rfl rfl rfl rfl dX3_formatSamples_16 (fun M hm hF1 => ?_)
    have hF := hF.tr hF1
    have h0 : TX M m P V6 A [] := ⟨A 5, hm.to rfl up_id.symm, fun i c h => by cases h⟩
    clear hm
    obtain ⟨f, hm⟩ := h0.mdl
    refine x_iconst (v := nI 1) hC dX3_formatSamples_19 (by decide) ?_
    refine x_istore_n (lv' := [_, _, _]) hC dX3_formatSamples_20 rfl (by decide) rfl ?_
    have part2 : ∀ M1, TX M1 m P V6 A r.1 → Fm M0 M1 → ∀ w2, Wg G C M1 0 0 55 [some (.ref m), some (.int (nI i)), w2] [] := by
      intro M h hF w2
      obtain ⟨f, hm⟩ := h.mdl
      refine x_iconst (v := nI 0) hC dX3_formatSamples_55 (by decide) ?_
      refine x_istore_n (lv' := [_, _, _]) hC dX3_formatSamples_56 rfl (by decide) rfl ?_
      refine x_up (n := rz r) (I := fun k => ∀ M1, TX M1 m P V6 A (r.1 ++ (r.2.take k).flatMap (fun x => 32 :: dgI x)) → Fm M0 M1 → Wg G C M1 0 0 57 [some (.ref m), some (.int (nI i)), some (.int (nI k))] []) (fun k hk2 ih M h hF => ?_) 0 (Nat.zero_le _) M (by simpa using h) hF
      obtain ⟨f, hm⟩ := h.mdl
      have hwf : Rw (sR S) (va_up A 5 f 0) i r := hw
      have hlen : (r.1 ++ (r.2.take k).flatMap (fun x => 32 :: dgI x)).length ≤ 6 + k * 6 := by
        rw [List.length_append]
        have h9 := flat_len (B := 6) (l := r.2.take k) (f := fun x => 32 :: dgI x) (fun y hy => smp_len (hw.2.2.2.2.2.2 y (List.mem_of_mem_take hy)))
        have h10 : (r.2.take k).length ≤ k := List.length_take_le k r.2
        have h11 := Nat.mul_le_mul_right 6 h10
        omega
      refine x_iload_n hC dX3_formatSamples_57 rfl rfl ?_
      refine x_aload_n hC dX3_formatSamples_58 rfl rfl ?_
      refine x_iload_n hC dX3_formatSamples_59 rfl rfl ?_
      refine x_callV0 (na := 1) hC (ct_sizeR hG hm hwf) (lw_V q2495 q2497 qs45 q89 q2498) hm.1 rfl rfl (by decide +kernel) rfl ⟨Nat.le_of_ble_eq_true rfl, Nat.le_of_ble_eq_true rfl⟩ rfl (Nat.le_of_ble_eq_true rfl) ⟨rfl, rfl⟩ ⟨Nat.le_of_ble_eq_true rfl, Nat.le_of_ble_eq_true rfl⟩ dX3_formatSamples_60 ?_
      rintro _ M ⟨rfl, rfl⟩
      refine x_icmp_geN (tgt := 88) hC (by omega) (by omega) dX3_formatSamples_63 (by decide) (fun c3 => ?_) (fun c3 => ?_)
      · have hk3 : k = rz r := by omega
        subst hk3
        have hfull : r.1 ++ (r.2.take (rz r)).flatMap (fun x => 32 :: dgI x) = fmS r := by rw [List.take_of_length_le (Nat.le_refl _)]; rfl
        rw [hfull] at h hlen
        clear hm
        obtain ⟨f, hm, hf⟩ := h
        refine x_aload_n hC dX3_formatSamples_88 rfl rfl ?_
        refine x_get hC 13 hm.1 rfl (by decide) q2343 rfl rfl dX3_formatSamples_89 ?_
        exact x_iret hC hk dX3_formatSamples_92 (Nat.le_of_ble_eq_true rfl) (Nat.le_of_ble_eq_true rfl) ⟨_, _, _, rfl, (fun _ => rfl), hm, hF, hS6.txt (by omega) hf, (upd_n (by decide)).trans h66⟩
      · have hlm := lim_i.mp (hw.lim c3)
        refine x_aload_n hC dX3_formatSamples_66 rfl rfl ?_
        refine x_bipush (v := nI 32) hC dX3_formatSamples_67 (by decide) ?_
        refine x_callV0 (na := 1) hC (ct_wr hG h (by decide) (by omega)) (lw_V q2859 q2861 qs78 q89 q2862) hm.1 rfl rfl (by decide +kernel) rfl ⟨Nat.le_of_ble_eq_true rfl, Nat.le_of_ble_eq_true rfl⟩ rfl (Nat.le_of_ble_eq_true rfl) ⟨rfl, rfl⟩ ⟨Nat.le_of_ble_eq_true rfl, Nat.le_of_ble_eq_true rfl⟩ dX3_formatSamples_69 ?_
        rintro _ M ⟨rfl, h, hF1⟩
        have hF := hF.tr hF1
        clear hm
        obtain ⟨f, hm⟩ := h.mdl
        have hwf : Rw (sR S) (va_up A 5 f 0) i r := hw
        refine x_aload_n hC dX3_formatSamples_72 rfl rfl ?_
        refine x_aload_n hC dX3_formatSamples_73 rfl rfl ?_
        refine x_iload_n hC dX3_formatSamples_74 rfl rfl ?_
        refine x_iload_n hC dX3_formatSamples_75 rfl rfl ?_
        refine x_callV0 (na := 2) hC (ct_atR hG hm hwf c3) (lw_V q2515 q2517 qs47 q89 q2518) hm.1 rfl rfl (by decide +kernel) rfl ⟨Nat.le_of_ble_eq_true rfl, Nat.le_of_ble_eq_true rfl⟩ rfl (Nat.le_of_ble_eq_true rfl) ⟨rfl, rfl⟩ ⟨Nat.le_of_ble_eq_true rfl, Nat.le_of_ble_eq_true rfl⟩ dX3_formatSamples_76 ?_
        rintro _ M ⟨rfl, rfl⟩
        refine x_callV0 (na := 1) hC (ct_writeNumber hG h (by omega) (by rw [List.length_append, List.length_singleton]; omega)) (lw_V q2863 q2865 qs79 q89 q2866) hm.1 rfl rfl (by decide +kernel) rfl ⟨Nat.le_of_ble_eq_true rfl, Nat.le_of_ble_eq_true rfl⟩ rfl (Nat.le_of_ble_eq_true rfl) ⟨rfl, rfl⟩ ⟨Nat.le_of_ble_eq_true rfl, Nat.le_of_ble_eq_true rfl⟩ dX3_formatSamples_79 ?_
        rintro _ M ⟨rfl, h, hF1⟩
        have hF := hF.tr hF1
        refine x_iincN (lv' := [_, _, _]) (b := 1) hC dX3_formatSamples_82 rfl (by decide) (by decide) rfl ?_
        refine x_goto (tgt := 57) hC dX3_formatSamples_85 (by decide) ?_
        refine ih c3 M ?_ hF
        rw [take_flat c3, ← List.append_assoc, ← List.singleton_append, ← List.append_assoc]
        exact h
    have lp := x_up (n := r.1.length) (I := fun k => ∀ M1, TX M1 m P V6 A (r.1.take k) → Fm M0 M1 → Wg G C M1 0 0 21 [some (.ref m), some (.int (nI i)), some (.int (nI (1 + k)))] []) (fun k hk2 ih M h hF => ?_) 0 (Nat.zero_le _) M h0 hF
    · exact lp
    · clear hm
      obtain ⟨f, hm⟩ := h.mdl
      refine x_iload_n hC dX3_formatSamples_21 rfl rfl ?_
      refine x_aload_n hC dX3_formatSamples_22 rfl rfl ?_
      refine x_get hC 0 hm.1 rfl (by decide) q2330 rfl rfl dX3_formatSamples_23 ?_
      refine x_iload_n hC dX3_formatSamples_26 rfl rfl ?_
      refine x_callS0 (na := 1) hC (ct_row hG _ _) (lw_S q2457 q2458 q89 q2459) (by decide +kernel) rfl ⟨Nat.le_of_ble_eq_true rfl, Nat.le_of_ble_eq_true rfl⟩ rfl (Nat.le_of_ble_eq_true rfl) ⟨rfl, rfl⟩ ⟨Nat.le_of_ble_eq_true rfl, Nat.le_of_ble_eq_true rfl⟩ dX3_formatSamples_27 ?_
      rintro _ M ⟨rfl, rfl⟩
      refine x_ialdN hC (hm.arr 0 (by decide)) (show _ < 433 from (by omega)) (by decide) dX3_formatSamples_30 ?_
      rw [show va_up A 5 f 0 (1 + 72 * i) = nI r.1.length from p1]
      refine x_icmp_gtN (tgt := 55) hC (by omega) (by omega) dX3_formatSamples_31 (by decide) (fun c3 => ?_) (fun c3 => ?_)
      · have hk3 : k = r.1.length := by omega
        subst hk3
        rw [List.take_of_length_le (Nat.le_refl _)] at h
        exact part2 M h hF _
      · have hkl : k < r.1.length := by omega
        have hch : r.1.getD k 0 < 128 := by
          have hm1 : r.1.getD k 0 ∈ r.1 := by
            rw [List.getD_eq_getElem?_getD, List.getElem?_eq_getElem hkl]
            exact List.getElem_mem hkl
          have := (hlt _ hm1).2
          omega
        refine x_aload_n hC dX3_formatSamples_34 rfl rfl ?_
        refine x_aload_n hC dX3_formatSamples_35 rfl rfl ?_
        refine x_get hC 0 hm.1 rfl (by decide) q2330 rfl rfl dX3_formatSamples_36 ?_
        refine x_iload_n hC dX3_formatSamples_39 rfl rfl ?_
        refine x_callS0 (na := 1) hC (ct_row hG _ _) (lw_S q2457 q2458 q89 q2459) (by decide +kernel) rfl ⟨Nat.le_of_ble_eq_true rfl, Nat.le_of_ble_eq_true rfl⟩ rfl (Nat.le_of_ble_eq_true rfl) ⟨rfl, rfl⟩ ⟨Nat.le_of_ble_eq_true rfl, Nat.le_of_ble_eq_true rfl⟩ dX3_formatSamples_40 ?_
        rintro _ M ⟨rfl, rfl⟩
        refine x_iload_n hC dX3_formatSamples_43 rfl rfl ?_
        refine x_iaddN hC dX3_formatSamples_44 ?_
        refine x_ialdN hC (hm.arr 0 (by decide)) (show _ < 433 from (by omega)) (by decide) dX3_formatSamples_45 ?_
        rw [show va_up A 5 f 0 (1 + 72 * i + (1 + k)) = nI (r.1.getD k 0) by rw [← p2 k hkl]; show A 0 _ = A 0 _; congr 1; omega]
        refine x_callV0 (na := 1) hC (ct_wr hG h (by omega) (by rw [List.length_take]; omega)) (lw_V q2859 q2861 qs78 q89 q2862) hm.1 rfl rfl (by decide +kernel) rfl ⟨Nat.le_of_ble_eq_true rfl, Nat.le_of_ble_eq_true rfl⟩ rfl (Nat.le_of_ble_eq_true rfl) ⟨rfl, rfl⟩ ⟨Nat.le_of_ble_eq_true rfl, Nat.le_of_ble_eq_true rfl⟩ dX3_formatSamples_46 ?_
        rintro _ M ⟨rfl, h, hF1⟩
        have hF := hF.tr hF1
        refine x_iincN (lv' := [_, _, _]) (b := 1) hC dX3_formatSamples_49 rfl (by decide) (by decide) rfl ?_
        refine x_goto (tgt := 21) hC dX3_formatSamples_52 (by decide) ?_
        refine ih hkl M ?_ hF
        rw [List.take_add_one, List.getElem?_eq_getElem hkl]
        rw [List.getD_eq_getElem?_getD, List.getElem?_eq_getElem hkl] at h
        exact h
  · rw [rc_no hS.1.1 hS.1.2 c] at hk
    refine x_iconst (v := -1) hC dX3_formatSamples_12 (by decide) ?_
    exact x_iret hC hk dX3_formatSamples_13 (Nat.le_of_ble_eq_true rfl) (Nat.le_of_ble_eq_true rfl) ⟨_, _, _, rfl, (fun h => absurd h (show ¬ (1 : Int32) = 0 by decide)), hm, hF, hS.k6, upd_s.trans (if_neg c)⟩
theorem ct_formattedCharacter (hG : GOK G) (hm : Mdl M m P V A) (hS : MRep S V A) (z : Int32) : Ct G yX3_formattedCharacter cX3_formattedCharacter 2 (some .char) (xrm 4 0 0) [.ref m, .int z] M (MOi M m P S (opFmtC S z).1 (opFmtC S z).2) := by
  refine ct_open (lv := [_, _]) hG (by decide +kernel) (Nat.le_of_ble_eq_true rfl) rfl (fun C hC hk => ?_)
  have hF : Fm M M := Fr.rf
  unfold opFmtC at hk
  have hT := hS.2.2.2.2.2
  have hl := hT.2.1
  refine x_aload_n hC dX3_formattedCharacter_0 rfl rfl ?_
  refine x_iload_n hC dX3_formattedCharacter_1 rfl rfl ?_
  refine x_iconst (v := 0) hC dX3_formattedCharacter_2 (by decide) ?_
  refine x_aload_n hC dX3_formattedCharacter_3 rfl rfl ?_
  refine x_get hC 13 hm.1 rfl (by decide) q2343 rfl rfl dX3_formattedCharacter_4 ?_
  rw [hT.1]
  refine x_iconst (v := 1) hC dX3_formattedCharacter_7 (by decide) ?_
  refine x_isub hC dX3_formattedCharacter_8 ?_
  refine x_callS0 (na := 3) hC (ct_isIn hG _ _ _ _) (lw_S q2414 q2415 q89 q2416) (by decide +kernel) rfl ⟨Nat.le_of_ble_eq_true rfl, Nat.le_of_ble_eq_true rfl⟩ rfl (Nat.le_of_ble_eq_true rfl) ⟨rfl, rfl⟩ ⟨Nat.le_of_ble_eq_true rfl, Nat.le_of_ble_eq_true rfl⟩ dX3_formattedCharacter_9 ?_
  rintro _ M ⟨rfl, rfl⟩
  refine x_callV0 (na := 1) hC (ct_good hG hm _) (lw_V q2402 q2404 qs30 q89 q2405) hm.1 rfl rfl (by decide +kernel) rfl ⟨Nat.le_of_ble_eq_true rfl, Nat.le_of_ble_eq_true rfl⟩ rfl (Nat.le_of_ble_eq_true rfl) ⟨rfl, rfl⟩ ⟨Nat.le_of_ble_eq_true rfl, Nat.le_of_ble_eq_true rfl⟩ dX3_formattedCharacter_12 ?_
  rintro _ M ⟨rfl, hm, hF1⟩
  have hF := hF.tr hF1
  refine x_if_eqB (tgt := 28) hC dX3_formattedCharacter_15 (by decide) (fun c => ?_) (fun c => ?_)
  · rw [if_neg c] at hk
    refine x_iconst (v := 0) hC dX3_formattedCharacter_28 (by decide) ?_
    exact x_zret hC hk dX3_formattedCharacter_29 rfl (Nat.le_of_ble_eq_true rfl) (Nat.le_of_ble_eq_true rfl) ⟨_, _, _, rfl, (fun h => absurd h (show ¬ (1 : Int32) = 0 by decide)), hm, hF, hS.k6, upd_s.trans (if_neg c)⟩
  · have c0 : inI (sT S).length z := c
    rw [if_pos c0] at hk
    obtain ⟨q, q1, rfl, q3⟩ := inI_at (by omega) c0
    rw [q3] at hk
    have hq : (sT S)[q]? = some ((sT S).getD q 0) := by rw [List.getD_eq_getElem?_getD, List.getElem?_eq_getElem q1]; rfl
    obtain ⟨g1, g2⟩ := hT.2.2 q _ hq
    refine x_aload_n hC dX3_formattedCharacter_18 rfl rfl ?_
    refine x_get hC 6 hm.1 rfl (by decide) q2336 rfl rfl dX3_formattedCharacter_19 ?_
    refine x_iload_n hC dX3_formattedCharacter_22 rfl rfl ?_
    refine x_ialdN hC (hm.arr 5 (by decide)) (show _ < 1000 from (by omega)) (by decide) dX3_formattedCharacter_23 ?_
    rw [g2]
    refine x_i2c hC dX3_formattedCharacter_24 (v := nI ((sT S).getD q 0)) (char_n g1) ?_
    refine x_goto (tgt := 29) hC dX3_formattedCharacter_25 (by decide) ?_
    exact x_zret hC hk dX3_formattedCharacter_29 (congrArg Value.int (char_n g1)) (Nat.le_of_ble_eq_true rfl) (Nat.le_of_ble_eq_true rfl) ⟨_, _, _, rfl, (fun _ => rfl), hm, hF, hS.k6, upd_s.trans (if_pos c)⟩
end M28

