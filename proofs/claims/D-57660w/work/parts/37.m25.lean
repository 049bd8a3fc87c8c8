/-! ===== the reference's edits of the archive: remove, add, copy, rename ===== -/
theorem wf_new {R : List Rcd} {r : Rcd} (hW : WfR R) (h6 : R.length < 6) (h1 : WfRow r) (hn : r.1 ∉ R.map Prod.fst) : WfR (R ++ [r]) := by
  refine ⟨by rw [List.length_append, List.length_singleton]; omega, fun q hq => ?_, ?_⟩
  · rcases List.mem_append.mp hq with h | h
    · exact hW.2.1 q h
    · rw [List.mem_singleton.mp h]; exact h1
  · rw [List.map_append, List.nodup_append]
    refine ⟨hW.2.2, by simp, fun a ha c hc => ?_⟩
    rw [List.map_cons, List.map_nil, List.mem_singleton] at hc
    rw [hc]
    intro e
    exact hn (by rw [← e]; exact ha)
theorem rep_new {R : List Rcd} {f f' : Nat → Int32} {nm : List Nat} {xs : List Int32} (hR : RepR R f) (hW : WfR R) (h0 : f' 0 = nI (R.length + 1)) (h1 : ∀ q, 0 < q → q < 1 + 72 * R.length → f' q = f q) (h2 : f' (1 + 72 * R.length) = nI nm.length) (h3 : ∀ j, j < nm.length → f' (2 + 72 * R.length + j) = nI (nm.getD j 0)) (h4 : f' (8 + 72 * R.length) = nI xs.length) (h5 : ∀ k, k < xs.length → f' (9 + 72 * R.length + k) = xs.getD k 0) : RepR (R ++ [(nm, xs)]) f' := by
  refine ⟨by rw [h0, List.length_append, List.length_singleton], fun c r hr => ?_⟩
  rcases Nat.lt_or_ge c R.length with h | h
  · rw [List.getElem?_append_left h] at hr
    have hw := hW.2.1 r (List.mem_of_getElem? hr)
    exact (hR.2 c r hr).cong hw.1.2 hw.len.1 (fun q q1 q2 => h1 q (by omega) (by omega))
  · rw [List.getElem?_append_right h] at hr
    have hc : c = R.length := by
      have := (List.getElem?_eq_some_iff.mp hr).1
      rw [List.length_singleton] at this
      omega
    subst hc
    rw [Nat.sub_self] at hr
    cases hr
    exact ⟨h2, h3, h4, h5⟩
/-- the buffer holds a name that no recording has -/
abbrev nwN (S : X_S) : Prop := ((1 ≤ (sB S).length ∧ (sB S).length ≤ 6) ∧ ∀ c ∈ sB S, isLt c) ∧ fnd (sR S) (sB S) = none
theorem bsub (B : List Nat) : sub (bN B) 0 B.length = B := by
  apply List.ext_getElem?
  intro i
  rcases Nat.lt_or_ge i B.length with hi | hi
  · simp [sub, bN, hi, List.getD_eq_getElem?_getD]
  · rw [List.getElem?_eq_none hi, List.getElem?_eq_none (by rw [sub_len]; omega)]
theorem nwN_iff {S : X_S} {V : Nat → Int32} {A : Nat → Nat → Int32} (hS : MRep S V A) : (isNm (A 4) (sB S).length ∧ fstI (nmE (A 0) (A 4) 0 (sB S).length) (sR S).length 0 = none) ↔ nwN S := by
  have hB := hS.2.2.2.1
  have hb := bN_of hB.2.2
  have hB9 := hB.2.1
  have hf := fnd_of (s := 0) (e := (sB S).length) (b := bN (sB S)) hS.1.1 hS.1.2.2.1 (fun i _ hi => hb i hi) (by omega)
  rw [bsub, Nat.sub_zero] at hf
  rw [hf]
  refine and_congr_left fun _ => and_congr_right fun _ => ?_
  constructor
  · intro h c hc
    obtain ⟨i, hi⟩ := List.getElem?_of_mem hc
    have hl := (List.getElem?_eq_some_iff.mp hi).1
    obtain ⟨g1, g2⟩ := hB.2.2 i c hi
    have h2 := h i hl
    rw [g2] at h2
    exact (nIr (c := c) (lo := 97) (hi := 122) (by omega) (by decide) (by decide)).mp h2
  · intro h i hi
    obtain ⟨g1, g2⟩ := hb i hi
    rw [g2]
    refine (nIr (c := bN (sB S) i) (lo := 97) (hi := 122) (by omega) (by decide) (by decide)).mpr (h _ ?_)
    have : bN (sB S) i = (sB S)[i] := by simp [bN, List.getD_eq_getElem?_getD, hi]
    rw [this]
    exact List.getElem_mem hi
/-- the state behind a new recording -/
abbrev newS (S : X_S) (xs : List Int32) : X_S := (sR S ++ [(sB S, xs)], hP (sH S) (sR S), sV S, [], sE S, sT S)
def opRemR (S : X_S) (x : Int32) : Int32 × Int32 × X_S := (rc (sR S) x).elim (1, 0, S) fun _ => (0, nI ((sR S).length - 1), ((sR S).eraseIdx x.toNatClampNeg, (pushS S).2))
def opAddS (S : X_S) (n : Int32) : Int32 × Int32 × X_S := if nwN S ∧ isL n then (if (sR S).length < 6 then (0, nI (sR S).length, newS S (List.replicate n.toNatClampNeg 0)) else (2, 0, S)) else (1, 0, S)
def opCopy (S : X_S) (x : Int32) : Int32 × Int32 × X_S := (rc (sR S) x).elim (1, 0, S) fun r => if nwN S then (if (sR S).length < 6 then (0, nI (sR S).length, newS S r.2) else (3, 0, S)) else (2, 0, S)
def opRename (S : X_S) (x : Int32) : Int32 × Int32 × X_S := (rc (sR S) x).elim (1, 0, S) fun r => if nwN S then (0, nI (sB S).length, ((sR S).set x.toNatClampNeg (sB S, r.2), hP (sH S) (sR S), sV S, [], sE S, sT S)) else (2, 0, S)
section M25
variable {G : X_G} {M : X_M} {m : Nat} {P : Nat → Nat} {V : Nat → Int32} {A : Nat → Nat → Int32} {S : X_S} {R : List Rcd} {i k j : Nat} {r s : Rcd}
theorem ct_newN (hG : GOK G) (hm : Mdl M m P V A) (hS : MRep S V A) : Ct G yX3_isNewName cX3_isNewName 3 (some .boolean) (xrm 3 0 0) [.ref m] M (Pr (.int (xB (nwN S))) M) := by
  have h := ct_isNewName hG hm hS.2.2.2.1.1 hS.2.2.2.1.2.1 hS.1.1.1 hS.1.2.1
  rwa [xB_iff (nwN_iff hS)] at h
theorem ct_removeRecording (hG : GOK G) (hm : Mdl M m P V A) (hS : MRep S V A) (x : Int32) : Ct G yX3_removeRecording cX3_removeRecording 3 (some .int) (xrm 8 0 0) [.ref m, .int x] M (MOi M m P (opRemR S x).2.2 (opRemR S x).1 (opRemR S x).2.1) := by
  refine ct_open (lv := [_, _, _]) hG (by decide +kernel) (Nat.le_of_ble_eq_true rfl) rfl (fun C hC hk => ?_)
  obtain ⟨M0, hM0⟩ : ∃ M0, M0 = M := ⟨M, rfl⟩
  rw [← hM0] at hk
  have hF : Fm M0 M := by rw [hM0]; exact Fr.rf
  unfold opRemR at hk
  refine x_aload_n hC dX3_removeRecording_0 rfl rfl ?_
  refine x_aload_n hC dX3_removeRecording_1 rfl rfl ?_
  refine x_iload_n hC dX3_removeRecording_2 rfl rfl ?_
  refine x_callV0 (na := 1) hC (ct_isRecording hG hm _) (lw_V q2491 q2493 qs44 q89 q2494) hm.1 rfl rfl (by decide +kernel) rfl ⟨Nat.le_of_ble_eq_true rfl, Nat.le_of_ble_eq_true rfl⟩ rfl (Nat.le_of_ble_eq_true rfl) ⟨rfl, rfl⟩ ⟨Nat.le_of_ble_eq_true rfl, Nat.le_of_ble_eq_true rfl⟩ dX3_removeRecording_3 ?_
  rintro _ M ⟨rfl, rfl⟩
  refine x_callV0 (na := 1) hC (ct_good hG hm _) (lw_V q2402 q2404 qs30 q89 q2405) hm.1 rfl rfl (by decide +kernel) rfl ⟨Nat.le_of_ble_eq_true rfl, Nat.le_of_ble_eq_true rfl⟩ rfl (Nat.le_of_ble_eq_true rfl) ⟨rfl, rfl⟩ ⟨Nat.le_of_ble_eq_true rfl, Nat.le_of_ble_eq_true rfl⟩ dX3_removeRecording_6 ?_
  rintro _ M ⟨rfl, hm, hF1⟩
  have hF := hF.tr hF1
  refine x_if_neB (tgt := 14) hC dX3_removeRecording_9 (by decide) (fun c => ?_) (fun c => ?_)
  · obtain ⟨i, r, hx, rfl, hw⟩ := rc_ok hS.1.1 hS.1.2 c
    have hci : (nI i).toNatClampNeg = i := nI_clamp (by have := hw.c6; omega)
    have hi6 := hw.c6
    have hlen := hw.1
    rw [hx] at hk
    dsimp only [Option.elim] at hk
    rw [hci] at hk
    refine x_aload_n hC dX3_removeRecording_14 rfl rfl ?_
    refine x_callV0 (na := 0) hC (ct_rem hG hm hS.k6) (lw_V q2759 q2761 qs74 q89 q2762) hm.1 rfl rfl (by decide +kernel) rfl ⟨Nat.le_of_ble_eq_true rfl, Nat.le_of_ble_eq_true rfl⟩ rfl (Nat.le_of_ble_eq_true rfl) ⟨rfl, rfl⟩ ⟨Nat.le_of_ble_eq_true rfl, Nat.le_of_ble_eq_true rfl⟩ dX3_removeRecording_15 ?_
    rintro _ M ⟨rfl, V7, A7, hm, hF1, hS7, h76, h70, -, -⟩
    have hF := hF.tr hF1
    have hw7 : Rw (sR S) (A7 0) i r := by rw [h70]; exact hw
    have hR7 : RepR (sR S) (A7 0) := hS7.1.1
    refine x_aload_n hC dX3_removeRecording_18 rfl rfl ?_
    refine x_get hC 0 hm.1 rfl (by decide) q2330 rfl rfl dX3_removeRecording_19 ?_
    refine x_iconst (v := nI 0) hC dX3_removeRecording_22 (by decide) ?_
    refine x_dup2_11 hC dX3_removeRecording_23 rfl rfl ?_
    refine x_ialdN hC (hm.arr 0 (by decide)) (show _ < 433 from (by omega)) (by decide) dX3_removeRecording_24 ?_
    rw [hR7.1]
    refine x_iconst (v := nI 1) hC dX3_removeRecording_25 (by decide) ?_
    refine x_isubN hC dX3_removeRecording_26 (by omega) ?_
    refine x_miastN hC hm 0 (by decide) (show _ < 433 from (by omega)) (by decide) dX3_removeRecording_27 (fun M hm hF1 => ?_)
    have hF := hF.tr hF1
    refine x_iload_n hC dX3_removeRecording_28 rfl rfl ?_
    refine x_callS0 (na := 1) hC (ct_row hG _ _) (lw_S q2457 q2458 q89 q2459) (by decide +kernel) rfl ⟨Nat.le_of_ble_eq_true rfl, Nat.le_of_ble_eq_true rfl⟩ rfl (Nat.le_of_ble_eq_true rfl) ⟨rfl, rfl⟩ ⟨Nat.le_of_ble_eq_true rfl, Nat.le_of_ble_eq_true rfl⟩ dX3_removeRecording_29 ?_
    rintro _ M ⟨rfl, rfl⟩
    refine x_istore_n (lv' := [_, _, _]) hC dX3_removeRecording_32 rfl (by decide) rfl ?_
    generalize hN : (sR S).length - 1 = N at *
    have lp := x_up (n := 72 * (N - i)) (I := fun k => ∀ M1 f, (∀ q, 0 < q → q < 1 + 72 * i → f q = A7 0 q) → f 0 = nI N → (∀ q, 1 + 72 * i ≤ q → q < 1 + 72 * i + k → f q = A7 0 (q + 72)) → (∀ q, 1 + 72 * i + k ≤ q → f q = A7 0 q) → Mdl M1 m P V7 (va_up A7 0 f) → Fm M0 M1 → Wg G C M1 0 0 33 [some (.ref m), some (.int (nI i)), some (.int (nI (1 + 72 * i + k)))] []) (fun k hk2 ih M f hf1 hf0 hf2 hf3 hm hF => ?_) 0 (Nat.zero_le _) M (upd (A7 0) 0 (nI N)) (fun q h1 h2 => upd_n (by omega)) upd_s (fun q h1 h2 => by omega) (fun q h1 => upd_n (by omega)) hm hF
    · exact lp
    · refine x_iload_n hC dX3_removeRecording_33 rfl rfl ?_
      refine x_aload_n hC dX3_removeRecording_34 rfl rfl ?_
      refine x_get hC 0 hm.1 rfl (by decide) q2330 rfl rfl dX3_removeRecording_35 ?_
      refine x_iconst (v := nI 0) hC dX3_removeRecording_38 (by decide) ?_
      refine x_ialdN hC (hm.arr 0 (by decide)) (show _ < 433 from (by omega)) (by decide) dX3_removeRecording_39 ?_
      rw [show va_up A7 0 f 0 0 = nI N by rw [va_up_s]; exact hf0]
      refine x_callS0 (na := 1) hC (ct_row hG _ _) (lw_S q2457 q2458 q89 q2459) (by decide +kernel) rfl ⟨Nat.le_of_ble_eq_true rfl, Nat.le_of_ble_eq_true rfl⟩ rfl (Nat.le_of_ble_eq_true rfl) ⟨rfl, rfl⟩ ⟨Nat.le_of_ble_eq_true rfl, Nat.le_of_ble_eq_true rfl⟩ dX3_removeRecording_40 ?_
      rintro _ M ⟨rfl, rfl⟩
      refine x_icmp_geN (tgt := 67) hC (by omega) (by omega) dX3_removeRecording_43 (by decide) (fun c3 => ?_) (fun c3 => ?_)
      · have hk3 : k = 72 * (N - i) := by omega
        subst hk3
        refine x_aload_n hC dX3_removeRecording_67 rfl rfl ?_
        refine x_aload_n hC dX3_removeRecording_68 rfl rfl ?_
        refine x_get hC 0 hm.1 rfl (by decide) q2330 rfl rfl dX3_removeRecording_69 ?_
        refine x_iconst (v := nI 0) hC dX3_removeRecording_72 (by decide) ?_
        refine x_ialdN hC (hm.arr 0 (by decide)) (show _ < 433 from (by omega)) (by decide) dX3_removeRecording_73 ?_
        rw [show va_up A7 0 f 0 0 = nI N by rw [va_up_s]; exact hf0]
        refine x_callS0 (na := 1) hC (ct_row hG _ _) (lw_S q2457 q2458 q89 q2459) (by decide +kernel) rfl ⟨Nat.le_of_ble_eq_true rfl, Nat.le_of_ble_eq_true rfl⟩ rfl (Nat.le_of_ble_eq_true rfl) ⟨rfl, rfl⟩ ⟨Nat.le_of_ble_eq_true rfl, Nat.le_of_ble_eq_true rfl⟩ dX3_removeRecording_74 ?_
        rintro _ M ⟨rfl, rfl⟩
        refine x_bipush (v := nI 72) hC dX3_removeRecording_77 (by decide) ?_
        refine x_callV0 (na := 2) hC (ct_wipe hG hm (by omega)) (lw_V q2425 q2427 qs33 q89 q2428) hm.1 rfl rfl (by decide +kernel) rfl ⟨Nat.le_of_ble_eq_true rfl, Nat.le_of_ble_eq_true rfl⟩ rfl (Nat.le_of_ble_eq_true rfl) ⟨rfl, rfl⟩ ⟨Nat.le_of_ble_eq_true rfl, Nat.le_of_ble_eq_true rfl⟩ dX3_removeRecording_79 ?_
        rintro _ M ⟨rfl, hm, hF1⟩
        have hF := hF.tr hF1
        rw [up_up, va_up_s] at hm
        have hres : fil f (fun _ => 0) (1 + 72 * N) (1 + 72 * N + 72) 0 = nI N := by rw [fil_out (by omega)]; exact hf0
        refine x_aload_n hC dX3_removeRecording_82 rfl rfl ?_
        refine x_get hC 0 hm.1 rfl (by decide) q2330 rfl rfl dX3_removeRecording_83 ?_
        refine x_iconst (v := nI 0) hC dX3_removeRecording_86 (by decide) ?_
        refine x_ialdN hC (hm.arr 0 (by decide)) (show _ < 433 from (by omega)) (by decide) dX3_removeRecording_87 ?_
        rw [show va_up A7 0 (fil f (fun _ => 0) (1 + 72 * N) (1 + 72 * N + 72)) 0 0 = nI N by rw [va_up_s]; exact hres]
        have hel : ((sR S).eraseIdx i).length = N := by rw [List.length_eraseIdx, if_pos hlen.1]; exact hN
        refine x_iret hC hk dX3_removeRecording_88 (Nat.le_of_ble_eq_true rfl) (Nat.le_of_ble_eq_true rfl) ⟨_, _, _, rfl, (fun _ => rfl), hm, hF, hS7.setR ⟨?_, fun d q hd => ?_⟩ ⟨?_, fun q hq => ?_, ?_⟩, h76.trans (upd_s.trans (if_pos c))⟩
        · rw [hel]; exact hres
        · have hd6 : d < N := by
            have := (List.getElem?_eq_some_iff.mp hd).1
            omega
          rw [List.getElem?_eraseIdx] at hd
          split at hd
          next hlt =>
            have hwr := hS.1.2.2.1 q (List.mem_of_getElem? hd)
            exact (hR7.2 d q hd).cong hwr.1.2 hwr.len.1 (fun l l1 l2 => by rw [fil_out (by omega)]; exact hf1 l (by omega) (by omega))
          next hge =>
            have hwr := hS.1.2.2.1 q (List.mem_of_getElem? hd)
            obtain ⟨g1, g2, g3, g4⟩ := hR7.2 (d + 1) q hd
            have hl6 := hwr.1.2
            have hl64 := hwr.len.1
            have key : ∀ l, 1 + 72 * d ≤ l → l < 1 + 72 * d + 72 → fil f (fun _ => 0) (1 + 72 * N) (1 + 72 * N + 72) l = A7 0 (l + 72) := fun l l1 l2 => by
              rw [fil_out (by omega)]
              exact hf2 l (by omega) (by omega)
            refine ⟨?_, fun a ha => ?_, ?_, fun a ha => ?_⟩
            · rw [key _ (by omega) (by omega), ← g1]; congr 1
            · rw [key _ (by omega) (by omega), ← g2 a ha]; congr 1; omega
            · rw [key _ (by omega) (by omega), ← g3]; congr 1
            · rw [key _ (by omega) (by omega), ← g4 a ha]; congr 1; omega
        · show ((sR S).eraseIdx i).length ≤ 6
          rw [hel]; omega
        · exact hS.1.2.2.1 q (List.mem_of_mem_eraseIdx hq)
        · exact hS.1.2.2.2.sublist ((List.eraseIdx_sublist _ _).map _)
      · refine x_aload_n hC dX3_removeRecording_46 rfl rfl ?_
        refine x_get hC 0 hm.1 rfl (by decide) q2330 rfl rfl dX3_removeRecording_47 ?_
        refine x_iload_n hC dX3_removeRecording_50 rfl rfl ?_
        refine x_aload_n hC dX3_removeRecording_51 rfl rfl ?_
        refine x_get hC 0 hm.1 rfl (by decide) q2330 rfl rfl dX3_removeRecording_52 ?_
        refine x_iload_n hC dX3_removeRecording_55 rfl rfl ?_
        refine x_bipush (v := nI 72) hC dX3_removeRecording_56 (by decide) ?_
        refine x_iaddN hC dX3_removeRecording_58 ?_
        refine x_ialdN hC (hm.arr 0 (by decide)) (show _ < 433 from (by omega)) (by decide) dX3_removeRecording_59 ?_
        rw [show va_up A7 0 f 0 (1 + 72 * i + k + 72) = A7 0 (1 + 72 * i + k + 72) by rw [va_up_s]; exact hf3 _ (by omega)]
        refine x_miastN hC hm 0 (by decide) (show _ < 433 from (by omega)) (by decide) dX3_removeRecording_60 (fun M hm hF1 => ?_)
        have hF := hF.tr hF1
        refine x_iincN (lv' := [_, _, _]) (b := 1) hC dX3_removeRecording_61 rfl (by decide) (by decide) rfl ?_
        refine x_goto (tgt := 33) hC dX3_removeRecording_64 (by decide) ?_
        rw [up_up] at hm
        refine ih (by omega) M _ (fun q h1 h2 => ?_) ?_ (fun q h1 h2 => ?_) (fun q h1 => ?_) hm hF
        · rw [upd_n (by omega), va_up_s]; exact hf1 q h1 h2
        · rw [upd_n (by omega), va_up_s]; exact hf0
        · by_cases e : q = 1 + 72 * i + k
          · subst e; rw [upd_s]
          · rw [upd_n e, va_up_s]; exact hf2 q h1 (by omega)
        · rw [upd_n (by omega), va_up_s]; exact hf3 q (by omega)
  · rw [rc_no hS.1.1 hS.1.2 c] at hk
    refine x_iconst (v := -1) hC dX3_removeRecording_12 (by decide) ?_
    exact x_iret hC hk dX3_removeRecording_13 (Nat.le_of_ble_eq_true rfl) (Nat.le_of_ble_eq_true rfl) ⟨_, _, _, rfl, (fun h => absurd h (show ¬ (1 : Int32) = 0 by decide)), hm, hF, hS.k6, upd_s.trans (if_neg c)⟩
theorem pnm_0 {f b : Nat → Int32} {N L : Nat} (hL : L ≤ 6) : (∀ q, ¬ (1 + 72 * N ≤ q ∧ q < 73 + 72 * N) → pnm f b N 0 L q = f q) ∧ pnm f b N 0 L (1 + 72 * N) = nI L ∧ (∀ j, j < L → pnm f b N 0 L (2 + 72 * N + j) = b j) ∧ ∀ q, 8 + 72 * N ≤ q → q < 73 + 72 * N → pnm f b N 0 L q = 0 := by
  unfold pnm
  refine ⟨fun q hq => ?_, ?_, fun j hj => ?_, fun q h1 h2 => ?_⟩
  · rw [pot_out (by omega), upd_n (by omega), fil_out (by omega)]
  · rw [pot_out (by omega), upd_s]
  · rw [show 2 + 72 * N + j = 1 + 72 * N + 1 + j by omega, pot_in hj, Nat.zero_add]
  · rw [pot_out (by omega), upd_n (by omega), fil_in (by omega) (by omega)]
theorem wf_nm (hS : MRep S V A) (h : nwN S) {xs : List Int32} (h1 : ∃ j, 1 ≤ j ∧ j ≤ 6 ∧ xs.length = 2 ^ j) (h2 : ∀ x ∈ xs, lim x) : WfRow (sB S, xs) := ⟨h.1.1, h.1.2, h1, h2⟩
theorem ct_addSilence (hG : GOK G) (hm : Mdl M m P V A) (hS : MRep S V A) (n : Int32) : Ct G yX3_addSilence cX3_addSilence 2 (some .int) (xrm 8 0 0) [.ref m, .int n] M (MOi M m P (opAddS S n).2.2 (opAddS S n).1 (opAddS S n).2.1) := by
  refine ct_open (lv := [_, _]) hG (by decide +kernel) (Nat.le_of_ble_eq_true rfl) rfl (fun C hC hk => ?_)
  obtain ⟨M0, hM0⟩ : ∃ M0, M0 = M := ⟨M, rfl⟩
  rw [← hM0] at hk
  have hF : Fm M0 M := by rw [hM0]; exact Fr.rf
  unfold opAddS at hk
  have h6 := hS.1.2.1
  refine x_aload_n hC dX3_addSilence_0 rfl rfl ?_
  refine x_aload_n hC dX3_addSilence_1 rfl rfl ?_
  refine x_callV0 (na := 0) hC (ct_newN hG hm hS) (lw_V q2755 q2757 qs73 q89 q2758) hm.1 rfl rfl (by decide +kernel) rfl ⟨Nat.le_of_ble_eq_true rfl, Nat.le_of_ble_eq_true rfl⟩ rfl (Nat.le_of_ble_eq_true rfl) ⟨rfl, rfl⟩ ⟨Nat.le_of_ble_eq_true rfl, Nat.le_of_ble_eq_true rfl⟩ dX3_addSilence_2 ?_
  rintro _ M ⟨rfl, rfl⟩
  have bad : ¬ (nwN S ∧ isL n) → ∀ v, v = xB ((sR S).length < 6) → Wg G C M 0 0 36 [some (.ref m), some (.int n)] [.int v, .int 0, .ref m] := by
    intro hn v hv
    subst hv
    rw [if_neg hn] at hk
    refine x_callV0 (na := 2) hC (ct_good2 hG hm False _) (lw_V q2540 q2542 qs49 q89 q2543) hm.1 rfl rfl (by decide +kernel) rfl ⟨Nat.le_of_ble_eq_true rfl, Nat.le_of_ble_eq_true rfl⟩ rfl (Nat.le_of_ble_eq_true rfl) ⟨rfl, rfl⟩ ⟨Nat.le_of_ble_eq_true rfl, Nat.le_of_ble_eq_true rfl⟩ dX3_addSilence_36 ?_
    rintro _ M ⟨rfl, hm, hF1⟩
    have hF := hF.tr hF1
    refine x_if_neB (tgt := 44) hC dX3_addSilence_39 (by decide) (fun c => ?_) (fun c => ?_)
    · exact absurd c.1 id
    · refine x_iconst (v := -1) hC dX3_addSilence_42 (by decide) ?_
      exact x_iret hC hk dX3_addSilence_43 (Nat.le_of_ble_eq_true rfl) (Nat.le_of_ble_eq_true rfl) ⟨_, _, _, rfl, (fun h => absurd h (show ¬ (1 : Int32) = 0 by decide)), hm, hF, hS.k6, upd_s.trans (if_neg id)⟩
  have bad2 : ¬ (nwN S ∧ isL n) → Wg G C M 0 0 19 [some (.ref m), some (.int n)] [.ref m] := by
    intro hn
    refine x_iconst (v := 0) hC dX3_addSilence_19 (by decide) ?_
    refine x_aload_n hC dX3_addSilence_20 rfl rfl ?_
    refine x_get hC 0 hm.1 rfl (by decide) q2330 rfl rfl dX3_addSilence_21 ?_
    refine x_iconst (v := nI 0) hC dX3_addSilence_24 (by decide) ?_
    refine x_ialdN hC (hm.arr 0 (by decide)) (show _ < 433 from (by omega)) (by decide) dX3_addSilence_25 ?_
    rw [hS.1.1.1]
    refine x_bipush (v := nI 6) hC dX3_addSilence_26 (by decide) ?_
    refine x_icmp_geN (tgt := 35) hC (by omega) (by omega) dX3_addSilence_28 (by decide) (fun c3 => ?_) (fun c3 => ?_)
    · refine x_iconst (v := 0) hC dX3_addSilence_35 (by decide) ?_
      exact bad hn _ (xB_f (by omega)).symm
    · refine x_iconst (v := 1) hC dX3_addSilence_31 (by decide) ?_
      refine x_goto (tgt := 36) hC dX3_addSilence_32 (by decide) ?_
      exact bad hn _ (xB_t (by omega)).symm
  refine x_if_eqB (tgt := 19) hC dX3_addSilence_5 (by decide) (fun c1 => ?_) (fun c1 => ?_)
  · exact bad2 (fun h => c1 h.1)
  · refine x_iload_n hC dX3_addSilence_8 rfl rfl ?_
    refine x_callS0 (na := 1) hC (ct_isLength hG _ _) (lw_S q2468 q2469 q89 q2470) (by decide +kernel) rfl ⟨Nat.le_of_ble_eq_true rfl, Nat.le_of_ble_eq_true rfl⟩ rfl (Nat.le_of_ble_eq_true rfl) ⟨rfl, rfl⟩ ⟨Nat.le_of_ble_eq_true rfl, Nat.le_of_ble_eq_true rfl⟩ dX3_addSilence_9 ?_
    rintro _ M ⟨rfl, rfl⟩
    refine x_if_eqB (tgt := 19) hC dX3_addSilence_12 (by decide) (fun c2 => ?_) (fun c2 => ?_)
    · exact bad2 (fun h => c2 h.2)
    · rw [if_pos ⟨c1, c2⟩] at hk
      obtain ⟨e, ⟨e1, e2⟩, rfl, e4⟩ := isL_pw c2
      have hp := pw_le e1
      rw [e4] at hk
      refine x_iconst (v := 1) hC dX3_addSilence_15 (by decide) ?_
      refine x_goto (tgt := 20) hC dX3_addSilence_16 (by decide) ?_
      refine x_aload_n hC dX3_addSilence_20 rfl rfl ?_
      refine x_get hC 0 hm.1 rfl (by decide) q2330 rfl rfl dX3_addSilence_21 ?_
      refine x_iconst (v := nI 0) hC dX3_addSilence_24 (by decide) ?_
      refine x_ialdN hC (hm.arr 0 (by decide)) (show _ < 433 from (by omega)) (by decide) dX3_addSilence_25 ?_
      rw [hS.1.1.1]
      refine x_bipush (v := nI 6) hC dX3_addSilence_26 (by decide) ?_
      refine x_icmp_geN (tgt := 35) hC (by omega) (by omega) dX3_addSilence_28 (by decide) (fun c3 => ?_) (fun c3 => ?_)
      · rw [if_neg (by omega)] at hk
        refine x_iconst (v := 0) hC dX3_addSilence_35 (by decide) ?_
        refine x_callV0 (na := 2) hC (ct_good2 hG hm True False) (lw_V q2540 q2542 qs49 q89 q2543) hm.1 rfl rfl (by decide +kernel) rfl ⟨Nat.le_of_ble_eq_true rfl, Nat.le_of_ble_eq_true rfl⟩ rfl (Nat.le_of_ble_eq_true rfl) ⟨rfl, rfl⟩ ⟨Nat.le_of_ble_eq_true rfl, Nat.le_of_ble_eq_true rfl⟩ dX3_addSilence_36 ?_
        rintro _ M ⟨rfl, hm, hF1⟩
        have hF := hF.tr hF1
        refine x_if_neB (tgt := 44) hC dX3_addSilence_39 (by decide) (fun c => ?_) (fun c => ?_)
        · exact absurd c.2 id
        · refine x_iconst (v := -1) hC dX3_addSilence_42 (by decide) ?_
          exact x_iret hC hk dX3_addSilence_43 (Nat.le_of_ble_eq_true rfl) (Nat.le_of_ble_eq_true rfl) ⟨_, _, _, rfl, (fun h => absurd h (show ¬ (2 : Int32) = 0 by decide)), hm, hF, hS.k6, upd_s.trans ((if_pos trivial).trans (if_neg id))⟩
      · rw [if_pos (by omega)] at hk
        refine x_iconst (v := 1) hC dX3_addSilence_31 (by decide) ?_
        refine x_goto (tgt := 36) hC dX3_addSilence_32 (by decide) ?_
        refine x_callV0 (na := 2) hC (ct_good2 hG hm True True) (lw_V q2540 q2542 qs49 q89 q2543) hm.1 rfl rfl (by decide +kernel) rfl ⟨Nat.le_of_ble_eq_true rfl, Nat.le_of_ble_eq_true rfl⟩ rfl (Nat.le_of_ble_eq_true rfl) ⟨rfl, rfl⟩ ⟨Nat.le_of_ble_eq_true rfl, Nat.le_of_ble_eq_true rfl⟩ dX3_addSilence_36 ?_
        rintro _ M ⟨rfl, hm, hF1⟩
        have hF := hF.tr hF1
        refine x_if_neB (tgt := 44) hC dX3_addSilence_39 (by decide) (fun c => ?_) (fun c => ?_)
        · refine x_aload_n hC dX3_addSilence_44 rfl rfl ?_
          refine x_callV0 (na := 0) hC (ct_rem hG hm hS.k6) (lw_V q2759 q2761 qs74 q89 q2762) hm.1 rfl rfl (by decide +kernel) rfl ⟨Nat.le_of_ble_eq_true rfl, Nat.le_of_ble_eq_true rfl⟩ rfl (Nat.le_of_ble_eq_true rfl) ⟨rfl, rfl⟩ ⟨Nat.le_of_ble_eq_true rfl, Nat.le_of_ble_eq_true rfl⟩ dX3_addSilence_45 ?_
          rintro _ M ⟨rfl, V7, A7, hm, hF1, hS7, h76, h70, h72, h74⟩
          have hF := hF.tr hF1
          have hB := hS7.2.2.2.1
          have hR7 : RepR (sR S) (A7 0) := hS7.1.1
          refine x_aload_n hC dX3_addSilence_48 rfl rfl ?_
          refine x_iconst (v := 0) hC dX3_addSilence_49 (by decide) ?_
          refine x_aload_n hC dX3_addSilence_50 rfl rfl ?_
          refine x_get hC 12 hm.1 rfl (by decide) q2342 rfl rfl dX3_addSilence_51 ?_
          rw [hB.1]
          
          refine x_callV0 (na := 2) hC (ct_putName hG hm (fr := 0) (L := (sB S).length) hR7.1 (by omega) c1.1.1.2 (by have := c1.1.1.2; omega)) (lw_V q2460 q2462 qs41 q89 q2463) hm.1 rfl rfl (by decide +kernel) rfl ⟨Nat.le_of_ble_eq_true rfl, Nat.le_of_ble_eq_true rfl⟩ rfl (Nat.le_of_ble_eq_true rfl) ⟨rfl, rfl⟩ ⟨Nat.le_of_ble_eq_true rfl, Nat.le_of_ble_eq_true rfl⟩ dX3_addSilence_54 ?_
          rintro _ M ⟨rfl, hm, hF1⟩
          have hF := hF.tr hF1
          obtain ⟨p1, p2, p3, p4⟩ := pnm_0 (f := A7 0) (b := A7 4) (N := (sR S).length) c1.1.1.2
          generalize hff : pnm (A7 0) (A7 4) (sR S).length 0 (sB S).length = f at *
          refine x_aload_n hC dX3_addSilence_57 rfl rfl ?_
          refine x_get hC 0 hm.1 rfl (by decide) q2330 rfl rfl dX3_addSilence_58 ?_
          refine x_aload_n hC dX3_addSilence_61 rfl rfl ?_
          refine x_get hC 0 hm.1 rfl (by decide) q2330 rfl rfl dX3_addSilence_62 ?_
          refine x_iconst (v := nI 0) hC dX3_addSilence_65 (by decide) ?_
          refine x_ialdN hC (hm.arr 0 (by decide)) (show _ < 433 from (by omega)) (by decide) dX3_addSilence_66 ?_
          rw [show va_up A7 0 f 0 0 = nI (sR S).length by rw [va_up_s, p1 0 (by omega)]; exact hR7.1]
          refine x_callS0 (na := 1) hC (ct_row hG _ _) (lw_S q2457 q2458 q89 q2459) (by decide +kernel) rfl ⟨Nat.le_of_ble_eq_true rfl, Nat.le_of_ble_eq_true rfl⟩ rfl (Nat.le_of_ble_eq_true rfl) ⟨rfl, rfl⟩ ⟨Nat.le_of_ble_eq_true rfl, Nat.le_of_ble_eq_true rfl⟩ dX3_addSilence_67 ?_
          rintro _ M ⟨rfl, rfl⟩
          refine x_bipush (v := nI 7) hC dX3_addSilence_70 (by decide) ?_
          refine x_iaddN hC dX3_addSilence_72 ?_
          refine x_iload_n hC dX3_addSilence_73 rfl rfl ?_
          refine x_miastN hC hm 0 (by decide) (show _ < 433 from (by omega)) (by decide) dX3_addSilence_74 (fun M hm hF1 => ?_)
          have hF := hF.tr hF1
          rw [up_up, va_up_s] at hm
          refine x_aload_n hC dX3_addSilence_75 rfl rfl ?_
          refine x_get hC 0 hm.1 rfl (by decide) q2330 rfl rfl dX3_addSilence_76 ?_
          refine x_iconst (v := nI 0) hC dX3_addSilence_79 (by decide) ?_
          refine x_dup2_11 hC dX3_addSilence_80 rfl rfl ?_
          refine x_ialdN hC (hm.arr 0 (by decide)) (show _ < 433 from (by omega)) (by decide) dX3_addSilence_81 ?_
          rw [va_up_s, upd_n (by omega), p1 0 (by omega), hR7.1]
          refine x_iconst (v := nI 1) hC dX3_addSilence_82 (by decide) ?_
          refine x_iaddN hC dX3_addSilence_83 ?_
          refine x_miastN hC hm 0 (by decide) (show _ < 433 from (by omega)) (by decide) dX3_addSilence_84 (fun M hm hF1 => ?_)
          have hF := hF.tr hF1
          rw [up_up, va_up_s] at hm
          refine x_aload_n hC dX3_addSilence_85 rfl rfl ?_
          refine x_iconst (v := 0) hC dX3_addSilence_86 (by decide) ?_
          refine x_mput hC hm 12 2 (by decide) q2342 rfl rfl rfl rfl rfl rfl dX3_addSilence_87 (fun M hm hF1 => ?_)
          have hF := hF.tr hF1
          refine x_aload_n hC dX3_addSilence_90 rfl rfl ?_
          refine x_get hC 0 hm.1 rfl (by decide) q2330 rfl rfl dX3_addSilence_91 ?_
          refine x_iconst (v := nI 0) hC dX3_addSilence_94 (by decide) ?_
          refine x_ialdN hC (hm.arr 0 (by decide)) (show _ < 433 from (by omega)) (by decide) dX3_addSilence_95 ?_
          rw [show va_up A7 0 (upd (upd f (1 + 72 * (sR S).length + 7) (nI (2 ^ e))) 0 (nI ((sR S).length + 1))) 0 0 = nI ((sR S).length + 1) by rw [va_up_s, upd_s]]
          refine x_iconst (v := nI 1) hC dX3_addSilence_96 (by decide) ?_
          refine x_isubN hC dX3_addSilence_97 (by omega) ?_
          have hb7 := bN_of hB.2.2
          refine x_iret hC hk dX3_addSilence_98 (Nat.le_of_ble_eq_true rfl) (Nat.le_of_ble_eq_true rfl) ⟨_, _, _, rfl, (fun _ => rfl), hm, hF, (hS7.setR (R := sR S ++ [(sB S, List.replicate (2 ^ e) 0)]) (rep_new hR7 hS.1.2 upd_s (fun q q1 q2 => ?_) ?_ (fun q hq => ?_) ?_ (fun q hq => ?_)) (wf_new hS.1.2 (by omega) (wf_nm hS c1 ⟨e, by omega, by omega, by simp⟩ (fun y hy => ?_)) (fnd_none.mp c1.2))).clr, ?_⟩
          · rw [upd_n (by omega), upd_n (by omega)]; exact p1 q (by omega)
          · rw [upd_n (by omega), upd_n (by omega)]; exact p2
          · rw [upd_n (by omega), upd_n (by have := c1.1.1.2; omega), p3 q hq]; exact (hb7 q hq).2
          · rw [upd_n (by omega), show 8 + 72 * (sR S).length = 1 + 72 * (sR S).length + 7 by omega, upd_s, List.length_replicate]
          · have hq64 : q < 2 ^ e := by simpa using hq
            rw [upd_n (by omega), upd_n (by omega), p4 _ (by omega) (by omega)]
            simp [List.getD_eq_getElem?_getD, hq64]
          · rw [List.eq_of_mem_replicate hy]; decide
          · rw [upd_n (by decide)]
            exact h76.trans (upd_s.trans ((if_pos trivial).trans (if_pos trivial)))
        · exact absurd ⟨trivial, trivial⟩ c
end M25

