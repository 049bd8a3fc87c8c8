/-! ===== the whole state, as both sides have it; the reference's operations: text and buffer ===== -/
/-- the archive, the earlier ones (eldest first), the saved one, the buffer, the last error, the formatted text -/
abbrev X_S : Type := List Rcd × List (List Rcd) × Option (List Rcd) × List Nat × (Int32 × Int32) × List Nat
abbrev sR (S : X_S) : List Rcd := S.1
abbrev sH (S : X_S) : List (List Rcd) := S.2.1
abbrev sV (S : X_S) : Option (List Rcd) := S.2.2.1
abbrev sB (S : X_S) : List Nat := S.2.2.2.1
abbrev sE (S : X_S) : Int32 × Int32 := S.2.2.2.2.1
abbrev sT (S : X_S) : List Nat := S.2.2.2.2.2
/-- the reference holds the state S -/
def MRep (S : X_S) (V : Nat → Int32) (A : Nat → Nat → Int32) : Prop :=
  (RepR (sR S) (A 0) ∧ WfR (sR S)) ∧
  (V 1 = nI (sH S).length ∧ (sH S).length ≤ 8 ∧ ∀ j R, (sH S)[j]? = some R → RepR R (fun q => A 2 (433 * j + q)) ∧ WfR R) ∧
  (V 0 = xB ((sV S).isSome = true) ∧ ∀ R, sV S = some R → RepR R (A 3) ∧ WfR R) ∧
  (V 2 = nI (sB S).length ∧ (sB S).length ≤ 900 ∧ ∀ i c, (sB S)[i]? = some c → c < 256 ∧ A 4 i = nI c) ∧
  (V 4 = (sE S).1 ∧ V 5 = (sE S).2) ∧
  (V 3 = nI (sT S).length ∧ (sT S).length ≤ 1000 ∧ ∀ i c, (sT S)[i]? = some c → c < 65536 ∧ A 5 i = nI c)
theorem MRep.keep {S : X_S} {V V' : Nat → Int32} {A A' : Nat → Nat → Int32} (h : MRep S V A) (hV : ∀ q, q < 6 → V' q = V q) (h0 : A' 0 = A 0) (h2 : A' 2 = A 2) (h3 : A' 3 = A 3) (h4 : A' 4 = A 4) (h5 : A' 5 = A 5) : MRep S V' A' := by
  obtain ⟨k1, k2, k3, k4, k5, k6⟩ := h
  unfold MRep
  rw [h0, h2, h3, h4, h5, hV 0 (by decide), hV 1 (by decide), hV 2 (by decide), hV 3 (by decide), hV 4 (by decide), hV 5 (by decide)]
  exact ⟨k1, k2, k3, k4, k5, k6⟩
theorem RepR.cong {R : List Rcd} {f g : Nat → Int32} (h : RepR R f) (hW : WfR R) (he : ∀ q, q < 433 → g q = f q) : RepR R g := by
  refine ⟨(he 0 (by decide)).trans h.1, fun c r hr => ?_⟩
  have hc := (List.getElem?_eq_some_iff.mp hr).1
  have h6 := hW.1
  have hw := hW.2.1 r (List.mem_of_getElem? hr)
  exact (h.2 c r hr).cong hw.1.2 hw.len.1 (fun q h1 h2 => he q (by omega))
/-- what an operation with an int leaves: its code, its value where the code is 0, the new state -/
def MOi (M : X_M) (m : Nat) (P : Nat → Nat) (S : X_S) (code val : Int32) : Option Value → X_M → Prop := fun r M' => ∃ (x : Int32) (V' : Nat → Int32) (A' : Nat → Nat → Int32), r = some (.int x) ∧ (code = 0 → x = val) ∧ Mdl M' m P V' A' ∧ Fm M M' ∧ MRep S V' A' ∧ V' 6 = code
def MOl (M : X_M) (m : Nat) (P : Nat → Nat) (S : X_S) (code : Int32) (val : Int64) : Option Value → X_M → Prop := fun r M' => ∃ (x : Int64) (V' : Nat → Int32) (A' : Nat → Nat → Int32), r = some (.long x) ∧ (code = 0 → x = val) ∧ Mdl M' m P V' A' ∧ Fm M M' ∧ MRep S V' A' ∧ V' 6 = code
def MOd (M : X_M) (m : Nat) (P : Nat → Nat) (S : X_S) (code : Int32) (val : UInt64) : Option Value → X_M → Prop := fun r M' => ∃ (x : UInt64) (V' : Nat → Int32) (A' : Nat → Nat → Int32), r = some (.double x) ∧ (code = 0 → x = val) ∧ Mdl M' m P V' A' ∧ Fm M M' ∧ MRep S V' A' ∧ V' 6 = code
def MOf (M : X_M) (m : Nat) (P : Nat → Nat) (S : X_S) (code : Int32) (val : UInt32) : Option Value → X_M → Prop := fun r M' => ∃ (x : UInt32) (V' : Nat → Int32) (A' : Nat → Nat → Int32), r = some (.float x) ∧ (code = 0 → x = val) ∧ Mdl M' m P V' A' ∧ Fm M M' ∧ MRep S V' A' ∧ V' 6 = code
/-- the bytes of a list by their places -/
abbrev bN (B : List Nat) : Nat → Nat := fun i => B.getD i 0
theorem bN_of {B : List Nat} {f : Nat → Int32} (h : ∀ i c, B[i]? = some c → c < 256 ∧ f i = nI c) : ∀ i, i < B.length → bN B i < 256 ∧ f i = nI (bN B i) := fun i hi => by
  have e : B[i]? = some (bN B i) := by simp [bN, List.getD_eq_getElem?_getD, hi]
  exact h i _ e
/-- the whole text read -/
def pAll (B : List Nat) : Except (Nat × Nat) (List Rcd) := pTx (bN B) B.length 7 [] (tkS (bN B) B.length 0)
def opParse (S : X_S) : Int32 × Int32 × X_S := match pAll (sB S) with
  | .error ko => (1, 0, (sR S, sH S, sV S, [], (nI ko.1, nI ko.2), sT S))
  | .ok R => (0, nI R.length, (R, [], none, [], (0, -1), sT S))
/-- the four bytes of a word, as numbers -/
def bt4 (w : Int32) : List Nat := (List.range 4).map fun i => (byt w i).toBitVec.toNat
theorem byt_lt (w : Int32) (i : Nat) : (byt w i).toBitVec.toNat < 256 ∧ byt w i = nI (byt w i).toBitVec.toNat := by
  have h := pk_and (us w (nI (24 - 8 * i))) (m := 255) 8 (by decide)
  have e : byt w i = nI ((us w (nI (24 - 8 * i))).toBitVec.toNat % 2 ^ 8) := h
  have hlt : (us w (nI (24 - 8 * i))).toBitVec.toNat % 2 ^ 8 < 2 ^ 8 := Nat.mod_lt _ (by decide)
  rw [e, pk_tn (by omega)]
  exact ⟨hlt, rfl⟩
def opAppend (S : X_S) (w0 w1 w2 w3 w4 : Int32) : Int32 × Int32 × X_S :=
  if (sB S).length + 20 ≤ 900 then (0, nI ((sB S).length + 20), (sR S, sH S, sV S, sB S ++ bt4 w0 ++ bt4 w1 ++ bt4 w2 ++ bt4 w3 ++ bt4 w4, sE S, sT S)) else (1, 0, S)
def opTruncate (S : X_S) (x : Int32) : Int32 × Int32 × X_S :=
  if 0 ≤ x ∧ x ≤ nI (sB S).length then (0, x, (sR S, sH S, sV S, (sB S).take x.toNatClampNeg, sE S, sT S)) else (1, 0, S)
section M10
variable {G : X_G} {M : X_M} {m : Nat} {P : Nat → Nat} {V : Nat → Int32} {A : Nat → Nat → Int32} {b : Nat → Nat} {L : Nat}
/-- what isText leaves -/
def pTxq (M : X_M) (m : Nat) (P : Nat → Nat) (V : Nat → Int32) (A : Nat → Nat → Int32) (e : Except (Nat × Nat) (List Rcd)) : Option Value → X_M → Prop := fun r M' => ∃ V' f', Mdl M' m P V' (va_up A 0 f') ∧ Fm M M' ∧ (∀ q, q < 4 → V' q = V q) ∧ V' 6 = V 6 ∧ match e with
  | .error ko => r = some (.int 0) ∧ V' 4 = nI ko.1 ∧ V' 5 = nI ko.2
  | .ok R => r = some (.int 1) ∧ (RepR R f' ∧ WfR R) ∧ V' 4 = V 4 ∧ V' 5 = V 5
theorem ct_isText (hG : GOK G) {M0 : X_M} (hm : Mdl M0 m P V A) (hL : V 2 = nI L) (hL9 : L ≤ 900) (hb : ∀ i, i < L → b i < 256 ∧ A 4 i = nI (b i)) (h0 : A 0 0 = 0) : Ct G yX3_isText cX3_isText 1 (some .boolean) (xrm 5 0 0) [.ref m] M0 (pTxq M0 m P V A (pTx b L 7 [] (tkS b L 0))) := by
  refine ct_open (lv := [_]) hG (by decide +kernel) (Nat.le_of_ble_eq_true rfl) rfl (fun C hC hk => ?_)
  obtain ⟨M, hMe⟩ : ∃ M, M = M0 := ⟨M0, rfl⟩
  have hF : Fm M0 M := by rw [hMe]; exact Fr.rf
  rw [← hMe] at hm ⊢
  refine x_aload_n hC dX3_isText_0 rfl rfl ?_
  refine x_iconst (v := nI 0) hC dX3_isText_1 (by decide) ?_
  refine x_mput hC hm 18 8 (by decide) q2348 rfl rfl rfl rfl rfl rfl dX3_isText_2 (fun M hm hF1 => ?_)
  have hF := hF.tr hF1
  refine x_aload_n hC dX3_isText_5 rfl rfl ?_
  refine x_callV0 (na := 0) hC (ct_advance hG hm (k0 := 0) hL hL9 hb rfl (Nat.zero_le _)) (lw_V q2433 q2435 qs35 q89 q2436) hm.1 rfl rfl (by decide +kernel) rfl ⟨Nat.le_of_ble_eq_true rfl, Nat.le_of_ble_eq_true rfl⟩ rfl (Nat.le_of_ble_eq_true rfl) ⟨rfl, rfl⟩ ⟨Nat.le_of_ble_eq_true rfl, Nat.le_of_ble_eq_true rfl⟩ dX3_isText_6 ?_
  rintro _ M ⟨rfl, V1, hm, hF1, g1, g2, g3, g4, g5⟩
  have hF := hF.tr hF1
  refine x_pop hC dX3_isText_9 rfl ?_
  have loop : ∀ (d : Nat) (R : List Rcd) (s : Nat) (M1 : X_M) (V2 f : Nat → Int32), R.length + d = 7 → s ≤ L → TkS b L V2 s → (∀ q, q < 4 → V2 q = V q) → V2 6 = V 6 → V2 4 = V 4 → V2 5 = V 5 → RepR R f → WfR R → pTx b L 7 [] (tkS b L 0) = pTx b L d R s → Mdl M1 m P V2 (va_up A 0 f) → Fm M0 M1 → Wg G C M1 0 0 10 [some (.ref m)] [] := by
    intro d
    induction d with
    | zero =>
      intro R s M1 V2 f h1 h2 h3 h4 h5 h6 h7 h8 h9
      have := h9.1
      omega
    | succ d ih =>
      intro R s M V2 f h1 hs ht hV h6 h4 h5 hR hW hp hm hF
      have hp2 : pTx b L (d + 1) R s = if tkC b L s = 0 then .ok R else match pSt b L R s with
        | .error e => .error e
        | .ok (R2, s2) => pTx b L d R2 s2 := rfl
      rw [hp2] at hp
      have hc := tkC_lt b L s
      refine x_aload_n hC dX3_isText_10 rfl rfl ?_
      refine x_get hC 19 hm.1 rfl (by decide) q2349 rfl rfl dX3_isText_11 ?_
      rw [ht.2.2.1]
      refine x_if_eqN (tgt := 26) hC (by omega) dX3_isText_14 (by decide) (fun c1 => ?_) (fun c1 => ?_)
      · rw [if_pos c1] at hp
        rw [hp] at hk
        refine x_iconst (v := 1) hC dX3_isText_26 (by decide) ?_
        exact x_zret hC hk dX3_isText_27 (by first | rfl | exact xB_nar) (Nat.le_of_ble_eq_true rfl) (Nat.le_of_ble_eq_true rfl) ⟨V2, f, hm, hF, hV, h6, rfl, ⟨hR, hW⟩, h4, h5⟩
      · rw [if_neg c1] at hp
        refine x_aload_n hC dX3_isText_17 rfl rfl ?_
        refine x_callV0 (na := 0) hC (ct_statement hG hm ((hV 2 (by decide)).trans hL) hL9 hb hs ht hR hW) (lw_V q2441 q2443 qs37 q89 q2444) hm.1 rfl rfl (by decide +kernel) rfl ⟨Nat.le_of_ble_eq_true rfl, Nat.le_of_ble_eq_true rfl⟩ rfl (Nat.le_of_ble_eq_true rfl) ⟨rfl, rfl⟩ ⟨Nat.le_of_ble_eq_true rfl, Nat.le_of_ble_eq_true rfl⟩ dX3_isText_18 ?_
        rintro _ M ⟨V3, f3, hm3, hF3, hV3, h63, hq⟩
        have hF := hF.tr hF3
        rw [up_up] at hm3
        cases hp1 : pSt b L R s with
        | error ko =>
          rw [hp1] at hq hp
          dsimp only at hp
          rw [hp] at hk
          obtain ⟨rfl, e4, e5⟩ := hq
          refine x_if_ne (tgt := 10) hC dX3_isText_21 (by decide) (fun c7 => ?_) (fun c7 => ?_)
          · exact absurd rfl c7
          · refine x_iconst (v := 0) hC dX3_isText_24 (by decide) ?_
            exact x_zret hC hk dX3_isText_25 (by first | rfl | exact xB_nar) (Nat.le_of_ble_eq_true rfl) (Nat.le_of_ble_eq_true rfl) ⟨V3, f3, hm3, hF, (fun q hq => (hV3 q hq).trans (hV q hq)), h63.trans h6, rfl, e4, e5⟩
        | ok Rs =>
          obtain ⟨R2, s2⟩ := Rs
          obtain ⟨w1, w2, w3⟩ := pSt_wf hs hW hp1
          rw [hp1] at hq hp
          dsimp only at hp
          obtain ⟨rfl, r1, e4, e5, ht3⟩ := hq
          refine x_if_ne (tgt := 10) hC dX3_isText_21 (by decide) (fun c7 => ?_) (fun c7 => ?_)
          · exact ih R2 s2 M V3 f3 (by omega) w2 ht3 (fun q hq => (hV3 q hq).trans (hV q hq)) (h63.trans h6) (e4.trans h4) (e5.trans h5) r1 w1 hp hm3 hF
          · exact absurd c7 (by decide)
  refine loop 7 [] (tkS b L 0) M V1 (A 0) rfl (tkS_le b (Nat.zero_le _)).2 ⟨g1, g2, g3, g4⟩ (fun q hq => (g5 q (by omega)).trans (upd_n (by omega))) ((g5 6 (by decide)).trans (upd_n (by decide))) ((g5 4 (by decide)).trans (upd_n (by decide))) ((g5 5 (by decide)).trans (upd_n (by decide))) ⟨h0, fun c r h => by cases h⟩ ⟨Nat.zero_le _, ⟨(fun r h => by cases h), List.nodup_nil⟩⟩ rfl (hm.to rfl (by rw [up_id])) hF
theorem ct_parse (hG : GOK G) {S : X_S} (hm : Mdl M m P V A) (hS : MRep S V A) : Ct G yX3_parse cX3_parse 2 (some .int) (xrm 6 0 0) [.ref m] M (MOi M m P (opParse S).2.2 (opParse S).1 (opParse S).2.1) := by
  obtain ⟨⟨hR, hW⟩, hH, hV, hB, hE, hT⟩ := hS
  have hb := bN_of hB.2.2
  refine ct_open (lv := [_, _]) hG (by decide +kernel) (Nat.le_of_ble_eq_true rfl) rfl (fun C hC hk => ?_)
  have hF : Fm M M := Fr.rf
  refine x_aload_n hC dX3_parse_0 rfl rfl ?_
  refine x_iconst (v := 0) hC dX3_parse_1 (by decide) ?_
  refine x_mput hC hm 14 4 (by decide) q2344 rfl rfl rfl rfl rfl rfl dX3_parse_2 (fun M hm hF1 => ?_)
  have hF := hF.tr hF1
  refine x_aload_n hC dX3_parse_5 rfl rfl ?_
  refine x_iconst (v := -1) hC dX3_parse_6 (by decide) ?_
  refine x_mput hC hm 15 5 (by decide) q2345 rfl rfl rfl rfl rfl rfl dX3_parse_7 (fun M hm hF1 => ?_)
  have hF := hF.tr hF1
  refine x_aload_n hC dX3_parse_10 rfl rfl ?_
  refine x_callV0 (na := 0) hC (ct_putAside hG hm) (lw_V q2421 q2423 qs32 q89 q2424) hm.1 rfl rfl (by decide +kernel) rfl ⟨Nat.le_of_ble_eq_true rfl, Nat.le_of_ble_eq_true rfl⟩ rfl (Nat.le_of_ble_eq_true rfl) ⟨rfl, rfl⟩ ⟨Nat.le_of_ble_eq_true rfl, Nat.le_of_ble_eq_true rfl⟩ dX3_parse_11 ?_
  rintro _ M ⟨rfl, hm, hF1⟩
  have hF := hF.tr hF1
  refine x_aload_n hC dX3_parse_14 rfl rfl ?_
  refine x_iconst (v := nI 0) hC dX3_parse_15 (by decide) ?_
  refine x_sipush (v := nI 433) hC dX3_parse_16 (by decide) ?_
  refine x_callV0 (na := 2) hC (ct_wipe hG hm (a := 0) (n := 433) (by decide)) (lw_V q2425 q2427 qs33 q89 q2428) hm.1 rfl rfl (by decide +kernel) rfl ⟨Nat.le_of_ble_eq_true rfl, Nat.le_of_ble_eq_true rfl⟩ rfl (Nat.le_of_ble_eq_true rfl) ⟨rfl, rfl⟩ ⟨Nat.le_of_ble_eq_true rfl, Nat.le_of_ble_eq_true rfl⟩ dX3_parse_19 ?_
  rintro _ M ⟨rfl, hm, hF1⟩
  have hF := hF.tr hF1
  refine x_aload_n hC dX3_parse_22 rfl rfl ?_
  refine x_callV0 (na := 0) hC (ct_isText (L := (sB S).length) (b := bN (sB S)) hG hm hB.1 hB.2.1 hb (by rw [va_up_s]; exact fil_in (Nat.le_refl 0) (by decide))) (lw_V q2429 q2431 qs34 q89 q2432) hm.1 rfl rfl (by decide +kernel) rfl ⟨Nat.le_of_ble_eq_true rfl, Nat.le_of_ble_eq_true rfl⟩ rfl (Nat.le_of_ble_eq_true rfl) ⟨rfl, rfl⟩ ⟨Nat.le_of_ble_eq_true rfl, Nat.le_of_ble_eq_true rfl⟩ dX3_parse_23 ?_
  rintro _ M ⟨V3, f3, hm, hF3, hV3, h63, hq⟩
  have hF := hF.tr hF3
  have hp : pTx (bN (sB S)) (sB S).length 7 [] (tkS (bN (sB S)) (sB S).length 0) = pAll (sB S) := rfl
  rw [hp] at hq
  unfold opParse at hk
  cases hpa : pAll (sB S) with
  | error ko =>
    rw [hpa] at hq hk
    obtain ⟨rfl, e4, e5⟩ := hq
    dsimp only at hk
    refine x_istore_n (lv' := [_, _]) hC dX3_parse_26 rfl (by decide) rfl ?_
    refine x_aload_n hC dX3_parse_27 rfl rfl ?_
    refine x_iconst (v := nI 0) hC dX3_parse_28 (by decide) ?_
    refine x_mput hC hm 12 2 (by decide) q2342 rfl rfl rfl rfl rfl rfl dX3_parse_29 (fun M hm hF1 => ?_)
    have hF := hF.tr hF1
    refine x_aload_n hC dX3_parse_32 rfl rfl ?_
    refine x_iload_n hC dX3_parse_33 rfl rfl ?_
    refine x_callV0 (na := 1) hC (ct_good hG hm False) (lw_V q2402 q2404 qs30 q89 q2405) hm.1 rfl rfl (by decide +kernel) rfl ⟨Nat.le_of_ble_eq_true rfl, Nat.le_of_ble_eq_true rfl⟩ rfl (Nat.le_of_ble_eq_true rfl) ⟨rfl, rfl⟩ ⟨Nat.le_of_ble_eq_true rfl, Nat.le_of_ble_eq_true rfl⟩ dX3_parse_34 ?_
    rintro _ M ⟨rfl, hm, hF1⟩
    have hF := hF.tr hF1
    refine x_if_ne (tgt := 46) hC dX3_parse_37 (by decide) (fun c1 => ?_) (fun c1 => ?_)
    · exact absurd rfl c1
    · refine x_aload_n hC dX3_parse_40 rfl rfl ?_
      refine x_callV0 (na := 0) hC (ct_layBack hG hm) (lw_V q2471 q2473 qs43 q89 q2474) hm.1 rfl rfl (by decide +kernel) rfl ⟨Nat.le_of_ble_eq_true rfl, Nat.le_of_ble_eq_true rfl⟩ rfl (Nat.le_of_ble_eq_true rfl) ⟨rfl, rfl⟩ ⟨Nat.le_of_ble_eq_true rfl, Nat.le_of_ble_eq_true rfl⟩ dX3_parse_41 ?_
      rintro _ M ⟨rfl, hm, hF1⟩
      have hF := hF.tr hF1
      refine x_iconst (v := -1) hC dX3_parse_44 (by decide) ?_
      refine x_iret hC hk dX3_parse_45 (Nat.le_of_ble_eq_true rfl) (Nat.le_of_ble_eq_true rfl) ⟨_, _, _, rfl, (fun h => absurd h (by decide)), hm, hF, ?_, rfl⟩
      refine ⟨⟨hR.cong hW (fun q hq => by rw [va_up_s, fil_in (Nat.zero_le _) hq]; exact fil_in (f := A 1) (g := A 0) (Nat.zero_le _) hq), hW⟩, ⟨(hV3 1 (by decide)).trans hH.1, hH.2⟩, ⟨(hV3 0 (by decide)).trans hV.1, hV.2⟩, ⟨rfl, Nat.zero_le _, fun i c h => by cases h⟩, ⟨e4, e5⟩, ⟨(hV3 3 (by decide)).trans hT.1, hT.2⟩⟩
  | ok R =>
    rw [hpa] at hq hk
    obtain ⟨rfl, ⟨r1, r2⟩, e4, e5⟩ := hq
    dsimp only at hk
    refine x_istore_n (lv' := [_, _]) hC dX3_parse_26 rfl (by decide) rfl ?_
    refine x_aload_n hC dX3_parse_27 rfl rfl ?_
    refine x_iconst (v := nI 0) hC dX3_parse_28 (by decide) ?_
    refine x_mput hC hm 12 2 (by decide) q2342 rfl rfl rfl rfl rfl rfl dX3_parse_29 (fun M hm hF1 => ?_)
    have hF := hF.tr hF1
    refine x_aload_n hC dX3_parse_32 rfl rfl ?_
    refine x_iload_n hC dX3_parse_33 rfl rfl ?_
    refine x_callV0 (na := 1) hC (ct_good hG hm True) (lw_V q2402 q2404 qs30 q89 q2405) hm.1 rfl rfl (by decide +kernel) rfl ⟨Nat.le_of_ble_eq_true rfl, Nat.le_of_ble_eq_true rfl⟩ rfl (Nat.le_of_ble_eq_true rfl) ⟨rfl, rfl⟩ ⟨Nat.le_of_ble_eq_true rfl, Nat.le_of_ble_eq_true rfl⟩ dX3_parse_34 ?_
    rintro _ M ⟨rfl, hm, hF1⟩
    have hF := hF.tr hF1
    refine x_if_ne (tgt := 46) hC dX3_parse_37 (by decide) (fun c1 => ?_) (fun c1 => ?_)
    · refine x_aload_n hC dX3_parse_46 rfl rfl ?_
      refine x_iconst (v := nI 0) hC dX3_parse_47 (by decide) ?_
      refine x_mput hC hm 11 1 (by decide) q2341 rfl rfl rfl rfl rfl rfl dX3_parse_48 (fun M hm hF1 => ?_)
      have hF := hF.tr hF1
      refine x_aload_n hC dX3_parse_51 rfl rfl ?_
      refine x_iconst (v := nI 0) hC dX3_parse_52 (by decide) ?_
      refine x_mput hC hm 4 0 (by decide) q2334 rfl rfl rfl rfl rfl rfl dX3_parse_53 (fun M hm hF1 => ?_)
      have hF := hF.tr hF1
      refine x_aload_n hC dX3_parse_56 rfl rfl ?_
      refine x_get hC 0 hm.1 rfl (by decide) q2330 rfl rfl dX3_parse_57 ?_
      refine x_iconst (v := nI 0) hC dX3_parse_60 (by decide) ?_
      refine x_ialdN hC (hm.arr 0 (by decide)) (show _ < 433 from (by omega)) (by decide) dX3_parse_61 ?_
      refine x_iret hC hk dX3_parse_62 (Nat.le_of_ble_eq_true rfl) (Nat.le_of_ble_eq_true rfl) ⟨_, _, _, rfl, (fun _ => ?_), hm, hF, ?_, rfl⟩
      · exact r1.1
      · exact ⟨⟨r1, r2⟩, ⟨rfl, Nat.zero_le _, fun j R h => by cases h⟩, ⟨rfl, fun R h => by cases h⟩, ⟨rfl, Nat.zero_le _, fun i c h => by cases h⟩, ⟨e4, e5⟩, ⟨(hV3 3 (by decide)).trans hT.1, hT.2⟩⟩
    · exact absurd c1 (by decide)
end M10

