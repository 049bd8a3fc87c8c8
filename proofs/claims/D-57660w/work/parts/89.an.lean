/-! ===== the component's state ===== -/
abbrev aF (bu : Nat) (bl ek eo : Int32) (ar dq : Nat) (sv : Option Nat) (fm : Nat) : List Value := [.ref bu, .int bl, .int ek, .int eo, .ref ar, .ref dq, va_rf sv, .ref fm]
/-- the analyzer a, in parts -/
def CRp (S : X_S) (M : X_M) (T : X_T) (a bu ar dq : Nat) (sv : Option Nat) (fm : Nat) (bf : Nat → Int32) (H : List Nat) : Prop :=
  M a = some (ob 1 1 (aF bu (nI (sB S).length) (sE S).1 (sE S).2 ar dq sv fm)) ∧
  (M bu = some (ba 1 900 bf) ∧ (sB S).length ≤ 900 ∧ ∀ (i c : Nat), (sB S)[i]? = some c → c < 256 ∧ bf i = sb_b c) ∧
  (AM M T ar (sR S) ∧ WfR (sR S)) ∧
  (DQ M 4 dq H ∧ H.length = (sH S).length ∧ (sH S).length ≤ 8 ∧ ∀ (i c : Nat) (R : List Rcd), H[i]? = some c → (sH S)[i]? = some R → AM M T c R ∧ WfR R) ∧
  ((sV S = none ∧ sv = none) ∨ ∃ s R, sV S = some R ∧ sv = some s ∧ AM M T s R ∧ WfR R) ∧
  SM M fm (sT S) ∧ (ar :: H ++ sv.toList).Nodup ∧ M0c T M
def CRep (S : X_S) (M : X_M) (T : X_T) (a : Nat) : Prop := ∃ bu ar dq sv fm bf H, CRp S M T a bu ar dq sv fm bf H
/-- the cells that the component may write -/
abbrev PW : Nat → Prop := fun g => g ≠ 0 ∧ g ≠ 10 ∧ g ≠ 11
theorem AM.lr {M M' : X_M} {T : X_T} {c : Nat} {R : List Rcd} (h : AM M T c R) (hL : Lr M M') : AM M' T c R := by
  obtain ⟨L, h⟩ := h
  exact ⟨L, h.lr hL⟩
theorem AM.fr {P : Nat → Prop} {M M' : X_M} {T : X_T} {c : Nat} {R : List Rcd} (h : AM M T c R) (hF : Fr P M M') (h0 : ¬ P 0) (h2 : ¬ P 2) (hc : ∀ g, PA c g → ¬ P g) : AM M' T c R := by
  obtain ⟨L, h⟩ := h
  exact ⟨L, h.fr hF h0 h2 hc⟩
theorem CRep.lr {S : X_S} {M M' : X_M} {T : X_T} {a : Nat} (h : CRep S M T a) (hL : Lr M M') : CRep S M' T a := by
  obtain ⟨bu, ar, dq, sv, fm, bf, H, h1, h2, h3, h4, h5, h6, h7, h8⟩ := h
  refine ⟨bu, ar, dq, sv, fm, bf, H, hL.1.z (by decide) h1, ⟨hL.1.z (by decide) h2.1, h2.2⟩, ⟨h3.1.lr hL, h3.2⟩, ⟨h4.1.fr hL.1 (by decide), h4.2.1, h4.2.2.1, fun i c R z1 z2 => ⟨(h4.2.2.2 i c R z1 z2).1.lr hL, (h4.2.2.2 i c R z1 z2).2⟩⟩, ?_, h6.fr hL.1 (by decide), h7, hL.1.z (by decide) h8⟩
  rcases h5 with h5 | ⟨s, R, z1, z2, z3, z4⟩
  · exact Or.inl h5
  · exact Or.inr ⟨s, R, z1, z2, z3.lr hL, z4⟩
theorem CRep.fr {P : Nat → Prop} {S : X_S} {M M' : X_M} {T : X_T} {a : Nat} (h : CRep S M T a) (hF : Fr P M M') (h0 : ¬ P 0) (h1' : ¬ P 1) (h2' : ¬ P 2) (h4' : ¬ P 4) (hc : ∀ g, 16 ≤ g → ¬ P g) : CRep S M' T a := by
  obtain ⟨bu, ar, dq, sv, fm, bf, H, h1, h2, h3, h4, h5, h6, h7, h8⟩ := h
  have hcc : ∀ c g, PA c g → ¬ P g := fun c g z => hc g (by have := z.1; omega)
  refine ⟨bu, ar, dq, sv, fm, bf, H, hF.z h1' h1, ⟨hF.z h1' h2.1, h2.2⟩, ⟨h3.1.fr hF h0 h2' (hcc ar), h3.2⟩, ⟨h4.1.fr hF h4', h4.2.1, h4.2.2.1, fun i c R z1 z2 => ⟨(h4.2.2.2 i c R z1 z2).1.fr hF h0 h2' (hcc c), (h4.2.2.2 i c R z1 z2).2⟩⟩, ?_, h6.fr hF h0, h7, hF.z h0 h8⟩
  rcases h5 with h5 | ⟨s, R, z1, z2, z3, z4⟩
  · exact Or.inl h5
  · exact Or.inr ⟨s, R, z1, z2, z3.fr hF h0 h2' (hcc s), z4⟩
theorem CRep.rec {S : X_S} {M : X_M} {T : X_T} {a : Nat} (h : CRep S M T a) : ∃ vs, M a = some (ob 1 1 vs) := by
  obtain ⟨bu, ar, dq, sv, fm, bf, H, h1, -⟩ := h
  exact ⟨_, h1⟩
/-- what an operation leaves that returns, that throws -/
def CO (T : X_T) (a : Nat) (S' : X_S) (code : Int32) (v : Value) (M : X_M) : Option Value → X_M → Prop := fun r M' => code = 0 ∧ r = some v ∧ CRep S' M' T a ∧ Fr PW M M'
def CX (T : X_T) (a : Nat) (S' : X_S) (code : Int32) (es : List String) (M : X_M) : Nat → String → X_M → Prop := fun _ E M' => (∃ k, code = nI (k + 1) ∧ es[k]? = some E) ∧ CRep S' M' T a ∧ Fr PW M M'
theorem CX.same {T : X_T} {a : Nat} {S : X_S} {code : Int32} {es : List String} {M : X_M} {q k : Nat} {E : String} (hR : CRep S M T a) (hc : code = nI (k + 1)) (he : es[k]? = some E) : CX T a S code es M q E M := ⟨⟨k, hc, he⟩, hR, Fr.rf⟩
theorem Lr.pw {M M' : X_M} (h : Lr M M') : Fr PW M M' := h.1.wk fun g e => by subst e; exact ⟨by decide, by decide, by decide⟩
theorem pw3 {M M' : X_M} (h : Fr (fun g => g = 3) M M') : Fr PW M M' := h.wk fun g e => by subst e; exact ⟨by decide, by decide, by decide⟩
theorem CRep.f3 {S : X_S} {M M' : X_M} {T : X_T} {a : Nat} (h : CRep S M T a) (hF : Fr (fun g => g = 3) M M') : CRep S M' T a := h.fr hF (by decide) (by decide) (by decide) (by decide) (fun g z => by omega)
theorem CRep.wf {S : X_S} {M : X_M} {T : X_T} {a : Nat} (h : CRep S M T a) : WfR (sR S) := by
  obtain ⟨bu, ar, dq, sv, fm, bf, H, h1, h2, h3, -⟩ := h
  exact h3.2
theorem rc_iff {R : List Rcd} (h6 : R.length ≤ 6) (x : Int32) : (0 ≤ x ∧ x ≤ nI R.length - 1) ↔ ¬ rc R x = none := by
  have e1 : (nI R.length - 1).toInt = (R.length : Int) - 1 := by
    rw [Int32.toInt_sub, nI_toInt (by omega), show (1 : Int32).toInt = 1 by decide, Int.bmod_eq_of_le (by omega) (by omega)]
  have e2 : (x.toNatClampNeg : Int) = max x.toInt 0 := by
    show ((x.toInt.toNat : Nat) : Int) = _
    omega
  unfold rc
  by_cases h0 : (0 : Int32) ≤ x
  · rw [if_pos h0, List.getElem?_eq_none_iff, Int32.le_iff_toInt_le (x := x), e1]
    have h1 := Int32.le_iff_toInt_le.mp h0
    rw [show (0 : Int32).toInt = 0 by decide] at h1
    constructor
    · rintro ⟨-, z⟩; omega
    · intro z; exact ⟨h0, by omega⟩
  · rw [if_neg h0]
    constructor
    · intro z; exact absurd z.1 h0
    · intro z; exact absurd rfl z
theorem rc_at {R : List Rcd} {x : Int32} {r : Rcd} (h : rc R x = some r) : ∃ i, x = nI i ∧ R[i]? = some r ∧ x.toNatClampNeg = i := by
  unfold rc at h
  split at h
  · next h0 =>
    refine ⟨x.toNatClampNeg, ?_, h, rfl⟩
    have h1 := Int32.le_iff_toInt_le.mp h0
    rw [show (0 : Int32).toInt = 0 by decide] at h1
    have hlt : x.toNatClampNeg < 2 ^ 31 := by
      show x.toInt.toNat < _
      have := Int32.toInt_lt x
      omega
    refine Int32.toInt_inj.mp ?_
    rw [nI_toInt hlt]
    show x.toInt = ((x.toInt.toNat : Nat) : Int)
    omega
  · cases h
section AN1
variable {G : X_G} {M : X_M} {T : X_T} {a : Nat} {S : X_S}
theorem cq_get (hG : GOK G) (hR : CRep S M T a) (x : Int32) : Cq G yX1_get cX1_get 2 (some (.object "WalshAnalyzer$Recording")) (xrm 4 1 6) [.ref a, .int x] M (fun z M' => M' = M ∧ ∃ q r, rc (sR S) x = some r ∧ z = some (.ref q) ∧ RA M q r ∧ WfRow r) (Pth xIOB (¬ rc (sR S) x = none) M) := by
  obtain ⟨bu, ar, dq, sv, fm, bf, H, h1, h2, ⟨⟨L, h3⟩, h3w⟩, -⟩ := hR
  obtain ⟨l, m, a1, a2, a4⟩ := h3.rec
  obtain ⟨vl, hl⟩ := a2.rec
  refine cq_open (lv := [_, _]) hG (by decide +kernel) (Nat.le_of_ble_eq_true rfl) rfl (fun C hC hk hx => ?_)
  refine x_iload_n hC dX1_get_0 rfl rfl ?_
  refine x_iconst (v := 0) hC dX1_get_1 (by decide) ?_
  refine x_aload_n hC dX1_get_2 rfl rfl ?_
  refine x_get hC 4 h1 rfl (by decide) q233 rfl rfl dX1_get_3 ?_
  refine x_getN hC 0 a1 rfl (by decide) q203 rfl rfl dX1_get_6 ?_
  refine x_callV0 (na := 0) hC (ct_alSize hG a2) (lw_V q266 q267 q268 q85 q269) hl rfl rfl (by decide +kernel) rfl ⟨Nat.le_of_ble_eq_true rfl, Nat.le_of_ble_eq_true rfl⟩ rfl (Nat.le_of_ble_eq_true rfl) ⟨rfl, rfl⟩ ⟨Nat.le_of_ble_eq_true rfl, Nat.le_of_ble_eq_true rfl⟩ dX1_get_9 ?_
  rintro _ M ⟨rfl, rfl⟩
  rw [a4]
  refine x_iconst (v := 1) hC dX1_get_12 (by decide) ?_
  refine x_isub hC dX1_get_13 ?_
  refine x_callS0 (na := 3) hC (ct_isBetween hG _ _ _ _) (lw_S q641 q642 q81 q643) (by decide +kernel) rfl ⟨Nat.le_of_ble_eq_true rfl, Nat.le_of_ble_eq_true rfl⟩ rfl (Nat.le_of_ble_eq_true rfl) ⟨rfl, rfl⟩ ⟨Nat.le_of_ble_eq_true rfl, Nat.le_of_ble_eq_true rfl⟩ dX1_get_14 ?_
  rintro _ M ⟨rfl, rfl⟩
  rw [xB_iff (rc_iff h3w.1 x)]
  refine x_qS (k := 1) (n := 6) (na := 1) hC (cq_reqIOB hG _ _) (lw_S q1538 q1539 q81 q1540) (by decide +kernel) rfl ⟨Nat.le_of_ble_eq_true rfl, Nat.le_of_ble_eq_true rfl⟩ rfl (Nat.le_of_ble_eq_true rfl) (Nat.le_of_ble_eq_true rfl) (Nat.le_of_ble_eq_true rfl) ⟨Nat.le_of_ble_eq_true rfl, Nat.le_of_ble_eq_true rfl⟩ dX1_get_17 ?_ (fun q9 E9 M9 h9 => x_out hC hx (Nat.le_of_ble_eq_true rfl) (Nat.le_of_ble_eq_true rfl) (by obtain ⟨rfl, rfl, h9⟩ := h9; exact ⟨rfl, rfl, h9⟩))
  rintro _ M ⟨rfl, rfl, h9⟩
  cases hrc : rc (sR S) x with
  | none => exact absurd hrc h9
  | some r =>
    obtain ⟨i, rfl, hi, -⟩ := rc_at hrc
    obtain ⟨q, hq, hRA⟩ := h3.at hi
    obtain ⟨na, sa, cv, rv, x1, -⟩ := hRA.rec
    refine x_aload_n hC dX1_get_20 rfl rfl ?_
    refine x_get hC 4 h1 rfl (by decide) q233 rfl rfl dX1_get_21 ?_
    refine x_getN hC 0 a1 rfl (by decide) q203 rfl rfl dX1_get_24 ?_
    refine x_iload_n hC dX1_get_27 rfl rfl ?_
    refine x_callV0 (na := 1) hC (ct_alGet hG a2 hq) (lw_V q1556 q1038 q1039 q85 q1040) hl rfl rfl (by decide +kernel) rfl ⟨Nat.le_of_ble_eq_true rfl, Nat.le_of_ble_eq_true rfl⟩ rfl (Nat.le_of_ble_eq_true rfl) ⟨rfl, rfl⟩ ⟨Nat.le_of_ble_eq_true rfl, Nat.le_of_ble_eq_true rfl⟩ dX1_get_28 ?_
    rintro _ M ⟨rfl, rfl⟩
    refine x_castS hC x1 rfl rfl q1557 dX1_get_31 ?_
    exact x_aret hC hk dX1_get_34 (Or.inl ⟨_, rfl⟩) (Or.inr ⟨_, rfl⟩) (Nat.le_of_ble_eq_true rfl) (Nat.le_of_ble_eq_true rfl) ⟨rfl, q, r, hrc, rfl, hRA, h3w.2.1 r (List.mem_of_getElem? hi)⟩
theorem cq_get2 (hG : GOK G) (hR : CRep S M T a) (x z : Int32) : Cq G yX1_get_2 cX1_get_2 4 (some (.object "WalshAnalyzer$Recording")) (xrm 5 2 12) [.ref a, .int x, .int z] M (fun u M' => M' = M ∧ ∃ q r, rc (sR S) x = some r ∧ inI (rz r) z ∧ u = some (.ref q) ∧ RA M q r ∧ WfRow r) (Pth xIOB (∃ r, rc (sR S) x = some r ∧ inI (rz r) z) M) := by
  obtain ⟨vs, ha⟩ := hR.rec
  refine cq_open (lv := [_, _, _, _]) hG (by decide +kernel) (Nat.le_of_ble_eq_true rfl) rfl (fun C hC hk hx => ?_)
  refine x_aload_n hC dX1_get_2_0 rfl rfl ?_
  refine x_iload_n hC dX1_get_2_1 rfl rfl ?_
  refine x_qV (k := 1) (n := 6) (na := 1) hC (cq_get hG hR x) (lw_V q1534 q1536 qs13 q81 q1537) ha rfl rfl (by decide +kernel) rfl ⟨Nat.le_of_ble_eq_true rfl, Nat.le_of_ble_eq_true rfl⟩ rfl (Nat.le_of_ble_eq_true rfl) (Nat.le_of_ble_eq_true rfl) (Nat.le_of_ble_eq_true rfl) ⟨Nat.le_of_ble_eq_true rfl, Nat.le_of_ble_eq_true rfl⟩ dX1_get_2_2 ?_ (fun q9 E9 M9 h9 => x_out hC hx (Nat.le_of_ble_eq_true rfl) (Nat.le_of_ble_eq_true rfl) (by obtain ⟨rfl, rfl, h9⟩ := h9; exact ⟨rfl, rfl, fun h => by obtain ⟨r, h1, -⟩ := h; exact h9 (by rw [h1]; intro z; cases z)⟩))
  rintro _ M1 ⟨hM1, q, r, hrc, rfl, hRA, hWf⟩
  subst hM1
  obtain ⟨na, sa, cv, rv, x1, x2, -⟩ := hRA.rec
  refine x_astore_n (lv' := [_, _, _, _]) hC dX1_get_2_5 rfl (by decide) rfl ?_
  refine x_aload_n hC dX1_get_2_6 rfl rfl ?_
  refine x_iload_n hC dX1_get_2_7 rfl rfl ?_
  refine x_callV0 (na := 1) hC (ct_rhas hG x1 x2 z) (lw_V q1580 q1581 q1582 q115 q1583) x1 rfl rfl (by decide +kernel) rfl ⟨Nat.le_of_ble_eq_true rfl, Nat.le_of_ble_eq_true rfl⟩ rfl (Nat.le_of_ble_eq_true rfl) ⟨rfl, rfl⟩ ⟨Nat.le_of_ble_eq_true rfl, Nat.le_of_ble_eq_true rfl⟩ dX1_get_2_8 ?_
  rintro _ M ⟨rfl, rfl⟩
  refine x_qS (k := 2) (n := 12) (na := 1) hC (cq_reqIOB hG _ _) (lw_S q1538 q1539 q81 q1540) (by decide +kernel) rfl ⟨Nat.le_of_ble_eq_true rfl, Nat.le_of_ble_eq_true rfl⟩ rfl (Nat.le_of_ble_eq_true rfl) (Nat.le_of_ble_eq_true rfl) (Nat.le_of_ble_eq_true rfl) ⟨Nat.le_of_ble_eq_true rfl, Nat.le_of_ble_eq_true rfl⟩ dX1_get_2_11 ?_ (fun q9 E9 M9 h9 => x_out hC hx (Nat.le_of_ble_eq_true rfl) (Nat.le_of_ble_eq_true rfl) (by obtain ⟨rfl, rfl, h9⟩ := h9; exact ⟨rfl, rfl, fun h => by obtain ⟨r', h1, h2⟩ := h; rw [hrc] at h1; cases h1; exact h9 h2⟩))
  rintro _ M ⟨rfl, rfl, h9⟩
  refine x_aload_n hC dX1_get_2_14 rfl rfl ?_
  exact x_aret hC hk dX1_get_2_15 (Or.inl ⟨_, rfl⟩) (Or.inr ⟨_, rfl⟩) (Nat.le_of_ble_eq_true rfl) (Nat.le_of_ble_eq_true rfl) ⟨rfl, q, r, hrc, h9, rfl, hRA, hWf⟩
end AN1

