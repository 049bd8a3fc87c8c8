/-! ===== the reference's operations that only read: text, recordings, samples, the transform ===== -/
/-- the recording of that number -/
def rc (R : List Rcd) (x : Int32) : Option Rcd := if 0 ≤ x then R[x.toNatClampNeg]? else none
abbrev inI (n : Nat) (x : Int32) : Prop := 0 ≤ x ∧ x ≤ nI n - 1
abbrev rg (r : Rcd) : Nat → Int32 := fun k => r.2.getD k 0
abbrev rz (r : Rcd) : Nat := r.2.length
abbrev cfN (g : Nat → Int32) (n i : Nat) : Int32 := iS (fun k => g k * sg (nI i) (nI k)) n
theorem i_nat {x : Int32} (h : 0 ≤ x) : x = nI x.toNatClampNeg ∧ x.toNatClampNeg < 2 ^ 31 := by
  have h1 : x.toNatClampNeg = x.toInt.toNat := rfl
  have h2 := Int32.le_iff_toInt_le.mp h
  have h3 : (0 : Int32).toInt = 0 := by decide
  have h4 := x.toInt_lt
  have h5 : x.toNatClampNeg < 2 ^ 31 := by omega
  refine ⟨Int32.toInt_inj.mp ?_, h5⟩
  rw [nI_toInt h5]
  omega
theorem inI_iff {n : Nat} (hn : n < 2 ^ 30) {x : Int32} : inI n x ↔ 0 ≤ x ∧ x.toNatClampNeg < n := by
  have h2 : (nI n - 1).toInt = (n : Int) - 1 := by
    rw [Int32.toInt_sub, nI_toInt (by omega), show (1 : Int32).toInt = 1 by decide]
    exact Int.bmod_eq_of_le (by omega) (by omega)
  unfold inI
  constructor
  · intro ⟨h, h1⟩
    refine ⟨h, ?_⟩
    have h3 := Int32.le_iff_toInt_le.mp h1
    rw [h2] at h3
    have h4 : x.toNatClampNeg = x.toInt.toNat := rfl
    have h5 := Int32.le_iff_toInt_le.mp h
    have h6 : (0 : Int32).toInt = 0 := by decide
    omega
  · intro ⟨h, h1⟩
    refine ⟨h, Int32.le_iff_toInt_le.mpr ?_⟩
    rw [h2]
    have h4 : x.toNatClampNeg = x.toInt.toNat := rfl
    omega
theorem inI_at {n : Nat} (hn : n < 2 ^ 30) {x : Int32} (h : inI n x) : ∃ k, k < n ∧ x = nI k ∧ x.toNatClampNeg = k :=
  ⟨x.toNatClampNeg, ((inI_iff hn).mp h).2, (i_nat h.1).1, rfl⟩
/-- all that is known of the row of a recording -/
abbrev Rw (R : List Rcd) (f : Nat → Int32) (c : Nat) (r : Rcd) : Prop := (c < R.length ∧ R.length ≤ 6) ∧ R[c]? = some r ∧ RepRow r f c ∧ WfRow r
theorem Rw.c6 {R : List Rcd} {f : Nat → Int32} {c : Nat} {r : Rcd} (h : Rw R f c r) : c < 6 := Nat.lt_of_lt_of_le h.1.1 h.1.2
theorem Rw.hn {R : List Rcd} {f : Nat → Int32} {c : Nat} {r : Rcd} (h : Rw R f c r) : f (8 + 72 * c) = nI (rz r) := h.2.2.1.2.2.1
theorem Rw.hg {R : List Rcd} {f : Nat → Int32} {c : Nat} {r : Rcd} (h : Rw R f c r) : ∀ k, k < rz r → f (9 + 72 * c + k) = rg r k := h.2.2.1.2.2.2
theorem Rw.n6 {R : List Rcd} {f : Nat → Int32} {c : Nat} {r : Rcd} (h : Rw R f c r) : rz r ≤ 64 := h.2.2.2.len.1
theorem Rw.n2 {R : List Rcd} {f : Nat → Int32} {c : Nat} {r : Rcd} (h : Rw R f c r) : 2 ≤ rz r := h.2.2.2.len.2
theorem rc_no {R : List Rcd} {f : Nat → Int32} (hR : RepR R f) (hW : WfR R) {x : Int32} (h : ¬ isR f x) : rc R x = none := by
  unfold rc
  split
  next h0 =>
    refine List.getElem?_eq_none ?_
    rcases Nat.lt_or_ge x.toNatClampNeg R.length with h1 | h1
    · refine absurd ?_ h
      unfold isR
      rw [hR.1]
      exact (inI_iff (by have := hW.1; omega)).mpr ⟨h0, h1⟩
    · exact h1
  next => rfl
theorem rc_ok {R : List Rcd} {f : Nat → Int32} (hR : RepR R f) (hW : WfR R) {x : Int32} (h : isR f x) : ∃ c r, rc R x = some r ∧ x = nI c ∧ Rw R f c r := by
  unfold isR at h
  rw [hR.1] at h
  obtain ⟨c, h1, h2, h3⟩ := inI_at (by have := hW.1; omega) h
  have hr : R[c]? = some R[c] := List.getElem?_eq_getElem h1
  exact ⟨c, R[c], by unfold rc; rw [if_pos h.1, h3, hr], h2, ⟨h1, hW.1⟩, hr, hR.2 c _ hr, hW.2.1 _ (List.getElem_mem h1)⟩
theorem MRep.k6 {S : X_S} {V : Nat → Int32} {A : Nat → Nat → Int32} (h : MRep S V A) {x : Int32} : MRep S (upd V 6 x) A := h.keep (fun q hq => upd_n (by omega)) rfl rfl rfl rfl rfl
theorem MRep.k68 {S : X_S} {V : Nat → Int32} {A : Nat → Nat → Int32} (h : MRep S V A) {x : Int32} {j : Nat} {g : Nat → Int32} (hj : 6 ≤ j) : MRep S (upd V 6 x) (va_up A j g) :=
  h.keep (fun q hq => upd_n (by omega)) (va_up_n (by omega)) (va_up_n (by omega)) (va_up_n (by omega)) (va_up_n (by omega)) (va_up_n (by omega))
theorem MRep.kA {S : X_S} {V : Nat → Int32} {A : Nat → Nat → Int32} (h : MRep S V A) {j : Nat} {g : Nat → Int32} (hj : 6 ≤ j) : MRep S V (va_up A j g) :=
  h.keep (fun q hq => rfl) (va_up_n (by omega)) (va_up_n (by omega)) (va_up_n (by omega)) (va_up_n (by omega)) (va_up_n (by omega))
theorem Rw.cf {R : List Rcd} {f : Nat → Int32} {c : Nat} {r : Rcd} (h : Rw R f c r) (x : Int32) : iS (fun k => f (9 + 72 * c + k) * sg x (nI k)) (rz r) = iS (fun k => rg r k * sg x (nI k)) (rz r) :=
  iS_cong fun k hk => by rw [h.hg k hk]
theorem Rw.cfS {R : List Rcd} {f : Nat → Int32} {c : Nat} {r : Rcd} (h : Rw R f c r) : cfS f c (rz r) = cfN (rg r) (rz r) := funext fun i => h.cf (nI i)
theorem sgF_cong {g g' : Nat → Int32} : ∀ {n : Nat}, (∀ k, k < n → g k = g' k) → sgF g n = sgF g' n
  | 0, _ => rfl
  | n + 1, h => by
    unfold sgF
    rw [sgF_cong (fun k hk => h k (by omega)), h n (by omega)]
theorem amx_cong {l l' : Nat → Nat → Bool} : ∀ {n : Nat}, (∀ a b, a < n → b < n → l a b = l' a b) → amx l n = amx l' n
  | 0, _ => rfl
  | n + 1, h => by
    unfold amx
    rw [amx_cong (n := n) (fun a b ha hb => h a b (by omega) (by omega)), h _ n (Nat.lt_succ_of_le (Nat.le_trans (amx_le l' n) (Nat.sub_le n 1))) (by omega)]
/-- a place of a recording -/
def plc (R : List Rcd) (x z : Int32) : Bool := (rc R x).elim false fun r => decide (inI (rz r) z)
/-! the operations: a code, and the value where the code is 0 -/
def opErrorKind (S : X_S) : Int32 × Int32 := (0, (sE S).1)
def opErrorOffset (S : X_S) : Int32 × Int32 := (0, (sE S).2)
def opCount (S : X_S) : Int32 × Int32 := (0, nI (sR S).length)
def opLength (S : X_S) (x : Int32) : Int32 × Int32 := (rc (sR S) x).elim (1, 0) fun r => (0, nI (rz r))
def opNameChar (S : X_S) (x z : Int32) : Int32 × Int32 := (rc (sR S) x).elim (1, 0) fun r => if inI r.1.length z then (0, nI (r.1.getD z.toNatClampNeg 0)) else (1, 0)
def opFind (S : X_S) : Int32 × Int32 := (0, optI (if 1 ≤ (sB S).length ∧ (sB S).length ≤ 6 then fnd (sR S) (sB S) else none))
def opSample (S : X_S) (x z : Int32) : Int32 × Int32 := (rc (sR S) x).elim (1, 0) fun r => if inI (rz r) z then (0, rg r z.toNatClampNeg) else (1, 0)
def opEnergy (S : X_S) (x : Int32) : Int32 × Int64 := (rc (sR S) x).elim (1, 0) fun r => (0, jS (fun k => sq (rg r k)) (rz r))
def opSigns (S : X_S) (x : Int32) : Int32 × Int32 := (rc (sR S) x).elim (1, 0) fun r => (0, (sgF (rg r) (rz r)).1)
def opSym (S : X_S) (x : Int32) : Int32 × Int32 := (rc (sR S) x).elim (1, 0) fun r => (0, xB (∀ k, k < rz r → rg r k = rg r (rz r - 1 - k)))
def opCoef (S : X_S) (x z : Int32) : Int32 × Int32 := (rc (sR S) x).elim (1, 0) fun r => if inI (rz r) z then (0, cfN (rg r) (rz r) z.toNatClampNeg) else (1, 0)
def opWalsh (n x z : Int32) : Int32 × Int32 := if isL n ∧ (0 ≤ x ∧ x ≤ n - 1) ∧ (0 ≤ z ∧ z ≤ n - 1) then (0, sg x z) else (1, 0)
def opSeq (n x : Int32) : Int32 × Int32 := if isL n ∧ (0 ≤ x ∧ x ≤ n - 1) then (0, chg x n.toNatClampNeg) else (1, 0)
def opTones (S : X_S) (x : Int32) : Int32 × Int32 := (rc (sR S) x).elim (1, 0) fun r => (0, iS (fun i => xB (cfN (rg r) (rz r) i ≠ 0)) (rz r))
def opLoudPl (S : X_S) (x : Int32) : Int32 × Int32 := (rc (sR S) x).elim (1, 0) fun r => (0, nI (amx (fun a b => decide (iabs (rg r a) < iabs (rg r b))) (rz r)))
def opBetw (S : X_S) (x lo hi : Int32) : Int32 × Int32 := (rc (sR S) x).elim (1, 0) fun r => if lo ≤ hi then (0, iS (fun k => xB (lo ≤ rg r k ∧ rg r k ≤ hi)) (rz r)) else (2, 0)
def opLoudRec (S : X_S) : Int32 × Int32 := if (sR S).length = 0 then (1, 0) else (0, nI (amx (fun a b => decide (jS (fun k => sq (rg ((sR S).getD a ([], [])) k)) (rz ((sR S).getD a ([], []))) < jS (fun k => sq (rg ((sR S).getD b ([], [])) k)) (rz ((sR S).getD b ([], []))))) (sR S).length))
section M11
variable {G : X_G} {M : X_M} {m : Nat} {P : Nat → Nat} {V : Nat → Int32} {A : Nat → Nat → Int32} {S : X_S}
theorem ct_errorKind (hG : GOK G) (hm : Mdl M m P V A) (hS : MRep S V A) : Ct G yX3_errorKind cX3_errorKind 1 (some .int) (xrm 1 0 0) [.ref m] M (MOi M m P S (opErrorKind S).1 (opErrorKind S).2) := by
  refine ct_open (lv := [_]) hG (by decide +kernel) (Nat.le_of_ble_eq_true rfl) rfl (fun C hC hk => ?_)
  have hF : Fm M M := Fr.rf
  refine x_aload_n hC dX3_errorKind_0 rfl rfl ?_
  refine x_iconst (v := 0) hC dX3_errorKind_1 (by decide) ?_
  refine x_mput hC hm 16 6 (by decide) q2346 rfl rfl rfl rfl rfl rfl dX3_errorKind_2 (fun M hm hF1 => ?_)
  have hF := hF.tr hF1
  refine x_aload_n hC dX3_errorKind_5 rfl rfl ?_
  refine x_get hC 14 hm.1 rfl (by decide) q2344 rfl rfl dX3_errorKind_6 ?_
  exact x_iret hC hk dX3_errorKind_9 (Nat.le_of_ble_eq_true rfl) (Nat.le_of_ble_eq_true rfl) ⟨_, _, _, rfl, (fun _ => hS.2.2.2.2.1.1), hm, hF, hS.k6, rfl⟩
theorem ct_errorOffset (hG : GOK G) (hm : Mdl M m P V A) (hS : MRep S V A) : Ct G yX3_errorOffset cX3_errorOffset 1 (some .int) (xrm 1 0 0) [.ref m] M (MOi M m P S (opErrorOffset S).1 (opErrorOffset S).2) := by
  refine ct_open (lv := [_]) hG (by decide +kernel) (Nat.le_of_ble_eq_true rfl) rfl (fun C hC hk => ?_)
  have hF : Fm M M := Fr.rf
  refine x_aload_n hC dX3_errorOffset_0 rfl rfl ?_
  refine x_iconst (v := 0) hC dX3_errorOffset_1 (by decide) ?_
  refine x_mput hC hm 16 6 (by decide) q2346 rfl rfl rfl rfl rfl rfl dX3_errorOffset_2 (fun M hm hF1 => ?_)
  have hF := hF.tr hF1
  refine x_aload_n hC dX3_errorOffset_5 rfl rfl ?_
  refine x_get hC 15 hm.1 rfl (by decide) q2345 rfl rfl dX3_errorOffset_6 ?_
  exact x_iret hC hk dX3_errorOffset_9 (Nat.le_of_ble_eq_true rfl) (Nat.le_of_ble_eq_true rfl) ⟨_, _, _, rfl, (fun _ => hS.2.2.2.2.1.2), hm, hF, hS.k6, rfl⟩
theorem ct_recordingCount (hG : GOK G) (hm : Mdl M m P V A) (hS : MRep S V A) : Ct G yX3_recordingCount cX3_recordingCount 1 (some .int) (xrm 1 0 0) [.ref m] M (MOi M m P S (opCount S).1 (opCount S).2) := by
  refine ct_open (lv := [_]) hG (by decide +kernel) (Nat.le_of_ble_eq_true rfl) rfl (fun C hC hk => ?_)
  have hF : Fm M M := Fr.rf
  refine x_aload_n hC dX3_recordingCount_0 rfl rfl ?_
  refine x_iconst (v := 0) hC dX3_recordingCount_1 (by decide) ?_
  refine x_mput hC hm 16 6 (by decide) q2346 rfl rfl rfl rfl rfl rfl dX3_recordingCount_2 (fun M hm hF1 => ?_)
  have hF := hF.tr hF1
  refine x_aload_n hC dX3_recordingCount_5 rfl rfl ?_
  refine x_get hC 0 hm.1 rfl (by decide) q2330 rfl rfl dX3_recordingCount_6 ?_
  refine x_iconst (v := nI 0) hC dX3_recordingCount_9 (by decide) ?_
  refine x_ialdN hC (hm.arr 0 (by decide)) (show _ < 433 from (by omega)) (by decide) dX3_recordingCount_10 ?_
  exact x_iret hC hk dX3_recordingCount_11 (Nat.le_of_ble_eq_true rfl) (Nat.le_of_ble_eq_true rfl) ⟨_, _, _, rfl, (fun _ => hS.1.1.1), hm, hF, hS.k6, rfl⟩
theorem ct_length (hG : GOK G) (hm : Mdl M m P V A) (hS : MRep S V A) (x : Int32) : Ct G yX3_length cX3_length 2 (some .int) (xrm 3 0 0) [.ref m, .int x] M (MOi M m P S (opLength S x).1 (opLength S x).2) := by
  refine ct_open (lv := [_, _]) hG (by decide +kernel) (Nat.le_of_ble_eq_true rfl) rfl (fun C hC hk => ?_)
  have hF : Fm M M := Fr.rf
  unfold opLength at hk
  refine x_aload_n hC dX3_length_0 rfl rfl ?_
  refine x_aload_n hC dX3_length_1 rfl rfl ?_
  refine x_iload_n hC dX3_length_2 rfl rfl ?_
  refine x_callV0 (na := 1) hC (ct_isRecording hG hm _) (lw_V q2491 q2493 qs44 q89 q2494) hm.1 rfl rfl (by decide +kernel) rfl ⟨Nat.le_of_ble_eq_true rfl, Nat.le_of_ble_eq_true rfl⟩ rfl (Nat.le_of_ble_eq_true rfl) ⟨rfl, rfl⟩ ⟨Nat.le_of_ble_eq_true rfl, Nat.le_of_ble_eq_true rfl⟩ dX3_length_3 ?_
  rintro _ M ⟨rfl, rfl⟩
  refine x_callV0 (na := 1) hC (ct_good hG hm _) (lw_V q2402 q2404 qs30 q89 q2405) hm.1 rfl rfl (by decide +kernel) rfl ⟨Nat.le_of_ble_eq_true rfl, Nat.le_of_ble_eq_true rfl⟩ rfl (Nat.le_of_ble_eq_true rfl) ⟨rfl, rfl⟩ ⟨Nat.le_of_ble_eq_true rfl, Nat.le_of_ble_eq_true rfl⟩ dX3_length_6 ?_
  rintro _ M ⟨rfl, hm, hF1⟩
  have hF := hF.tr hF1
  refine x_if_eqB (tgt := 20) hC dX3_length_9 (by decide) (fun c => ?_) (fun c => ?_)
  · rw [rc_no hS.1.1 hS.1.2 c] at hk
    refine x_iconst (v := -1) hC dX3_length_20 (by decide) ?_
    exact x_iret hC hk dX3_length_21 (Nat.le_of_ble_eq_true rfl) (Nat.le_of_ble_eq_true rfl) ⟨_, _, _, rfl, (fun h => absurd h (show ¬ (1 : Int32) = 0 by decide)), hm, hF, hS.k6, upd_s.trans (if_neg c)⟩
  · obtain ⟨i, r, hx, rfl, hw⟩ := rc_ok hS.1.1 hS.1.2 c
    rw [hx] at hk
    refine x_aload_n hC dX3_length_12 rfl rfl ?_
    refine x_iload_n hC dX3_length_13 rfl rfl ?_
    refine x_callV0 (na := 1) hC (ct_size hG hm hw.c6 hw.hn) (lw_V q2495 q2497 qs45 q89 q2498) hm.1 rfl rfl (by decide +kernel) rfl ⟨Nat.le_of_ble_eq_true rfl, Nat.le_of_ble_eq_true rfl⟩ rfl (Nat.le_of_ble_eq_true rfl) ⟨rfl, rfl⟩ ⟨Nat.le_of_ble_eq_true rfl, Nat.le_of_ble_eq_true rfl⟩ dX3_length_14 ?_
    rintro _ M ⟨rfl, rfl⟩
    refine x_goto (tgt := 21) hC dX3_length_17 (by decide) ?_
    exact x_iret hC hk dX3_length_21 (Nat.le_of_ble_eq_true rfl) (Nat.le_of_ble_eq_true rfl) ⟨_, _, _, rfl, (fun _ => rfl), hm, hF, hS.k6, upd_s.trans (if_pos c)⟩
theorem ct_energy (hG : GOK G) (hm : Mdl M m P V A) (hS : MRep S V A) (x : Int32) : Ct G yX3_energy cX3_energy 2 (some .long) (xrm 4 0 0) [.ref m, .int x] M (MOl M m P S (opEnergy S x).1 (opEnergy S x).2) := by
  refine ct_open (lv := [_, _]) hG (by decide +kernel) (Nat.le_of_ble_eq_true rfl) rfl (fun C hC hk => ?_)
  have hF : Fm M M := Fr.rf
  unfold opEnergy at hk
  refine x_aload_n hC dX3_energy_0 rfl rfl ?_
  refine x_aload_n hC dX3_energy_1 rfl rfl ?_
  refine x_iload_n hC dX3_energy_2 rfl rfl ?_
  refine x_callV0 (na := 1) hC (ct_isRecording hG hm _) (lw_V q2491 q2493 qs44 q89 q2494) hm.1 rfl rfl (by decide +kernel) rfl ⟨Nat.le_of_ble_eq_true rfl, Nat.le_of_ble_eq_true rfl⟩ rfl (Nat.le_of_ble_eq_true rfl) ⟨rfl, rfl⟩ ⟨Nat.le_of_ble_eq_true rfl, Nat.le_of_ble_eq_true rfl⟩ dX3_energy_3 ?_
  rintro _ M ⟨rfl, rfl⟩
  refine x_callV0 (na := 1) hC (ct_good hG hm _) (lw_V q2402 q2404 qs30 q89 q2405) hm.1 rfl rfl (by decide +kernel) rfl ⟨Nat.le_of_ble_eq_true rfl, Nat.le_of_ble_eq_true rfl⟩ rfl (Nat.le_of_ble_eq_true rfl) ⟨rfl, rfl⟩ ⟨Nat.le_of_ble_eq_true rfl, Nat.le_of_ble_eq_true rfl⟩ dX3_energy_6 ?_
  rintro _ M ⟨rfl, hm, hF1⟩
  have hF := hF.tr hF1
  refine x_if_neB (tgt := 16) hC dX3_energy_9 (by decide) (fun c => ?_) (fun c => ?_)
  · obtain ⟨i, r, hx, rfl, hw⟩ := rc_ok hS.1.1 hS.1.2 c
    rw [hx] at hk
    refine x_aload_n hC dX3_energy_16 rfl rfl ?_
    refine x_iload_n hC dX3_energy_17 rfl rfl ?_
    refine x_callV0 (na := 1) hC (ct_energyOf hG hm hw.c6 hw.hn hw.n6) (lw_V q2524 q2526 qs48 q89 q2527) hm.1 rfl rfl (by decide +kernel) rfl ⟨Nat.le_of_ble_eq_true rfl, Nat.le_of_ble_eq_true rfl⟩ rfl (Nat.le_of_ble_eq_true rfl) ⟨rfl, rfl⟩ ⟨Nat.le_of_ble_eq_true rfl, Nat.le_of_ble_eq_true rfl⟩ dX3_energy_18 ?_
    rintro _ M ⟨rfl, rfl⟩
    exact x_lret hC hk dX3_energy_21 (Nat.le_of_ble_eq_true rfl) (Nat.le_of_ble_eq_true rfl) ⟨_, _, _, rfl, (fun _ => jS_cong fun k hk => by rw [hw.hg k hk]), hm, hF, hS.k6, upd_s.trans (if_pos c)⟩
  · rw [rc_no hS.1.1 hS.1.2 c] at hk
    refine x_ldc2 hC q2523 dX3_energy_12 ?_
    exact x_lret hC hk dX3_energy_15 (Nat.le_of_ble_eq_true rfl) (Nat.le_of_ble_eq_true rfl) ⟨_, _, _, rfl, (fun h => absurd h (show ¬ (1 : Int32) = 0 by decide)), hm, hF, hS.k6, upd_s.trans (if_neg c)⟩
theorem ct_signChanges (hG : GOK G) (hm : Mdl M m P V A) (hS : MRep S V A) (x : Int32) : Ct G yX3_signChanges cX3_signChanges 2 (some .int) (xrm 4 0 0) [.ref m, .int x] M (MOi M m P S (opSigns S x).1 (opSigns S x).2) := by
  refine ct_open (lv := [_, _]) hG (by decide +kernel) (Nat.le_of_ble_eq_true rfl) rfl (fun C hC hk => ?_)
  have hF : Fm M M := Fr.rf
  unfold opSigns at hk
  refine x_aload_n hC dX3_signChanges_0 rfl rfl ?_
  refine x_aload_n hC dX3_signChanges_1 rfl rfl ?_
  refine x_iload_n hC dX3_signChanges_2 rfl rfl ?_
  refine x_callV0 (na := 1) hC (ct_isRecording hG hm _) (lw_V q2491 q2493 qs44 q89 q2494) hm.1 rfl rfl (by decide +kernel) rfl ⟨Nat.le_of_ble_eq_true rfl, Nat.le_of_ble_eq_true rfl⟩ rfl (Nat.le_of_ble_eq_true rfl) ⟨rfl, rfl⟩ ⟨Nat.le_of_ble_eq_true rfl, Nat.le_of_ble_eq_true rfl⟩ dX3_signChanges_3 ?_
  rintro _ M ⟨rfl, rfl⟩
  refine x_callV0 (na := 1) hC (ct_good hG hm _) (lw_V q2402 q2404 qs30 q89 q2405) hm.1 rfl rfl (by decide +kernel) rfl ⟨Nat.le_of_ble_eq_true rfl, Nat.le_of_ble_eq_true rfl⟩ rfl (Nat.le_of_ble_eq_true rfl) ⟨rfl, rfl⟩ ⟨Nat.le_of_ble_eq_true rfl, Nat.le_of_ble_eq_true rfl⟩ dX3_signChanges_6 ?_
  rintro _ M ⟨rfl, hm, hF1⟩
  have hF := hF.tr hF1
  refine x_if_eqB (tgt := 20) hC dX3_signChanges_9 (by decide) (fun c => ?_) (fun c => ?_)
  · rw [rc_no hS.1.1 hS.1.2 c] at hk
    refine x_iconst (v := -1) hC dX3_signChanges_20 (by decide) ?_
    exact x_iret hC hk dX3_signChanges_21 (Nat.le_of_ble_eq_true rfl) (Nat.le_of_ble_eq_true rfl) ⟨_, _, _, rfl, (fun h => absurd h (show ¬ (1 : Int32) = 0 by decide)), hm, hF, hS.k6, upd_s.trans (if_neg c)⟩
  · obtain ⟨i, r, hx, rfl, hw⟩ := rc_ok hS.1.1 hS.1.2 c
    rw [hx] at hk
    refine x_aload_n hC dX3_signChanges_12 rfl rfl ?_
    refine x_iload_n hC dX3_signChanges_13 rfl rfl ?_
    refine x_callV0 (na := 1) hC (ct_signs hG hm hw.c6 hw.hn hw.n6) (lw_V q2552 q2554 qs50 q89 q2555) hm.1 rfl rfl (by decide +kernel) rfl ⟨Nat.le_of_ble_eq_true rfl, Nat.le_of_ble_eq_true rfl⟩ rfl (Nat.le_of_ble_eq_true rfl) ⟨rfl, rfl⟩ ⟨Nat.le_of_ble_eq_true rfl, Nat.le_of_ble_eq_true rfl⟩ dX3_signChanges_14 ?_
    rintro _ M ⟨rfl, rfl⟩
    refine x_goto (tgt := 21) hC dX3_signChanges_17 (by decide) ?_
    exact x_iret hC hk dX3_signChanges_21 (Nat.le_of_ble_eq_true rfl) (Nat.le_of_ble_eq_true rfl) ⟨_, _, _, rfl, (fun _ => congrArg Prod.fst (sgF_cong hw.hg)), hm, hF, hS.k6, upd_s.trans (if_pos c)⟩
theorem ct_isSymmetric (hG : GOK G) (hm : Mdl M m P V A) (hS : MRep S V A) (x : Int32) : Ct G yX3_isSymmetric cX3_isSymmetric 2 (some .boolean) (xrm 4 0 0) [.ref m, .int x] M (MOi M m P S (opSym S x).1 (opSym S x).2) := by
  refine ct_open (lv := [_, _]) hG (by decide +kernel) (Nat.le_of_ble_eq_true rfl) rfl (fun C hC hk => ?_)
  have hF : Fm M M := Fr.rf
  unfold opSym at hk
  refine x_aload_n hC dX3_isSymmetric_0 rfl rfl ?_
  refine x_aload_n hC dX3_isSymmetric_1 rfl rfl ?_
  refine x_iload_n hC dX3_isSymmetric_2 rfl rfl ?_
  refine x_callV0 (na := 1) hC (ct_isRecording hG hm _) (lw_V q2491 q2493 qs44 q89 q2494) hm.1 rfl rfl (by decide +kernel) rfl ⟨Nat.le_of_ble_eq_true rfl, Nat.le_of_ble_eq_true rfl⟩ rfl (Nat.le_of_ble_eq_true rfl) ⟨rfl, rfl⟩ ⟨Nat.le_of_ble_eq_true rfl, Nat.le_of_ble_eq_true rfl⟩ dX3_isSymmetric_3 ?_
  rintro _ M ⟨rfl, rfl⟩
  refine x_callV0 (na := 1) hC (ct_good hG hm _) (lw_V q2402 q2404 qs30 q89 q2405) hm.1 rfl rfl (by decide +kernel) rfl ⟨Nat.le_of_ble_eq_true rfl, Nat.le_of_ble_eq_true rfl⟩ rfl (Nat.le_of_ble_eq_true rfl) ⟨rfl, rfl⟩ ⟨Nat.le_of_ble_eq_true rfl, Nat.le_of_ble_eq_true rfl⟩ dX3_isSymmetric_6 ?_
  rintro _ M ⟨rfl, hm, hF1⟩
  have hF := hF.tr hF1
  refine x_if_eqB (tgt := 24) hC dX3_isSymmetric_9 (by decide) (fun c => ?_) (fun c => ?_)
  · rw [rc_no hS.1.1 hS.1.2 c] at hk
    refine x_iconst (v := 0) hC dX3_isSymmetric_24 (by decide) ?_
    exact x_zret hC hk dX3_isSymmetric_25 (by first | rfl | exact xB_nar) (Nat.le_of_ble_eq_true rfl) (Nat.le_of_ble_eq_true rfl) ⟨_, _, _, rfl, (fun h => absurd h (show ¬ (1 : Int32) = 0 by decide)), hm, hF, hS.k6, upd_s.trans (if_neg c)⟩
  · obtain ⟨i, r, hx, rfl, hw⟩ := rc_ok hS.1.1 hS.1.2 c
    rw [hx] at hk
    refine x_aload_n hC dX3_isSymmetric_12 rfl rfl ?_
    refine x_iload_n hC dX3_isSymmetric_13 rfl rfl ?_
    refine x_callV0 (na := 1) hC (ct_symmetric hG hm hw.c6 hw.hn hw.n6) (lw_V q2560 q2562 qs51 q89 q2563) hm.1 rfl rfl (by decide +kernel) rfl ⟨Nat.le_of_ble_eq_true rfl, Nat.le_of_ble_eq_true rfl⟩ rfl (Nat.le_of_ble_eq_true rfl) ⟨rfl, rfl⟩ ⟨Nat.le_of_ble_eq_true rfl, Nat.le_of_ble_eq_true rfl⟩ dX3_isSymmetric_14 ?_
    rintro _ M ⟨rfl, rfl⟩
    have he : (∀ k, k < rz r → A 0 (9 + 72 * i + k) = A 0 (9 + 72 * i + (rz r - 1 - k))) ↔ ∀ k, k < rz r → rg r k = rg r (rz r - 1 - k) := forall_congr' fun k => imp_congr_right fun hk => by rw [hw.hg k hk, hw.hg (rz r - 1 - k) (by omega)]
    refine x_if_eqB (tgt := 24) hC dX3_isSymmetric_17 (by decide) (fun c2 => ?_) (fun c2 => ?_)
    · refine x_iconst (v := 0) hC dX3_isSymmetric_24 (by decide) ?_
      exact x_zret hC hk dX3_isSymmetric_25 (by first | rfl | exact xB_nar) (Nat.le_of_ble_eq_true rfl) (Nat.le_of_ble_eq_true rfl) ⟨_, _, _, rfl, (fun _ => (xB_f fun h => c2 (he.mpr h)).symm), hm, hF, hS.k6, upd_s.trans (if_pos c)⟩
    · refine x_iconst (v := 1) hC dX3_isSymmetric_20 (by decide) ?_
      refine x_goto (tgt := 25) hC dX3_isSymmetric_21 (by decide) ?_
      exact x_zret hC hk dX3_isSymmetric_25 (by first | rfl | exact xB_nar) (Nat.le_of_ble_eq_true rfl) (Nat.le_of_ble_eq_true rfl) ⟨_, _, _, rfl, (fun _ => (xB_t (he.mp c2)).symm), hm, hF, hS.k6, upd_s.trans (if_pos c)⟩
theorem plc_iff (hS : MRep S V A) {x z : Int32} : isR (A 0) x → ∃ c, c < 6 ∧ x = nI c ∧ (plc (sR S) x z = true ↔ 0 ≤ z ∧ z ≤ A 0 (8 + 72 * c) - 1) := fun h => by
  obtain ⟨i, r, hx, rfl, hw⟩ := rc_ok hS.1.1 hS.1.2 h
  refine ⟨i, hw.c6, rfl, ?_⟩
  unfold plc
  rw [hx, hw.hn]
  exact decide_eq_true_iff
theorem plc_no (hS : MRep S V A) {x z : Int32} {α : Type} {e : α} {f : Rcd → α} (h : ¬ (isR (A 0) x ∧ plc (sR S) x z = true)) : ((rc (sR S) x).elim e fun r => if inI (rz r) z then f r else e) = e := by
  by_cases h1 : isR (A 0) x
  · obtain ⟨i, r, hx, rfl, hw⟩ := rc_ok hS.1.1 hS.1.2 h1
    rw [hx]
    refine if_neg fun h2 => h ⟨h1, ?_⟩
    unfold plc
    rw [hx]
    exact decide_eq_true h2
  · rw [rc_no hS.1.1 hS.1.2 h1]; rfl
theorem plc_ok (hS : MRep S V A) {x z : Int32} (h : isR (A 0) x ∧ plc (sR S) x z = true) : ∃ c r k, (rc (sR S) x = some r ∧ inI (rz r) z) ∧ x = nI c ∧ z = nI k ∧ z.toNatClampNeg = k ∧ k < rz r ∧ Rw (sR S) (A 0) c r := by
  obtain ⟨i, r, hx, rfl, hw⟩ := rc_ok hS.1.1 hS.1.2 h.1
  have h2 := h.2
  unfold plc at h2
  rw [hx] at h2
  have h3 : inI (rz r) z := of_decide_eq_true h2
  obtain ⟨k, k1, k2, k3⟩ := inI_at (by have := hw.n6; omega) h3
  exact ⟨i, r, k, ⟨hx, h3⟩, rfl, k2, k3, k1, hw⟩
theorem ct_sample (hG : GOK G) (hm : Mdl M m P V A) (hS : MRep S V A) (x z : Int32) : Ct G yX3_sample cX3_sample 3 (some .int) (xrm 4 0 0) [.ref m, .int x, .int z] M (MOi M m P S (opSample S x z).1 (opSample S x z).2) := by
  refine ct_open (lv := [_, _, _]) hG (by decide +kernel) (Nat.le_of_ble_eq_true rfl) rfl (fun C hC hk => ?_)
  have hF : Fm M M := Fr.rf
  unfold opSample at hk
  refine x_aload_n hC dX3_sample_0 rfl rfl ?_
  refine x_aload_n hC dX3_sample_1 rfl rfl ?_
  refine x_iload_n hC dX3_sample_2 rfl rfl ?_
  refine x_iload_n hC dX3_sample_3 rfl rfl ?_
  refine x_callV0 (na := 2) hC (ct_isPlace hG hm _ _ (plc_iff hS)) (lw_V q2511 q2513 qs46 q89 q2514) hm.1 rfl rfl (by decide +kernel) rfl ⟨Nat.le_of_ble_eq_true rfl, Nat.le_of_ble_eq_true rfl⟩ rfl (Nat.le_of_ble_eq_true rfl) ⟨rfl, rfl⟩ ⟨Nat.le_of_ble_eq_true rfl, Nat.le_of_ble_eq_true rfl⟩ dX3_sample_4 ?_
  rintro _ M ⟨rfl, rfl⟩
  refine x_callV0 (na := 1) hC (ct_good hG hm _) (lw_V q2402 q2404 qs30 q89 q2405) hm.1 rfl rfl (by decide +kernel) rfl ⟨Nat.le_of_ble_eq_true rfl, Nat.le_of_ble_eq_true rfl⟩ rfl (Nat.le_of_ble_eq_true rfl) ⟨rfl, rfl⟩ ⟨Nat.le_of_ble_eq_true rfl, Nat.le_of_ble_eq_true rfl⟩ dX3_sample_7 ?_
  rintro _ M ⟨rfl, hm, hF1⟩
  have hF := hF.tr hF1
  refine x_if_eqB (tgt := 22) hC dX3_sample_10 (by decide) (fun c => ?_) (fun c => ?_)
  · rw [plc_no hS c] at hk
    refine x_iconst (v := -1) hC dX3_sample_22 (by decide) ?_
    exact x_iret hC hk dX3_sample_23 (Nat.le_of_ble_eq_true rfl) (Nat.le_of_ble_eq_true rfl) ⟨_, _, _, rfl, (fun h => absurd h (show ¬ (1 : Int32) = 0 by decide)), hm, hF, hS.k6, upd_s.trans (if_neg c)⟩
  · obtain ⟨i, r, k, ⟨he, hi⟩, rfl, rfl, hc2, hk2, hw⟩ := plc_ok hS c
    rw [he] at hk
    dsimp only [Option.elim] at hk
    rw [if_pos hi, hc2] at hk
    refine x_aload_n hC dX3_sample_13 rfl rfl ?_
    refine x_iload_n hC dX3_sample_14 rfl rfl ?_
    refine x_iload_n hC dX3_sample_15 rfl rfl ?_
    refine x_callV0 (na := 2) hC (ct_at hG hm hw.c6 (by have := hw.n6; omega)) (lw_V q2515 q2517 qs47 q89 q2518) hm.1 rfl rfl (by decide +kernel) rfl ⟨Nat.le_of_ble_eq_true rfl, Nat.le_of_ble_eq_true rfl⟩ rfl (Nat.le_of_ble_eq_true rfl) ⟨rfl, rfl⟩ ⟨Nat.le_of_ble_eq_true rfl, Nat.le_of_ble_eq_true rfl⟩ dX3_sample_16 ?_
    rintro _ M ⟨rfl, rfl⟩
    refine x_goto (tgt := 23) hC dX3_sample_19 (by decide) ?_
    exact x_iret hC hk dX3_sample_23 (Nat.le_of_ble_eq_true rfl) (Nat.le_of_ble_eq_true rfl) ⟨_, _, _, rfl, (fun _ => hw.hg k hk2), hm, hF, hS.k6, upd_s.trans (if_pos c)⟩
theorem ct_coefficient (hG : GOK G) (hm : Mdl M m P V A) (hS : MRep S V A) (x z : Int32) : Ct G yX3_coefficient cX3_coefficient 3 (some .int) (xrm 4 0 0) [.ref m, .int x, .int z] M (MOi M m P S (opCoef S x z).1 (opCoef S x z).2) := by
  refine ct_open (lv := [_, _, _]) hG (by decide +kernel) (Nat.le_of_ble_eq_true rfl) rfl (fun C hC hk => ?_)
  have hF : Fm M M := Fr.rf
  unfold opCoef at hk
  refine x_aload_n hC dX3_coefficient_0 rfl rfl ?_
  refine x_aload_n hC dX3_coefficient_1 rfl rfl ?_
  refine x_iload_n hC dX3_coefficient_2 rfl rfl ?_
  refine x_iload_n hC dX3_coefficient_3 rfl rfl ?_
  refine x_callV0 (na := 2) hC (ct_isPlace hG hm _ _ (plc_iff hS)) (lw_V q2511 q2513 qs46 q89 q2514) hm.1 rfl rfl (by decide +kernel) rfl ⟨Nat.le_of_ble_eq_true rfl, Nat.le_of_ble_eq_true rfl⟩ rfl (Nat.le_of_ble_eq_true rfl) ⟨rfl, rfl⟩ ⟨Nat.le_of_ble_eq_true rfl, Nat.le_of_ble_eq_true rfl⟩ dX3_coefficient_4 ?_
  rintro _ M ⟨rfl, rfl⟩
  refine x_callV0 (na := 1) hC (ct_good hG hm _) (lw_V q2402 q2404 qs30 q89 q2405) hm.1 rfl rfl (by decide +kernel) rfl ⟨Nat.le_of_ble_eq_true rfl, Nat.le_of_ble_eq_true rfl⟩ rfl (Nat.le_of_ble_eq_true rfl) ⟨rfl, rfl⟩ ⟨Nat.le_of_ble_eq_true rfl, Nat.le_of_ble_eq_true rfl⟩ dX3_coefficient_7 ?_
  rintro _ M ⟨rfl, hm, hF1⟩
  have hF := hF.tr hF1
  refine x_if_eqB (tgt := 22) hC dX3_coefficient_10 (by decide) (fun c => ?_) (fun c => ?_)
  · rw [plc_no hS c] at hk
    refine x_iconst (v := -1) hC dX3_coefficient_22 (by decide) ?_
    exact x_iret hC hk dX3_coefficient_23 (Nat.le_of_ble_eq_true rfl) (Nat.le_of_ble_eq_true rfl) ⟨_, _, _, rfl, (fun h => absurd h (show ¬ (1 : Int32) = 0 by decide)), hm, hF, hS.k6, upd_s.trans (if_neg c)⟩
  · obtain ⟨i, r, k, ⟨he, hi⟩, rfl, rfl, hc2, hk2, hw⟩ := plc_ok hS c
    rw [he] at hk
    dsimp only [Option.elim] at hk
    rw [if_pos hi, hc2] at hk
    refine x_aload_n hC dX3_coefficient_13 rfl rfl ?_
    refine x_iload_n hC dX3_coefficient_14 rfl rfl ?_
    refine x_iload_n hC dX3_coefficient_15 rfl rfl ?_
    refine x_callV0 (na := 2) hC (ct_sum hG hm hw.c6 hw.hn hw.n6 _) (lw_V q2591 q2593 qs52 q89 q2594) hm.1 rfl rfl (by decide +kernel) rfl ⟨Nat.le_of_ble_eq_true rfl, Nat.le_of_ble_eq_true rfl⟩ rfl (Nat.le_of_ble_eq_true rfl) ⟨rfl, rfl⟩ ⟨Nat.le_of_ble_eq_true rfl, Nat.le_of_ble_eq_true rfl⟩ dX3_coefficient_16 ?_
    rintro _ M ⟨rfl, rfl⟩
    refine x_goto (tgt := 23) hC dX3_coefficient_19 (by decide) ?_
    exact x_iret hC hk dX3_coefficient_23 (Nat.le_of_ble_eq_true rfl) (Nat.le_of_ble_eq_true rfl) ⟨_, _, _, rfl, (fun _ => hw.cf _), hm, hF, hS.k6, upd_s.trans (if_pos c)⟩
end M11

