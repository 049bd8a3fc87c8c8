/-! ===== class Archive ===== -/
theorem RcB.fr {P : Nat → Prop} {M M' : X_M} {q na sa n : Nat} {f : Nat → Int32} {rv : Value} {b : Bool} (h : RcB M q na sa n f rv b) (hF : Fr P M M') (h0 : ¬ P 0) (h2 : ¬ P 2) : RcB M' q na sa n f rv b := by
  obtain ⟨cv, a1, a2, a3, a4⟩ := h
  exact ⟨cv, hF.z h2 a1, hF.z h0 a2, a3, fun hb => (a4 hb).fr hF h0⟩
theorem RcR.fr {P : Nat → Prop} {M M' : X_M} {q na sa n : Nat} {f : Nat → Int32} {b c : Bool} (h : RcR M q na sa n f b c) (hF : Fr P M M') (h0 : ¬ P 0) (h2 : ¬ P 2) : RcR M' q na sa n f b c := by
  obtain ⟨rv, a1, a2, a3⟩ := h
  exact ⟨rv, a1.fr hF h0 h2, a2, fun hc => (a3 hc).fr hF h0⟩
/-- the recording x is r -/
def RA (M : X_M) (x : Nat) (r : Rcd) : Prop := ∃ na sa b c, NM M na r.1 ∧ RcR M x na sa (rz r) (rg r) b c
theorem RA.fr {P : Nat → Prop} {M M' : X_M} {x : Nat} {r : Rcd} (h : RA M x r) (hF : Fr P M M') (h0 : ¬ P 0) (h2 : ¬ P 2) : RA M' x r := by
  obtain ⟨na, sa, b, c, a1, a2⟩ := h
  exact ⟨na, sa, b, c, a1.fr hF h0, a2.fr hF h0 h2⟩
theorem RA.lr {M M' : X_M} {x : Nat} {r : Rcd} (h : RA M x r) (hL : Lr M M') : RA M' x r := by
  obtain ⟨na, sa, b, c, a1, a2⟩ := h
  obtain ⟨b', c', h1, -, -⟩ := a2.lr hL
  exact ⟨na, sa, b', c', a1.fr hL.1 (by decide), h1⟩
theorem RA.rec {M : X_M} {x : Nat} {r : Rcd} (h : RA M x r) : ∃ na sa cv rv, M x = some (ob 2 3 (reF na sa cv rv)) ∧ M sa = some (ia 0 (rz r) (rg r)) ∧ NM M na r.1 := by
  obtain ⟨na, sa, b, c, a1, a2⟩ := h
  obtain ⟨cv, rv, h1, h2⟩ := a2.rec
  exact ⟨na, sa, cv, rv, h1, h2, a1⟩
/-- the tags of an archive's cells -/
abbrev tA (c : Nat) : Nat := 16 + 3 * c
abbrev PA (c : Nat) : Nat → Prop := fun g => 16 + 3 * c ≤ g ∧ g < 19 + 3 * c
theorem tA_0 {c : Nat} : tA c ≠ 0 := by show 16 + 3 * c ≠ 0; omega
theorem PA_0 {c : Nat} : PA c (tA c) := by show 16 + 3 * c ≤ 16 + 3 * c ∧ 16 + 3 * c < 19 + 3 * c; omega
theorem PA_1 {c : Nat} : PA c (tA c + 1) := by show 16 + 3 * c ≤ 16 + 3 * c + 1 ∧ 16 + 3 * c + 1 < 19 + 3 * c; omega
theorem PA_2 {c : Nat} : PA c (tA c + 2) := by show 16 + 3 * c ≤ 16 + 3 * c + 2 ∧ 16 + 3 * c + 2 < 19 + 3 * c; omega
theorem PA_n0 {c : Nat} : ¬ PA c 0 := fun z => by have := z.1; omega
theorem PA_n2 {c : Nat} : ¬ PA c 2 := fun z => by have := z.1; omega
theorem PA_n3 {c : Nat} : ¬ PA c 3 := fun z => by have := z.1; omega
theorem wkE {P : Nat → Prop} {a : Nat} {M M' : X_M} (h : Fr (fun g => g = a) M M') (hp : P a) : Fr P M M' := h.wk fun g e => by rw [e]; exact hp
theorem tA_n {c k : Nat} (h : k < 16) : ¬ tA c = k ∧ ¬ tA c + 1 = k ∧ ¬ tA c + 2 = k := by
  have : tA c = 16 + 3 * c := rfl
  omega
theorem tA_m {c k : Nat} (h : k < 16) : ¬ k = tA c ∧ ¬ k = tA c + 1 ∧ ¬ k = tA c + 2 := by
  have : tA c = 16 + 3 * c := rfl
  omega
theorem tA_d {c : Nat} : (¬ tA c = tA c + 1 ∧ ¬ tA c = tA c + 2 ∧ ¬ tA c + 1 = tA c + 2) ∧ ¬ tA c + 1 = tA c ∧ ¬ tA c + 2 = tA c ∧ ¬ tA c + 2 = tA c + 1 := by omega
/-- the archive c holds the recordings L, that are R -/
def AMl (M : X_M) (T : X_T) (c : Nat) (R : List Rcd) (L : List Nat) : Prop := ∃ l m D, M c = some (ob (tA c) 2 [.ref l, .ref m]) ∧ AL M T (tA c + 1) l L ∧ HM M (tA c + 2) m D R.length ∧ L.length = R.length ∧ (∀ (i x : Nat) (r : Rcd), L[i]? = some x → R[i]? = some r → RA M x r ∧ D r.1 = some x) ∧ ∀ w, w ∉ R.map Prod.fst → D w = none
def AM (M : X_M) (T : X_T) (c : Nat) (R : List Rcd) : Prop := ∃ L, AMl M T c R L
theorem AMl.fr {P : Nat → Prop} {M M' : X_M} {T : X_T} {c : Nat} {R : List Rcd} {L : List Nat} (h : AMl M T c R L) (hF : Fr P M M') (h0 : ¬ P 0) (h2 : ¬ P 2) (hc : ∀ g, PA c g → ¬ P g) : AMl M' T c R L := by
  obtain ⟨l, m, D, a1, a2, a3, a4, a5, a6⟩ := h
  exact ⟨l, m, D, hF.z (hc _ PA_0) a1, a2.fr hF (hc _ PA_1), a3.fr hF (hc _ PA_2) h0, a4, fun i x r h1 h3 => ⟨(a5 i x r h1 h3).1.fr hF h0 h2, (a5 i x r h1 h3).2⟩, a6⟩
theorem AMl.lr {M M' : X_M} {T : X_T} {c : Nat} {R : List Rcd} {L : List Nat} (h : AMl M T c R L) (hL : Lr M M') : AMl M' T c R L := by
  obtain ⟨l, m, D, a1, a2, a3, a4, a5, a6⟩ := h
  have hc : ∀ g, PA c g → ¬ g = 2 := fun g h1 h3 => by
    subst h3
    exact PA_n2 h1
  exact ⟨l, m, D, hL.1.z (hc _ PA_0) a1, a2.fr hL.1 (hc _ PA_1), a3.fr hL.1 (hc _ PA_2) (by decide), a4, fun i x r h1 h3 => ⟨(a5 i x r h1 h3).1.lr hL, (a5 i x r h1 h3).2⟩, a6⟩
theorem AMl.lob {M : X_M} {T : X_T} {c : Nat} {R : List Rcd} {L : List Nat} (h : AMl M T c R L) : Lob M L := by
  obtain ⟨l, m, D, a1, a2, a3, a4, a5, a6⟩ := h
  intro x hx
  obtain ⟨i, hi⟩ := List.getElem?_of_mem hx
  have hi2 : i < R.length := by rw [← a4]; exact (List.getElem?_eq_some_iff.mp hi).1
  obtain ⟨na, sa, cv, rv, h1, -⟩ := (a5 i x _ hi (List.getElem?_eq_getElem hi2)).1.rec
  exact ⟨2, _, h1⟩
section ARC
variable {G : X_G} {M : X_M} {T : X_T} {c : Nat} {R : List Rcd} {L : List Nat}
theorem ct_arInit (hG : GOK G) (hT : T0 G T) (h0 : M0c T M) (h : M c = some (ob (tA c) 2 [.null, .null])) : Ct G yX2_init cX2_init 1 none (xrm 4 2 11) [.ref c] M (fun r M' => r = none ∧ AMl M' T c [] [] ∧ Fr (PA c) M M') := by
  refine ct_open (lv := [_]) hG (by decide +kernel) (Nat.le_of_ble_eq_true rfl) rfl (fun C hC hk => ?_)
  refine x_aload_n hC dX2_init_0 rfl rfl ?_
  refine x_objInit hC q139 q132 q133 dX2_init_1 (Nat.le_of_ble_eq_true rfl) ⟨Nat.le_of_ble_eq_true rfl, Nat.le_of_ble_eq_true rfl⟩ ?_
  refine x_aload_n hC dX2_init_4 rfl rfl ?_
  refine x_new (ci := 7) (T := TJ2) (N := 3) hC (tA c + 1) [.int 0, .null, .int 0] rfl q140 q141 q85 tyJ2 tyJ2_ok (Nat.succ_ne_zero _) (by decide +kernel) (Nat.le_of_ble_eq_true rfl) (Nat.le_of_ble_eq_true rfl) dX2_init_5 (fun l hl => ?_)
  have hcl : c ≠ l := fun e => by rw [e, hl] at h; cases h
  have h0l : T 0 ≠ l := fun e => by rw [← e, h0] at hl; cases hl
  refine x_dup hC dX2_init_8 rfl ?_
  refine x_callI (k := 1) (n := 3) (na := 0) hC (ct_alInit (T := T) hG hT (Nat.succ_ne_zero _) mu_s) q144 q85 q142 q143 rfl (by decide +kernel) rfl ⟨Nat.le_of_ble_eq_true rfl, Nat.le_of_ble_eq_true rfl⟩ rfl (Nat.le_of_ble_eq_true rfl) (Nat.le_of_ble_eq_true rfl) (Nat.le_of_ble_eq_true rfl) ⟨Nat.le_of_ble_eq_true rfl, Nat.le_of_ble_eq_true rfl⟩ dX2_init_9 ?_
  rintro _ M ⟨rfl, rfl⟩
  rw [mu_mu]
  refine x_putF hC 0 (mu_f hl h) tA_0 rfl (by decide) q202 rfl rfl rfl rfl rfl rfl rfl (show 0 < 2 by decide) (fs' := [.ref l, .null]) rfl dX2_init_12 ?_
  refine x_aload_n hC dX2_init_15 rfl rfl ?_
  have h1c : (mu (mu M l (ob (tA c + 1) 7 [.int 0, .ref (T 0), .int 0])) c (ob (tA c) 2 [.ref l, .null])) c = some (ob (tA c) 2 [.ref l, .null]) := mu_s
  have h1l : (mu (mu M l (ob (tA c + 1) 7 [.int 0, .ref (T 0), .int 0])) c (ob (tA c) 2 [.ref l, .null])) l = some (ob (tA c + 1) 7 [.int 0, .ref (T 0), .int 0]) := mu_o (Ne.symm hcl) mu_s
  have hF1 : Fr (PA c) M (mu (mu M l (ob (tA c + 1) 7 [.int 0, .ref (T 0), .int 0])) c (ob (tA c) 2 [.ref l, .null])) := (Fr.new (P := PA c) hl).tr (Fr.set (mu_f hl h) PA_0)
  generalize (mu (mu M l (ob (tA c + 1) 7 [.int 0, .ref (T 0), .int 0])) c (ob (tA c) 2 [.ref l, .null])) = M1 at h1c h1l hF1 ⊢
  refine x_new (ci := 8) (T := TJ4) (N := 8) hC (tA c + 2) [.null, .null, .null, .null, .int 0, .int 0, .int 0, .float 0] rfl q170 q171 q87 tyJ4 tyJ4_ok (Nat.succ_ne_zero _) (by decide +kernel) (Nat.le_of_ble_eq_true rfl) (Nat.le_of_ble_eq_true rfl) dX2_init_16 (fun m hm => ?_)
  refine x_dup hC dX2_init_19 rfl ?_
  refine x_callI (k := 2) (n := 11) (na := 0) hC (ct_hmInit (g := tA c + 2) hG (Nat.succ_ne_zero _) mu_s) q174 q87 q172 q173 rfl (by decide +kernel) rfl ⟨Nat.le_of_ble_eq_true rfl, Nat.le_of_ble_eq_true rfl⟩ rfl (Nat.le_of_ble_eq_true rfl) (Nat.le_of_ble_eq_true rfl) (Nat.le_of_ble_eq_true rfl) ⟨Nat.le_of_ble_eq_true rfl, Nat.le_of_ble_eq_true rfl⟩ dX2_init_20 ?_
  rintro _ M2 ⟨rfl, hH, hF2⟩
  have hc2 : M2 c = some (ob (tA c) 2 [.ref l, .null]) := hF2.z tA_d.1.2.1 (mu_f hm h1c)
  have hl2 : M2 l = some (ob (tA c + 1) 7 [.int 0, .ref (T 0), .int 0]) := hF2.z tA_d.1.2.2 (mu_f hm h1l)
  refine x_putF hC 1 hc2 tA_0 rfl (by decide) q204 rfl rfl rfl rfl rfl rfl rfl (show 1 < 2 by decide) (fs' := [.ref l, .ref m]) rfl dX2_init_23 ?_
  have hF3 : Fr (fun g => g = tA c) M2 (mu M2 c (ob (tA c) 2 [.ref l, .ref m])) := Fr.set hc2 rfl
  refine x_vret hC hk dX2_init_26 (Nat.le_of_ble_eq_true rfl) (Nat.le_of_ble_eq_true rfl) ⟨rfl, ⟨l, m, fun _ => none, mu_s, ⟨0, T 0, hF3.z tA_d.2.1 hl2, Or.inl ⟨rfl, rfl⟩⟩, hH.fr hF3 tA_d.2.2.1 (tA_m (by decide)).1, rfl, (fun i x r hi => by cases hi), fun _ _ => rfl⟩, ?_⟩
  exact ((hF1.tr ((Fr.new (P := PA c) hm).tr (wkE hF2 PA_2))).tr (wkE hF3 PA_0))
theorem ct_arFull (hG : GOK G) (h : AMl M T c R L) : Ct G yX2_isFull cX2_isFull 1 (some .boolean) (xrm 2 0 0) [.ref c] M (Pr (.int (xB (R.length = 6))) M) := by
  obtain ⟨l, m, D, a1, a2, a3, a4, -⟩ := h
  have hl := a2.len
  have hlr : ∃ vs, M l = some (ob (tA c + 1) 7 vs) := by obtain ⟨_, _, z, -⟩ := a2; exact ⟨_, z⟩
  obtain ⟨vs, hlr⟩ := hlr
  refine ct_open (lv := [_]) hG (by decide +kernel) (Nat.le_of_ble_eq_true rfl) rfl (fun C hC hk => ?_)
  refine x_aload_n hC dX2_isFull_0 rfl rfl ?_
  refine x_get hC 0 a1 rfl (by decide) q202 rfl rfl dX2_isFull_1 ?_
  refine x_callV0 (na := 0) hC (ct_alSize hG a2) (lw_V q1036 q267 q268 q85 q269) hlr rfl rfl (by decide +kernel) rfl ⟨Nat.le_of_ble_eq_true rfl, Nat.le_of_ble_eq_true rfl⟩ rfl (Nat.le_of_ble_eq_true rfl) ⟨rfl, rfl⟩ ⟨Nat.le_of_ble_eq_true rfl, Nat.le_of_ble_eq_true rfl⟩ dX2_isFull_4 ?_
  rintro _ M ⟨rfl, rfl⟩
  rw [a4]
  refine x_bipush (v := nI 6) hC dX2_isFull_7 (by decide) ?_
  refine x_icmp_neN (tgt := 16) hC (by omega) (by omega) dX2_isFull_9 (by decide) (fun d => ?_) (fun d => ?_)
  · refine x_iconst (v := 0) hC dX2_isFull_16 (by decide) ?_
    exact x_zret hC hk dX2_isFull_17 (by first | rfl | exact xB_nar) (Nat.le_of_ble_eq_true rfl) (Nat.le_of_ble_eq_true rfl) ⟨by rw [xB_f d], rfl⟩
  · refine x_iconst (v := 1) hC dX2_isFull_12 (by decide) ?_
    refine x_goto (tgt := 17) hC dX2_isFull_13 (by decide) ?_
    exact x_zret hC hk dX2_isFull_17 (by first | rfl | exact xB_nar) (Nat.le_of_ble_eq_true rfl) (Nat.le_of_ble_eq_true rfl) ⟨by rw [xB_t (by omega)], rfl⟩
theorem ct_arHas (hG : GOK G) (h : AMl M T c R L) {k : Nat} {w : List Nat} (hk0 : NM M k w) : Ct G yX2_has cX2_has 2 (some .boolean) (xrm 9 0 0) [.ref c, .ref k] M (Pr (.int (xB (w ∈ R.map Prod.fst))) M) := by
  obtain ⟨l, m, D, a1, a2, a3, a4, a5, a6⟩ := h
  have hr : ∃ vs, M m = some (ob (tA c + 2) 8 vs) := by
    obtain ⟨mc, lf, ⟨h1, h2⟩ | ⟨t, B, h1, -⟩⟩ := id a3
    · exact ⟨_, h1⟩
    · exact ⟨_, h1⟩
  obtain ⟨vs, hm⟩ := hr
  have e : ¬ D w = none ↔ w ∈ R.map Prod.fst := by
    constructor
    · intro hD
      by_cases hw : w ∈ R.map Prod.fst
      · exact hw
      · exact absurd (a6 w hw) hD
    · intro hw hD
      obtain ⟨r, hr, rfl⟩ := List.mem_map.mp hw
      obtain ⟨i, hi⟩ := List.getElem?_of_mem hr
      have hi2 : i < L.length := by rw [a4]; exact (List.getElem?_eq_some_iff.mp hi).1
      rw [(a5 i _ r (List.getElem?_eq_getElem hi2) hi).2] at hD
      cases hD
  refine ct_open (lv := [_, _]) hG (by decide +kernel) (Nat.le_of_ble_eq_true rfl) rfl (fun C hC hk => ?_)
  refine x_aload_n hC dX2_has_0 rfl rfl ?_
  refine x_get hC 1 a1 rfl (by decide) q204 rfl rfl dX2_has_1 ?_
  refine x_aload_n hC dX2_has_4 rfl rfl ?_
  refine x_callV0 (na := 1) hC (ct_hmHas hG a3 hk0) (lw_V q648 q649 q650 q87 q651) hm rfl rfl (by decide +kernel) rfl ⟨Nat.le_of_ble_eq_true rfl, Nat.le_of_ble_eq_true rfl⟩ rfl (Nat.le_of_ble_eq_true rfl) ⟨rfl, rfl⟩ ⟨Nat.le_of_ble_eq_true rfl, Nat.le_of_ble_eq_true rfl⟩ dX2_has_5 ?_
  rintro _ M ⟨rfl, rfl⟩
  exact x_zret hC hk dX2_has_8 (by first | rfl | exact xB_nar) (Nat.le_of_ble_eq_true rfl) (Nat.le_of_ble_eq_true rfl) ⟨by rw [xB_iff e], rfl⟩
theorem ct_arAdd (hG : GOK G) (hT : T0 G T) (h0 : M0c T M) (h : AMl M T c R L) {x : Nat} {r : Rcd} (hx : RA M x r) (hR : R.length < 6) (hn : r.1 ∉ R.map Prod.fst) : Ct G yX2_add cX2_add 2 (some .int) (xrm 10 3 30) [.ref c, .ref x] M (fun z M' => z = some (.int (nI R.length)) ∧ AMl M' T c (R ++ [r]) (L ++ [x]) ∧ Fr (PA c) M M') := by
  obtain ⟨l, m, D, a1, a2, a3, a4, a5, a6⟩ := h
  have hlr : ∃ vs, M l = some (ob (tA c + 1) 7 vs) := by obtain ⟨_, _, z, -⟩ := id a2; exact ⟨_, z⟩
  obtain ⟨vs, hlr⟩ := hlr
  obtain ⟨na, sa, cv, rv, x1, x2, x3⟩ := hx.rec
  refine ct_open (lv := [_, _]) hG (by decide +kernel) (Nat.le_of_ble_eq_true rfl) rfl (fun C hC hk => ?_)
  obtain ⟨M0, hM0⟩ : ∃ M0, M0 = M := ⟨M, rfl⟩
  rw [← hM0] at hk
  have hF : Fm M0 M := by rw [hM0]; exact Fr.rf
  subst hM0
  refine x_aload_n hC dX2_add_0 rfl rfl ?_
  refine x_get hC 0 a1 rfl (by decide) q202 rfl rfl dX2_add_1 ?_
  refine x_aload_n hC dX2_add_4 rfl rfl ?_
  refine x_callV (k := 1) (n := 10) (na := 1) hC (ct_alAdd hG hT h0 (Nat.succ_ne_zero _) a2 (by omega) x1) (lw_V q1130 q1131 q1132 q85 q1133) hlr rfl rfl (by decide +kernel) rfl ⟨Nat.le_of_ble_eq_true rfl, Nat.le_of_ble_eq_true rfl⟩ rfl (Nat.le_of_ble_eq_true rfl) (Nat.le_of_ble_eq_true rfl) (Nat.le_of_ble_eq_true rfl) ⟨Nat.le_of_ble_eq_true rfl, Nat.le_of_ble_eq_true rfl⟩ dX2_add_5 ?_
  rintro _ M1 ⟨rfl, hA1, hF1⟩
  have a1' : M1 c = some (ob (tA c) 2 [.ref l, .ref m]) := hF1.z tA_d.1.1 a1
  have a3' := a3.fr hF1 tA_d.2.2.2 (tA_m (by decide)).2.1
  have x1' : M1 x = some (ob 2 3 (reF na sa cv rv)) := hF1.z (tA_m (by decide)).2.1 x1
  have x3' := x3.fr hF1 (tA_m (by decide)).2.1
  have hr : ∃ vs, M1 m = some (ob (tA c + 2) 8 vs) := by
    obtain ⟨mc, lf, ⟨h1, h2⟩ | ⟨t, B, h1, -⟩⟩ := id a3'
    · exact ⟨_, h1⟩
    · exact ⟨_, h1⟩
  obtain ⟨vsm, hm⟩ := hr
  refine x_pop hC dX2_add_8 rfl ?_
  refine x_aload_n hC dX2_add_9 rfl rfl ?_
  refine x_get hC 1 a1' rfl (by decide) q204 rfl rfl dX2_add_10 ?_
  refine x_aload_n hC dX2_add_13 rfl rfl ?_
  refine x_getN hC 0 x1' rfl (by decide) q1484 rfl rfl dX2_add_14 ?_
  refine x_aload_n hC dX2_add_17 rfl rfl ?_
  refine x_callV (k := 3) (n := 30) (na := 2) hC (ct_hmPut (v := x) hG (Nat.succ_ne_zero _) a3' (by omega) x3') (lw_V q1158 q1159 q1160 q87 q1161) hm rfl rfl (by decide +kernel) rfl ⟨Nat.le_of_ble_eq_true rfl, Nat.le_of_ble_eq_true rfl⟩ rfl (Nat.le_of_ble_eq_true rfl) (Nat.le_of_ble_eq_true rfl) (Nat.le_of_ble_eq_true rfl) ⟨Nat.le_of_ble_eq_true rfl, Nat.le_of_ble_eq_true rfl⟩ dX2_add_18 ?_
  rintro _ M2 ⟨rfl, hH, hF2⟩
  have hD : D r.1 = none := a6 _ hn
  rw [hD, if_pos rfl] at hH
  rw [hD]
  have a1'' : M2 c = some (ob (tA c) 2 [.ref l, .ref m]) := hF2.z tA_d.1.2.1 a1'
  have hA2 := hA1.fr hF2 tA_d.1.2.2
  have hlr2 : ∃ vs, M2 l = some (ob (tA c + 1) 7 vs) := by obtain ⟨_, _, z, -⟩ := id hA2; exact ⟨_, z⟩
  obtain ⟨vs2, hlr2⟩ := hlr2
  have hFF : Fr (PA c) M0 M2 := (wkE hF1 PA_1).tr (wkE hF2 PA_2)
  refine x_pop hC dX2_add_21 rfl ?_
  refine x_aload_n hC dX2_add_22 rfl rfl ?_
  refine x_get hC 0 a1'' rfl (by decide) q202 rfl rfl dX2_add_23 ?_
  refine x_callV0 (na := 0) hC (ct_alSize hG hA2) (lw_V q1036 q267 q268 q85 q269) hlr2 rfl rfl (by decide +kernel) rfl ⟨Nat.le_of_ble_eq_true rfl, Nat.le_of_ble_eq_true rfl⟩ rfl (Nat.le_of_ble_eq_true rfl) ⟨rfl, rfl⟩ ⟨Nat.le_of_ble_eq_true rfl, Nat.le_of_ble_eq_true rfl⟩ dX2_add_26 ?_
  rintro _ M ⟨rfl, rfl⟩
  rw [List.length_append, a4]
  refine x_iconst (v := nI 1) hC dX2_add_29 (by decide) ?_
  refine x_isubN hC dX2_add_30 (by exact Nat.le_add_left 1 R.length) ?_
  refine x_iret hC hk dX2_add_31 (Nat.le_of_ble_eq_true rfl) (Nat.le_of_ble_eq_true rfl) ⟨rfl, ⟨l, m, hUpd D r.1 (some x), a1'', hA2, by rw [List.length_append]; exact hH, by rw [List.length_append, List.length_append, a4]; rfl, fun i y s h1 h3 => ?_, fun w hw => ?_⟩, hFF⟩
  · by_cases ei : i < R.length
    · rw [List.getElem?_append_left ei] at h3
      rw [List.getElem?_append_left (by rw [a4]; exact ei)] at h1
      obtain ⟨b1, b2⟩ := a5 i y s h1 h3
      refine ⟨b1.fr hFF PA_n0 PA_n2, ?_⟩
      unfold hUpd
      rw [if_neg (fun e => hn (by rw [← e]; exact List.mem_map_of_mem (List.mem_of_getElem? h3)))]
      exact b2
    · have hi2 := (List.getElem?_eq_some_iff.mp h3).1
      rw [List.length_append] at hi2
      have hi3 : i = R.length := by have : i < R.length + 1 := hi2; omega
      subst hi3
      rw [List.getElem?_concat_length] at h3
      rw [← a4, List.getElem?_concat_length] at h1
      cases h3
      cases h1
      exact ⟨hx.fr hFF PA_n0 PA_n2, by unfold hUpd; rw [if_pos rfl]⟩
  · rw [List.map_append] at hw
    unfold hUpd
    rw [if_neg (fun e => hw (List.mem_append_right _ (by rw [e]; exact List.mem_singleton.mpr rfl)))]
    exact a6 w (fun z => hw (List.mem_append_left _ z))
end ARC

