/-! ===== the component's edits: beginEdit, replace ===== -/
/-- the cells that an edit may write: no recording -/
abbrev PE : Nat → Prop := fun g => g ≠ 0 ∧ g ≠ 2 ∧ g ≠ 10 ∧ g ≠ 11
theorem pe_pw {M M' : X_M} (h : Fr PE M M') : Fr PW M M' := h.wk fun g z => ⟨z.1, z.2.2⟩
theorem PC_pe {c : Nat} : ∀ g, PC c g → PE g := fun g z => by
  rcases z with e | ⟨z1, z2⟩
  · subst e; exact ⟨by decide, by decide, by decide, by decide⟩
  · exact ⟨by omega, by omega, by omega, by omega⟩
theorem PA_pe {c : Nat} : ∀ g, PA c g → PE g := fun g z => PC_pe (c := c) g (Or.inr z)
theorem pe_eq {k : Nat} (h : k ≠ 0 ∧ k ≠ 2 ∧ k ≠ 10 ∧ k ≠ 11) : ∀ g, g = k → PE g := fun g e => by subst e; exact h
theorem AM.ob {M : X_M} {T : X_T} {c : Nat} {R : List Rcd} (h : AM M T c R) : ∃ vs, M c = some (ob (tA c) 2 vs) := by
  obtain ⟨L, l, m, D, a1, -⟩ := h
  exact ⟨_, a1⟩
/-- another content of the archive -/
theorem CRp.arch {S : X_S} {M M' : X_M} {T : X_T} {a bu ar dq : Nat} {sv : Option Nat} {fm : Nat} {bf : Nat → Int32} {H : List Nat} {R : List Rcd} (h : CRp S M T a bu ar dq sv fm bf H) (hF : Fr (PA ar) M M') (hA : AM M' T ar R) (hW : WfR R) : CRp (R, S.2) M' T a bu ar dq sv fm bf H := by
  obtain ⟨h1, h2, h3, h4, h5, h6, h7, h8⟩ := h
  have n1 : ¬ PA ar 1 := fun z => by have := z.1; omega
  have n4 : ¬ PA ar 4 := fun z => by have := z.1; omega
  have hnd := List.nodup_cons.mp h7
  refine ⟨hF.z n1 h1, ⟨hF.z n1 h2.1, h2.2⟩, ⟨hA, hW⟩, ⟨h4.1.fr hF n4, h4.2.1, h4.2.2.1, fun i c R z1 z2 => ?_⟩, ?_, h6.fr hF PA_n0, h7, hF.z PA_n0 h8⟩
  · have hne : c ≠ ar := fun e => hnd.1 (by rw [← e]; exact List.mem_append_left _ (List.mem_of_getElem? z1))
    exact ⟨(h4.2.2.2 i c R z1 z2).1.fr hF PA_n0 PA_n2 (PA_x hne), (h4.2.2.2 i c R z1 z2).2⟩
  · rcases h5 with h5 | ⟨s, R, z1, z2, z3, z4⟩
    · exact Or.inl h5
    · have hne : s ≠ ar := fun e => hnd.1 (by rw [← e, z2]; exact List.mem_append_right _ (List.mem_singleton.mpr rfl))
      exact Or.inr ⟨s, R, z1, z2, z3.fr hF PA_n0 PA_n2 (PA_x hne), z4⟩
theorem CRp.fr {P : Nat → Prop} {S : X_S} {M M' : X_M} {T : X_T} {a bu ar dq : Nat} {sv : Option Nat} {fm : Nat} {bf : Nat → Int32} {H : List Nat} (h : CRp S M T a bu ar dq sv fm bf H) (hF : Fr P M M') (h0 : ¬ P 0) (h1' : ¬ P 1) (h2' : ¬ P 2) (h4' : ¬ P 4) (hc : ∀ g, 16 ≤ g → ¬ P g) : CRp S M' T a bu ar dq sv fm bf H := by
  obtain ⟨h1, h2, h3, h4, h5, h6, h7, h8⟩ := h
  have hcc : ∀ c g, PA c g → ¬ P g := fun c g z => hc g (by have := z.1; omega)
  refine ⟨hF.z h1' h1, ⟨hF.z h1' h2.1, h2.2⟩, ⟨h3.1.fr hF h0 h2' (hcc ar), h3.2⟩, ⟨h4.1.fr hF h4', h4.2.1, h4.2.2.1, fun i c R z1 z2 => ⟨(h4.2.2.2 i c R z1 z2).1.fr hF h0 h2' (hcc c), (h4.2.2.2 i c R z1 z2).2⟩⟩, ?_, h6.fr hF h0, h7, hF.z h0 h8⟩
  rcases h5 with h5 | ⟨s, R, z1, z2, z3, z4⟩
  · exact Or.inl h5
  · exact Or.inr ⟨s, R, z1, z2, z3.fr hF h0 h2' (hcc s), z4⟩
section ED1
variable {G : X_G} {M : X_M} {T : X_T} {a : Nat} {S : X_S}
theorem ct_beginEdit (hG : GOK G) (hT : T0 G T) (hR : CRep S M T a) : Ct G yX1_beginEdit cX1_beginEdit 1 none (xrm 12 22 197) [.ref a] M (fun z M' => z = none ∧ CRep (pushS S) M' T a ∧ Fr PE M M') := by
  obtain ⟨bu, ar, dq, sv, fm, bf, H, h1, h2, h3, h4, h5, h6, h7, h8⟩ := hR
  obtain ⟨vq, hq⟩ := h4.1.rec
  refine ct_open (lv := [_]) hG (by decide +kernel) (Nat.le_of_ble_eq_true rfl) rfl (fun C hC hk => ?_)
  obtain ⟨M0, hM0⟩ : ∃ M0, M0 = M := ⟨M, rfl⟩
  rw [← hM0] at hk
  have hF : Fm M0 M := by rw [hM0]; exact Fr.rf
  subst hM0
  suffices key : ∀ M1 H1 Hs, H1.length = Hs.length → Hs.length ≤ 7 → hP (sH S) (sR S) = Hs ++ [sR S] → DQ M1 4 dq H1 → Fr (fun g => g = 4) M0 M1 → (∀ (i c : Nat) (R : List Rcd), H1[i]? = some c → Hs[i]? = some R → AM M0 T c R ∧ WfR R) → (∀ c, c ∈ H1 → c ∈ H) → H1.Nodup → Wg G C M1 0 0 20 [some (.ref a)] [] by
    refine x_aload_n hC dX1_beginEdit_0 rfl rfl ?_
    refine x_get hC 5 h1 rfl (by decide) q234 rfl rfl dX1_beginEdit_1 ?_
    refine x_callV0 (na := 0) hC (ct_dqSize hG h4.1) (lw_V q1977 q1978 q1979 q88 q1980) hq rfl rfl (by decide +kernel) rfl ⟨Nat.le_of_ble_eq_true rfl, Nat.le_of_ble_eq_true rfl⟩ rfl (Nat.le_of_ble_eq_true rfl) ⟨rfl, rfl⟩ ⟨Nat.le_of_ble_eq_true rfl, Nat.le_of_ble_eq_true rfl⟩ dX1_beginEdit_4 ?_
    rintro _ M ⟨rfl, rfl⟩
    refine x_bipush (v := nI 8) hC dX1_beginEdit_7 (by decide) ?_
    have hH8 : H.length ≤ 8 := by rw [h4.2.1]; exact h4.2.2.1
    refine x_icmp_neN (tgt := 20) hC (by omega) (by omega) dX1_beginEdit_9 (by decide) (fun c => ?_) (fun c => ?_)
    · refine key _ H (sH S) h4.2.1 (by have := h4.2.1; have := h4.2.2.1; omega) (by unfold hP; rw [if_neg (by rw [← h4.2.1]; exact c)]) h4.1 Fr.rf h4.2.2.2 (fun _ h => h) ?_
      exact (List.nodup_append.mp (List.nodup_cons.mp h7).2).1
    · cases H with
      | nil => cases c
      | cons x H2 =>
        refine x_aload_n hC dX1_beginEdit_12 rfl rfl ?_
        refine x_get hC 5 h1 rfl (by decide) q234 rfl rfl dX1_beginEdit_13 ?_
        refine x_callV0 (na := 0) hC (ct_dqRemF hG (by decide) h4.1) (lw_V q1984 q1985 q1986 q88 q1987) hq rfl rfl (by decide +kernel) rfl ⟨Nat.le_of_ble_eq_true rfl, Nat.le_of_ble_eq_true rfl⟩ rfl (Nat.le_of_ble_eq_true rfl) ⟨rfl, rfl⟩ ⟨Nat.le_of_ble_eq_true rfl, Nat.le_of_ble_eq_true rfl⟩ dX1_beginEdit_16 ?_
        rintro _ M1 ⟨rfl, hD, hF⟩
        refine x_pop hC dX1_beginEdit_19 rfl ?_
        have h42 := h4.2
        have hl : (sH S).length = H2.length + 1 := h42.1.symm
        refine key M1 H2 ((sH S).drop 1) (by rw [List.length_drop]; omega) (by rw [List.length_drop]; omega) (by unfold hP; rw [if_pos (by rw [← h42.1]; exact c)]) hD hF (fun i c R z1 z2 => ?_) (fun c h => List.mem_cons_of_mem _ h) ?_
        · rw [List.getElem?_drop, Nat.add_comm] at z2
          exact h42.2.2 (i + 1) c R (by rw [List.getElem?_cons_succ]; exact z1) z2
        · exact (List.nodup_cons.mp (List.nodup_append.mp (List.nodup_cons.mp h7).2).1).2
  intro M1 H1 Hs k1 k2 k3 kD kF kA kS kN
  obtain ⟨⟨L, h3a⟩, h3w⟩ := h3
  have p0 : ¬ (0 : Nat) = 4 := by decide
  have p1 : ¬ (1 : Nat) = 4 := by decide
  have p2 : ¬ (2 : Nat) = 4 := by decide
  have pA : ∀ c g, PA c g → ¬ g = 4 := fun c g z => by have := z.1; omega
  have h3b := h3a.fr kF p0 p2 (pA ar)
  obtain ⟨l, m, a1, a2, a4⟩ := h3b.rec
  obtain ⟨vq1, hq1⟩ := kD.rec
  refine x_aload_n hC dX1_beginEdit_20 rfl rfl ?_
  refine x_get hC 5 (kF.z p1 h1) rfl (by decide) q234 rfl rfl dX1_beginEdit_21 ?_
  refine x_aload_n hC dX1_beginEdit_24 rfl rfl ?_
  refine x_get hC 4 (kF.z p1 h1) rfl (by decide) q233 rfl rfl dX1_beginEdit_25 ?_
  refine x_callV (k := 22) (n := 197) (na := 0) hC (ct_arCopy hG hT (kF.z p0 h8) h3b h3w.1 h3w.2.2) (lw_V q1053 q1054 q1055 q82 q1056) a1 rfl rfl (by decide +kernel) rfl ⟨Nat.le_of_ble_eq_true rfl, Nat.le_of_ble_eq_true rfl⟩ rfl (Nat.le_of_ble_eq_true rfl) (Nat.le_of_ble_eq_true rfl) (Nat.le_of_ble_eq_true rfl) ⟨Nat.le_of_ble_eq_true rfl, Nat.le_of_ble_eq_true rfl⟩ dX1_beginEdit_28 ?_
  rintro _ M2 ⟨q, rfl, hq0, hA2, hF2⟩
  have n1 : ¬ PC q 1 := fun z => z.elim (fun h => by cases h) (fun z => by have := z.1; omega)
  have n4 : ¬ PC q 4 := fun z => z.elim (fun h => by cases h) (fun z => by have := z.1; omega)
  have hD2 := kD.fr hF2 n4
  obtain ⟨vq2, hq2⟩ := hD2.rec
  obtain ⟨l', m', a1', -, -⟩ := hA2.rec
  refine x_callV0 (na := 1) hC (ct_dqAdd hG (by decide) hD2 (by omega) a1') (lw_V q2000 q2001 q2002 q88 q2003) hq2 rfl rfl (by decide +kernel) rfl ⟨Nat.le_of_ble_eq_true rfl, Nat.le_of_ble_eq_true rfl⟩ rfl (Nat.le_of_ble_eq_true rfl) ⟨rfl, rfl⟩ ⟨Nat.le_of_ble_eq_true rfl, Nat.le_of_ble_eq_true rfl⟩ dX1_beginEdit_31 ?_
  rintro _ M3 ⟨rfl, hD3, hF3⟩
  have nq : ∀ {c : Nat} {R : List Rcd}, AM M0 T c R → c ≠ q := fun {c R} h e => by
    obtain ⟨vs, hv⟩ := h.ob
    have := kF.z (pA c _ PA_0) hv
    rw [e, hq0] at this
    cases this
  have tr : ∀ {c : Nat} {R : List Rcd}, AM M0 T c R → AM M3 T c R := fun {c R} h => ((h.fr kF p0 p2 (pA c)).fr hF2 PC_0 PC_2 (PC_x (nq h))).fr hF3 p0 p2 (pA c)
  have z1 : ∀ {b : Nat} {e : X_E}, M0 b = some e → e.1 ≠ 4 → ¬ PC q e.1 → M3 b = some e := fun {b e} h k4 kc => hF3.z k4 (hF2.z kc (kF.z k4 h))
  have hF : Fr PE M0 M3 := ((kF.wk (pe_eq (by decide))).tr (hF2.wk PC_pe)).tr (hF3.wk (pe_eq (by decide)))
  have hH1 : ∀ c, c ∈ H1 → c ≠ q := fun c hc => by
    obtain ⟨i, hi⟩ := List.getElem?_of_mem hc
    have hi1 := (List.getElem?_eq_some_iff.mp hi).1
    exact nq (kA i c _ hi (List.getElem?_eq_getElem (by omega))).1
  have hsv : ∀ c, c ∈ sv.toList → c ≠ q := fun c hc => by
    rcases h5 with h5 | ⟨s, R, y1, y2, y3, y4⟩
    · rw [h5.2] at hc; cases hc
    · rw [y2] at hc
      rw [List.mem_singleton.mp hc]
      exact nq y3
  have hnd := List.nodup_cons.mp h7
  have hnd2 := List.nodup_append.mp hnd.2
  refine x_vret hC hk dX1_beginEdit_34 (Nat.le_of_ble_eq_true rfl) (Nat.le_of_ble_eq_true rfl) ⟨rfl, ⟨bu, ar, dq, sv, fm, bf, H1 ++ [q], z1 h1 p1 n1, ⟨z1 h2.1 p1 n1, h2.2⟩, ⟨tr ⟨L, h3a⟩, h3w⟩, ⟨hD3, ?_, ?_, ?_⟩, ?_, ((h6.fr kF p0).fr hF2 PC_0).fr hF3 p0, ?_, z1 h8 p0 PC_0⟩, hF⟩
  · show (H1 ++ [q]).length = (hP (sH S) (sR S)).length
    rw [k3, List.length_append, List.length_append, k1]
    rfl
  · show (hP (sH S) (sR S)).length ≤ 8
    rw [k3, List.length_append]
    exact Nat.succ_le_succ k2
  · intro i c R y1 y2
    have y3 : (Hs ++ [sR S])[i]? = some R := by rw [← k3]; exact y2
    rcases Nat.lt_or_ge i H1.length with hi | hi
    · rw [List.getElem?_append_left hi] at y1
      rw [List.getElem?_append_left (by omega)] at y3
      exact ⟨tr (kA i c R y1 y3).1, (kA i c R y1 y3).2⟩
    · rw [List.getElem?_append_right hi] at y1
      rw [List.getElem?_append_right (by omega)] at y3
      have e0 : i - H1.length = 0 := by
        have := (List.getElem?_eq_some_iff.mp y1).1
        rw [List.length_singleton] at this
        omega
      rw [e0] at y1
      rw [show i - Hs.length = 0 by omega] at y3
      cases y1
      cases y3
      exact ⟨AM.fr ⟨L, hA2⟩ hF3 p0 p2 (pA q), h3w⟩
  · rcases h5 with h5 | ⟨s, R, y1, y2, y3, y4⟩
    · exact Or.inl h5
    · exact Or.inr ⟨s, R, y1, y2, tr y3, y4⟩
  · refine List.nodup_cons.mpr ⟨fun z => ?_, List.nodup_append.mpr ⟨List.nodup_append.mpr ⟨kN, List.nodup_cons.mpr ⟨List.not_mem_nil, List.nodup_nil⟩, fun x hx y hy => ?_⟩, hnd2.2.1, fun x hx y hy => ?_⟩⟩
    · rcases List.mem_append.mp z with z | z
      · rcases List.mem_append.mp z with z | z
        · exact hnd.1 (List.mem_append_left _ (kS _ z))
        · exact nq ⟨L, h3a⟩ (List.mem_singleton.mp z)
      · exact hnd.1 (List.mem_append_right _ z)
    · rw [List.mem_singleton.mp hy]
      exact hH1 x hx
    · rcases List.mem_append.mp hx with hx | hx
      · exact hnd2.2.2 x (kS _ hx) y hy
      · rw [List.mem_singleton.mp hx]
        exact fun e => hsv y hy e.symm
theorem ct_replaceC (hG : GOK G) (hT : T0 G T) (hR : CRep S M T a) {i b : Nat} {r : Rcd} {u : List Int32} (hi : (sR S)[i]? = some r) (hb : M b = some (ia 0 u.length fun k => u.getD k 0)) (hW : WfRow (r.1, u)) : Ct G yX1_replace cX1_replace 3 (some .int) (xrm 13 25 221) [.ref a, .int (nI i), .ref b] M (fun z M' => z = some (.int (if rz r = u.length then iS (fun k => xB (rg r k ≠ u.getD k 0)) (rz r) else nI u.length)) ∧ CRep (setS (pushS S) i (r.1, u)) M' T a ∧ Fr PE M M') := by
  obtain ⟨vs, ha⟩ := hR.rec
  have hwf := hR.wf
  refine ct_open (lv := [_, _, _]) hG (by decide +kernel) (Nat.le_of_ble_eq_true rfl) rfl (fun C hC hk => ?_)
  refine x_aload_n hC dX1_replace_0 rfl rfl ?_
  refine x_callV (k := 22) (n := 197) (na := 0) hC (ct_beginEdit hG hT hR) (lw_V q1973 q1975 qs22 q81 q1976) ha rfl rfl (by decide +kernel) rfl ⟨Nat.le_of_ble_eq_true rfl, Nat.le_of_ble_eq_true rfl⟩ rfl (Nat.le_of_ble_eq_true rfl) (Nat.le_of_ble_eq_true rfl) (Nat.le_of_ble_eq_true rfl) ⟨Nat.le_of_ble_eq_true rfl, Nat.le_of_ble_eq_true rfl⟩ dX1_replace_1 ?_
  rintro _ M1 ⟨rfl, hR1, hF1⟩
  have hb1 := hF1.z (fun z : PE 0 => z.1 rfl) hb
  obtain ⟨bu, ar, dq, sv, fm, bf, H, hR2⟩ := hR1
  obtain ⟨h1, -, ⟨⟨L, h3⟩, h3w⟩, -⟩ := id hR2
  have h3w' : WfR (sR S) := h3w
  have h3' : AMl M1 T ar (sR S) L := h3
  obtain ⟨l, m, a1, a2, a4⟩ := h3.rec
  refine x_aload_n hC dX1_replace_4 rfl rfl ?_
  refine x_get hC 4 h1 rfl (by decide) q233 rfl rfl dX1_replace_5 ?_
  refine x_iload_n hC dX1_replace_8 rfl rfl ?_
  refine x_aload_n hC dX1_replace_9 rfl rfl ?_
  refine x_callV (k := 25) (n := 221) (na := 2) hC (ct_arRepl hG h3' h3w'.1 h3w'.2.2 hi hb1 (hW.len).1 (h3w'.2.1 r (List.mem_of_getElem? hi)).len.1) (lw_V q2102 q2103 q2104 q82 q2105) a1 rfl rfl (by decide +kernel) rfl ⟨Nat.le_of_ble_eq_true rfl, Nat.le_of_ble_eq_true rfl⟩ rfl (Nat.le_of_ble_eq_true rfl) (Nat.le_of_ble_eq_true rfl) (Nat.le_of_ble_eq_true rfl) ⟨Nat.le_of_ble_eq_true rfl, Nat.le_of_ble_eq_true rfl⟩ dX1_replace_10 ?_
  rintro _ M2 ⟨rfl, ⟨x, hA⟩, hF2⟩
  refine x_iret hC hk dX1_replace_13 (Nat.le_of_ble_eq_true rfl) (Nat.le_of_ble_eq_true rfl) ⟨rfl, ⟨bu, ar, dq, sv, fm, bf, H, hR2.arch hF2 ⟨_, hA⟩ ?_⟩, hF1.tr (hF2.wk PA_pe)⟩
  exact wf_set h3w' hW (by rw [rd_at hi])
end ED1

