/-! ===== HashMap.put ===== -/
def hUpd (D : List Nat → Option Nat) (w : List Nat) (o : Option Nat) : List Nat → Option Nat := fun w' => if w' = w then o else D w'
theorem HB.w1 {M : X_M} {g t q : Nat} {B : Nat → List HN} {vs : List Value} {e : X_E} (h : HB M g t B) (hq : M q = some (ob g 8 vs)) (hg : g ≠ 0) : HB (mu M q e) g t B := by
  obtain ⟨f, h1, h2⟩ := h
  refine ⟨f, mu_o (mx_ne h1 hq (fun z => by cases z)) h1, fun i hi => ⟨(h2 i hi).1.w1 hq hg (fun nd hm => ?_), (h2 i hi).2⟩⟩
  obtain ⟨nx, h3, -⟩ := (h2 i hi).1.mem nd hm
  exact mx_ne h3 hq (fun z => by cases z)
section HMP
variable {G : X_G} {M : X_M} {g m n k v : Nat} {w : List Nat} {D : List Nat → Option Nat}
theorem ct_hmAI (hG : GOK G) (x : Int32) (M : X_M) (m : Nat) : Ct G yJ4_afterNodeInsertion cJ4_afterNodeInsertion 2 none (xrm 1 0 0) [.ref m, .int x] M (fun r M' => r = none ∧ M' = M) := by
  refine ct_open (lv := [_, _]) hG (by decide +kernel) (Nat.le_of_ble_eq_true rfl) rfl (fun C hC hk => ?_)
  exact x_vret hC hk dJ4_afterNodeInsertion_0 (Nat.le_of_ble_eq_true rfl) (Nat.le_of_ble_eq_true rfl) ⟨rfl, rfl⟩
theorem ct_hmAA (hG : GOK G) (M : X_M) (m a : Nat) : Ct G yJ4_afterNodeAccess cJ4_afterNodeAccess 2 none (xrm 1 0 0) [.ref m, .ref a] M (fun r M' => r = none ∧ M' = M) := by
  refine ct_open (lv := [_, _]) hG (by decide +kernel) (Nat.le_of_ble_eq_true rfl) rfl (fun C hC hk => ?_)
  exact x_vret hC hk dJ4_afterNodeAccess_0 (Nat.le_of_ble_eq_true rfl) (Nat.le_of_ble_eq_true rfl) ⟨rfl, rfl⟩
theorem ct_hmAR (hG : GOK G) (M : X_M) (m a : Nat) : Ct G yJ4_afterNodeRemoval cJ4_afterNodeRemoval 2 none (xrm 1 0 0) [.ref m, .ref a] M (fun r M' => r = none ∧ M' = M) := by
  refine ct_open (lv := [_, _]) hG (by decide +kernel) (Nat.le_of_ble_eq_true rfl) rfl (fun C hC hk => ?_)
  exact x_vret hC hk dJ4_afterNodeRemoval_0 (Nat.le_of_ble_eq_true rfl) (Nat.le_of_ble_eq_true rfl) ⟨rfl, rfl⟩
/-- what put leaves -/
def PPut (M : X_M) (g m n v : Nat) (w : List Nat) (D : List Nat → Option Nat) : Option Value → X_M → Prop := fun r M' => r = some (va_rf (D w)) ∧ HM M' g m (hUpd D w (some v)) (if D w = none then n + 1 else n) ∧ Fr (fun g' => g' = g) M M'
theorem ct_hmPutVal (hG : GOK G) (hg : g ≠ 0) (h : HM M g m D n) (hn : n ≤ 6) (hkw : NM M k w) : Ct G yJ4_putVal cJ4_putVal 13 (some (.object "java/lang/Object")) (xrm 8 2 20) [.ref m, .int (spr (nmH w)), .ref k, .ref v, .int 0, .int 1] M (PPut M g m n v w D) := by
  obtain ⟨M0, hM0⟩ : ∃ M0, M0 = M := ⟨M, rfl⟩
  have hI0 := hI_ok w
  refine ct_open (lv := [some (.ref m), some (.int (spr (nmH w))), some (.ref k), some (.ref v), some (.int 0), some (.int 1), none, none, none, none, none, none, none]) hG (by decide +kernel) (Nat.le_of_ble_eq_true rfl) rfl (fun C hC hk => ?_)
  have fin : ∀ M1 t B1 kc ks mc lf, M1 m = some (ob g 8 [.null, .null, .ref t, .null, .int (nI n), .int mc, .int 12, .float lf]) → HB M1 g t B1 → (∀ w', hUpd D w (some v) w' = hFind (B1 (hI w')) w') → hS B1 16 = n + 1 → Fr (fun g' => g' = g) M M1 → kc ≤ 2 → ks ≤ 20 → D w = none → ∀ l6 l7 l8 l9 l10 l11 l12, Wg G C M1 kc ks 259 [some (.ref m), some (.int (spr (nmH w))), some (.ref k), some (.ref v), some (.int 0), some (.int 1), l6, l7, l8, l9, l10, l11, l12] [] := by
    intro M1 t B1 kc ks mc lf a1 a2 a3 a4 hF hkc hks hD l6 l7 l8 l9 l10 l11 l12
    first
      | refine x_aload_n hC dJ4_putVal_259 rfl rfl ?_
      | refine x_aload_nN hC dJ4_putVal_259 rfl rfl ?_
      | refine x_aload_nV hC dJ4_putVal_259 rfl rfl ?_
    refine x_dup hC dJ4_putVal_260 rfl ?_
    refine x_get hC 5 a1 rfl (by decide) q182 rfl rfl dJ4_putVal_261 ?_
    refine x_iconst (v := 1) hC dJ4_putVal_264 (by decide) ?_
    refine x_iadd hC dJ4_putVal_265 ?_
    refine x_put hC 5 a1 hg rfl (by decide) q182 rfl rfl rfl rfl rfl (show 5 < 8 by decide) (fs' := [.null, .null, .ref t, .null, .int (nI n), .int (mc + 1), .int 12, .float lf]) rfl dJ4_putVal_266 ?_
    first
      | refine x_aload_n hC dJ4_putVal_269 rfl rfl ?_
      | refine x_aload_nN hC dJ4_putVal_269 rfl rfl ?_
      | refine x_aload_nV hC dJ4_putVal_269 rfl rfl ?_
    refine x_dup hC dJ4_putVal_270 rfl ?_
    refine x_get hC 4 mu_s rfl (by decide) q181 rfl rfl dJ4_putVal_271 ?_
    refine x_iconst (v := nI 1) hC dJ4_putVal_274 (by decide) ?_
    refine x_iaddN hC dJ4_putVal_275 ?_
    refine x_dup_x1 hC dJ4_putVal_276 rfl rfl ?_
    refine x_put hC 4 mu_s hg rfl (by decide) q181 rfl rfl rfl rfl rfl (show 4 < 8 by decide) (fs' := [.null, .null, .ref t, .null, .int (nI (n + 1)), .int (mc + 1), .int 12, .float lf]) rfl dJ4_putVal_277 ?_
    rw [mu_mu]
    first
      | refine x_aload_n hC dJ4_putVal_280 rfl rfl ?_
      | refine x_aload_nN hC dJ4_putVal_280 rfl rfl ?_
      | refine x_aload_nV hC dJ4_putVal_280 rfl rfl ?_
    refine x_get hC 6 mu_s rfl (by decide) q183 rfl rfl dJ4_putVal_281 ?_
    refine x_icmp_leN (a := n + 1) (b := 12) (tgt := 292) hC (by omega) (by omega) dJ4_putVal_284 (by decide) (fun _ => ?_) (fun c => absurd c (by omega))
    first
      | refine x_aload_n hC dJ4_putVal_292 rfl rfl ?_
      | refine x_aload_nN hC dJ4_putVal_292 rfl rfl ?_
      | refine x_aload_nV hC dJ4_putVal_292 rfl rfl ?_
    refine x_iload hC dJ4_putVal_293 rfl ?_
    refine x_callV0 (na := 1) hC (ct_hmAI hG _ _ _) (lw_V q1294 q1295 q1296 q87 q1297) mu_s rfl rfl (by decide +kernel) rfl ⟨Nat.le_of_ble_eq_true rfl, Nat.le_of_ble_eq_true rfl⟩ rfl (Nat.le_of_ble_eq_true rfl) ⟨rfl, rfl⟩ ⟨hkc, hks⟩ dJ4_putVal_295 ?_
    rintro _ M ⟨rfl, rfl⟩
    refine x_null hC dJ4_putVal_298 ?_
    refine x_aret hC hk dJ4_putVal_299 (Or.inl ⟨_, rfl⟩) (Or.inl rfl) hkc hks ⟨by rw [hD]; rfl, ⟨mc + 1, lf, Or.inr ⟨t, B1, by rw [if_pos hD]; exact mu_s, a2.w1 a1 hg, a3, by rw [if_pos hD]; exact a4⟩⟩, hF.tr (Fr.set (P := fun g' => g' = g) a1 rfl)⟩
  have main : ∀ M1 t B f kc ks mc lf, M1 m = some (ob g 8 [.null, .null, .ref t, .null, .int (nI n), .int mc, .int 12, .float lf]) → M1 t = some (oa g 3 16 f) → (∀ i, i < 16 → Nd M1 g (f i) (B i) ∧ (∀ n ∈ B i, hI n.2.1 = i) ∧ hPw (B i)) → (∀ w', D w' = hFind (B (hI w')) w') → hS B 16 = n → NM M1 k w → Fr (fun g' => g' = g) M M1 → kc ≤ 1 → ks ≤ 16 → Wg G C M1 kc ks 29 [some (.ref m), some (.int (spr (nmH w))), some (.ref k), some (.ref v), some (.int 0), some (.int 1), some (.ref t), none, some (.int (nI 16)), none, none, none, none] [] := by
    intro M1 t B f kc ks mc lf a1 a2 a3 a4 a5 hk0 hF hkc hks
    obtain ⟨vsk, hkr⟩ := hk0.rec
    obtain ⟨c1, c2, c3⟩ := a3 (hI w) hI0.1
    have hD := a4 w
    have hlen : (B (hI w)).length ≤ n := by rw [← a5]; exact hS_ge hI0.1
    have hmt : m ≠ t := mx_ne a1 a2 (fun z => by cases z)
    -- the value of a node is written
    have found : ∀ pre x r, B (hI w) = pre ++ x :: r → (∀ nd ∈ pre, ¬ nd.2.1 = w) → x.2.1 = w → ∀ l6 l7 l8 l9 l12, Wg G C M1 kc ks 222 [some (.ref m), some (.int (spr (nmH w))), some (.ref k), some (.ref v), some (.int 0), some (.int 1), l6, l7, l8, l9, some (.ref x.1), none, l12] [] := by
      intro pre x r hl hpre hx l6 l7 l8 l9 l12
      rw [hl] at c1 c2 c3 hD
      obtain ⟨nx, e1, e2⟩ := c1.mem x (List.mem_append_right _ List.mem_cons_self)
      obtain ⟨p1, p2⟩ := c1.apart c3
      rw [hFind_at hpre hx] at hD
      have hDn : ¬ D w = none := by rw [hD]; intro z; cases z
      first
        | refine x_aload hC dJ4_putVal_222 rfl ?_
        | refine x_aloadN hC dJ4_putVal_222 rfl ?_
        | refine x_aloadV hC dJ4_putVal_222 rfl ?_
      refine x_ifnull hC dJ4_putVal_224 ?_
      first
        | refine x_aload hC dJ4_putVal_227 rfl ?_
        | refine x_aloadN hC dJ4_putVal_227 rfl ?_
        | refine x_aloadV hC dJ4_putVal_227 rfl ?_
      refine x_get hC 2 e1 rfl (by decide) q1202 rfl rfl dJ4_putVal_229 ?_
      first
        | refine x_astore (lv' := [_, _, _, _, _, _, _, _, _, _, _, _, _]) hC dJ4_putVal_232 (by decide) rfl ?_
        | refine x_astoreN (lv' := [_, _, _, _, _, _, _, _, _, _, _, _, _]) hC dJ4_putVal_232 (by decide) rfl ?_
        | refine x_astoreV (lv' := [_, _, _, _, _, _, _, _, _, _, _, _, _]) hC dJ4_putVal_232 (by decide) rfl ?_
      refine x_iload hC dJ4_putVal_234 rfl ?_
      refine x_if_eq (tgt := 244) hC dJ4_putVal_236 (by decide) (fun d0 => ?_) (fun d0 => ?_)
      · first
          | refine x_aload hC dJ4_putVal_244 rfl ?_
          | refine x_aloadN hC dJ4_putVal_244 rfl ?_
          | refine x_aloadV hC dJ4_putVal_244 rfl ?_
        first
          | refine x_aload_n hC dJ4_putVal_246 rfl rfl ?_
          | refine x_aload_nN hC dJ4_putVal_246 rfl rfl ?_
          | refine x_aload_nV hC dJ4_putVal_246 rfl rfl ?_
        refine x_put hC 2 e1 hg rfl (by decide) q1202 rfl rfl rfl rfl rfl (show 2 < 4 by decide) (fs' := [.int (spr (nmH x.2.1)), .ref x.2.2.1, .ref v, va_rf nx]) rfl dJ4_putVal_247 ?_
        have hmx : m ≠ x.1 := mx_ne a1 e1 (fun z => by cases z)
        have htx : t ≠ x.1 := mx_ne a2 e1 (fun z => by cases z)
        first
          | refine x_aload_n hC dJ4_putVal_250 rfl rfl ?_
          | refine x_aload_nN hC dJ4_putVal_250 rfl rfl ?_
          | refine x_aload_nV hC dJ4_putVal_250 rfl rfl ?_
        first
          | refine x_aload hC dJ4_putVal_251 rfl ?_
          | refine x_aloadN hC dJ4_putVal_251 rfl ?_
          | refine x_aloadV hC dJ4_putVal_251 rfl ?_
        refine x_callV0 (na := 1) hC (ct_hmAA hG _ _ _) (lw_V q1290 q1291 q1292 q87 q1293) (mu_o hmx a1) rfl rfl (by decide +kernel) rfl ⟨Nat.le_of_ble_eq_true rfl, Nat.le_of_ble_eq_true rfl⟩ rfl (Nat.le_of_ble_eq_true rfl) ⟨rfl, rfl⟩ ⟨(show kc ≤ 2 by omega), (show ks ≤ 20 by omega)⟩ dJ4_putVal_253 ?_
        rintro _ M ⟨rfl, rfl⟩
        first
          | refine x_aload hC dJ4_putVal_256 rfl ?_
          | refine x_aloadN hC dJ4_putVal_256 rfl ?_
          | refine x_aloadV hC dJ4_putVal_256 rfl ?_
        refine x_aret hC hk dJ4_putVal_258 (Or.inl ⟨_, rfl⟩) (Or.inr ⟨_, rfl⟩) (show kc ≤ 2 by omega) (show ks ≤ 20 by omega) ⟨by rw [hD]; rfl, ⟨mc, lf, Or.inr ⟨t, va_up B (hI w) (pre ++ (x.1, x.2.1, x.2.2.1, v) :: r), by rw [if_neg hDn]; exact mu_o hmx a1, ?_, fun w' => ?_, ?_⟩⟩, hF.tr (Fr.set (P := fun g' => g' = g) e1 rfl)⟩
        · refine HB.upd (f := f) (f' := f) (mu_o htx a2) (fun _ _ => rfl) (fun j hj hji => ?_) (Nd.val (v := v) hg e1 p2 pre _ c1 p1) (fun nd hm => ?_) ?_ (fun j hj => (a3 j hj).2)
          · refine (a3 j hj).1.w1 e1 hg (fun nd hm => ?_)
            obtain ⟨nx', e1', e2'⟩ := (a3 j hj).1.mem nd hm
            refine nd_other e1' e2' e1 e2 ?_
            rw [(a3 j hj).2.1 nd hm, hx]
            exact hji
          · rcases List.mem_append.mp hm with hm | hm
            · exact c2 nd (List.mem_append_left _ hm)
            · rcases List.mem_cons.mp hm with hm | hm
              · subst hm; exact c2 x (List.mem_append_right _ List.mem_cons_self)
              · exact c2 nd (List.mem_append_right _ (List.mem_cons_of_mem _ hm))
          · obtain ⟨q1, q2, q3⟩ := List.pairwise_append.mp c3
            obtain ⟨q4, q5⟩ := List.pairwise_cons.mp q2
            refine List.pairwise_append.mpr ⟨q1, List.pairwise_cons.mpr ⟨q4, q5⟩, fun a ha b hb => ?_⟩
            rcases List.mem_cons.mp hb with hb | hb
            · subst hb; exact q3 a ha x List.mem_cons_self
            · exact q3 a ha b (List.mem_cons_of_mem _ hb)
        · unfold hUpd
          by_cases ew : w' = w
          · subst ew
            rw [if_pos rfl, va_up_self, hFind_at (x := (x.1, x.2.1, x.2.2.1, v)) hpre hx]
          · rw [if_neg ew]
            by_cases ei : hI w' = hI w
            · rw [ei, va_up_self, hFind_drop (by rw [hx]; exact Ne.symm ew), a4 w', ei, hl, hFind_drop (by rw [hx]; exact Ne.symm ew)]
            · rw [va_up_ne _ _ ei]
              exact a4 w'
        · have := hS_up (B := B) (l' := pre ++ (x.1, x.2.1, x.2.2.1, v) :: r) hI0.1
          rw [hl, List.length_append, List.length_append, List.length_cons, List.length_cons] at this
          rw [if_neg hDn]
          omega
      · exact absurd rfl d0
    -- a new node, behind the chain
    have loop : ∀ r x pre, B (hI w) = pre ++ x :: r → (∀ nd ∈ pre, ¬ nd.2.1 = w) → ¬ x.2.1 = w → ∀ l10, Wg G C M1 kc ks 134 [some (.ref m), some (.int (spr (nmH w))), some (.ref k), some (.ref v), some (.int 0), some (.int 1), some (.ref t), some (.ref x.1), some (.int (nI 16)), some (.int (nI (hI w))), l10, none, some (.int (nI pre.length))] [] := by
      intro r
      induction r with
      | nil =>
        intro x pre hl hpre hx l10
        have hl9 : pre.length + 1 ≤ n := by rw [hl, List.length_append] at hlen; exact hlen
        have hall : ∀ nd ∈ B (hI w), ¬ nd.2.1 = w := by
          intro nd hm
          rw [hl] at hm
          rcases List.mem_append.mp hm with hm | hm
          · exact hpre nd hm
          · rw [List.mem_singleton.mp hm]; exact hx
        rw [hFind_none hall] at hD
        have hl0 := hl
        rw [hl] at c1 c2 c3
        obtain ⟨nx, e1, e2⟩ := c1.mem x (List.mem_append_right _ List.mem_cons_self)
        obtain ⟨p1, p2⟩ := c1.apart c3
        have enx : nx = none := by
          have last : ∀ (pre : List HN) (o : Option Nat), Nd M1 g o (pre ++ [x]) → M1 x.1 = some (hC9 g x none) := by
            intro pre
            induction pre with
            | nil => rintro o ⟨-, nx', z1, -, z2⟩; have z2 : nx' = none := z2; subst z2; exact z1
            | cons y pre ih => rintro o ⟨-, nx', -, -, z2⟩; exact ih nx' z2
          have z := e1.symm.trans (last pre _ c1)
          cases nx with
          | none => rfl
          | some b => cases z
        subst enx
        first
          | refine x_aload hC dJ4_putVal_134 rfl ?_
          | refine x_aloadN hC dJ4_putVal_134 rfl ?_
          | refine x_aloadV hC dJ4_putVal_134 rfl ?_
        refine x_get hC 3 e1 rfl (by decide) q1207 rfl rfl dJ4_putVal_136 ?_
        refine x_dup hC dJ4_putVal_139 rfl ?_
        first
          | refine x_astore (lv' := [_, _, _, _, _, _, _, _, _, _, _, _, _]) hC dJ4_putVal_140 (by decide) rfl ?_
          | refine x_astoreN (lv' := [_, _, _, _, _, _, _, _, _, _, _, _, _]) hC dJ4_putVal_140 (by decide) rfl ?_
          | refine x_astoreV (lv' := [_, _, _, _, _, _, _, _, _, _, _, _, _]) hC dJ4_putVal_140 (by decide) rfl ?_
        refine x_ifnonnullN hC dJ4_putVal_142 ?_
        first
          | refine x_aload hC dJ4_putVal_145 rfl ?_
          | refine x_aloadN hC dJ4_putVal_145 rfl ?_
          | refine x_aloadV hC dJ4_putVal_145 rfl ?_
        first
          | refine x_aload_n hC dJ4_putVal_147 rfl rfl ?_
          | refine x_aload_nN hC dJ4_putVal_147 rfl rfl ?_
          | refine x_aload_nV hC dJ4_putVal_147 rfl rfl ?_
        refine x_iload_n hC dJ4_putVal_148 rfl rfl ?_
        first
          | refine x_aload_n hC dJ4_putVal_149 rfl rfl ?_
          | refine x_aload_nN hC dJ4_putVal_149 rfl rfl ?_
          | refine x_aload_nV hC dJ4_putVal_149 rfl rfl ?_
        first
          | refine x_aload_n hC dJ4_putVal_150 rfl rfl ?_
          | refine x_aload_nN hC dJ4_putVal_150 rfl rfl ?_
          | refine x_aload_nV hC dJ4_putVal_150 rfl rfl ?_
        refine x_null hC dJ4_putVal_151 ?_
        refine x_callV (k := kc + 1) (n := ks + 4) (na := 4) hC (ct_hmNew hG hg) (lw_V q1236 q1237 q1238 q87 q1239) a1 rfl rfl (by decide +kernel) rfl ⟨Nat.le_of_ble_eq_true rfl, Nat.le_of_ble_eq_true rfl⟩ rfl (Nat.le_of_ble_eq_true rfl) (Nat.le_refl _) (Nat.le_refl _) ⟨(show kc + 1 ≤ 2 by omega), (show ks + 4 ≤ 20 by omega)⟩ dJ4_putVal_152 ?_
        rintro _ M2 ⟨a, rfl, ha, rfl⟩
        have hax : a ≠ x.1 := fun z => by rw [z, e1] at ha; cases ha
        have e1' := mu_f (e := ob g 9 [.int (spr (nmH w)), .ref k, .ref v, .null]) ha e1
        refine x_put hC 3 e1' hg rfl (by decide) q1207 rfl rfl rfl rfl rfl (show 3 < 4 by decide) (fs' := [.int (spr (nmH x.2.1)), .ref x.2.2.1, .ref x.2.2.2, .ref a]) rfl dJ4_putVal_155 ?_
        refine x_iload hC dJ4_putVal_158 rfl ?_
        refine x_bipush (v := 7) hC dJ4_putVal_160 (by decide) ?_
        refine x_icmp_ltN (a := pre.length) (b := 7) (tgt := 222) hC (by omega) (by omega) dJ4_putVal_162 (by decide) (fun _ => ?_) (fun c => absurd c (by omega))
        first
          | refine x_aload hC dJ4_putVal_222 rfl ?_
          | refine x_aloadN hC dJ4_putVal_222 rfl ?_
          | refine x_aloadV hC dJ4_putVal_222 rfl ?_
        refine x_ifnullN (tgt := 259) hC dJ4_putVal_224 (by decide) ?_
        have hmx : m ≠ x.1 := mx_ne a1 e1 (fun z => by cases z)
        have htx : t ≠ x.1 := mx_ne a2 e1 (fun z => by cases z)
        refine fin _ t (va_up B (hI w) (pre ++ [x] ++ [(a, w, k, v)])) _ _ mc lf (mu_o hmx (mu_f ha a1)) ?_ (fun w' => ?_) ?_ (hF.tr ((Fr.new (P := fun g' => g' = g) ha).tr (Fr.set e1' rfl))) (by omega) (by omega) hD _ _ _ _ _ _ _
        · refine HB.upd (f := f) (f' := f) (mu_o htx (mu_f ha a2)) (fun _ _ => rfl) (fun j hj hji => ?_) ?_ (fun nd hm => ?_) ?_ (fun j hj => (a3 j hj).2)
          · refine ((a3 j hj).1.w0 ha).w1 e1' hg (fun nd hm => ?_)
            obtain ⟨nx', f1', f2'⟩ := (a3 j hj).1.mem nd hm
            refine nd_other f1' f2' e1 e2 ?_
            rw [(a3 j hj).2.1 nd hm, c2 x (List.mem_append_right _ List.mem_cons_self)]
            exact hji
          · rw [List.append_assoc]
            refine Nd.splice (r := []) (o' := some a) hg ?_ pre _ (c1.w0 ha) p1
            exact ⟨rfl, none, mu_o hax mu_s, (hk0.w0 ha).w1 e1' hg, rfl⟩
          · rcases List.mem_append.mp hm with hm | hm
            · exact c2 nd hm
            · rw [List.mem_singleton.mp hm]
          · refine List.pairwise_append.mpr ⟨c3, List.pairwise_singleton _ _, fun b hb b' hb' => ?_⟩
            rw [List.mem_singleton.mp hb']
            exact hall b (by rw [hl0]; exact hb)
        · unfold hUpd
          by_cases ew : w' = w
          · subst ew
            rw [if_pos rfl, va_up_self, hFind_at (fun nd hm => hall nd (by rw [hl0]; exact hm)) rfl]
          · rw [if_neg ew]
            by_cases ei : hI w' = hI w
            · rw [ei, va_up_self, hFind_drop (r := []) (x := (a, w, k, v)) (Ne.symm ew), List.append_nil, a4 w', ei, hl0]
            · rw [va_up_ne _ _ ei]
              exact a4 w'
        · have := hS_up (B := B) (l' := pre ++ [x] ++ [(a, w, k, v)]) hI0.1
          simp only [hl0, List.length_append, List.length_cons, List.length_nil] at this
          omega
      | cons y r ih =>
        intro x pre hl hpre hx l10
        have hl2 : B (hI w) = (pre ++ [x]) ++ y :: r := by rw [hl, List.append_assoc]; rfl
        have hpre2 : ∀ nd ∈ pre ++ [x], ¬ nd.2.1 = w := by
          intro nd hm
          rcases List.mem_append.mp hm with hm | hm
          · exact hpre nd hm
          · rw [List.mem_singleton.mp hm]; exact hx
        have hx9 : M1 x.1 = some (hC9 g x (some y.1)) ∧ ∃ nx, M1 y.1 = some (hC9 g y nx) ∧ NM M1 y.2.2.1 y.2.1 := by
          have mid : ∀ (pre : List HN) (o : Option Nat), Nd M1 g o (pre ++ x :: y :: r) → M1 x.1 = some (hC9 g x (some y.1)) := by
            intro pre
            induction pre with
            | nil => rintro o ⟨-, nx', z1, -, z2, -⟩; subst z2; exact z1
            | cons y pre ih => rintro o ⟨-, nx', -, -, z2⟩; exact ih nx' z2
          rw [hl] at c1
          exact ⟨mid pre _ c1, c1.mem y (List.mem_append_right _ (List.mem_cons_of_mem _ List.mem_cons_self))⟩
        obtain ⟨e1, nx, e3, e4⟩ := hx9
        first
          | refine x_aload hC dJ4_putVal_134 rfl ?_
          | refine x_aloadN hC dJ4_putVal_134 rfl ?_
          | refine x_aloadV hC dJ4_putVal_134 rfl ?_
        refine x_get hC 3 e1 rfl (by decide) q1207 rfl rfl dJ4_putVal_136 ?_
        refine x_dup hC dJ4_putVal_139 rfl ?_
        first
          | refine x_astore (lv' := [_, _, _, _, _, _, _, _, _, _, _, _, _]) hC dJ4_putVal_140 (by decide) rfl ?_
          | refine x_astoreN (lv' := [_, _, _, _, _, _, _, _, _, _, _, _, _]) hC dJ4_putVal_140 (by decide) rfl ?_
          | refine x_astoreV (lv' := [_, _, _, _, _, _, _, _, _, _, _, _, _]) hC dJ4_putVal_140 (by decide) rfl ?_
        refine x_ifnonnull (tgt := 175) hC dJ4_putVal_142 (by decide) ?_
        have next : ¬ y.2.1 = w → Wg G C M1 kc ks 212 [some (.ref m), some (.int (spr (nmH w))), some (.ref k), some (.ref v), some (.int 0), some (.int 1), some (.ref t), some (.ref x.1), some (.int (nI 16)), some (.int (nI (hI w))), some (.ref y.1), none, some (.int (nI pre.length))] [] := by
          intro hne
          first
            | refine x_aload hC dJ4_putVal_212 rfl ?_
            | refine x_aloadN hC dJ4_putVal_212 rfl ?_
            | refine x_aloadV hC dJ4_putVal_212 rfl ?_
          first
            | refine x_astore (lv' := [_, _, _, _, _, _, _, _, _, _, _, _, _]) hC dJ4_putVal_214 (by decide) rfl ?_
            | refine x_astoreN (lv' := [_, _, _, _, _, _, _, _, _, _, _, _, _]) hC dJ4_putVal_214 (by decide) rfl ?_
            | refine x_astoreV (lv' := [_, _, _, _, _, _, _, _, _, _, _, _, _]) hC dJ4_putVal_214 (by decide) rfl ?_
          refine x_iincN (lv' := [_, _, _, _, _, _, _, _, _, _, _, _, _]) (b := 1) hC dJ4_putVal_216 rfl (by decide) (by decide) rfl ?_
          refine x_goto (tgt := 134) hC dJ4_putVal_219 (by decide) ?_
          have := ih y (pre ++ [x]) hl2 hpre2 hne (some (.ref y.1))
          rw [List.length_append] at this
          exact this
        first
          | refine x_aload hC dJ4_putVal_175 rfl ?_
          | refine x_aloadN hC dJ4_putVal_175 rfl ?_
          | refine x_aloadV hC dJ4_putVal_175 rfl ?_
        refine x_get hC 0 e3 rfl (by decide) q1196 rfl rfl dJ4_putVal_177 ?_
        refine x_iload_n hC dJ4_putVal_180 rfl rfl ?_
        refine x_icmp_ne (tgt := 212) hC dJ4_putVal_181 (by decide) (fun d1 => ?_) (fun d1 => ?_)
        · exact next (fun he => d1 (by rw [he]))
        · first
            | refine x_aload hC dJ4_putVal_184 rfl ?_
            | refine x_aloadN hC dJ4_putVal_184 rfl ?_
            | refine x_aloadV hC dJ4_putVal_184 rfl ?_
          refine x_get hC 1 e3 rfl (by decide) q1200 rfl rfl dJ4_putVal_186 ?_
          refine x_dup hC dJ4_putVal_189 rfl ?_
          first
            | refine x_astore (lv' := [_, _, _, _, _, _, _, _, _, _, _, _, _]) hC dJ4_putVal_190 (by decide) rfl ?_
            | refine x_astoreN (lv' := [_, _, _, _, _, _, _, _, _, _, _, _, _]) hC dJ4_putVal_190 (by decide) rfl ?_
            | refine x_astoreV (lv' := [_, _, _, _, _, _, _, _, _, _, _, _, _]) hC dJ4_putVal_190 (by decide) rfl ?_
          first
            | refine x_aload_n hC dJ4_putVal_192 rfl rfl ?_
            | refine x_aload_nN hC dJ4_putVal_192 rfl rfl ?_
            | refine x_aload_nV hC dJ4_putVal_192 rfl rfl ?_
          refine x_acmp_eqR (tgt := 222) hC dJ4_putVal_193 (by decide) (fun d2 => ?_) (fun d2 => ?_)
          · refine x_forget 11 ?_
            exact found _ y r hl2 hpre2 (e4.uni (by rw [d2]; exact hk0)) _ _ _ _ _
          · first
              | refine x_aload_n hC dJ4_putVal_196 rfl rfl ?_
              | refine x_aload_nN hC dJ4_putVal_196 rfl rfl ?_
              | refine x_aload_nV hC dJ4_putVal_196 rfl rfl ?_
            refine x_ifnull hC dJ4_putVal_197 ?_
            first
              | refine x_aload_n hC dJ4_putVal_200 rfl rfl ?_
              | refine x_aload_nN hC dJ4_putVal_200 rfl rfl ?_
              | refine x_aload_nV hC dJ4_putVal_200 rfl rfl ?_
            first
              | refine x_aload hC dJ4_putVal_201 rfl ?_
              | refine x_aloadN hC dJ4_putVal_201 rfl ?_
              | refine x_aloadV hC dJ4_putVal_201 rfl ?_
            refine x_callA0 (owner := "java/lang/Object") (na := 1) hC (ct_nmEq hG hk0 e4) q745 q747 q750 q751 q111 q752 q744 hkr rfl (by decide +kernel) rfl ⟨Nat.le_of_ble_eq_true rfl, Nat.le_of_ble_eq_true rfl⟩ rfl (Nat.le_of_ble_eq_true rfl) ⟨rfl, rfl⟩ ⟨(show kc ≤ 2 by omega), (show ks ≤ 20 by omega)⟩ dJ4_putVal_203 ?_
            rintro _ M ⟨rfl, rfl⟩
            refine x_if_eqB (tgt := 212) hC dJ4_putVal_206 (by decide) (fun d3 => ?_) (fun d3 => ?_)
            · refine x_forget 11 ?_
              exact next (fun he => d3 he.symm)
            · refine x_goto (tgt := 222) hC dJ4_putVal_209 (by decide) ?_
              refine x_forget 11 ?_
              exact found _ y r hl2 hpre2 d3.symm _ _ _ _ _
    first
      | refine x_aload hC dJ4_putVal_29 rfl ?_
      | refine x_aloadN hC dJ4_putVal_29 rfl ?_
      | refine x_aloadV hC dJ4_putVal_29 rfl ?_
    refine x_iload hC dJ4_putVal_31 rfl ?_
    refine x_iconst (v := nI 1) hC dJ4_putVal_33 (by decide) ?_
    refine x_isubN hC dJ4_putVal_34 (by decide) ?_
    refine x_iload_n hC dJ4_putVal_35 rfl rfl ?_
    refine x_iand hC dJ4_putVal_36 ?_
    rw [show nI (16 - 1) &&& spr (nmH w) = nI (hI w) from hI0.2]
    refine x_dup hC dJ4_putVal_37 rfl ?_
    refine x_istore (lv' := [_, _, _, _, _, _, _, _, _, _, _, _, _]) hC dJ4_putVal_38 (by decide) rfl ?_
    refine x_aaldN hC a2 rfl hI0.1 (by first | decide | omega) dJ4_putVal_40 ?_
    cases hl : B (hI w) with
    | nil =>
      rw [hl] at c1 hD
      have e5 : f (hI w) = none := c1
      rw [e5]
      refine x_dup hC dJ4_putVal_41 rfl ?_
      first
        | refine x_astore (lv' := [_, _, _, _, _, _, _, _, _, _, _, _, _]) hC dJ4_putVal_42 (by decide) rfl ?_
        | refine x_astoreN (lv' := [_, _, _, _, _, _, _, _, _, _, _, _, _]) hC dJ4_putVal_42 (by decide) rfl ?_
        | refine x_astoreV (lv' := [_, _, _, _, _, _, _, _, _, _, _, _, _]) hC dJ4_putVal_42 (by decide) rfl ?_
      refine x_ifnonnullN hC dJ4_putVal_44 ?_
      first
        | refine x_aload hC dJ4_putVal_47 rfl ?_
        | refine x_aloadN hC dJ4_putVal_47 rfl ?_
        | refine x_aloadV hC dJ4_putVal_47 rfl ?_
      refine x_iload hC dJ4_putVal_49 rfl ?_
      first
        | refine x_aload_n hC dJ4_putVal_51 rfl rfl ?_
        | refine x_aload_nN hC dJ4_putVal_51 rfl rfl ?_
        | refine x_aload_nV hC dJ4_putVal_51 rfl rfl ?_
      refine x_iload_n hC dJ4_putVal_52 rfl rfl ?_
      first
        | refine x_aload_n hC dJ4_putVal_53 rfl rfl ?_
        | refine x_aload_nN hC dJ4_putVal_53 rfl rfl ?_
        | refine x_aload_nV hC dJ4_putVal_53 rfl rfl ?_
      first
        | refine x_aload_n hC dJ4_putVal_54 rfl rfl ?_
        | refine x_aload_nN hC dJ4_putVal_54 rfl rfl ?_
        | refine x_aload_nV hC dJ4_putVal_54 rfl rfl ?_
      refine x_null hC dJ4_putVal_55 ?_
      refine x_callV (k := kc + 1) (n := ks + 4) (na := 4) hC (ct_hmNew hG hg) (lw_V q1236 q1237 q1238 q87 q1239) a1 rfl rfl (by decide +kernel) rfl ⟨Nat.le_of_ble_eq_true rfl, Nat.le_of_ble_eq_true rfl⟩ rfl (Nat.le_of_ble_eq_true rfl) (Nat.le_refl _) (Nat.le_refl _) ⟨(show kc + 1 ≤ 2 by omega), (show ks + 4 ≤ 20 by omega)⟩ dJ4_putVal_56 ?_
      rintro _ M2 ⟨a, rfl, ha, rfl⟩
      refine x_aastSI hC (mu_f ha a2) (by first | decide | assumption) rfl mu_s rfl rfl hI0.1 (by first | decide | omega) dJ4_putVal_59 ?_
      refine x_goto (tgt := 259) hC dJ4_putVal_60 (by decide) ?_
      have a2' := mu_f (e := ob g 9 [.int (spr (nmH w)), .ref k, .ref v, .null]) ha a2
      have hat : a ≠ t := fun z => by rw [z, a2] at ha; cases ha
      refine fin _ t (va_up B (hI w) [(a, w, k, v)]) _ _ mc lf (mu_o hmt (mu_f ha a1)) ?_ (fun w' => ?_) ?_ (hF.tr ((Fr.new (P := fun g' => g' = g) ha).tr (Fr.set a2' rfl))) (by omega) (by omega) hD _ _ _ _ _ _ _
      · refine HB.upd (f := f) (f' := va_up f (hI w) (some a)) mu_s (fun j hj => va_up_ne _ _ hj) (fun j hj hji => ?_) ?_ (fun nd hm => ?_) (List.pairwise_singleton _ _) (fun j hj => (a3 j hj).2)
        · refine ((a3 j hj).1.w0 ha).w1 a2' hg (fun nd hm => ?_)
          obtain ⟨nx', f1', f2'⟩ := (a3 j hj).1.mem nd hm
          exact mx_ne f1' a2 (fun z => by cases z)
        · rw [va_up_self]
          exact ⟨rfl, none, mu_o hat mu_s, (hk0.w0 ha).w1 a2' hg, rfl⟩
        · rw [List.mem_singleton.mp hm]
      · unfold hUpd
        by_cases ew : w' = w
        · subst ew
          rw [if_pos rfl, va_up_self, hFind_hit rfl]
        · rw [if_neg ew]
          by_cases ei : hI w' = hI w
          · rw [ei, va_up_self, hFind_miss (Ne.symm ew), a4 w', ei, hl]
          · rw [va_up_ne _ _ ei]
            exact a4 w'
      · have := hS_up (B := B) (l' := [(a, w, k, v)]) hI0.1
        rw [hl] at this
        have h1 : [((a, w, k, v) : HN)].length = 1 := rfl
        have h2 : ([] : List HN).length = 0 := rfl
        omega
    | cons x r =>
      have hl1 : B (hI w) = [] ++ x :: r := hl
      rw [hl] at c1
      obtain ⟨e5, nx, e6, e7, e8⟩ := c1
      rw [e5]
      refine x_dup hC dJ4_putVal_41 rfl ?_
      first
        | refine x_astore (lv' := [_, _, _, _, _, _, _, _, _, _, _, _, _]) hC dJ4_putVal_42 (by decide) rfl ?_
        | refine x_astoreN (lv' := [_, _, _, _, _, _, _, _, _, _, _, _, _]) hC dJ4_putVal_42 (by decide) rfl ?_
        | refine x_astoreV (lv' := [_, _, _, _, _, _, _, _, _, _, _, _, _]) hC dJ4_putVal_42 (by decide) rfl ?_
      refine x_ifnonnull (tgt := 63) hC dJ4_putVal_44 (by decide) ?_
      have next : ¬ x.2.1 = w → Wg G C M1 kc ks 104 [some (.ref m), some (.int (spr (nmH w))), some (.ref k), some (.ref v), some (.int 0), some (.int 1), some (.ref t), some (.ref x.1), some (.int (nI 16)), some (.int (nI (hI w))), none, none, none] [] := by
        intro hne
        first
          | refine x_aload hC dJ4_putVal_104 rfl ?_
          | refine x_aloadN hC dJ4_putVal_104 rfl ?_
          | refine x_aloadV hC dJ4_putVal_104 rfl ?_
        refine x_noTree hC e6 q778 dJ4_putVal_106 ?_
        refine x_if_eq (tgt := 131) hC dJ4_putVal_109 (by decide) (fun d4 => ?_) (fun d4 => ?_)
        · refine x_iconst (v := nI 0) hC dJ4_putVal_131 (by decide) ?_
          refine x_istore (lv' := [_, _, _, _, _, _, _, _, _, _, _, _, _]) hC dJ4_putVal_132 (by decide) rfl ?_
          exact loop r x [] hl1 (fun nd hm => by cases hm) hne _
        · exact absurd rfl d4
      first
        | refine x_aload hC dJ4_putVal_63 rfl ?_
        | refine x_aloadN hC dJ4_putVal_63 rfl ?_
        | refine x_aloadV hC dJ4_putVal_63 rfl ?_
      refine x_get hC 0 e6 rfl (by decide) q1196 rfl rfl dJ4_putVal_65 ?_
      refine x_iload_n hC dJ4_putVal_68 rfl rfl ?_
      refine x_icmp_ne (tgt := 104) hC dJ4_putVal_69 (by decide) (fun d1 => ?_) (fun d1 => ?_)
      · exact next (fun he => d1 (by rw [he]))
      · first
          | refine x_aload hC dJ4_putVal_72 rfl ?_
          | refine x_aloadN hC dJ4_putVal_72 rfl ?_
          | refine x_aloadV hC dJ4_putVal_72 rfl ?_
        refine x_get hC 1 e6 rfl (by decide) q1200 rfl rfl dJ4_putVal_74 ?_
        refine x_dup hC dJ4_putVal_77 rfl ?_
        first
          | refine x_astore (lv' := [_, _, _, _, _, _, _, _, _, _, _, _, _]) hC dJ4_putVal_78 (by decide) rfl ?_
          | refine x_astoreN (lv' := [_, _, _, _, _, _, _, _, _, _, _, _, _]) hC dJ4_putVal_78 (by decide) rfl ?_
          | refine x_astoreV (lv' := [_, _, _, _, _, _, _, _, _, _, _, _, _]) hC dJ4_putVal_78 (by decide) rfl ?_
        first
          | refine x_aload_n hC dJ4_putVal_80 rfl rfl ?_
          | refine x_aload_nN hC dJ4_putVal_80 rfl rfl ?_
          | refine x_aload_nV hC dJ4_putVal_80 rfl rfl ?_
        refine x_acmp_eqR (tgt := 97) hC dJ4_putVal_81 (by decide) (fun d2 => ?_) (fun d2 => ?_)
        · first
            | refine x_aload hC dJ4_putVal_97 rfl ?_
            | refine x_aloadN hC dJ4_putVal_97 rfl ?_
            | refine x_aloadV hC dJ4_putVal_97 rfl ?_
          first
            | refine x_astore (lv' := [_, _, _, _, _, _, _, _, _, _, _, _, _]) hC dJ4_putVal_99 (by decide) rfl ?_
            | refine x_astoreN (lv' := [_, _, _, _, _, _, _, _, _, _, _, _, _]) hC dJ4_putVal_99 (by decide) rfl ?_
            | refine x_astoreV (lv' := [_, _, _, _, _, _, _, _, _, _, _, _, _]) hC dJ4_putVal_99 (by decide) rfl ?_
          refine x_goto (tgt := 222) hC dJ4_putVal_101 (by decide) ?_
          refine x_forget 11 ?_
          exact found [] x r hl1 (fun nd hm => by cases hm) (e7.uni (by rw [d2]; exact hk0)) _ _ _ _ _
        · first
            | refine x_aload_n hC dJ4_putVal_84 rfl rfl ?_
            | refine x_aload_nN hC dJ4_putVal_84 rfl rfl ?_
            | refine x_aload_nV hC dJ4_putVal_84 rfl rfl ?_
          refine x_ifnull hC dJ4_putVal_85 ?_
          first
            | refine x_aload_n hC dJ4_putVal_88 rfl rfl ?_
            | refine x_aload_nN hC dJ4_putVal_88 rfl rfl ?_
            | refine x_aload_nV hC dJ4_putVal_88 rfl rfl ?_
          first
            | refine x_aload hC dJ4_putVal_89 rfl ?_
            | refine x_aloadN hC dJ4_putVal_89 rfl ?_
            | refine x_aloadV hC dJ4_putVal_89 rfl ?_
          refine x_callA0 (owner := "java/lang/Object") (na := 1) hC (ct_nmEq hG hk0 e7) q745 q747 q750 q751 q111 q752 q744 hkr rfl (by decide +kernel) rfl ⟨Nat.le_of_ble_eq_true rfl, Nat.le_of_ble_eq_true rfl⟩ rfl (Nat.le_of_ble_eq_true rfl) ⟨rfl, rfl⟩ ⟨(show kc ≤ 2 by omega), (show ks ≤ 20 by omega)⟩ dJ4_putVal_91 ?_
          rintro _ M ⟨rfl, rfl⟩
          refine x_if_eqB (tgt := 104) hC dJ4_putVal_94 (by decide) (fun d3 => ?_) (fun d3 => ?_)
          · refine x_forget 11 ?_
            exact next (fun he => d3 he.symm)
          · first
              | refine x_aload hC dJ4_putVal_97 rfl ?_
              | refine x_aloadN hC dJ4_putVal_97 rfl ?_
              | refine x_aloadV hC dJ4_putVal_97 rfl ?_
            first
              | refine x_astore (lv' := [_, _, _, _, _, _, _, _, _, _, _, _, _]) hC dJ4_putVal_99 (by decide) rfl ?_
              | refine x_astoreN (lv' := [_, _, _, _, _, _, _, _, _, _, _, _, _]) hC dJ4_putVal_99 (by decide) rfl ?_
              | refine x_astoreV (lv' := [_, _, _, _, _, _, _, _, _, _, _, _, _]) hC dJ4_putVal_99 (by decide) rfl ?_
            refine x_goto (tgt := 222) hC dJ4_putVal_101 (by decide) ?_
            refine x_forget 11 ?_
            exact found [] x r hl1 (fun nd hm => by cases hm) d3.symm _ _ _ _ _
  obtain ⟨mc, lf, ⟨h1, h2, h5⟩ | ⟨t, B, h1, ⟨f, h2, h3⟩, h4, h5⟩⟩ := h
  · subst h5
    first
      | refine x_aload_n hC dJ4_putVal_0 rfl rfl ?_
      | refine x_aload_nN hC dJ4_putVal_0 rfl rfl ?_
      | refine x_aload_nV hC dJ4_putVal_0 rfl rfl ?_
    refine x_get hC 2 h1 rfl (by decide) q180 rfl rfl dJ4_putVal_1 ?_
    refine x_dup hC dJ4_putVal_4 rfl ?_
    first
      | refine x_astore (lv' := [_, _, _, _, _, _, _, _, _, _, _, _, _]) hC dJ4_putVal_5 (by decide) rfl ?_
      | refine x_astoreN (lv' := [_, _, _, _, _, _, _, _, _, _, _, _, _]) hC dJ4_putVal_5 (by decide) rfl ?_
      | refine x_astoreV (lv' := [_, _, _, _, _, _, _, _, _, _, _, _, _]) hC dJ4_putVal_5 (by decide) rfl ?_
    refine x_ifnullN (tgt := 19) hC dJ4_putVal_7 (by decide) ?_
    first
      | refine x_aload_n hC dJ4_putVal_19 rfl rfl ?_
      | refine x_aload_nN hC dJ4_putVal_19 rfl rfl ?_
      | refine x_aload_nV hC dJ4_putVal_19 rfl rfl ?_
    refine x_callV (k := 1) (n := 16) (na := 0) hC (ct_hmResize hG hg h1) (lw_V q1166 q1167 q1168 q87 q1169) h1 rfl rfl (by decide +kernel) rfl ⟨Nat.le_of_ble_eq_true rfl, Nat.le_of_ble_eq_true rfl⟩ rfl (Nat.le_of_ble_eq_true rfl) (Nat.le_refl _) (Nat.le_refl _) ⟨(show 1 ≤ 2 by decide), (show 16 ≤ 20 by decide)⟩ dJ4_putVal_20 ?_
    rintro _ M1 ⟨t, rfl, ht, rfl⟩
    have hmt : m ≠ t := fun z => by rw [← z, h1] at ht; cases ht
    have ht1 : (mu (mu M t (oa g 3 16 fun _ => none)) m (ob g 8 [.null, .null, .ref t, .null, .int (nI 0), .int mc, .int 12, .float lf])) t = some (oa g 3 16 fun _ => none) := mu_o (Ne.symm hmt) mu_s
    refine x_dup hC dJ4_putVal_23 rfl ?_
    first
      | refine x_astore (lv' := [_, _, _, _, _, _, _, _, _, _, _, _, _]) hC dJ4_putVal_24 (by decide) rfl ?_
      | refine x_astoreN (lv' := [_, _, _, _, _, _, _, _, _, _, _, _, _]) hC dJ4_putVal_24 (by decide) rfl ?_
      | refine x_astoreV (lv' := [_, _, _, _, _, _, _, _, _, _, _, _, _]) hC dJ4_putVal_24 (by decide) rfl ?_
    refine x_alen hC ht1 dJ4_putVal_26 ?_
    dsimp only
    refine x_istore (lv' := [_, _, _, _, _, _, _, _, _, _, _, _, _]) hC dJ4_putVal_27 (by decide) rfl ?_
    exact main _ t (fun _ => []) (fun _ => none) 1 16 mc lf mu_s ht1 (fun i hi => ⟨rfl, (fun nd hm => by cases hm), List.Pairwise.nil⟩) (fun w' => by rw [h2 w']; rfl) rfl ((hkw.w0 ht).w1 (mu_f ht h1) hg) ((Fr.new (P := fun g' => g' = g) ht).tr (Fr.set (mu_f ht h1) rfl)) (Nat.le_refl _) (Nat.le_refl _)
  · first
      | refine x_aload_n hC dJ4_putVal_0 rfl rfl ?_
      | refine x_aload_nN hC dJ4_putVal_0 rfl rfl ?_
      | refine x_aload_nV hC dJ4_putVal_0 rfl rfl ?_
    refine x_get hC 2 h1 rfl (by decide) q180 rfl rfl dJ4_putVal_1 ?_
    refine x_dup hC dJ4_putVal_4 rfl ?_
    first
      | refine x_astore (lv' := [_, _, _, _, _, _, _, _, _, _, _, _, _]) hC dJ4_putVal_5 (by decide) rfl ?_
      | refine x_astoreN (lv' := [_, _, _, _, _, _, _, _, _, _, _, _, _]) hC dJ4_putVal_5 (by decide) rfl ?_
      | refine x_astoreV (lv' := [_, _, _, _, _, _, _, _, _, _, _, _, _]) hC dJ4_putVal_5 (by decide) rfl ?_
    refine x_ifnull hC dJ4_putVal_7 ?_
    first
      | refine x_aload hC dJ4_putVal_10 rfl ?_
      | refine x_aloadN hC dJ4_putVal_10 rfl ?_
      | refine x_aloadV hC dJ4_putVal_10 rfl ?_
    refine x_alen hC h2 dJ4_putVal_12 ?_
    dsimp only
    refine x_dup hC dJ4_putVal_13 rfl ?_
    refine x_istore (lv' := [_, _, _, _, _, _, _, _, _, _, _, _, _]) hC dJ4_putVal_14 (by decide) rfl ?_
    refine x_if_neN (tgt := 29) hC (by omega) dJ4_putVal_16 (by decide) (fun d0 => ?_) (fun d0 => ?_)
    · exact main M t B f 0 0 mc lf h1 h2 h3 h4 h5 hkw Fr.rf (by decide) (by decide)
    · exact absurd d0 (by decide)
theorem ct_hmPut (hG : GOK G) (hg : g ≠ 0) (h : HM M g m D n) (hn : n ≤ 6) (hkw : NM M k w) : Ct G yJ4_put cJ4_put 3 (some (.object "java/lang/Object")) (xrm 9 2 20) [.ref m, .ref k, .ref v] M (PPut M g m n v w D) := by
  have hr : ∃ vs, M m = some (ob g 8 vs) := by
    obtain ⟨mc, lf, ⟨h1, h2⟩ | ⟨t, B, h1, -⟩⟩ := id h
    · exact ⟨_, h1⟩
    · exact ⟨_, h1⟩
  obtain ⟨vs, hm⟩ := hr
  refine ct_open (lv := [_, _, _]) hG (by decide +kernel) (Nat.le_of_ble_eq_true rfl) rfl (fun C hC hk => ?_)
  first
    | refine x_aload_n hC dJ4_put_0 rfl rfl ?_
    | refine x_aload_nN hC dJ4_put_0 rfl rfl ?_
    | refine x_aload_nV hC dJ4_put_0 rfl rfl ?_
  first
    | refine x_aload_n hC dJ4_put_1 rfl rfl ?_
    | refine x_aload_nN hC dJ4_put_1 rfl rfl ?_
    | refine x_aload_nV hC dJ4_put_1 rfl rfl ?_
  refine x_callS0 (na := 1) hC (ct_hmHash hG hkw) (lw_S q656 q657 q87 q658) (by decide +kernel) rfl ⟨Nat.le_of_ble_eq_true rfl, Nat.le_of_ble_eq_true rfl⟩ rfl (Nat.le_of_ble_eq_true rfl) ⟨rfl, rfl⟩ ⟨Nat.le_of_ble_eq_true rfl, Nat.le_of_ble_eq_true rfl⟩ dJ4_put_2 ?_
  rintro _ M ⟨rfl, rfl⟩
  first
    | refine x_aload_n hC dJ4_put_5 rfl rfl ?_
    | refine x_aload_nN hC dJ4_put_5 rfl rfl ?_
    | refine x_aload_nV hC dJ4_put_5 rfl rfl ?_
  first
    | refine x_aload_n hC dJ4_put_6 rfl rfl ?_
    | refine x_aload_nN hC dJ4_put_6 rfl rfl ?_
    | refine x_aload_nV hC dJ4_put_6 rfl rfl ?_
  refine x_iconst (v := 0) hC dJ4_put_7 (by decide) ?_
  refine x_iconst (v := 1) hC dJ4_put_8 (by decide) ?_
  refine x_callV (k := 2) (n := 20) (na := 5) hC (ct_hmPutVal (v := v) hG hg h hn hkw) (lw_V q1162 q1163 q1164 q87 q1165) hm rfl rfl (by decide +kernel) rfl ⟨Nat.le_of_ble_eq_true rfl, Nat.le_of_ble_eq_true rfl⟩ rfl (Nat.le_of_ble_eq_true rfl) (Nat.le_of_ble_eq_true rfl) (Nat.le_of_ble_eq_true rfl) ⟨Nat.le_of_ble_eq_true rfl, Nat.le_of_ble_eq_true rfl⟩ dJ4_put_9 ?_
  rintro r M1 ⟨hr, h2, h3⟩
  subst hr
  refine x_aret hC hk dJ4_put_12 (Or.inl ⟨_, rfl⟩) ?_ (Nat.le_of_ble_eq_true rfl) (Nat.le_of_ble_eq_true rfl) ⟨rfl, h2, h3⟩
  cases D w with
  | none => exact Or.inl rfl
  | some a => exact Or.inr ⟨a, rfl⟩
end HMP

