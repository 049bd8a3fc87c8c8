/-! ===== HashMap.remove of a key that it holds ===== -/
theorem nar_rf {s : String} {o : Option Nat} : narrow (.object s) (va_rf o) = va_rf o := by cases o <;> rfl
theorem fit_rf {s : String} {o : Option Nat} : fits (.object s) (va_rf o) = true := by cases o <;> rfl
theorem Nd.rest {M : X_M} {g : Nat} {x : HN} {r : List HN} : ∀ (pre : List HN) (o : Option Nat), Nd M g o (pre ++ x :: r) → ∃ nx, M x.1 = some (hC9 g x nx) ∧ Nd M g nx r ∧ NM M x.2.2.1 x.2.1
  | [], _, ⟨_, nx, h2, h3, h4⟩ => ⟨nx, h2, h4, h3⟩
  | _ :: pre, _, ⟨_, nx, _, _, h4⟩ => Nd.rest pre nx h4
theorem Nd.head {M : X_M} {g : Nat} {x : HN} {r : List HN} {o : Option Nat} (h : Nd M g o (x :: r)) : o = some x.1 := h.1
section HMR
variable {G : X_G} {M : X_M} {g m n k v : Nat} {w : List Nat} {D : List Nat → Option Nat}
theorem ct_hmRemNode (hG : GOK G) (hg : g ≠ 0) (h : HM M g m D n) (hn : n ≤ 6) (hkw : NM M k w) (hDs : D w = some v) : Ct G yJ4_removeNode cJ4_removeNode 14 (some (.object "java/util/HashMap$Node")) (xrm 8 0 0) [.ref m, .int (spr (nmH w)), .ref k, .null, .int 0, .int 1] M (fun r M' => ∃ a vs, r = some (.ref a) ∧ M' a = some (ob g 9 vs) ∧ (∃ h0 k0 nx, vs = [h0, k0, .ref v, nx]) ∧ HM M' g m (hUpd D w none) (n - 1) ∧ Fr (fun g' => g' = g) M M') := by
  have hI0 := hI_ok w
  obtain ⟨mc, lf, ⟨h1, h2, -⟩ | ⟨t, B, h1, ⟨f, h2, h3⟩, h4, h5⟩⟩ := h
  · exact absurd (h2 w) (by rw [hDs]; intro z; cases z)
  obtain ⟨vsk, hkr⟩ := hkw.rec
  obtain ⟨c1, c2, c3⟩ := h3 (hI w) hI0.1
  have hD := h4 w
  rw [hDs] at hD
  have hlen : (B (hI w)).length ≤ n := by rw [← h5]; exact hS_ge hI0.1
  have hmt : m ≠ t := mx_ne h1 h2 (fun z => by cases z)
  refine ct_open (lv := [some (.ref m), some (.int (spr (nmH w))), some (.ref k), some .null, some (.int 0), some (.int 1), none, none, none, none, none, none, none, none]) hG (by decide +kernel) (Nat.le_of_ble_eq_true rfl) rfl (fun C hC hk => ?_)
  have fin : ∀ M1 B1 a vs, M1 m = some (ob g 8 [.null, .null, .ref t, .null, .int (nI n), .int mc, .int 12, .float lf]) → HB M1 g t B1 → (∀ w', hUpd D w none w' = hFind (B1 (hI w')) w') → hS B1 16 + 1 = n → Fr (fun g' => g' = g) M M1 → M1 a = some (ob g 9 vs) → (∃ h0 k0 nx, vs = [h0, k0, .ref v, nx]) → ∀ l6 l7 l8 l9 l11 l12 l13, Wg G C M1 0 0 260 [some (.ref m), some (.int (spr (nmH w))), some (.ref k), some .null, some (.int 0), some (.int 1), l6, l7, l8, l9, some (.ref a), l11, l12, l13] [] := by
    intro M1 B1 a vs a1 a2 a3 a4 hF a5 a6 l6 l7 l8 l9 l11 l12 l13
    first
      | refine x_aload_n hC dJ4_removeNode_260 rfl rfl ?_
      | refine x_aload_nN hC dJ4_removeNode_260 rfl rfl ?_
      | refine x_aload_nV hC dJ4_removeNode_260 rfl rfl ?_
    refine x_dup hC dJ4_removeNode_261 rfl ?_
    refine x_get hC 5 a1 rfl (by decide) q182 rfl rfl dJ4_removeNode_262 ?_
    refine x_iconst (v := 1) hC dJ4_removeNode_265 (by decide) ?_
    refine x_iadd hC dJ4_removeNode_266 ?_
    refine x_put hC 5 a1 hg rfl (by decide) q182 rfl rfl rfl rfl rfl (show 5 < 8 by decide) (fs' := [.null, .null, .ref t, .null, .int (nI n), .int (mc + 1), .int 12, .float lf]) rfl dJ4_removeNode_267 ?_
    first
      | refine x_aload_n hC dJ4_removeNode_270 rfl rfl ?_
      | refine x_aload_nN hC dJ4_removeNode_270 rfl rfl ?_
      | refine x_aload_nV hC dJ4_removeNode_270 rfl rfl ?_
    refine x_dup hC dJ4_removeNode_271 rfl ?_
    refine x_get hC 4 mu_s rfl (by decide) q181 rfl rfl dJ4_removeNode_272 ?_
    refine x_iconst (v := nI 1) hC dJ4_removeNode_275 (by decide) ?_
    refine x_isubN hC dJ4_removeNode_276 (by omega) ?_
    refine x_put hC 4 mu_s hg rfl (by decide) q181 rfl rfl rfl rfl rfl (show 4 < 8 by decide) (fs' := [.null, .null, .ref t, .null, .int (nI (n - 1)), .int (mc + 1), .int 12, .float lf]) rfl dJ4_removeNode_277 ?_
    rw [mu_mu]
    first
      | refine x_aload_n hC dJ4_removeNode_280 rfl rfl ?_
      | refine x_aload_nN hC dJ4_removeNode_280 rfl rfl ?_
      | refine x_aload_nV hC dJ4_removeNode_280 rfl rfl ?_
    first
      | refine x_aload hC dJ4_removeNode_281 rfl ?_
      | refine x_aloadN hC dJ4_removeNode_281 rfl ?_
      | refine x_aloadV hC dJ4_removeNode_281 rfl ?_
    refine x_callV0 (na := 1) hC (ct_hmAR hG _ _ _) (lw_V q2059 q2060 q2061 q87 q2062) mu_s rfl rfl (by decide +kernel) rfl ⟨Nat.le_of_ble_eq_true rfl, Nat.le_of_ble_eq_true rfl⟩ rfl (Nat.le_of_ble_eq_true rfl) ⟨rfl, rfl⟩ ⟨Nat.le_of_ble_eq_true rfl, Nat.le_of_ble_eq_true rfl⟩ dJ4_removeNode_283 ?_
    rintro _ M ⟨rfl, rfl⟩
    have ham : a ≠ m := mx_ne a5 a1 (fun z => by cases z)
    first
      | refine x_aload hC dJ4_removeNode_286 rfl ?_
      | refine x_aloadN hC dJ4_removeNode_286 rfl ?_
      | refine x_aloadV hC dJ4_removeNode_286 rfl ?_
    exact x_aret hC hk dJ4_removeNode_288 (Or.inl ⟨_, rfl⟩) (Or.inr ⟨_, rfl⟩) (Nat.le_of_ble_eq_true rfl) (Nat.le_of_ble_eq_true rfl) ⟨a, vs, rfl, mu_o ham a5, a6, ⟨mc + 1, lf, Or.inr ⟨t, B1, mu_s, a2.w1 a1 hg, a3, by omega⟩⟩, hF.tr (Fr.set (P := fun g' => g' = g) a1 rfl)⟩
  -- what is left when the node x is taken out
  have left : ∀ pre x r, B (hI w) = pre ++ x :: r → (∀ nd ∈ pre, ¬ nd.2.1 = w) → x.2.1 = w → x.2.2.2 = v ∧ (∀ w', hUpd D w none w' = hFind ((va_up B (hI w) (pre ++ r)) (hI w')) w') ∧ hS (va_up B (hI w) (pre ++ r)) 16 + 1 = n ∧ (∀ nd ∈ pre ++ r, hI nd.2.1 = hI w) ∧ hPw (pre ++ r) := by
    intro pre x r hl hpre hx
    rw [hl] at c2 c3 hD
    rw [hFind_at hpre hx] at hD
    obtain ⟨q1, q2, q3⟩ := List.pairwise_append.mp c3
    obtain ⟨q4, q5⟩ := List.pairwise_cons.mp q2
    refine ⟨(Option.some.inj hD).symm, fun w' => ?_, ?_, fun nd hm => ?_, List.pairwise_append.mpr ⟨q1, q5, fun a ha b hb => q3 a ha b (List.mem_cons_of_mem _ hb)⟩⟩
    · unfold hUpd
      by_cases ew : w' = w
      · subst ew
        rw [if_pos rfl, va_up_self, hFind_none]
        intro nd hm
        rcases List.mem_append.mp hm with hm | hm
        · exact hpre nd hm
        · intro e; exact q4 nd hm (by rw [hx, e])
      · rw [if_neg ew]
        by_cases ei : hI w' = hI w
        · rw [ei, va_up_self, h4 w', ei, hl, hFind_drop (by rw [hx]; exact Ne.symm ew)]
        · rw [va_up_ne _ _ ei]
          exact h4 w'
    · have := hS_up (B := B) (l' := pre ++ r) hI0.1
      simp only [hl, List.length_append, List.length_cons] at this
      omega
    · rcases List.mem_append.mp hm with hm | hm
      · exact c2 nd (List.mem_append_left _ hm)
      · exact c2 nd (List.mem_append_right _ (List.mem_cons_of_mem _ hm))
  have found1 : ∀ x r, B (hI w) = x :: r → x.2.1 = w → ∀ l8 l11 l12 l13, Wg G C M 0 0 171 [some (.ref m), some (.int (spr (nmH w))), some (.ref k), some .null, some (.int 0), some (.int 1), some (.ref t), some (.ref x.1), l8, some (.int (nI (hI w))), some (.ref x.1), l11, l12, l13] [] := by
    intro x r hl hx l8 l11 l12 l13
    obtain ⟨z1, z2, z3, z4, z5⟩ := left [] x r hl (fun nd hm => by cases hm) hx
    rw [hl] at c1
    obtain ⟨e5, nx, e6, e7, e8⟩ := c1
    have htx : t ≠ x.1 := mx_ne h2 e6 (fun z => by cases z)
    have hxt : x.1 ≠ t := Ne.symm htx
    first
      | refine x_aload hC dJ4_removeNode_171 rfl ?_
      | refine x_aloadN hC dJ4_removeNode_171 rfl ?_
      | refine x_aloadV hC dJ4_removeNode_171 rfl ?_
    refine x_ifnull hC dJ4_removeNode_173 ?_
    refine x_iload hC dJ4_removeNode_176 rfl ?_
    refine x_if_eq (tgt := 206) hC dJ4_removeNode_178 (by decide) (fun d0 => ?_) (fun d0 => ?_)
    · first
        | refine x_aload hC dJ4_removeNode_206 rfl ?_
        | refine x_aloadN hC dJ4_removeNode_206 rfl ?_
        | refine x_aloadV hC dJ4_removeNode_206 rfl ?_
      refine x_noTree hC e6 q778 dJ4_removeNode_208 ?_
      refine x_if_eq (tgt := 230) hC dJ4_removeNode_211 (by decide) (fun d1 => ?_) (fun d1 => ?_)
      · first
          | refine x_aload hC dJ4_removeNode_230 rfl ?_
          | refine x_aloadN hC dJ4_removeNode_230 rfl ?_
          | refine x_aloadV hC dJ4_removeNode_230 rfl ?_
        first
          | refine x_aload hC dJ4_removeNode_232 rfl ?_
          | refine x_aloadN hC dJ4_removeNode_232 rfl ?_
          | refine x_aloadV hC dJ4_removeNode_232 rfl ?_
        refine x_acmp_neR (tgt := 250) hC dJ4_removeNode_234 (by decide) (fun d2 => ?_) (fun d2 => ?_)
        · exact absurd rfl d2
        · first
            | refine x_aload hC dJ4_removeNode_237 rfl ?_
            | refine x_aloadN hC dJ4_removeNode_237 rfl ?_
            | refine x_aloadV hC dJ4_removeNode_237 rfl ?_
          refine x_iload hC dJ4_removeNode_239 rfl ?_
          first
            | refine x_aload hC dJ4_removeNode_241 rfl ?_
            | refine x_aloadN hC dJ4_removeNode_241 rfl ?_
            | refine x_aloadV hC dJ4_removeNode_241 rfl ?_
          refine x_get hC 3 e6 rfl (by decide) q1207 rfl rfl dJ4_removeNode_243 ?_
          have done : Wg G C (mu M t (oa g 3 16 (va_up f (hI w) nx))) 0 0 247 [some (.ref m), some (.int (spr (nmH w))), some (.ref k), some .null, some (.int 0), some (.int 1), some (.ref t), some (.ref x.1), l8, some (.int (nI (hI w))), some (.ref x.1), l11, l12, l13] [] := by
            refine x_goto (tgt := 260) hC dJ4_removeNode_247 (by decide) ?_
            refine fin _ (va_up B (hI w) r) x.1 _ (mu_o hmt h1) ?_ z2 z3 (Fr.set (P := fun g' => g' = g) h2 rfl) (mu_o hxt e6) ⟨_, _, _, by rw [z1]⟩ _ _ _ _ _ _ _
            refine HB.upd (f := f) (f' := va_up f (hI w) nx) mu_s (fun j hj => va_up_ne _ _ hj) (fun j hj hji => ?_) ?_ z4 z5 (fun j hj => (h3 j hj).2)
            · refine (h3 j hj).1.w1 h2 hg (fun nd hm => ?_)
              obtain ⟨nx', f1', f2'⟩ := (h3 j hj).1.mem nd hm
              exact mx_ne f1' h2 (fun z => by cases z)
            · rw [va_up_self]
              refine e8.w1 h2 hg (fun nd hm => ?_)
              obtain ⟨nx', f1', f2'⟩ := e8.mem nd hm
              exact mx_ne f1' h2 (fun z => by cases z)
          cases nx with
          | none => exact x_aastNI hC h2 hg rfl hI0.1 (by decide) dJ4_removeNode_246 done
          | some b =>
            cases r with
            | nil => cases e8
            | cons y r =>
              have e9 := e8.head
              cases e9
              obtain ⟨ny, f1, -⟩ := e8.mem y List.mem_cons_self
              exact x_aastSI hC h2 hg rfl f1 rfl rfl hI0.1 (by decide) dJ4_removeNode_246 done
      · exact absurd rfl d1
    · exact absurd rfl d0
  have found2 : ∀ pre p x r, B (hI w) = pre ++ p :: x :: r → (∀ nd ∈ pre, ¬ nd.2.1 = w) → ¬ p.2.1 = w → x.2.1 = w → ∀ l8 l11 l12 l13, Wg G C M 0 0 171 [some (.ref m), some (.int (spr (nmH w))), some (.ref k), some .null, some (.int 0), some (.int 1), some (.ref t), some (.ref p.1), l8, some (.int (nI (hI w))), some (.ref x.1), l11, l12, l13] [] := by
    intro pre p x r hl hpre hp hx l8 l11 l12 l13
    have hl2 : B (hI w) = (pre ++ [p]) ++ x :: r := by rw [hl, List.append_assoc]; rfl
    obtain ⟨z1, z2, z3, z4, z5⟩ := left (pre ++ [p]) x r hl2 (fun nd hm => by
      rcases List.mem_append.mp hm with hm | hm
      · exact hpre nd hm
      · rw [List.mem_singleton.mp hm]; exact hp) hx
    have c1' := c1
    have c3' := c3
    rw [hl] at c1 c3
    rw [hl2] at c1' c3'
    obtain ⟨np, e1, e2, e3⟩ := c1.rest pre _
    obtain ⟨nx, e6, e7, e8⟩ := c1'.rest (pre ++ [p]) _
    have enp : np = some x.1 := e2.head
    subst enp
    obtain ⟨p1, p2⟩ := c1.apart c3
    have hpx : x.1 ≠ p.1 := p2 x List.mem_cons_self
    have hmp : m ≠ p.1 := mx_ne h1 e1 (fun z => by cases z)
    have htp : t ≠ p.1 := mx_ne h2 e1 (fun z => by cases z)
    first
      | refine x_aload hC dJ4_removeNode_171 rfl ?_
      | refine x_aloadN hC dJ4_removeNode_171 rfl ?_
      | refine x_aloadV hC dJ4_removeNode_171 rfl ?_
    refine x_ifnull hC dJ4_removeNode_173 ?_
    refine x_iload hC dJ4_removeNode_176 rfl ?_
    refine x_if_eq (tgt := 206) hC dJ4_removeNode_178 (by decide) (fun d0 => ?_) (fun d0 => ?_)
    · first
        | refine x_aload hC dJ4_removeNode_206 rfl ?_
        | refine x_aloadN hC dJ4_removeNode_206 rfl ?_
        | refine x_aloadV hC dJ4_removeNode_206 rfl ?_
      refine x_noTree hC e6 q778 dJ4_removeNode_208 ?_
      refine x_if_eq (tgt := 230) hC dJ4_removeNode_211 (by decide) (fun d1 => ?_) (fun d1 => ?_)
      · first
          | refine x_aload hC dJ4_removeNode_230 rfl ?_
          | refine x_aloadN hC dJ4_removeNode_230 rfl ?_
          | refine x_aloadV hC dJ4_removeNode_230 rfl ?_
        first
          | refine x_aload hC dJ4_removeNode_232 rfl ?_
          | refine x_aloadN hC dJ4_removeNode_232 rfl ?_
          | refine x_aloadV hC dJ4_removeNode_232 rfl ?_
        refine x_acmp_neR (tgt := 250) hC dJ4_removeNode_234 (by decide) (fun d2 => ?_) (fun d2 => ?_)
        · first
            | refine x_aload hC dJ4_removeNode_250 rfl ?_
            | refine x_aloadN hC dJ4_removeNode_250 rfl ?_
            | refine x_aloadV hC dJ4_removeNode_250 rfl ?_
          first
            | refine x_aload hC dJ4_removeNode_252 rfl ?_
            | refine x_aloadN hC dJ4_removeNode_252 rfl ?_
            | refine x_aloadV hC dJ4_removeNode_252 rfl ?_
          refine x_get hC 3 e6 rfl (by decide) q1207 rfl rfl dJ4_removeNode_254 ?_
          refine x_put hC 3 e1 hg rfl (by decide) q1207 rfl rfl rfl nar_rf fit_rf (show 3 < 4 by decide) (fs' := [.int (spr (nmH p.2.1)), .ref p.2.2.1, .ref p.2.2.2, va_rf nx]) rfl dJ4_removeNode_257 ?_
          refine fin _ (va_up B (hI w) (pre ++ [p] ++ r)) x.1 _ (mu_o hmp h1) ?_ z2 z3 (Fr.set (P := fun g' => g' = g) e1 rfl) (mu_o hpx e6) ⟨_, _, _, by rw [z1]⟩ _ _ _ _ _ _ _
          refine HB.upd (f := f) (f' := f) (mu_o htp h2) (fun _ _ => rfl) (fun j hj hji => ?_) ?_ z4 z5 (fun j hj => (h3 j hj).2)
          · refine (h3 j hj).1.w1 e1 hg (fun nd hm => ?_)
            obtain ⟨nx', f1', f2'⟩ := (h3 j hj).1.mem nd hm
            refine nd_other f1' f2' e1 e3 ?_
            rw [(h3 j hj).2.1 nd hm, c2 p (by rw [hl]; exact List.mem_append_right _ List.mem_cons_self)]
            exact hji
          · rw [List.append_assoc]
            refine Nd.splice hg ?_ pre _ c1 p1
            exact e7.w1 e1 hg (fun nd hm => p2 nd (List.mem_cons_of_mem _ hm))
        · exact absurd d2 hpx
      · exact absurd rfl d1
    · exact absurd rfl d0
  have loop : ∀ r x p pre, B (hI w) = pre ++ p :: x :: r → (∀ nd ∈ pre, ¬ nd.2.1 = w) → ¬ p.2.1 = w → ∀ l8 l12 l13, Wg G C M 0 0 115 [some (.ref m), some (.int (spr (nmH w))), some (.ref k), some .null, some (.int 0), some (.int 1), some (.ref t), some (.ref p.1), l8, some (.int (nI (hI w))), some .null, some (.ref x.1), l12, l13] [] := by
    intro r
    induction r with
    | nil =>
      intro x p pre hl hpre hp l8 l12 l13
      have hl2 : B (hI w) = (pre ++ [p]) ++ x :: [] := by rw [hl, List.append_assoc]; rfl
      have c1' := c1
      rw [hl2] at c1'
      obtain ⟨nx, e6, e7, e8⟩ := c1'.rest (pre ++ [p]) _
      have hx : x.2.1 = w := by
        by_cases hx : x.2.1 = w
        · exact hx
        · exfalso
          rw [hl, hFind_none] at hD
          · cases hD
          · intro nd hm
            rcases List.mem_append.mp hm with hm | hm
            · exact hpre nd hm
            · rcases List.mem_cons.mp hm with hm | hm
              · rw [hm]; exact hp
              · rw [List.mem_singleton.mp hm]; exact hx
      first
        | refine x_aload hC dJ4_removeNode_115 rfl ?_
        | refine x_aloadN hC dJ4_removeNode_115 rfl ?_
        | refine x_aloadV hC dJ4_removeNode_115 rfl ?_
      refine x_get hC 0 e6 rfl (by decide) q1196 rfl rfl dJ4_removeNode_117 ?_
      refine x_iload_n hC dJ4_removeNode_120 rfl rfl ?_
      refine x_icmp_ne (tgt := 156) hC dJ4_removeNode_121 (by decide) (fun d1 => ?_) (fun d1 => ?_)
      · exact absurd (by rw [hx]) d1
      · first
          | refine x_aload hC dJ4_removeNode_124 rfl ?_
          | refine x_aloadN hC dJ4_removeNode_124 rfl ?_
          | refine x_aloadV hC dJ4_removeNode_124 rfl ?_
        refine x_get hC 1 e6 rfl (by decide) q1200 rfl rfl dJ4_removeNode_126 ?_
        refine x_dup hC dJ4_removeNode_129 rfl ?_
        first
          | refine x_astore (lv' := [_, _, _, _, _, _, _, _, _, _, _, _, _, _]) hC dJ4_removeNode_130 (by decide) rfl ?_
          | refine x_astoreN (lv' := [_, _, _, _, _, _, _, _, _, _, _, _, _, _]) hC dJ4_removeNode_130 (by decide) rfl ?_
          | refine x_astoreV (lv' := [_, _, _, _, _, _, _, _, _, _, _, _, _, _]) hC dJ4_removeNode_130 (by decide) rfl ?_
        first
          | refine x_aload_n hC dJ4_removeNode_132 rfl rfl ?_
          | refine x_aload_nN hC dJ4_removeNode_132 rfl rfl ?_
          | refine x_aload_nV hC dJ4_removeNode_132 rfl rfl ?_
        refine x_acmp_eqR (tgt := 149) hC dJ4_removeNode_133 (by decide) (fun d2 => ?_) (fun d2 => ?_)
        · first
            | refine x_aload hC dJ4_removeNode_149 rfl ?_
            | refine x_aloadN hC dJ4_removeNode_149 rfl ?_
            | refine x_aloadV hC dJ4_removeNode_149 rfl ?_
          first
            | refine x_astore (lv' := [_, _, _, _, _, _, _, _, _, _, _, _, _, _]) hC dJ4_removeNode_151 (by decide) rfl ?_
            | refine x_astoreN (lv' := [_, _, _, _, _, _, _, _, _, _, _, _, _, _]) hC dJ4_removeNode_151 (by decide) rfl ?_
            | refine x_astoreV (lv' := [_, _, _, _, _, _, _, _, _, _, _, _, _, _]) hC dJ4_removeNode_151 (by decide) rfl ?_
          refine x_goto (tgt := 171) hC dJ4_removeNode_153 (by decide) ?_
          exact found2 pre p x [] hl hpre hp hx _ _ _ _
        · first
            | refine x_aload_n hC dJ4_removeNode_136 rfl rfl ?_
            | refine x_aload_nN hC dJ4_removeNode_136 rfl rfl ?_
            | refine x_aload_nV hC dJ4_removeNode_136 rfl rfl ?_
          refine x_ifnull hC dJ4_removeNode_137 ?_
          first
            | refine x_aload_n hC dJ4_removeNode_140 rfl rfl ?_
            | refine x_aload_nN hC dJ4_removeNode_140 rfl rfl ?_
            | refine x_aload_nV hC dJ4_removeNode_140 rfl rfl ?_
          first
            | refine x_aload hC dJ4_removeNode_141 rfl ?_
            | refine x_aloadN hC dJ4_removeNode_141 rfl ?_
            | refine x_aloadV hC dJ4_removeNode_141 rfl ?_
          refine x_callA0 (owner := "java/lang/Object") (na := 1) hC (ct_nmEq hG hkw e8) q745 q747 q750 q751 q111 q752 q744 hkr rfl (by decide +kernel) rfl ⟨Nat.le_of_ble_eq_true rfl, Nat.le_of_ble_eq_true rfl⟩ rfl (Nat.le_of_ble_eq_true rfl) ⟨rfl, rfl⟩ ⟨Nat.le_of_ble_eq_true rfl, Nat.le_of_ble_eq_true rfl⟩ dJ4_removeNode_143 ?_
          rintro _ M ⟨rfl, rfl⟩
          refine x_if_eqB (tgt := 156) hC dJ4_removeNode_146 (by decide) (fun d3 => ?_) (fun d3 => ?_)
          · exact absurd hx.symm d3
          · first
              | refine x_aload hC dJ4_removeNode_149 rfl ?_
              | refine x_aloadN hC dJ4_removeNode_149 rfl ?_
              | refine x_aloadV hC dJ4_removeNode_149 rfl ?_
            first
              | refine x_astore (lv' := [_, _, _, _, _, _, _, _, _, _, _, _, _, _]) hC dJ4_removeNode_151 (by decide) rfl ?_
              | refine x_astoreN (lv' := [_, _, _, _, _, _, _, _, _, _, _, _, _, _]) hC dJ4_removeNode_151 (by decide) rfl ?_
              | refine x_astoreV (lv' := [_, _, _, _, _, _, _, _, _, _, _, _, _, _]) hC dJ4_removeNode_151 (by decide) rfl ?_
            refine x_goto (tgt := 171) hC dJ4_removeNode_153 (by decide) ?_
            exact found2 pre p x [] hl hpre hp hx _ _ _ _
    | cons y r ih =>
      intro x p pre hl hpre hp l8 l12 l13
      have hl2 : B (hI w) = (pre ++ [p]) ++ x :: y :: r := by rw [hl, List.append_assoc]; rfl
      have c1' := c1
      rw [hl2] at c1'
      obtain ⟨nx, e6, e7, e8⟩ := c1'.rest (pre ++ [p]) _
      have enx : nx = some y.1 := e7.head
      subst enx
      have next : ¬ x.2.1 = w → ∀ l12 l13, Wg G C M 0 0 156 [some (.ref m), some (.int (spr (nmH w))), some (.ref k), some .null, some (.int 0), some (.int 1), some (.ref t), some (.ref p.1), l8, some (.int (nI (hI w))), some .null, some (.ref x.1), l12, l13] [] := by
        intro hne l12 l13
        first
          | refine x_aload hC dJ4_removeNode_156 rfl ?_
          | refine x_aloadN hC dJ4_removeNode_156 rfl ?_
          | refine x_aloadV hC dJ4_removeNode_156 rfl ?_
        first
          | refine x_astore (lv' := [_, _, _, _, _, _, _, _, _, _, _, _, _, _]) hC dJ4_removeNode_158 (by decide) rfl ?_
          | refine x_astoreN (lv' := [_, _, _, _, _, _, _, _, _, _, _, _, _, _]) hC dJ4_removeNode_158 (by decide) rfl ?_
          | refine x_astoreV (lv' := [_, _, _, _, _, _, _, _, _, _, _, _, _, _]) hC dJ4_removeNode_158 (by decide) rfl ?_
        first
          | refine x_aload hC dJ4_removeNode_160 rfl ?_
          | refine x_aloadN hC dJ4_removeNode_160 rfl ?_
          | refine x_aloadV hC dJ4_removeNode_160 rfl ?_
        refine x_get hC 3 e6 rfl (by decide) q1207 rfl rfl dJ4_removeNode_162 ?_
        refine x_dup hC dJ4_removeNode_165 rfl ?_
        first
          | refine x_astore (lv' := [_, _, _, _, _, _, _, _, _, _, _, _, _, _]) hC dJ4_removeNode_166 (by decide) rfl ?_
          | refine x_astoreN (lv' := [_, _, _, _, _, _, _, _, _, _, _, _, _, _]) hC dJ4_removeNode_166 (by decide) rfl ?_
          | refine x_astoreV (lv' := [_, _, _, _, _, _, _, _, _, _, _, _, _, _]) hC dJ4_removeNode_166 (by decide) rfl ?_
        refine x_ifnonnull (tgt := 115) hC dJ4_removeNode_168 (by decide) ?_
        exact ih y x (pre ++ [p]) hl2 (fun nd hm => by
          rcases List.mem_append.mp hm with hm | hm
          · exact hpre nd hm
          · rw [List.mem_singleton.mp hm]; exact hp) hne _ _ _
      first
        | refine x_aload hC dJ4_removeNode_115 rfl ?_
        | refine x_aloadN hC dJ4_removeNode_115 rfl ?_
        | refine x_aloadV hC dJ4_removeNode_115 rfl ?_
      refine x_get hC 0 e6 rfl (by decide) q1196 rfl rfl dJ4_removeNode_117 ?_
      refine x_iload_n hC dJ4_removeNode_120 rfl rfl ?_
      refine x_icmp_ne (tgt := 156) hC dJ4_removeNode_121 (by decide) (fun d1 => ?_) (fun d1 => ?_)
      · exact next (fun he => d1 (by rw [he])) _ _
      · first
          | refine x_aload hC dJ4_removeNode_124 rfl ?_
          | refine x_aloadN hC dJ4_removeNode_124 rfl ?_
          | refine x_aloadV hC dJ4_removeNode_124 rfl ?_
        refine x_get hC 1 e6 rfl (by decide) q1200 rfl rfl dJ4_removeNode_126 ?_
        refine x_dup hC dJ4_removeNode_129 rfl ?_
        first
          | refine x_astore (lv' := [_, _, _, _, _, _, _, _, _, _, _, _, _, _]) hC dJ4_removeNode_130 (by decide) rfl ?_
          | refine x_astoreN (lv' := [_, _, _, _, _, _, _, _, _, _, _, _, _, _]) hC dJ4_removeNode_130 (by decide) rfl ?_
          | refine x_astoreV (lv' := [_, _, _, _, _, _, _, _, _, _, _, _, _, _]) hC dJ4_removeNode_130 (by decide) rfl ?_
        first
          | refine x_aload_n hC dJ4_removeNode_132 rfl rfl ?_
          | refine x_aload_nN hC dJ4_removeNode_132 rfl rfl ?_
          | refine x_aload_nV hC dJ4_removeNode_132 rfl rfl ?_
        refine x_acmp_eqR (tgt := 149) hC dJ4_removeNode_133 (by decide) (fun d2 => ?_) (fun d2 => ?_)
        · first
            | refine x_aload hC dJ4_removeNode_149 rfl ?_
            | refine x_aloadN hC dJ4_removeNode_149 rfl ?_
            | refine x_aloadV hC dJ4_removeNode_149 rfl ?_
          first
            | refine x_astore (lv' := [_, _, _, _, _, _, _, _, _, _, _, _, _, _]) hC dJ4_removeNode_151 (by decide) rfl ?_
            | refine x_astoreN (lv' := [_, _, _, _, _, _, _, _, _, _, _, _, _, _]) hC dJ4_removeNode_151 (by decide) rfl ?_
            | refine x_astoreV (lv' := [_, _, _, _, _, _, _, _, _, _, _, _, _, _]) hC dJ4_removeNode_151 (by decide) rfl ?_
          refine x_goto (tgt := 171) hC dJ4_removeNode_153 (by decide) ?_
          exact found2 pre p x (y :: r) hl hpre hp (e8.uni (by rw [d2]; exact hkw)) _ _ _ _
        · first
            | refine x_aload_n hC dJ4_removeNode_136 rfl rfl ?_
            | refine x_aload_nN hC dJ4_removeNode_136 rfl rfl ?_
            | refine x_aload_nV hC dJ4_removeNode_136 rfl rfl ?_
          refine x_ifnull hC dJ4_removeNode_137 ?_
          first
            | refine x_aload_n hC dJ4_removeNode_140 rfl rfl ?_
            | refine x_aload_nN hC dJ4_removeNode_140 rfl rfl ?_
            | refine x_aload_nV hC dJ4_removeNode_140 rfl rfl ?_
          first
            | refine x_aload hC dJ4_removeNode_141 rfl ?_
            | refine x_aloadN hC dJ4_removeNode_141 rfl ?_
            | refine x_aloadV hC dJ4_removeNode_141 rfl ?_
          refine x_callA0 (owner := "java/lang/Object") (na := 1) hC (ct_nmEq hG hkw e8) q745 q747 q750 q751 q111 q752 q744 hkr rfl (by decide +kernel) rfl ⟨Nat.le_of_ble_eq_true rfl, Nat.le_of_ble_eq_true rfl⟩ rfl (Nat.le_of_ble_eq_true rfl) ⟨rfl, rfl⟩ ⟨Nat.le_of_ble_eq_true rfl, Nat.le_of_ble_eq_true rfl⟩ dJ4_removeNode_143 ?_
          rintro _ M ⟨rfl, rfl⟩
          refine x_if_eqB (tgt := 156) hC dJ4_removeNode_146 (by decide) (fun d3 => ?_) (fun d3 => ?_)
          · exact next (fun he => d3 he.symm) _ _
          · first
              | refine x_aload hC dJ4_removeNode_149 rfl ?_
              | refine x_aloadN hC dJ4_removeNode_149 rfl ?_
              | refine x_aloadV hC dJ4_removeNode_149 rfl ?_
            first
              | refine x_astore (lv' := [_, _, _, _, _, _, _, _, _, _, _, _, _, _]) hC dJ4_removeNode_151 (by decide) rfl ?_
              | refine x_astoreN (lv' := [_, _, _, _, _, _, _, _, _, _, _, _, _, _]) hC dJ4_removeNode_151 (by decide) rfl ?_
              | refine x_astoreV (lv' := [_, _, _, _, _, _, _, _, _, _, _, _, _, _]) hC dJ4_removeNode_151 (by decide) rfl ?_
            refine x_goto (tgt := 171) hC dJ4_removeNode_153 (by decide) ?_
            exact found2 pre p x (y :: r) hl hpre hp d3.symm _ _ _ _
  first
    | refine x_aload_n hC dJ4_removeNode_0 rfl rfl ?_
    | refine x_aload_nN hC dJ4_removeNode_0 rfl rfl ?_
    | refine x_aload_nV hC dJ4_removeNode_0 rfl rfl ?_
  refine x_get hC 2 h1 rfl (by decide) q180 rfl rfl dJ4_removeNode_1 ?_
  refine x_dup hC dJ4_removeNode_4 rfl ?_
  first
    | refine x_astore (lv' := [_, _, _, _, _, _, _, _, _, _, _, _, _, _]) hC dJ4_removeNode_5 (by decide) rfl ?_
    | refine x_astoreN (lv' := [_, _, _, _, _, _, _, _, _, _, _, _, _, _]) hC dJ4_removeNode_5 (by decide) rfl ?_
    | refine x_astoreV (lv' := [_, _, _, _, _, _, _, _, _, _, _, _, _, _]) hC dJ4_removeNode_5 (by decide) rfl ?_
  refine x_ifnull hC dJ4_removeNode_7 ?_
  first
    | refine x_aload hC dJ4_removeNode_10 rfl ?_
    | refine x_aloadN hC dJ4_removeNode_10 rfl ?_
    | refine x_aloadV hC dJ4_removeNode_10 rfl ?_
  refine x_alen hC h2 dJ4_removeNode_12 ?_
  dsimp only
  refine x_dup hC dJ4_removeNode_13 rfl ?_
  refine x_istore (lv' := [_, _, _, _, _, _, _, _, _, _, _, _, _, _]) hC dJ4_removeNode_14 (by decide) rfl ?_
  refine x_if_leN (tgt := 289) hC (by omega) dJ4_removeNode_16 (by decide) (fun d0 => ?_) (fun d0 => ?_)
  · exact absurd d0 (by decide)
  · first
      | refine x_aload hC dJ4_removeNode_19 rfl ?_
      | refine x_aloadN hC dJ4_removeNode_19 rfl ?_
      | refine x_aloadV hC dJ4_removeNode_19 rfl ?_
    refine x_iload hC dJ4_removeNode_21 rfl ?_
    refine x_iconst (v := nI 1) hC dJ4_removeNode_23 (by decide) ?_
    refine x_isubN hC dJ4_removeNode_24 (by decide) ?_
    refine x_iload_n hC dJ4_removeNode_25 rfl rfl ?_
    refine x_iand hC dJ4_removeNode_26 ?_
    rw [show nI (16 - 1) &&& spr (nmH w) = nI (hI w) from hI0.2]
    refine x_dup hC dJ4_removeNode_27 rfl ?_
    refine x_istore (lv' := [_, _, _, _, _, _, _, _, _, _, _, _, _, _]) hC dJ4_removeNode_28 (by decide) rfl ?_
    refine x_aaldN hC h2 rfl hI0.1 (by first | decide | omega) dJ4_removeNode_30 ?_
    cases hl : B (hI w) with
    | nil => rw [hl] at hD; cases hD
    | cons x r =>
      have hl1 : B (hI w) = [] ++ x :: r := hl
      have c1' := c1
      rw [hl] at c1'
      obtain ⟨e5, nx, e6, e7, e8⟩ := c1'
      rw [e5]
      refine x_dup hC dJ4_removeNode_31 rfl ?_
      first
        | refine x_astore (lv' := [_, _, _, _, _, _, _, _, _, _, _, _, _, _]) hC dJ4_removeNode_32 (by decide) rfl ?_
        | refine x_astoreN (lv' := [_, _, _, _, _, _, _, _, _, _, _, _, _, _]) hC dJ4_removeNode_32 (by decide) rfl ?_
        | refine x_astoreV (lv' := [_, _, _, _, _, _, _, _, _, _, _, _, _, _]) hC dJ4_removeNode_32 (by decide) rfl ?_
      refine x_ifnull hC dJ4_removeNode_34 ?_
      refine x_null hC dJ4_removeNode_37 ?_
      first
        | refine x_astore (lv' := [_, _, _, _, _, _, _, _, _, _, _, _, _, _]) hC dJ4_removeNode_38 (by decide) rfl ?_
        | refine x_astoreN (lv' := [_, _, _, _, _, _, _, _, _, _, _, _, _, _]) hC dJ4_removeNode_38 (by decide) rfl ?_
        | refine x_astoreV (lv' := [_, _, _, _, _, _, _, _, _, _, _, _, _, _]) hC dJ4_removeNode_38 (by decide) rfl ?_
      first
        | refine x_aload hC dJ4_removeNode_40 rfl ?_
        | refine x_aloadN hC dJ4_removeNode_40 rfl ?_
        | refine x_aloadV hC dJ4_removeNode_40 rfl ?_
      refine x_get hC 0 e6 rfl (by decide) q1196 rfl rfl dJ4_removeNode_42 ?_
      refine x_iload_n hC dJ4_removeNode_45 rfl rfl ?_
      have next : ¬ x.2.1 = w → ∀ l12, Wg G C M 0 0 81 [some (.ref m), some (.int (spr (nmH w))), some (.ref k), some .null, some (.int 0), some (.int 1), some (.ref t), some (.ref x.1), some (.int (nI 16)), some (.int (nI (hI w))), some .null, none, l12, none] [] := by
        intro hne l12
        cases r with
        | nil =>
          rw [hl, hFind_miss hne] at hD
          cases hD
        | cons y r =>
          have enx : nx = some y.1 := e8.head
          subst enx
          first
            | refine x_aload hC dJ4_removeNode_81 rfl ?_
            | refine x_aloadN hC dJ4_removeNode_81 rfl ?_
            | refine x_aloadV hC dJ4_removeNode_81 rfl ?_
          refine x_get hC 3 e6 rfl (by decide) q1207 rfl rfl dJ4_removeNode_83 ?_
          refine x_dup hC dJ4_removeNode_86 rfl ?_
          first
            | refine x_astore (lv' := [_, _, _, _, _, _, _, _, _, _, _, _, _, _]) hC dJ4_removeNode_87 (by decide) rfl ?_
            | refine x_astoreN (lv' := [_, _, _, _, _, _, _, _, _, _, _, _, _, _]) hC dJ4_removeNode_87 (by decide) rfl ?_
            | refine x_astoreV (lv' := [_, _, _, _, _, _, _, _, _, _, _, _, _, _]) hC dJ4_removeNode_87 (by decide) rfl ?_
          refine x_ifnull hC dJ4_removeNode_89 ?_
          first
            | refine x_aload hC dJ4_removeNode_92 rfl ?_
            | refine x_aloadN hC dJ4_removeNode_92 rfl ?_
            | refine x_aloadV hC dJ4_removeNode_92 rfl ?_
          refine x_noTree hC e6 q778 dJ4_removeNode_94 ?_
          refine x_if_eq (tgt := 115) hC dJ4_removeNode_97 (by decide) (fun d4 => ?_) (fun d4 => ?_)
          · exact loop r y x [] hl (fun nd hm => by cases hm) hne _ _ _
          · exact absurd rfl d4
      refine x_icmp_ne (tgt := 81) hC dJ4_removeNode_46 (by decide) (fun d1 => ?_) (fun d1 => ?_)
      · exact next (fun he => d1 (by rw [he])) _
      · first
          | refine x_aload hC dJ4_removeNode_49 rfl ?_
          | refine x_aloadN hC dJ4_removeNode_49 rfl ?_
          | refine x_aloadV hC dJ4_removeNode_49 rfl ?_
        refine x_get hC 1 e6 rfl (by decide) q1200 rfl rfl dJ4_removeNode_51 ?_
        refine x_dup hC dJ4_removeNode_54 rfl ?_
        first
          | refine x_astore (lv' := [_, _, _, _, _, _, _, _, _, _, _, _, _, _]) hC dJ4_removeNode_55 (by decide) rfl ?_
          | refine x_astoreN (lv' := [_, _, _, _, _, _, _, _, _, _, _, _, _, _]) hC dJ4_removeNode_55 (by decide) rfl ?_
          | refine x_astoreV (lv' := [_, _, _, _, _, _, _, _, _, _, _, _, _, _]) hC dJ4_removeNode_55 (by decide) rfl ?_
        first
          | refine x_aload_n hC dJ4_removeNode_57 rfl rfl ?_
          | refine x_aload_nN hC dJ4_removeNode_57 rfl rfl ?_
          | refine x_aload_nV hC dJ4_removeNode_57 rfl rfl ?_
        refine x_acmp_eqR (tgt := 74) hC dJ4_removeNode_58 (by decide) (fun d2 => ?_) (fun d2 => ?_)
        · first
            | refine x_aload hC dJ4_removeNode_74 rfl ?_
            | refine x_aloadN hC dJ4_removeNode_74 rfl ?_
            | refine x_aloadV hC dJ4_removeNode_74 rfl ?_
          first
            | refine x_astore (lv' := [_, _, _, _, _, _, _, _, _, _, _, _, _, _]) hC dJ4_removeNode_76 (by decide) rfl ?_
            | refine x_astoreN (lv' := [_, _, _, _, _, _, _, _, _, _, _, _, _, _]) hC dJ4_removeNode_76 (by decide) rfl ?_
            | refine x_astoreV (lv' := [_, _, _, _, _, _, _, _, _, _, _, _, _, _]) hC dJ4_removeNode_76 (by decide) rfl ?_
          refine x_goto (tgt := 171) hC dJ4_removeNode_78 (by decide) ?_
          exact found1 x r hl (e7.uni (by rw [d2]; exact hkw)) _ _ _ _
        · first
            | refine x_aload_n hC dJ4_removeNode_61 rfl rfl ?_
            | refine x_aload_nN hC dJ4_removeNode_61 rfl rfl ?_
            | refine x_aload_nV hC dJ4_removeNode_61 rfl rfl ?_
          refine x_ifnull hC dJ4_removeNode_62 ?_
          first
            | refine x_aload_n hC dJ4_removeNode_65 rfl rfl ?_
            | refine x_aload_nN hC dJ4_removeNode_65 rfl rfl ?_
            | refine x_aload_nV hC dJ4_removeNode_65 rfl rfl ?_
          first
            | refine x_aload hC dJ4_removeNode_66 rfl ?_
            | refine x_aloadN hC dJ4_removeNode_66 rfl ?_
            | refine x_aloadV hC dJ4_removeNode_66 rfl ?_
          refine x_callA0 (owner := "java/lang/Object") (na := 1) hC (ct_nmEq hG hkw e7) q745 q747 q750 q751 q111 q752 q744 hkr rfl (by decide +kernel) rfl ⟨Nat.le_of_ble_eq_true rfl, Nat.le_of_ble_eq_true rfl⟩ rfl (Nat.le_of_ble_eq_true rfl) ⟨rfl, rfl⟩ ⟨Nat.le_of_ble_eq_true rfl, Nat.le_of_ble_eq_true rfl⟩ dJ4_removeNode_68 ?_
          rintro _ M ⟨rfl, rfl⟩
          refine x_if_eqB (tgt := 81) hC dJ4_removeNode_71 (by decide) (fun d3 => ?_) (fun d3 => ?_)
          · exact next (fun he => d3 he.symm) _
          · first
              | refine x_aload hC dJ4_removeNode_74 rfl ?_
              | refine x_aloadN hC dJ4_removeNode_74 rfl ?_
              | refine x_aloadV hC dJ4_removeNode_74 rfl ?_
            first
              | refine x_astore (lv' := [_, _, _, _, _, _, _, _, _, _, _, _, _, _]) hC dJ4_removeNode_76 (by decide) rfl ?_
              | refine x_astoreN (lv' := [_, _, _, _, _, _, _, _, _, _, _, _, _, _]) hC dJ4_removeNode_76 (by decide) rfl ?_
              | refine x_astoreV (lv' := [_, _, _, _, _, _, _, _, _, _, _, _, _, _]) hC dJ4_removeNode_76 (by decide) rfl ?_
            refine x_goto (tgt := 171) hC dJ4_removeNode_78 (by decide) ?_
            exact found1 x r hl d3.symm _ _ _ _
theorem ct_hmRemove (hG : GOK G) (hg : g ≠ 0) (h : HM M g m D n) (hn : n ≤ 6) (hkw : NM M k w) (hDs : D w = some v) : Ct G yJ4_remove cJ4_remove 3 (some (.object "java/lang/Object")) (xrm 9 0 0) [.ref m, .ref k] M (fun r M' => r = some (.ref v) ∧ HM M' g m (hUpd D w none) (n - 1) ∧ Fr (fun g' => g' = g) M M') := by
  have hr : ∃ vs, M m = some (ob g 8 vs) := by
    obtain ⟨mc, lf, ⟨h1, h2⟩ | ⟨t, B, h1, -⟩⟩ := id h
    · exact ⟨_, h1⟩
    · exact ⟨_, h1⟩
  obtain ⟨vs, hm⟩ := hr
  refine ct_open (lv := [_, _, _]) hG (by decide +kernel) (Nat.le_of_ble_eq_true rfl) rfl (fun C hC hk => ?_)
  first
    | refine x_aload_n hC dJ4_remove_0 rfl rfl ?_
    | refine x_aload_nN hC dJ4_remove_0 rfl rfl ?_
    | refine x_aload_nV hC dJ4_remove_0 rfl rfl ?_
  first
    | refine x_aload_n hC dJ4_remove_1 rfl rfl ?_
    | refine x_aload_nN hC dJ4_remove_1 rfl rfl ?_
    | refine x_aload_nV hC dJ4_remove_1 rfl rfl ?_
  refine x_callS0 (na := 1) hC (ct_hmHash hG hkw) (lw_S q656 q657 q87 q658) (by decide +kernel) rfl ⟨Nat.le_of_ble_eq_true rfl, Nat.le_of_ble_eq_true rfl⟩ rfl (Nat.le_of_ble_eq_true rfl) ⟨rfl, rfl⟩ ⟨Nat.le_of_ble_eq_true rfl, Nat.le_of_ble_eq_true rfl⟩ dJ4_remove_2 ?_
  rintro _ M ⟨rfl, rfl⟩
  first
    | refine x_aload_n hC dJ4_remove_5 rfl rfl ?_
    | refine x_aload_nN hC dJ4_remove_5 rfl rfl ?_
    | refine x_aload_nV hC dJ4_remove_5 rfl rfl ?_
  refine x_null hC dJ4_remove_6 ?_
  refine x_iconst (v := 0) hC dJ4_remove_7 (by decide) ?_
  refine x_iconst (v := 1) hC dJ4_remove_8 (by decide) ?_
  refine x_callV0 (na := 5) hC (ct_hmRemNode hG hg h hn hkw hDs) (lw_V q2048 q2049 q2050 q87 q2051) hm rfl rfl (by decide +kernel) rfl ⟨Nat.le_of_ble_eq_true rfl, Nat.le_of_ble_eq_true rfl⟩ rfl (Nat.le_of_ble_eq_true rfl) ⟨rfl, rfl⟩ ⟨Nat.le_of_ble_eq_true rfl, Nat.le_of_ble_eq_true rfl⟩ dJ4_remove_9 ?_
  rintro _ M1 ⟨a, _, rfl, ha, ⟨h0, k0, nx, rfl⟩, h2, h3⟩
  refine x_dup hC dJ4_remove_12 rfl ?_
  first
    | refine x_astore_n (lv' := [_, _, _]) hC dJ4_remove_13 rfl (by decide) rfl ?_
    | refine x_astore_nN (lv' := [_, _, _]) hC dJ4_remove_13 rfl (by decide) rfl ?_
    | refine x_astore_nV (lv' := [_, _, _]) hC dJ4_remove_13 rfl (by decide) rfl ?_
  refine x_ifnonnull (tgt := 21) hC dJ4_remove_14 (by decide) ?_
  first
    | refine x_aload_n hC dJ4_remove_21 rfl rfl ?_
    | refine x_aload_nN hC dJ4_remove_21 rfl rfl ?_
    | refine x_aload_nV hC dJ4_remove_21 rfl rfl ?_
  refine x_get hC 2 ha rfl (by decide) q1202 rfl rfl dJ4_remove_22 ?_
  exact x_aret hC hk dJ4_remove_25 (Or.inl ⟨_, rfl⟩) (Or.inr ⟨_, rfl⟩) (Nat.le_of_ble_eq_true rfl) (Nat.le_of_ble_eq_true rfl) ⟨rfl, h2, h3⟩
end HMR

