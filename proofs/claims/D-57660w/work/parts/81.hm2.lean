/-! ===== HashMap: resize of the empty map; the search ===== -/
theorem nw_tn {G : X_G} (hG : GOK G) : (Jvm.Cond.not (Jvm.Cond.castable "java/util/HashMap$Node" "java/util/HashMap$TreeNode")).before #[Value.ref (gb G)] (gs G) = true := an_r (an_r (an_r (an_r (an_l (an_l (an_l (an_r (an_r (an_l (an_l (nw_0 hG)))))))))))
section HMT
variable {G : X_G} {M : X_M} {g m n k : Nat} {w : List Nat} {D : List Nat → Option Nat}
theorem ct_hmResize (hG : GOK G) (hg : g ≠ 0) {sz mc : Int32} {lf : UInt32} (h : M m = some (ob g 8 [.null, .null, .null, .null, .int sz, .int mc, .int 0, .float lf])) : Ct G yJ4_resize cJ4_resize 14 (some (.array (.object "java/util/HashMap$Node"))) (xrm 2 1 16) [.ref m] M (fun r M' => ∃ t, r = some (.ref t) ∧ M t = none ∧ M' = mu (mu M t (oa g 3 16 fun _ => none)) m (ob g 8 [.null, .null, .ref t, .null, .int sz, .int mc, .int 12, .float lf])) := by
  refine ct_open (lv := [_, _, _, _, _, _, _, _, _, _, _, _, _, _]) hG (by decide +kernel) (Nat.le_of_ble_eq_true rfl) rfl (fun C hC hk => ?_)
  first
    | refine x_aload_n hC dJ4_resize_0 rfl rfl ?_
    | refine x_aload_nN hC dJ4_resize_0 rfl rfl ?_
    | refine x_aload_nV hC dJ4_resize_0 rfl rfl ?_
  refine x_get hC 2 h rfl (by decide) q180 rfl rfl dJ4_resize_1 ?_
  first
    | refine x_astore_n (lv' := [_, _, _, _, _, _, _, _, _, _, _, _, _, _]) hC dJ4_resize_4 rfl (by decide) rfl ?_
    | refine x_astore_nN (lv' := [_, _, _, _, _, _, _, _, _, _, _, _, _, _]) hC dJ4_resize_4 rfl (by decide) rfl ?_
    | refine x_astore_nV (lv' := [_, _, _, _, _, _, _, _, _, _, _, _, _, _]) hC dJ4_resize_4 rfl (by decide) rfl ?_
  first
    | refine x_aload_n hC dJ4_resize_5 rfl rfl ?_
    | refine x_aload_nN hC dJ4_resize_5 rfl rfl ?_
    | refine x_aload_nV hC dJ4_resize_5 rfl rfl ?_
  refine x_ifnonnullN hC dJ4_resize_6 ?_
  refine x_iconst (v := 0) hC dJ4_resize_9 (by decide) ?_
  refine x_goto (tgt := 15) hC dJ4_resize_10 (by decide) ?_
  refine x_istore_n (lv' := [_, _, _, _, _, _, _, _, _, _, _, _, _, _]) hC dJ4_resize_15 rfl (by decide) rfl ?_
  first
    | refine x_aload_n hC dJ4_resize_16 rfl rfl ?_
    | refine x_aload_nN hC dJ4_resize_16 rfl rfl ?_
    | refine x_aload_nV hC dJ4_resize_16 rfl rfl ?_
  refine x_get hC 6 h rfl (by decide) q183 rfl rfl dJ4_resize_17 ?_
  refine x_istore_n (lv' := [_, _, _, _, _, _, _, _, _, _, _, _, _, _]) hC dJ4_resize_20 rfl (by decide) rfl ?_
  refine x_iconst (v := 0) hC dJ4_resize_21 (by decide) ?_
  refine x_istore (lv' := [_, _, _, _, _, _, _, _, _, _, _, _, _, _]) hC dJ4_resize_22 (by decide) rfl ?_
  refine x_iload_n hC dJ4_resize_24 rfl rfl ?_
  refine x_if_le (tgt := 67) hC dJ4_resize_25 (by decide) (fun c1 => ?_) (fun c1 => ?_)
  · refine x_iload_n hC dJ4_resize_67 rfl rfl ?_
    refine x_if_le (tgt := 77) hC dJ4_resize_68 (by decide) (fun c2 => ?_) (fun c2 => ?_)
    · refine x_bipush (v := 16) hC dJ4_resize_77 (by decide) ?_
      refine x_istore (lv' := [_, _, _, _, _, _, _, _, _, _, _, _, _, _]) hC dJ4_resize_79 (by decide) rfl ?_
      refine x_bipush (v := 12) hC dJ4_resize_81 (by decide) ?_
      refine x_istore (lv' := [_, _, _, _, _, _, _, _, _, _, _, _, _, _]) hC dJ4_resize_83 (by decide) rfl ?_
      refine x_iload hC dJ4_resize_85 rfl ?_
      refine x_if_ne (tgt := 125) hC dJ4_resize_87 (by decide) (fun c3 => ?_) (fun c3 => ?_)
      · first
          | refine x_aload_n hC dJ4_resize_125 rfl rfl ?_
          | refine x_aload_nN hC dJ4_resize_125 rfl rfl ?_
          | refine x_aload_nV hC dJ4_resize_125 rfl rfl ?_
        refine x_iload hC dJ4_resize_126 rfl ?_
        refine x_put hC 6 h hg rfl (by decide) q183 rfl rfl rfl rfl rfl (show 6 < 8 by decide) (fs' := [.null, .null, .null, .null, .int sz, .int mc, .int 12, .float lf]) rfl dJ4_resize_128 ?_
        refine x_iload hC dJ4_resize_131 rfl ?_
        refine x_newq hC 16 g 3 q1173 q1174 rfl (by decide) hg rfl (by decide) (Nat.le_of_ble_eq_true rfl) (Nat.le_of_ble_eq_true rfl) dJ4_resize_133 (fun t ht => ?_)
        have htm : M t = none := by
          by_cases e : t = m
          · rw [e, mu_s] at ht; cases ht
          · rw [mu_n e] at ht; exact ht
        have hmt : m ≠ t := fun e => by rw [e, htm] at h; cases h
        first
          | refine x_astore (lv' := [_, _, _, _, _, _, _, _, _, _, _, _, _, _]) hC dJ4_resize_136 (by decide) rfl ?_
          | refine x_astoreN (lv' := [_, _, _, _, _, _, _, _, _, _, _, _, _, _]) hC dJ4_resize_136 (by decide) rfl ?_
          | refine x_astoreV (lv' := [_, _, _, _, _, _, _, _, _, _, _, _, _, _]) hC dJ4_resize_136 (by decide) rfl ?_
        first
          | refine x_aload_n hC dJ4_resize_138 rfl rfl ?_
          | refine x_aload_nN hC dJ4_resize_138 rfl rfl ?_
          | refine x_aload_nV hC dJ4_resize_138 rfl rfl ?_
        first
          | refine x_aload hC dJ4_resize_139 rfl ?_
          | refine x_aloadN hC dJ4_resize_139 rfl ?_
          | refine x_aloadV hC dJ4_resize_139 rfl ?_
        refine x_put hC 2 (mu_o hmt mu_s) hg rfl (by decide) q180 rfl rfl rfl rfl rfl (show 2 < 8 by decide) (fs' := [.null, .null, .ref t, .null, .int sz, .int mc, .int 12, .float lf]) rfl dJ4_resize_141 ?_
        first
          | refine x_aload_n hC dJ4_resize_144 rfl rfl ?_
          | refine x_aload_nN hC dJ4_resize_144 rfl rfl ?_
          | refine x_aload_nV hC dJ4_resize_144 rfl rfl ?_
        refine x_ifnullN (tgt := 353) hC dJ4_resize_145 (by decide) ?_
        first
          | refine x_aload hC dJ4_resize_353 rfl ?_
          | refine x_aloadN hC dJ4_resize_353 rfl ?_
          | refine x_aloadV hC dJ4_resize_353 rfl ?_
        refine x_aret hC hk dJ4_resize_355 (Or.inr ⟨_, rfl⟩) (Or.inr ⟨_, rfl⟩) (Nat.le_of_ble_eq_true rfl) (Nat.le_of_ble_eq_true rfl) ⟨t, rfl, htm, ?_⟩
        funext q
        unfold mu
        by_cases e1 : q = m
        · rw [if_pos e1, if_pos e1]
        · rw [if_neg e1, if_neg e1, if_neg e1]
      · exact absurd c3 (by decide)
    · exact absurd (show (0 : Int32) ≤ 0 by decide) c2
  · exact absurd (show (0 : Int32) ≤ 0 by decide) c1
/-- a node is no tree's -/
theorem x_noTree {C : X_C} {kc ks pc nL : Nat} {lv : List (Option Value)} {rest : List Value} {y : MethodName} {cc : ByteArray} {ret : Option FieldType} {rm : Room} (hC : Cx G C y cc nL ret rm) {a index : Nat} {vs : List Value} (he : M a = some (ob g 9 vs)) (hlink : Cond.classLink y.cls index "java/util/HashMap$TreeNode" ∈ lw_all) (hdg : decode cc pc = .ok (.instanceof index, 3)) (kk : Wg G C M kc ks (pc + 3) lv (.int 0 :: rest)) : Wg G C M kc ks pc lv (.ref a :: rest) := fun H locs ls hW hz hq hl =>
  va_instNo hC.1 hC.2.1 hC.own (hC.w hlink) (va_Nc.moved hC.warm.alike (va_Nc.of (nw_tn hC.gok))) (x_recv hC hW he (show xcl[9]? = some ("java/util/HashMap$Node", TJ24, 4) from rfl)) hdg (kk H locs ls hW hz hq hl)
theorem hFind_hit {nd : HN} {r : List HN} (h : nd.2.1 = w) : hFind (nd :: r) w = some nd.2.2.2 := by
  unfold hFind
  rw [List.find?_cons_of_pos (by exact decide_eq_true h)]
  rfl
theorem hFind_miss {nd : HN} {r : List HN} (h : ¬ nd.2.1 = w) : hFind (nd :: r) w = hFind r w := by
  unfold hFind
  rw [List.find?_cons_of_neg (by rw [decide_eq_false h]; decide)]
theorem NM.rec {k : Nat} (h : NM M k w) : ∃ vs, M k = some (ob 0 4 vs) := by
  obtain ⟨s, h1, -⟩ := h
  exact ⟨_, h1⟩
/-- what the search leaves: the node, or null -/
def PNd (M : X_M) (g : Nat) (o : Option Nat) : Option Value → X_M → Prop := fun r M' => M' = M ∧ ((o = none ∧ r = some .null) ∨ ∃ v a h0 k0 nx, o = some v ∧ r = some (.ref a) ∧ M a = some (ob g 9 [.int h0, .ref k0, .ref v, va_rf nx]))
theorem ct_hmNode (hG : GOK G) (h : HM M g m D n) (hk0 : NM M k w) : Ct G yJ4_getNode cJ4_getNode 8 (some (.object "java/util/HashMap$Node")) (xrm 7 0 0) [.ref m, .ref k] M (PNd M g (D w)) := by
  obtain ⟨vsk, hkr⟩ := hk0.rec
  have h0 := hI_ok w
  obtain ⟨mc, lf, ⟨h1, h2, -⟩ | ⟨t, B, h1, ⟨f, h2, h3⟩, h4, -⟩⟩ := h
  · refine ct_open (lv := [_, _, _, _, _, _, _, _]) hG (by decide +kernel) (Nat.le_of_ble_eq_true rfl) rfl (fun C hC hk => ?_)
    first
      | refine x_aload_n hC dJ4_getNode_0 rfl rfl ?_
      | refine x_aload_nN hC dJ4_getNode_0 rfl rfl ?_
      | refine x_aload_nV hC dJ4_getNode_0 rfl rfl ?_
    refine x_get hC 2 h1 rfl (by decide) q180 rfl rfl dJ4_getNode_1 ?_
    refine x_dup hC dJ4_getNode_4 rfl ?_
    first
      | refine x_astore_n (lv' := [_, _, _, _, _, _, _, _]) hC dJ4_getNode_5 rfl (by decide) rfl ?_
      | refine x_astore_nN (lv' := [_, _, _, _, _, _, _, _]) hC dJ4_getNode_5 rfl (by decide) rfl ?_
      | refine x_astore_nV (lv' := [_, _, _, _, _, _, _, _]) hC dJ4_getNode_5 rfl (by decide) rfl ?_
    refine x_ifnullN (tgt := 148) hC dJ4_getNode_6 (by decide) ?_
    refine x_null hC dJ4_getNode_148 ?_
    exact x_aret hC hk dJ4_getNode_149 (Or.inl ⟨_, rfl⟩) (Or.inl rfl) (Nat.le_of_ble_eq_true rfl) (Nat.le_of_ble_eq_true rfl) ⟨rfl, Or.inl ⟨h2 w, rfl⟩⟩
  · obtain ⟨c1, -, -⟩ := h3 (hI w) h0.1
    rw [h4 w]
    generalize B (hI w) = l at c1
    refine ct_open (lv := [some (.ref m), some (.ref k), none, none, none, none, none, none]) hG (by decide +kernel) (Nat.le_of_ble_eq_true rfl) rfl (fun C hC hkk => ?_)
    have none_ : hFind l w = none → ∀ lv, Wg G C M 0 0 148 lv [] := by
      intro e lv
      refine x_null hC dJ4_getNode_148 ?_
      exact x_aret hC hkk dJ4_getNode_149 (Or.inl ⟨_, rfl⟩) (Or.inl rfl) (Nat.le_of_ble_eq_true rfl) (Nat.le_of_ble_eq_true rfl) ⟨rfl, Or.inl ⟨e, rfl⟩⟩
    have loop : ∀ (r : List HN) (nd : HN) (a0 : Nat) (nx : Option Nat), hFind (nd :: r) w = hFind l w → M nd.1 = some (ob g 9 [.int (spr (nmH nd.2.1)), .ref nd.2.2.1, .ref nd.2.2.2, va_rf nx]) → NM M nd.2.2.1 nd.2.1 → Nd M g nx r → ∀ w7, Wg G C M 0 0 99 [some (.ref m), some (.ref k), some (.ref t), some (.ref a0), some (.ref nd.1), some (.int (nI 16)), some (.int (spr (nmH w))), w7] [] := by
      intro r
      induction r with
      | nil =>
        intro nd a0 nx e1 e2 e3 e4 w7
        have next : ¬ nd.2.1 = w → ∀ w7, Wg G C M 0 0 137 [some (.ref m), some (.ref k), some (.ref t), some (.ref a0), some (.ref nd.1), some (.int (nI 16)), some (.int (spr (nmH w))), w7] [] := by
          intro hne w7
          have e5 : nx = none := e4
          subst e5
          first
            | refine x_aload hC dJ4_getNode_137 rfl ?_
            | refine x_aloadN hC dJ4_getNode_137 rfl ?_
            | refine x_aloadV hC dJ4_getNode_137 rfl ?_
          refine x_get hC 3 e2 rfl (by decide) q1207 rfl rfl dJ4_getNode_139 ?_
          refine x_dup hC dJ4_getNode_142 rfl ?_
          first
            | refine x_astore (lv' := [_, _, _, _, _, _, _, _]) hC dJ4_getNode_143 (by decide) rfl ?_
            | refine x_astoreN (lv' := [_, _, _, _, _, _, _, _]) hC dJ4_getNode_143 (by decide) rfl ?_
            | refine x_astoreV (lv' := [_, _, _, _, _, _, _, _]) hC dJ4_getNode_143 (by decide) rfl ?_
          refine x_ifnonnullN hC dJ4_getNode_145 ?_
          exact none_ (by rw [← e1, hFind_miss hne]; rfl) _
        have found : nd.2.1 = w → ∀ w7, Wg G C M 0 0 134 [some (.ref m), some (.ref k), some (.ref t), some (.ref a0), some (.ref nd.1), some (.int (nI 16)), some (.int (spr (nmH w))), w7] [] := by
          intro he w7
          first
            | refine x_aload hC dJ4_getNode_134 rfl ?_
            | refine x_aloadN hC dJ4_getNode_134 rfl ?_
            | refine x_aloadV hC dJ4_getNode_134 rfl ?_
          exact x_aret hC hkk dJ4_getNode_136 (Or.inl ⟨_, rfl⟩) (Or.inr ⟨_, rfl⟩) (Nat.le_of_ble_eq_true rfl) (Nat.le_of_ble_eq_true rfl) ⟨rfl, Or.inr ⟨nd.2.2.2, nd.1, _, _, _, by rw [← e1, hFind_hit he], rfl, e2⟩⟩
        first
          | refine x_aload hC dJ4_getNode_99 rfl ?_
          | refine x_aloadN hC dJ4_getNode_99 rfl ?_
          | refine x_aloadV hC dJ4_getNode_99 rfl ?_
        refine x_get hC 0 e2 rfl (by decide) q1196 rfl rfl dJ4_getNode_101 ?_
        refine x_iload hC dJ4_getNode_104 rfl ?_
        refine x_icmp_ne (tgt := 137) hC dJ4_getNode_106 (by decide) (fun d1 => ?_) (fun d1 => ?_)
        · exact next (fun he => d1 (by rw [he])) _
        · first
            | refine x_aload hC dJ4_getNode_109 rfl ?_
            | refine x_aloadN hC dJ4_getNode_109 rfl ?_
            | refine x_aloadV hC dJ4_getNode_109 rfl ?_
          refine x_get hC 1 e2 rfl (by decide) q1200 rfl rfl dJ4_getNode_111 ?_
          refine x_dup hC dJ4_getNode_114 rfl ?_
          first
            | refine x_astore (lv' := [_, _, _, _, _, _, _, _]) hC dJ4_getNode_115 (by decide) rfl ?_
            | refine x_astoreN (lv' := [_, _, _, _, _, _, _, _]) hC dJ4_getNode_115 (by decide) rfl ?_
            | refine x_astoreV (lv' := [_, _, _, _, _, _, _, _]) hC dJ4_getNode_115 (by decide) rfl ?_
          first
            | refine x_aload_n hC dJ4_getNode_117 rfl rfl ?_
            | refine x_aload_nN hC dJ4_getNode_117 rfl rfl ?_
            | refine x_aload_nV hC dJ4_getNode_117 rfl rfl ?_
          refine x_acmp_eqR (tgt := 134) hC dJ4_getNode_118 (by decide) (fun d2 => ?_) (fun d2 => ?_)
          · exact found (e3.uni (by rw [d2]; exact hk0)) _
          · first
              | refine x_aload_n hC dJ4_getNode_121 rfl rfl ?_
              | refine x_aload_nN hC dJ4_getNode_121 rfl rfl ?_
              | refine x_aload_nV hC dJ4_getNode_121 rfl rfl ?_
            refine x_ifnull hC dJ4_getNode_122 ?_
            first
              | refine x_aload_n hC dJ4_getNode_125 rfl rfl ?_
              | refine x_aload_nN hC dJ4_getNode_125 rfl rfl ?_
              | refine x_aload_nV hC dJ4_getNode_125 rfl rfl ?_
            first
              | refine x_aload hC dJ4_getNode_126 rfl ?_
              | refine x_aloadN hC dJ4_getNode_126 rfl ?_
              | refine x_aloadV hC dJ4_getNode_126 rfl ?_
            refine x_callA0 (owner := "java/lang/Object") (na := 1) hC (ct_nmEq hG hk0 e3) q745 q747 q750 q751 q111 q752 q744 hkr rfl (by decide +kernel) rfl ⟨Nat.le_of_ble_eq_true rfl, Nat.le_of_ble_eq_true rfl⟩ rfl (Nat.le_of_ble_eq_true rfl) ⟨rfl, rfl⟩ ⟨Nat.le_of_ble_eq_true rfl, Nat.le_of_ble_eq_true rfl⟩ dJ4_getNode_128 ?_
            rintro _ M ⟨rfl, rfl⟩
            refine x_if_eqB (tgt := 137) hC dJ4_getNode_131 (by decide) (fun d3 => ?_) (fun d3 => ?_)
            · exact next (fun he => d3 he.symm) _
            · exact found d3.symm _
      | cons n2 r ih =>
        intro nd a0 nx e1 e2 e3 e4 w7
        have next : ¬ nd.2.1 = w → ∀ w7, Wg G C M 0 0 137 [some (.ref m), some (.ref k), some (.ref t), some (.ref a0), some (.ref nd.1), some (.int (nI 16)), some (.int (spr (nmH w))), w7] [] := by
          intro hne w7
          obtain ⟨e5, nx2, e6, e7, e8⟩ := e4
          subst e5
          first
            | refine x_aload hC dJ4_getNode_137 rfl ?_
            | refine x_aloadN hC dJ4_getNode_137 rfl ?_
            | refine x_aloadV hC dJ4_getNode_137 rfl ?_
          refine x_get hC 3 e2 rfl (by decide) q1207 rfl rfl dJ4_getNode_139 ?_
          refine x_dup hC dJ4_getNode_142 rfl ?_
          first
            | refine x_astore (lv' := [_, _, _, _, _, _, _, _]) hC dJ4_getNode_143 (by decide) rfl ?_
            | refine x_astoreN (lv' := [_, _, _, _, _, _, _, _]) hC dJ4_getNode_143 (by decide) rfl ?_
            | refine x_astoreV (lv' := [_, _, _, _, _, _, _, _]) hC dJ4_getNode_143 (by decide) rfl ?_
          refine x_ifnonnull (tgt := 99) hC dJ4_getNode_145 (by decide) ?_
          exact ih n2 a0 nx2 (by rw [← e1, hFind_miss hne]) e6 e7 e8 _
        have found : nd.2.1 = w → ∀ w7, Wg G C M 0 0 134 [some (.ref m), some (.ref k), some (.ref t), some (.ref a0), some (.ref nd.1), some (.int (nI 16)), some (.int (spr (nmH w))), w7] [] := by
          intro he w7
          first
            | refine x_aload hC dJ4_getNode_134 rfl ?_
            | refine x_aloadN hC dJ4_getNode_134 rfl ?_
            | refine x_aloadV hC dJ4_getNode_134 rfl ?_
          exact x_aret hC hkk dJ4_getNode_136 (Or.inl ⟨_, rfl⟩) (Or.inr ⟨_, rfl⟩) (Nat.le_of_ble_eq_true rfl) (Nat.le_of_ble_eq_true rfl) ⟨rfl, Or.inr ⟨nd.2.2.2, nd.1, _, _, _, by rw [← e1, hFind_hit he], rfl, e2⟩⟩
        first
          | refine x_aload hC dJ4_getNode_99 rfl ?_
          | refine x_aloadN hC dJ4_getNode_99 rfl ?_
          | refine x_aloadV hC dJ4_getNode_99 rfl ?_
        refine x_get hC 0 e2 rfl (by decide) q1196 rfl rfl dJ4_getNode_101 ?_
        refine x_iload hC dJ4_getNode_104 rfl ?_
        refine x_icmp_ne (tgt := 137) hC dJ4_getNode_106 (by decide) (fun d1 => ?_) (fun d1 => ?_)
        · exact next (fun he => d1 (by rw [he])) _
        · first
            | refine x_aload hC dJ4_getNode_109 rfl ?_
            | refine x_aloadN hC dJ4_getNode_109 rfl ?_
            | refine x_aloadV hC dJ4_getNode_109 rfl ?_
          refine x_get hC 1 e2 rfl (by decide) q1200 rfl rfl dJ4_getNode_111 ?_
          refine x_dup hC dJ4_getNode_114 rfl ?_
          first
            | refine x_astore (lv' := [_, _, _, _, _, _, _, _]) hC dJ4_getNode_115 (by decide) rfl ?_
            | refine x_astoreN (lv' := [_, _, _, _, _, _, _, _]) hC dJ4_getNode_115 (by decide) rfl ?_
            | refine x_astoreV (lv' := [_, _, _, _, _, _, _, _]) hC dJ4_getNode_115 (by decide) rfl ?_
          first
            | refine x_aload_n hC dJ4_getNode_117 rfl rfl ?_
            | refine x_aload_nN hC dJ4_getNode_117 rfl rfl ?_
            | refine x_aload_nV hC dJ4_getNode_117 rfl rfl ?_
          refine x_acmp_eqR (tgt := 134) hC dJ4_getNode_118 (by decide) (fun d2 => ?_) (fun d2 => ?_)
          · exact found (e3.uni (by rw [d2]; exact hk0)) _
          · first
              | refine x_aload_n hC dJ4_getNode_121 rfl rfl ?_
              | refine x_aload_nN hC dJ4_getNode_121 rfl rfl ?_
              | refine x_aload_nV hC dJ4_getNode_121 rfl rfl ?_
            refine x_ifnull hC dJ4_getNode_122 ?_
            first
              | refine x_aload_n hC dJ4_getNode_125 rfl rfl ?_
              | refine x_aload_nN hC dJ4_getNode_125 rfl rfl ?_
              | refine x_aload_nV hC dJ4_getNode_125 rfl rfl ?_
            first
              | refine x_aload hC dJ4_getNode_126 rfl ?_
              | refine x_aloadN hC dJ4_getNode_126 rfl ?_
              | refine x_aloadV hC dJ4_getNode_126 rfl ?_
            refine x_callA0 (owner := "java/lang/Object") (na := 1) hC (ct_nmEq hG hk0 e3) q745 q747 q750 q751 q111 q752 q744 hkr rfl (by decide +kernel) rfl ⟨Nat.le_of_ble_eq_true rfl, Nat.le_of_ble_eq_true rfl⟩ rfl (Nat.le_of_ble_eq_true rfl) ⟨rfl, rfl⟩ ⟨Nat.le_of_ble_eq_true rfl, Nat.le_of_ble_eq_true rfl⟩ dJ4_getNode_128 ?_
            rintro _ M ⟨rfl, rfl⟩
            refine x_if_eqB (tgt := 137) hC dJ4_getNode_131 (by decide) (fun d3 => ?_) (fun d3 => ?_)
            · exact next (fun he => d3 he.symm) _
            · exact found d3.symm _
    first
      | refine x_aload_n hC dJ4_getNode_0 rfl rfl ?_
      | refine x_aload_nN hC dJ4_getNode_0 rfl rfl ?_
      | refine x_aload_nV hC dJ4_getNode_0 rfl rfl ?_
    refine x_get hC 2 h1 rfl (by decide) q180 rfl rfl dJ4_getNode_1 ?_
    refine x_dup hC dJ4_getNode_4 rfl ?_
    first
      | refine x_astore_n (lv' := [_, _, _, _, _, _, _, _]) hC dJ4_getNode_5 rfl (by decide) rfl ?_
      | refine x_astore_nN (lv' := [_, _, _, _, _, _, _, _]) hC dJ4_getNode_5 rfl (by decide) rfl ?_
      | refine x_astore_nV (lv' := [_, _, _, _, _, _, _, _]) hC dJ4_getNode_5 rfl (by decide) rfl ?_
    refine x_ifnull hC dJ4_getNode_6 ?_
    first
      | refine x_aload_n hC dJ4_getNode_9 rfl rfl ?_
      | refine x_aload_nN hC dJ4_getNode_9 rfl rfl ?_
      | refine x_aload_nV hC dJ4_getNode_9 rfl rfl ?_
    refine x_alen hC h2 dJ4_getNode_10 ?_
    dsimp only
    refine x_dup hC dJ4_getNode_11 rfl ?_
    refine x_istore (lv' := [_, _, _, _, _, _, _, _]) hC dJ4_getNode_12 (by decide) rfl ?_
    refine x_if_leN (tgt := 148) hC (by omega) dJ4_getNode_14 (by decide) (fun d0 => ?_) (fun d0 => ?_)
    · exact absurd d0 (by decide)
    · first
        | refine x_aload_n hC dJ4_getNode_17 rfl rfl ?_
        | refine x_aload_nN hC dJ4_getNode_17 rfl rfl ?_
        | refine x_aload_nV hC dJ4_getNode_17 rfl rfl ?_
      refine x_iload hC dJ4_getNode_18 rfl ?_
      refine x_iconst (v := nI 1) hC dJ4_getNode_20 (by decide) ?_
      refine x_isubN hC dJ4_getNode_21 (by decide) ?_
      first
        | refine x_aload_n hC dJ4_getNode_22 rfl rfl ?_
        | refine x_aload_nN hC dJ4_getNode_22 rfl rfl ?_
        | refine x_aload_nV hC dJ4_getNode_22 rfl rfl ?_
      refine x_callS0 (na := 1) hC (ct_hmHash hG hk0) (lw_S q656 q657 q87 q658) (by decide +kernel) rfl ⟨Nat.le_of_ble_eq_true rfl, Nat.le_of_ble_eq_true rfl⟩ rfl (Nat.le_of_ble_eq_true rfl) ⟨rfl, rfl⟩ ⟨Nat.le_of_ble_eq_true rfl, Nat.le_of_ble_eq_true rfl⟩ dJ4_getNode_23 ?_
      rintro _ M ⟨rfl, rfl⟩
      refine x_dup hC dJ4_getNode_26 rfl ?_
      refine x_istore (lv' := [_, _, _, _, _, _, _, _]) hC dJ4_getNode_27 (by decide) rfl ?_
      refine x_iand hC dJ4_getNode_29 ?_
      rw [show nI (16 - 1) &&& spr (nmH w) = nI (hI w) from h0.2]
      refine x_aaldN hC h2 rfl h0.1 (by first | decide | omega) dJ4_getNode_30 ?_
      cases l with
      | nil =>
        have e5 : f (hI w) = none := c1
        rw [e5]
        refine x_dup hC dJ4_getNode_31 rfl ?_
        first
          | refine x_astore_n (lv' := [_, _, _, _, _, _, _, _]) hC dJ4_getNode_32 rfl (by decide) rfl ?_
          | refine x_astore_nN (lv' := [_, _, _, _, _, _, _, _]) hC dJ4_getNode_32 rfl (by decide) rfl ?_
          | refine x_astore_nV (lv' := [_, _, _, _, _, _, _, _]) hC dJ4_getNode_32 rfl (by decide) rfl ?_
        refine x_ifnullN (tgt := 148) hC dJ4_getNode_33 (by decide) ?_
        exact none_ rfl _
      | cons nd r =>
        obtain ⟨e5, nx, e6, e7, e8⟩ := c1
        rw [e5]
        refine x_dup hC dJ4_getNode_31 rfl ?_
        first
          | refine x_astore_n (lv' := [_, _, _, _, _, _, _, _]) hC dJ4_getNode_32 rfl (by decide) rfl ?_
          | refine x_astore_nN (lv' := [_, _, _, _, _, _, _, _]) hC dJ4_getNode_32 rfl (by decide) rfl ?_
          | refine x_astore_nV (lv' := [_, _, _, _, _, _, _, _]) hC dJ4_getNode_32 rfl (by decide) rfl ?_
        refine x_ifnull hC dJ4_getNode_33 ?_
        have found : nd.2.1 = w → ∀ w7, Wg G C M 0 0 69 [some (.ref m), some (.ref k), some (.ref t), some (.ref nd.1), none, some (.int (nI 16)), some (.int (spr (nmH w))), w7] [] := by
          intro he w7
          first
            | refine x_aload_n hC dJ4_getNode_69 rfl rfl ?_
            | refine x_aload_nN hC dJ4_getNode_69 rfl rfl ?_
            | refine x_aload_nV hC dJ4_getNode_69 rfl rfl ?_
          exact x_aret hC hkk dJ4_getNode_70 (Or.inl ⟨_, rfl⟩) (Or.inr ⟨_, rfl⟩) (Nat.le_of_ble_eq_true rfl) (Nat.le_of_ble_eq_true rfl) ⟨rfl, Or.inr ⟨nd.2.2.2, nd.1, _, _, _, hFind_hit he, rfl, e6⟩⟩
        have next : ¬ nd.2.1 = w → ∀ w7, Wg G C M 0 0 71 [some (.ref m), some (.ref k), some (.ref t), some (.ref nd.1), none, some (.int (nI 16)), some (.int (spr (nmH w))), w7] [] := by
          intro hne w7
          cases r with
          | nil =>
            have e9 : nx = none := e8
            subst e9
            first
              | refine x_aload_n hC dJ4_getNode_71 rfl rfl ?_
              | refine x_aload_nN hC dJ4_getNode_71 rfl rfl ?_
              | refine x_aload_nV hC dJ4_getNode_71 rfl rfl ?_
            refine x_get hC 3 e6 rfl (by decide) q1207 rfl rfl dJ4_getNode_72 ?_
            refine x_dup hC dJ4_getNode_75 rfl ?_
            first
              | refine x_astore (lv' := [_, _, _, _, _, _, _, _]) hC dJ4_getNode_76 (by decide) rfl ?_
              | refine x_astoreN (lv' := [_, _, _, _, _, _, _, _]) hC dJ4_getNode_76 (by decide) rfl ?_
              | refine x_astoreV (lv' := [_, _, _, _, _, _, _, _]) hC dJ4_getNode_76 (by decide) rfl ?_
            refine x_ifnullN (tgt := 148) hC dJ4_getNode_78 (by decide) ?_
            exact none_ (by rw [hFind_miss hne]; rfl) _
          | cons n2 r =>
            obtain ⟨e9, nx2, e10, e11, e12⟩ := e8
            subst e9
            first
              | refine x_aload_n hC dJ4_getNode_71 rfl rfl ?_
              | refine x_aload_nN hC dJ4_getNode_71 rfl rfl ?_
              | refine x_aload_nV hC dJ4_getNode_71 rfl rfl ?_
            refine x_get hC 3 e6 rfl (by decide) q1207 rfl rfl dJ4_getNode_72 ?_
            refine x_dup hC dJ4_getNode_75 rfl ?_
            first
              | refine x_astore (lv' := [_, _, _, _, _, _, _, _]) hC dJ4_getNode_76 (by decide) rfl ?_
              | refine x_astoreN (lv' := [_, _, _, _, _, _, _, _]) hC dJ4_getNode_76 (by decide) rfl ?_
              | refine x_astoreV (lv' := [_, _, _, _, _, _, _, _]) hC dJ4_getNode_76 (by decide) rfl ?_
            refine x_ifnull hC dJ4_getNode_78 ?_
            first
              | refine x_aload_n hC dJ4_getNode_81 rfl rfl ?_
              | refine x_aload_nN hC dJ4_getNode_81 rfl rfl ?_
              | refine x_aload_nV hC dJ4_getNode_81 rfl rfl ?_
            refine x_noTree hC e6 q778 dJ4_getNode_82 ?_
            refine x_if_eq (tgt := 99) hC dJ4_getNode_85 (by decide) (fun d4 => ?_) (fun d4 => ?_)
            · exact loop r n2 nd.1 nx2 (hFind_miss hne).symm e10 e11 e12 _
            · exact absurd rfl d4
        first
          | refine x_aload_n hC dJ4_getNode_36 rfl rfl ?_
          | refine x_aload_nN hC dJ4_getNode_36 rfl rfl ?_
          | refine x_aload_nV hC dJ4_getNode_36 rfl rfl ?_
        refine x_get hC 0 e6 rfl (by decide) q1196 rfl rfl dJ4_getNode_37 ?_
        refine x_iload hC dJ4_getNode_40 rfl ?_
        refine x_icmp_ne (tgt := 71) hC dJ4_getNode_42 (by decide) (fun d1 => ?_) (fun d1 => ?_)
        · exact next (fun he => d1 (by rw [he])) _
        · first
            | refine x_aload_n hC dJ4_getNode_45 rfl rfl ?_
            | refine x_aload_nN hC dJ4_getNode_45 rfl rfl ?_
            | refine x_aload_nV hC dJ4_getNode_45 rfl rfl ?_
          refine x_get hC 1 e6 rfl (by decide) q1200 rfl rfl dJ4_getNode_46 ?_
          refine x_dup hC dJ4_getNode_49 rfl ?_
          first
            | refine x_astore (lv' := [_, _, _, _, _, _, _, _]) hC dJ4_getNode_50 (by decide) rfl ?_
            | refine x_astoreN (lv' := [_, _, _, _, _, _, _, _]) hC dJ4_getNode_50 (by decide) rfl ?_
            | refine x_astoreV (lv' := [_, _, _, _, _, _, _, _]) hC dJ4_getNode_50 (by decide) rfl ?_
          first
            | refine x_aload_n hC dJ4_getNode_52 rfl rfl ?_
            | refine x_aload_nN hC dJ4_getNode_52 rfl rfl ?_
            | refine x_aload_nV hC dJ4_getNode_52 rfl rfl ?_
          refine x_acmp_eqR (tgt := 69) hC dJ4_getNode_53 (by decide) (fun d2 => ?_) (fun d2 => ?_)
          · exact found (e7.uni (by rw [d2]; exact hk0)) _
          · first
              | refine x_aload_n hC dJ4_getNode_56 rfl rfl ?_
              | refine x_aload_nN hC dJ4_getNode_56 rfl rfl ?_
              | refine x_aload_nV hC dJ4_getNode_56 rfl rfl ?_
            refine x_ifnull hC dJ4_getNode_57 ?_
            first
              | refine x_aload_n hC dJ4_getNode_60 rfl rfl ?_
              | refine x_aload_nN hC dJ4_getNode_60 rfl rfl ?_
              | refine x_aload_nV hC dJ4_getNode_60 rfl rfl ?_
            first
              | refine x_aload hC dJ4_getNode_61 rfl ?_
              | refine x_aloadN hC dJ4_getNode_61 rfl ?_
              | refine x_aloadV hC dJ4_getNode_61 rfl ?_
            refine x_callA0 (owner := "java/lang/Object") (na := 1) hC (ct_nmEq hG hk0 e7) q745 q747 q750 q751 q111 q752 q744 hkr rfl (by decide +kernel) rfl ⟨Nat.le_of_ble_eq_true rfl, Nat.le_of_ble_eq_true rfl⟩ rfl (Nat.le_of_ble_eq_true rfl) ⟨rfl, rfl⟩ ⟨Nat.le_of_ble_eq_true rfl, Nat.le_of_ble_eq_true rfl⟩ dJ4_getNode_63 ?_
            rintro _ M ⟨rfl, rfl⟩
            refine x_if_eqB (tgt := 71) hC dJ4_getNode_66 (by decide) (fun d3 => ?_) (fun d3 => ?_)
            · exact next (fun he => d3 he.symm) _
            · exact found d3.symm _
theorem ct_hmGet (hG : GOK G) (h : HM M g m D n) (hk0 : NM M k w) : Ct G yJ4_get cJ4_get 3 (some (.object "java/lang/Object")) (xrm 8 0 0) [.ref m, .ref k] M (fun r M' => M' = M ∧ r = some (va_rf (D w))) := by
  have hr : ∃ vs, M m = some (ob g 8 vs) := by
    obtain ⟨mc, lf, ⟨h1, h2⟩ | ⟨t, B, h1, -⟩⟩ := h
    · exact ⟨_, h1⟩
    · exact ⟨_, h1⟩
  obtain ⟨vs, hm⟩ := hr
  refine ct_open (lv := [_, _, _]) hG (by decide +kernel) (Nat.le_of_ble_eq_true rfl) rfl (fun C hC hk => ?_)
  first
    | refine x_aload_n hC dJ4_get_0 rfl rfl ?_
    | refine x_aload_nN hC dJ4_get_0 rfl rfl ?_
    | refine x_aload_nV hC dJ4_get_0 rfl rfl ?_
  first
    | refine x_aload_n hC dJ4_get_1 rfl rfl ?_
    | refine x_aload_nN hC dJ4_get_1 rfl rfl ?_
    | refine x_aload_nV hC dJ4_get_1 rfl rfl ?_
  refine x_callV0 (na := 1) hC (ct_hmNode hG h hk0) (lw_V q652 q653 q654 q87 q655) hm rfl rfl (by decide +kernel) rfl ⟨Nat.le_of_ble_eq_true rfl, Nat.le_of_ble_eq_true rfl⟩ rfl (Nat.le_of_ble_eq_true rfl) ⟨rfl, rfl⟩ ⟨Nat.le_of_ble_eq_true rfl, Nat.le_of_ble_eq_true rfl⟩ dJ4_get_2 ?_
  rintro r M1 ⟨hM1, hr⟩
  subst hM1
  rcases hr with ⟨e1, e2⟩ | ⟨v, a, h0, k0, nx, e1, e2, e3⟩
  · subst e2
    refine x_dup hC dJ4_get_5 rfl ?_
    first
      | refine x_astore_n (lv' := [_, _, _]) hC dJ4_get_6 rfl (by decide) rfl ?_
      | refine x_astore_nN (lv' := [_, _, _]) hC dJ4_get_6 rfl (by decide) rfl ?_
      | refine x_astore_nV (lv' := [_, _, _]) hC dJ4_get_6 rfl (by decide) rfl ?_
    refine x_ifnonnullN hC dJ4_get_7 ?_
    refine x_null hC dJ4_get_10 ?_
    refine x_goto (tgt := 18) hC dJ4_get_11 (by decide) ?_
    exact x_aret hC hk dJ4_get_18 (Or.inl ⟨_, rfl⟩) (Or.inl rfl) (Nat.le_of_ble_eq_true rfl) (Nat.le_of_ble_eq_true rfl) ⟨rfl, by rw [e1]; rfl⟩
  · subst e2
    refine x_dup hC dJ4_get_5 rfl ?_
    first
      | refine x_astore_n (lv' := [_, _, _]) hC dJ4_get_6 rfl (by decide) rfl ?_
      | refine x_astore_nN (lv' := [_, _, _]) hC dJ4_get_6 rfl (by decide) rfl ?_
      | refine x_astore_nV (lv' := [_, _, _]) hC dJ4_get_6 rfl (by decide) rfl ?_
    refine x_ifnonnull (tgt := 14) hC dJ4_get_7 (by decide) ?_
    first
      | refine x_aload_n hC dJ4_get_14 rfl rfl ?_
      | refine x_aload_nN hC dJ4_get_14 rfl rfl ?_
      | refine x_aload_nV hC dJ4_get_14 rfl rfl ?_
    refine x_get hC 2 e3 rfl (by decide) q1202 rfl rfl dJ4_get_15 ?_
    exact x_aret hC hk dJ4_get_18 (Or.inl ⟨_, rfl⟩) (Or.inr ⟨_, rfl⟩) (Nat.le_of_ble_eq_true rfl) (Nat.le_of_ble_eq_true rfl) ⟨rfl, by rw [e1]; rfl⟩
theorem ct_hmHas (hG : GOK G) (h : HM M g m D n) (hk0 : NM M k w) : Ct G yJ4_containsKey cJ4_containsKey 2 (some .boolean) (xrm 8 0 0) [.ref m, .ref k] M (Pr (.int (xB (¬ D w = none))) M) := by
  have hr : ∃ vs, M m = some (ob g 8 vs) := by
    obtain ⟨mc, lf, ⟨h1, h2⟩ | ⟨t, B, h1, -⟩⟩ := h
    · exact ⟨_, h1⟩
    · exact ⟨_, h1⟩
  obtain ⟨vs, hm⟩ := hr
  refine ct_open (lv := [_, _]) hG (by decide +kernel) (Nat.le_of_ble_eq_true rfl) rfl (fun C hC hk => ?_)
  first
    | refine x_aload_n hC dJ4_containsKey_0 rfl rfl ?_
    | refine x_aload_nN hC dJ4_containsKey_0 rfl rfl ?_
    | refine x_aload_nV hC dJ4_containsKey_0 rfl rfl ?_
  first
    | refine x_aload_n hC dJ4_containsKey_1 rfl rfl ?_
    | refine x_aload_nN hC dJ4_containsKey_1 rfl rfl ?_
    | refine x_aload_nV hC dJ4_containsKey_1 rfl rfl ?_
  refine x_callV0 (na := 1) hC (ct_hmNode hG h hk0) (lw_V q652 q653 q654 q87 q655) hm rfl rfl (by decide +kernel) rfl ⟨Nat.le_of_ble_eq_true rfl, Nat.le_of_ble_eq_true rfl⟩ rfl (Nat.le_of_ble_eq_true rfl) ⟨rfl, rfl⟩ ⟨Nat.le_of_ble_eq_true rfl, Nat.le_of_ble_eq_true rfl⟩ dJ4_containsKey_2 ?_
  rintro r M1 ⟨hM1, hr⟩
  subst hM1
  rcases hr with ⟨e1, e2⟩ | ⟨v, a, h0, k0, nx, e1, e2, e3⟩
  · subst e2
    refine x_ifnullN (tgt := 12) hC dJ4_containsKey_5 (by decide) ?_
    refine x_iconst (v := 0) hC dJ4_containsKey_12 (by decide) ?_
    exact x_zret hC hk dJ4_containsKey_13 (by first | rfl | exact xB_nar) (Nat.le_of_ble_eq_true rfl) (Nat.le_of_ble_eq_true rfl) ⟨by rw [xB_f (fun z => z e1)], rfl⟩
  · subst e2
    refine x_ifnull hC dJ4_containsKey_5 ?_
    refine x_iconst (v := 1) hC dJ4_containsKey_8 (by decide) ?_
    refine x_goto (tgt := 13) hC dJ4_containsKey_9 (by decide) ?_
    have h9 : ¬ D w = none := fun z => by rw [e1] at z; cases z
    exact x_zret hC hk dJ4_containsKey_13 (by first | rfl | exact xB_nar) (Nat.le_of_ble_eq_true rfl) (Nat.le_of_ble_eq_true rfl) ⟨by rw [xB_t h9], rfl⟩
end HMT

