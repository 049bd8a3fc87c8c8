/-! ===== tokens of the text, and the reference's parser ===== -/
abbrev isSp (c : Nat) : Prop := c = 32 ∨ c = 10
abbrev isLt (c : Nat) : Prop := 97 ≤ c ∧ c ≤ 122
abbrev isDg (c : Nat) : Prop := 48 ≤ c ∧ c ≤ 57
/-- the end of the run of p from k on, among d bytes -/
def rn (p : Nat → Prop) [DecidablePred p] (b : Nat → Nat) : Nat → Nat → Nat
  | 0, k => k
  | d + 1, k => if p (b k) then rn p b d (k + 1) else k
theorem rn_ge {p : Nat → Prop} [DecidablePred p] {b : Nat → Nat} : ∀ d k, k ≤ rn p b d k ∧ rn p b d k ≤ k + d
  | 0, k => ⟨Nat.le_refl k, Nat.le_refl k⟩
  | d + 1, k => by
    unfold rn
    split
    · have := rn_ge (p := p) (b := b) d (k + 1); omega
    · omega
theorem rn_t {p : Nat → Prop} [DecidablePred p] {b : Nat → Nat} {L k : Nat} (h : k < L) (hp : p (b k)) : rn p b (L - k) k = rn p b (L - (k + 1)) (k + 1) := by
  rw [show L - k = (L - (k + 1)) + 1 by omega, rn, if_pos hp]
theorem rn_f {p : Nat → Prop} [DecidablePred p] {b : Nat → Nat} {L k : Nat} (h : k < L → ¬ p (b k)) : rn p b (L - k) k = k := by
  cases hd : L - k with
  | zero => rfl
  | succ d => rw [rn, if_neg (h (by omega))]
theorem rn_at {p : Nat → Prop} [DecidablePred p] {b : Nat → Nat} : ∀ {d k j : Nat}, k ≤ j → j < rn p b d k → p (b j)
  | 0, k, j, h1, h2 => by unfold rn at h2; omega
  | d + 1, k, j, h1, h2 => by
    unfold rn at h2
    split at h2
    next hp =>
      rcases Nat.eq_or_lt_of_le h1 with e | e
      · subst e; exact hp
      · exact rn_at e h2
    next => omega
/-- the number of the first j digits from st on, four at most -/
def vl (b : Nat → Nat) (st : Nat) : Nat → Nat
  | 0 => 0
  | j + 1 => if j < 4 then 10 * vl b st j + b (st + j) - 48 else vl b st j
/-- where the token begins that comes next, its end, its kind: 0 the end, 1 none, 2 a word, 3 a number, 4 a semicolon, 5 a hyphen -/
def tkS (b : Nat → Nat) (L k : Nat) : Nat := rn isSp b (L - k) k
def tkN (b : Nat → Nat) (L s : Nat) : Nat := if s = L then s else if isLt (b s) then rn isLt b (L - s) s else if isDg (b s) then rn isDg b (L - s) s else s + 1
def tkC (b : Nat → Nat) (L s : Nat) : Nat := if s = L then 0 else if isLt (b s) then (if rn isLt b (L - s) s - s ≤ 6 then 2 else 1) else if isDg (b s) then (if rn isDg b (L - s) s - s ≤ 4 then 3 else 1) else if b s = 59 then 4 else if b s = 45 then 5 else 1
theorem tkS_le (b : Nat → Nat) {L k : Nat} (h : k ≤ L) : k ≤ tkS b L k ∧ tkS b L k ≤ L := by
  have := rn_ge (p := isSp) (b := b) (L - k) k
  unfold tkS; omega
theorem tkN_le (b : Nat → Nat) {L s : Nat} (h : s ≤ L) : s ≤ tkN b L s ∧ tkN b L s ≤ L := by
  have h1 := rn_ge (p := isLt) (b := b) (L - s) s
  have h2 := rn_ge (p := isDg) (b := b) (L - s) s
  unfold tkN
  split
  · omega
  · split
    · omega
    · split <;> omega
theorem vl_lt {b : Nat → Nat} {st : Nat} : ∀ {j : Nat}, (∀ i, i < j → isDg (b (st + i))) → vl b st j < 10000 ∧ (j ≤ 4 → vl b st j < 10 ^ j)
  | 0, _ => ⟨(show 0 < 10000 by decide), fun _ => (show 0 < 10 ^ 0 by decide)⟩
  | j + 1, h => by
    have ih := vl_lt (b := b) (st := st) (j := j) (fun i hi => h i (by omega))
    have hd := h j (by omega)
    unfold vl
    split
    · next hj =>
      have h1 := ih.2 (by omega)
      have h2 : 10 ^ (j + 1) ≤ 10 ^ 4 := Nat.pow_le_pow_right (by decide) (by omega)
      have h3 : 10 ^ (j + 1) = 10 * 10 ^ j := by rw [Nat.pow_succ, Nat.mul_comm]
      constructor
      · omega
      · intro _; omega
    · next hj => exact ⟨ih.1, fun q => by omega⟩
theorem vl_m {b : Nat → Nat} {st j : Nat} (h : 48 ≤ b (st + j)) (hj : j < 4) : nI 10 * nI (vl b st j) + nI (b (st + j)) - nI 48 = nI (vl b st (j + 1)) := by
  rw [pk_mul, nI_add, pk_sub (by omega), vl, if_pos hj]
section M7
variable {G : X_G} {M : X_M} {m : Nat} {P : Nat → Nat} {V : Nat → Int32} {A : Nat → Nat → Int32}
theorem nIr {c lo hi : Nat} (hc : c < 2 ^ 31) (h1 : lo < 2 ^ 31) (h2 : hi < 2 ^ 31) : (nI lo ≤ nI c ∧ nI c ≤ nI hi) ↔ (lo ≤ c ∧ c ≤ hi) := by rw [nI_leI h1 hc, nI_leI hc h2]
theorem ct_advance (hG : GOK G) (hm : Mdl M m P V A) {L k0 : Nat} (hL : V 2 = nI L) (hL9 : L ≤ 900) {b : Nat → Nat} (hb : ∀ i, i < L → b i < 256 ∧ A 4 i = nI (b i)) (hk8 : V 8 = nI k0) (hk0 : k0 ≤ L) : Ct G yX3_advance cX3_advance 2 (some .boolean) (xrm 2 0 0) [.ref m] M (fun r M' => r = some (.int 1) ∧ ∃ V', Mdl M' m P V' A ∧ Fm M M' ∧ V' 7 = nI (tkS b L k0) ∧ V' 8 = nI (tkN b L (tkS b L k0)) ∧ V' 9 = nI (tkC b L (tkS b L k0)) ∧ (tkC b L (tkS b L k0) = 3 → V' 10 = nI (vl b (tkS b L k0) (tkN b L (tkS b L k0) - tkS b L k0))) ∧ ∀ q, q < 7 → V' q = V q) := by
  refine ct_open (lv := [_, _]) hG (by decide +kernel) (Nat.le_of_ble_eq_true rfl) rfl (fun C hC hk => ?_)
  have hF : Fm M M := Fr.rf
  generalize hst : tkS b L k0 = st at hk ⊢
  have hstL : k0 ≤ st ∧ st ≤ L := by rw [← hst]; exact tkS_le b hk0
  have fin : ∀ (M1 : X_M) (V1 : Nat → Int32) (w1 : Option Value), Mdl M1 m P V1 A → Fm M M1 → V1 7 = nI st → V1 8 = nI (tkN b L st) → V1 9 = nI (tkC b L st) → (tkC b L st = 3 → V1 10 = nI (vl b st (tkN b L st - st))) → (∀ q, q < 7 → V1 q = V q) → Wg G C M1 0 0 287 [some (.ref m), w1] [] := by
    intro M1 V1 w1 hm1 hF1 h7 h8 h9 h10 hV
    refine x_iconst (v := 1) hC dX3_advance_287 (by decide) ?_
    exact x_zret hC hk dX3_advance_288 (by first | rfl | exact xB_nar) (Nat.le_of_ble_eq_true rfl) (Nat.le_of_ble_eq_true rfl) ⟨rfl, V1, hm1, hF1, h7, h8, h9, h10, hV⟩
  have rest : ∀ (M1 : X_M) (V1 : Nat → Int32), Mdl M1 m P V1 A → Fm M M1 → V1 8 = nI st → (∀ q, q < 7 → V1 q = V q) → Wg G C M1 0 0 39 [some (.ref m), none] [] := by
    intro M V1 hm hF h8 hV
    refine x_aload_n hC dX3_advance_39 rfl rfl ?_
    refine x_aload_n hC dX3_advance_40 rfl rfl ?_
    refine x_get hC 18 hm.1 rfl (by decide) q2348 rfl rfl dX3_advance_41 ?_
    refine x_mput hC hm 17 7 (by decide) q2347 rfl rfl rfl rfl rfl rfl dX3_advance_44 (fun M hm hF1 => ?_)
    have hF := hF.tr hF1
    rw [h8] at hm
    refine x_aload_n hC dX3_advance_47 rfl rfl ?_
    refine x_aload_n hC dX3_advance_48 rfl rfl ?_
    refine x_get hC 18 hm.1 rfl (by decide) q2348 rfl rfl dX3_advance_49 ?_
    rw [show upd V1 7 (nI st) 8 = nI st from h8]
    refine x_callV0 (na := 1) hC (ct_byteAt hG hm ((hV 2 (by decide)).trans hL) hL9 (by omega)) (lw_V q2437 q2439 qs36 q89 q2440) hm.1 rfl rfl (by decide +kernel) rfl ⟨Nat.le_of_ble_eq_true rfl, Nat.le_of_ble_eq_true rfl⟩ rfl (Nat.le_of_ble_eq_true rfl) ⟨rfl, rfl⟩ ⟨Nat.le_of_ble_eq_true rfl, Nat.le_of_ble_eq_true rfl⟩ dX3_advance_52 ?_
    rintro _ M ⟨rfl, rfl⟩
    rcases Nat.lt_or_ge st L with hlt | hge
    · rw [if_pos hlt, (hb st hlt).2]
      have hb9 := (hb st hlt).1
      refine x_istore_n (lv' := [_, _]) hC dX3_advance_55 rfl (by decide) rfl ?_
      refine x_iload_n hC dX3_advance_56 rfl rfl ?_
      refine x_iconst (v := -1) hC dX3_advance_57 (by decide) ?_
      refine x_icmp_ne (tgt := 69) hC dX3_advance_58 (by decide) (fun c1 => ?_) (fun c1 => ?_)
      · refine x_iload_n hC dX3_advance_69 rfl rfl ?_
        refine x_bipush (v := nI 97) hC dX3_advance_70 (by decide) ?_
        refine x_bipush (v := nI 122) hC dX3_advance_72 (by decide) ?_
        refine x_callS0 (na := 3) hC (ct_isIn hG _ _ _ _) (lw_S q2414 q2415 q89 q2416) (by decide +kernel) rfl ⟨Nat.le_of_ble_eq_true rfl, Nat.le_of_ble_eq_true rfl⟩ rfl (Nat.le_of_ble_eq_true rfl) ⟨rfl, rfl⟩ ⟨Nat.le_of_ble_eq_true rfl, Nat.le_of_ble_eq_true rfl⟩ dX3_advance_74 ?_
        rintro _ M ⟨rfl, rfl⟩
        rw [xB_iff (nIr (by omega) (by decide) (by decide))]
        refine x_if_eqB (tgt := 137) hC dX3_advance_77 (by decide) (fun c2 => ?_) (fun c2 => ?_)
        · refine x_iload_n hC dX3_advance_137 rfl rfl ?_
          refine x_bipush (v := nI 48) hC dX3_advance_138 (by decide) ?_
          refine x_bipush (v := nI 57) hC dX3_advance_140 (by decide) ?_
          refine x_callS0 (na := 3) hC (ct_isIn hG _ _ _ _) (lw_S q2414 q2415 q89 q2416) (by decide +kernel) rfl ⟨Nat.le_of_ble_eq_true rfl, Nat.le_of_ble_eq_true rfl⟩ rfl (Nat.le_of_ble_eq_true rfl) ⟨rfl, rfl⟩ ⟨Nat.le_of_ble_eq_true rfl, Nat.le_of_ble_eq_true rfl⟩ dX3_advance_142 ?_
          rintro _ M ⟨rfl, rfl⟩
          rw [xB_iff (nIr (by omega) (by decide) (by decide))]
          have e1 : tkN b L st = if isDg (b st) then rn isDg b (L - st) st else st + 1 := by unfold tkN; rw [if_neg (by omega), if_neg c2]
          have e2 : tkC b L st = if isDg (b st) then (if rn isDg b (L - st) st - st ≤ 4 then 3 else 1) else if b st = 59 then 4 else if b st = 45 then 5 else 1 := by unfold tkC; rw [if_neg (by omega), if_neg c2]
          refine x_if_eqB (tgt := 252) hC dX3_advance_145 (by decide) (fun c3 => ?_) (fun c3 => ?_)
          · rw [if_neg c3] at e1 e2
            refine x_aload_n hC dX3_advance_252 rfl rfl ?_
            refine x_dup hC dX3_advance_253 rfl ?_
            refine x_get hC 18 hm.1 rfl (by decide) q2348 rfl rfl dX3_advance_254 ?_
            rw [show upd V1 7 (nI st) 8 = nI st from h8]
            refine x_iconst (v := nI 1) hC dX3_advance_257 (by decide) ?_
            refine x_iaddN hC dX3_advance_258 ?_
            refine x_mput hC hm 18 8 (by decide) q2348 rfl rfl rfl rfl rfl rfl dX3_advance_259 (fun M hm hF1 => ?_)
            have hF := hF.tr hF1
            refine x_aload_n hC dX3_advance_262 rfl rfl ?_
            refine x_iload_n hC dX3_advance_263 rfl rfl ?_
            refine x_bipush (v := nI 59) hC dX3_advance_264 (by decide) ?_
            have fin2 : ∀ v : Int32, v = nI (tkC b L st) → Wg G C M 0 0 284 [some (.ref m), some (.int (nI (b st)))] [.int v, .ref m] := by
              intro v hv
              subst hv
              refine x_mput hC hm 19 9 (by decide) q2349 rfl rfl rfl rfl rfl rfl dX3_advance_284 (fun M hm hF1 => ?_)
              have hF := hF.tr hF1
              exact fin M _ _ hm hF rfl (by rw [e1]; rfl) rfl (fun h => by rw [e2] at h; split at h <;> (try split at h) <;> omega) (fun q hq => by
                rw [upd_n (by omega), upd_n (by omega), upd_n (by omega)]; exact hV q hq)
            refine x_icmp_neN (tgt := 273) hC (by omega) (by omega) dX3_advance_266 (by decide) (fun c4 => ?_) (fun c4 => ?_)
            · refine x_iload_n hC dX3_advance_273 rfl rfl ?_
              refine x_bipush (v := nI 45) hC dX3_advance_274 (by decide) ?_
              refine x_icmp_neN (tgt := 283) hC (by omega) (by omega) dX3_advance_276 (by decide) (fun c5 => ?_) (fun c5 => ?_)
              · refine x_iconst (v := 1) hC dX3_advance_283 (by decide) ?_
                exact fin2 _ (by rw [e2, if_neg c4, if_neg c5]; rfl)
              · refine x_iconst (v := 5) hC dX3_advance_279 (by decide) ?_
                refine x_goto (tgt := 284) hC dX3_advance_280 (by decide) ?_
                exact fin2 _ (by rw [e2, if_neg c4, if_pos c5]; rfl)
            · refine x_iconst (v := 4) hC dX3_advance_269 (by decide) ?_
              refine x_goto (tgt := 284) hC dX3_advance_270 (by decide) ?_
              exact fin2 _ (by rw [e2, if_pos c4]; rfl)
          · rw [if_pos c3] at e1 e2
            refine x_aload_n hC dX3_advance_148 rfl rfl ?_
            refine x_iconst (v := nI 0) hC dX3_advance_149 (by decide) ?_
            refine x_mput hC hm 20 10 (by decide) q2350 rfl rfl rfl rfl rfl rfl dX3_advance_150 (fun M hm hF1 => ?_)
            have hF := hF.tr hF1
            refine x_up (n := L) (I := fun j => st ≤ j → rn isDg b (L - st) st = rn isDg b (L - j) j → (∀ i, i < j - st → isDg (b (st + i))) → ∀ M1 V2, Mdl M1 m P V2 A → Fm _ M1 → V2 7 = nI st → V2 8 = nI j → V2 10 = nI (vl b st (j - st)) → (∀ q, q < 7 → V2 q = V q) → Wg G C M1 0 0 153 [some (.ref m), some (.int (nI (b st)))] []) (fun j hj ih h1 h2 hdg M V2 hm hF h7 h8 h10 hV => ?_) st (by omega) (Nat.le_refl _) rfl (fun i hi => by omega) M _ hm hF rfl ((upd_n (by decide)).trans h8) (by rw [Nat.sub_self]; rfl) (fun q hq => by
                rw [upd_n (by omega), upd_n (by omega)]; exact hV q hq)
            have done : (j < L → ¬ isDg (b j)) → Wg G C M 0 0 227 [some (.ref m), some (.int (nI (b st)))] [] := by
              intro hno
              rw [h2, rn_f hno] at e1 e2
              refine x_aload_n hC dX3_advance_227 rfl rfl ?_
              refine x_aload_n hC dX3_advance_228 rfl rfl ?_
              refine x_get hC 18 hm.1 rfl (by decide) q2348 rfl rfl dX3_advance_229 ?_
              rw [h8]
              refine x_aload_n hC dX3_advance_232 rfl rfl ?_
              refine x_get hC 17 hm.1 rfl (by decide) q2347 rfl rfl dX3_advance_233 ?_
              rw [h7]
              refine x_isubN hC dX3_advance_236 h1 ?_
              refine x_iconst (v := nI 4) hC dX3_advance_237 (by decide) ?_
              have fin3 : ∀ v : Int32, v = nI (tkC b L st) → Wg G C M 0 0 246 [some (.ref m), some (.int (nI (b st)))] [.int v, .ref m] := by
                intro v hv
                subst hv
                refine x_mput hC hm 19 9 (by decide) q2349 rfl rfl rfl rfl rfl rfl dX3_advance_246 (fun M hm hF1 => ?_)
                have hF := hF.tr hF1
                refine x_goto (tgt := 287) hC dX3_advance_249 (by decide) ?_
                exact fin M _ _ hm hF ((upd_n (by decide)).trans h7) (by rw [e1]; exact (upd_n (by decide)).trans h8) rfl (fun h => by rw [e1]; exact (upd_n (by decide)).trans h10) (fun q hq => by
                  rw [upd_n (by omega)]; exact hV q hq)
              refine x_icmp_leN (tgt := 245) hC (by omega) (by omega) dX3_advance_238 (by decide) (fun c6 => ?_) (fun c6 => ?_)
              · refine x_iconst (v := 3) hC dX3_advance_245 (by decide) ?_
                exact fin3 _ (by rw [e2, if_pos c6]; rfl)
              · refine x_iconst (v := 1) hC dX3_advance_241 (by decide) ?_
                refine x_goto (tgt := 246) hC dX3_advance_242 (by decide) ?_
                exact fin3 _ (by rw [e2, if_neg (by omega)]; rfl)
            refine x_aload_n hC dX3_advance_153 rfl rfl ?_
            refine x_aload_n hC dX3_advance_154 rfl rfl ?_
            refine x_get hC 18 hm.1 rfl (by decide) q2348 rfl rfl dX3_advance_155 ?_
            rw [h8]
            refine x_callV0 (na := 1) hC (ct_byteAt hG hm ((hV 2 (by decide)).trans hL) hL9 (by omega)) (lw_V q2437 q2439 qs36 q89 q2440) hm.1 rfl rfl (by decide +kernel) rfl ⟨Nat.le_of_ble_eq_true rfl, Nat.le_of_ble_eq_true rfl⟩ rfl (Nat.le_of_ble_eq_true rfl) ⟨rfl, rfl⟩ ⟨Nat.le_of_ble_eq_true rfl, Nat.le_of_ble_eq_true rfl⟩ dX3_advance_158 ?_
            rintro _ M ⟨rfl, rfl⟩
            refine x_bipush (v := nI 48) hC dX3_advance_161 (by decide) ?_
            refine x_bipush (v := nI 57) hC dX3_advance_163 (by decide) ?_
            rcases Nat.lt_or_ge j L with hjl | hjl
            · rw [if_pos hjl, (hb j hjl).2]
              have hb8 := (hb j hjl).1
              refine x_callS0 (na := 3) hC (ct_isIn hG _ _ _ _) (lw_S q2414 q2415 q89 q2416) (by decide +kernel) rfl ⟨Nat.le_of_ble_eq_true rfl, Nat.le_of_ble_eq_true rfl⟩ rfl (Nat.le_of_ble_eq_true rfl) ⟨rfl, rfl⟩ ⟨Nat.le_of_ble_eq_true rfl, Nat.le_of_ble_eq_true rfl⟩ dX3_advance_165 ?_
              rintro _ M ⟨rfl, rfl⟩
              rw [xB_iff (nIr (by omega) (by decide) (by decide))]
              refine x_if_eqB (tgt := 227) hC dX3_advance_168 (by decide) (fun c7 => ?_) (fun c7 => ?_)
              · exact done (fun _ => c7)
              · have next : ∀ v : Int32, v = nI (vl b st (j + 1 - st)) → Wg G C M 0 0 211 [some (.ref m), some (.int (nI (b st)))] [.int v, .ref m] := by
                  intro v hv
                  subst hv
                  refine x_mput hC hm 20 10 (by decide) q2350 rfl rfl rfl rfl rfl rfl dX3_advance_211 (fun M hm hF1 => ?_)
                  have hF := hF.tr hF1
                  refine x_aload_n hC dX3_advance_214 rfl rfl ?_
                  refine x_dup hC dX3_advance_215 rfl ?_
                  refine x_get hC 18 hm.1 rfl (by decide) q2348 rfl rfl dX3_advance_216 ?_
                  rw [show upd V2 10 (nI (vl b st (j + 1 - st))) 8 = nI j from (upd_n (by decide)).trans h8]
                  refine x_iconst (v := nI 1) hC dX3_advance_219 (by decide) ?_
                  refine x_iaddN hC dX3_advance_220 ?_
                  refine x_mput hC hm 18 8 (by decide) q2348 rfl rfl rfl rfl rfl rfl dX3_advance_221 (fun M hm hF1 => ?_)
                  have hF := hF.tr hF1
                  refine x_goto (tgt := 153) hC dX3_advance_224 (by decide) ?_
                  refine ih hjl (by omega) (h2.trans (rn_t hjl c7)) (fun i hi => ?_) M _ hm hF ?_ rfl ?_ (fun q hq => by
                    rw [upd_n (by omega), upd_n (by omega)]; exact hV q hq)
                  · rcases Nat.lt_or_ge i (j - st) with h9 | h9
                    · exact hdg i h9
                    · rw [show st + i = j by omega]; exact c7
                  · rw [upd_n (by decide), upd_n (by decide)]; exact h7
                  · rw [upd_n (by decide)]; rfl
                refine x_aload_n hC dX3_advance_171 rfl rfl ?_
                refine x_aload_n hC dX3_advance_172 rfl rfl ?_
                refine x_get hC 18 hm.1 rfl (by decide) q2348 rfl rfl dX3_advance_173 ?_
                rw [h8]
                refine x_aload_n hC dX3_advance_176 rfl rfl ?_
                refine x_get hC 17 hm.1 rfl (by decide) q2347 rfl rfl dX3_advance_177 ?_
                rw [h7]
                refine x_isubN hC dX3_advance_180 h1 ?_
                refine x_iconst (v := nI 4) hC dX3_advance_181 (by decide) ?_
                refine x_icmp_geN (tgt := 207) hC (by omega) (by omega) dX3_advance_182 (by decide) (fun c8 => ?_) (fun c8 => ?_)
                · refine x_aload_n hC dX3_advance_207 rfl rfl ?_
                  refine x_get hC 20 hm.1 rfl (by decide) q2350 rfl rfl dX3_advance_208 ?_
                  refine next _ (h10.trans ?_)
                  rw [show j + 1 - st = (j - st) + 1 by omega, vl, if_neg (by omega)]
                · refine x_bipush (v := nI 10) hC dX3_advance_185 (by decide) ?_
                  refine x_aload_n hC dX3_advance_187 rfl rfl ?_
                  refine x_get hC 20 hm.1 rfl (by decide) q2350 rfl rfl dX3_advance_188 ?_
                  rw [h10]
                  refine x_imul hC dX3_advance_191 ?_
                  refine x_aload_n hC dX3_advance_192 rfl rfl ?_
                  refine x_aload_n hC dX3_advance_193 rfl rfl ?_
                  refine x_get hC 18 hm.1 rfl (by decide) q2348 rfl rfl dX3_advance_194 ?_
                  rw [h8]
                  refine x_callV0 (na := 1) hC (ct_byteAt hG hm ((hV 2 (by decide)).trans hL) hL9 (by omega)) (lw_V q2437 q2439 qs36 q89 q2440) hm.1 rfl rfl (by decide +kernel) rfl ⟨Nat.le_of_ble_eq_true rfl, Nat.le_of_ble_eq_true rfl⟩ rfl (Nat.le_of_ble_eq_true rfl) ⟨rfl, rfl⟩ ⟨Nat.le_of_ble_eq_true rfl, Nat.le_of_ble_eq_true rfl⟩ dX3_advance_197 ?_
                  rintro _ M ⟨rfl, rfl⟩
                  rw [if_pos hjl, (hb j hjl).2]
                  refine x_iadd hC dX3_advance_200 ?_
                  refine x_bipush (v := nI 48) hC dX3_advance_201 (by decide) ?_
                  refine x_isub hC dX3_advance_203 ?_
                  refine x_goto (tgt := 211) hC dX3_advance_204 (by decide) ?_
                  refine next _ ?_
                  rw [show j + 1 - st = (j - st) + 1 by omega]
                  have := vl_m (b := b) (st := st) (j := j - st) (by rw [show st + (j - st) = j by omega]; exact c7.1) (by omega)
                  rw [show st + (j - st) = j by omega] at this
                  exact this
            · rw [if_neg (by omega)]
              refine x_callS0 (na := 3) hC (ct_isIn hG _ _ _ _) (lw_S q2414 q2415 q89 q2416) (by decide +kernel) rfl ⟨Nat.le_of_ble_eq_true rfl, Nat.le_of_ble_eq_true rfl⟩ rfl (Nat.le_of_ble_eq_true rfl) ⟨rfl, rfl⟩ ⟨Nat.le_of_ble_eq_true rfl, Nat.le_of_ble_eq_true rfl⟩ dX3_advance_165 ?_
              rintro _ M ⟨rfl, rfl⟩
              rw [xB_f (p := nI 48 ≤ -1 ∧ (-1 : Int32) ≤ nI 57) (by decide)]
              refine x_if_eq (tgt := 227) hC dX3_advance_168 (by decide) (fun c7 => ?_) (fun c7 => ?_)
              · exact done (fun h => by omega)
              · exact absurd rfl c7
        · have e1 : tkN b L st = rn isLt b (L - st) st := by unfold tkN; rw [if_neg (by omega), if_pos c2]
          have e2 : tkC b L st = if rn isLt b (L - st) st - st ≤ 6 then 2 else 1 := by unfold tkC; rw [if_neg (by omega), if_pos c2]
          refine x_up (n := L) (I := fun j => st ≤ j → rn isLt b (L - st) st = rn isLt b (L - j) j → ∀ M1 V2, Mdl M1 m P V2 A → Fm _ M1 → V2 7 = nI st → V2 8 = nI j → (∀ q, q < 7 → V2 q = V q) → Wg G C M1 0 0 80 [some (.ref m), some (.int (nI (b st)))] []) (fun j hj ih h1 h2 M V2 hm hF h7 h8 hV => ?_) st (by omega) (Nat.le_refl _) rfl M _ hm hF rfl h8 (fun q hq => by
                rw [upd_n (by omega)]; exact hV q hq)
          have done : (j < L → ¬ isLt (b j)) → Wg G C M 0 0 111 [some (.ref m), some (.int (nI (b st)))] [] := by
            intro hno
            rw [h2, rn_f hno] at e1 e2
            refine x_aload_n hC dX3_advance_111 rfl rfl ?_
            refine x_aload_n hC dX3_advance_112 rfl rfl ?_
            refine x_get hC 18 hm.1 rfl (by decide) q2348 rfl rfl dX3_advance_113 ?_
            rw [h8]
            refine x_aload_n hC dX3_advance_116 rfl rfl ?_
            refine x_get hC 17 hm.1 rfl (by decide) q2347 rfl rfl dX3_advance_117 ?_
            rw [h7]
            refine x_isubN hC dX3_advance_120 h1 ?_
            refine x_bipush (v := nI 6) hC dX3_advance_121 (by decide) ?_
            have fin3 : ∀ v : Int32, v = nI (tkC b L st) → Wg G C M 0 0 131 [some (.ref m), some (.int (nI (b st)))] [.int v, .ref m] := by
              intro v hv
              subst hv
              refine x_mput hC hm 19 9 (by decide) q2349 rfl rfl rfl rfl rfl rfl dX3_advance_131 (fun M hm hF1 => ?_)
              have hF := hF.tr hF1
              refine x_goto (tgt := 287) hC dX3_advance_134 (by decide) ?_
              exact fin M _ _ hm hF ((upd_n (by decide)).trans h7) (by rw [e1]; exact (upd_n (by decide)).trans h8) rfl (fun h => by rw [e2] at h; split at h <;> omega) (fun q hq => by
                rw [upd_n (by omega)]; exact hV q hq)
            refine x_icmp_leN (tgt := 130) hC (by omega) (by omega) dX3_advance_123 (by decide) (fun c6 => ?_) (fun c6 => ?_)
            · refine x_iconst (v := 2) hC dX3_advance_130 (by decide) ?_
              exact fin3 _ (by rw [e2, if_pos c6]; rfl)
            · refine x_iconst (v := 1) hC dX3_advance_126 (by decide) ?_
              refine x_goto (tgt := 131) hC dX3_advance_127 (by decide) ?_
              exact fin3 _ (by rw [e2, if_neg (by omega)]; rfl)
          refine x_aload_n hC dX3_advance_80 rfl rfl ?_
          refine x_aload_n hC dX3_advance_81 rfl rfl ?_
          refine x_get hC 18 hm.1 rfl (by decide) q2348 rfl rfl dX3_advance_82 ?_
          rw [h8]
          refine x_callV0 (na := 1) hC (ct_byteAt hG hm ((hV 2 (by decide)).trans hL) hL9 (by omega)) (lw_V q2437 q2439 qs36 q89 q2440) hm.1 rfl rfl (by decide +kernel) rfl ⟨Nat.le_of_ble_eq_true rfl, Nat.le_of_ble_eq_true rfl⟩ rfl (Nat.le_of_ble_eq_true rfl) ⟨rfl, rfl⟩ ⟨Nat.le_of_ble_eq_true rfl, Nat.le_of_ble_eq_true rfl⟩ dX3_advance_85 ?_
          rintro _ M ⟨rfl, rfl⟩
          refine x_bipush (v := nI 97) hC dX3_advance_88 (by decide) ?_
          refine x_bipush (v := nI 122) hC dX3_advance_90 (by decide) ?_
          rcases Nat.lt_or_ge j L with hjl | hjl
          · rw [if_pos hjl, (hb j hjl).2]
            have hb8 := (hb j hjl).1
            refine x_callS0 (na := 3) hC (ct_isIn hG _ _ _ _) (lw_S q2414 q2415 q89 q2416) (by decide +kernel) rfl ⟨Nat.le_of_ble_eq_true rfl, Nat.le_of_ble_eq_true rfl⟩ rfl (Nat.le_of_ble_eq_true rfl) ⟨rfl, rfl⟩ ⟨Nat.le_of_ble_eq_true rfl, Nat.le_of_ble_eq_true rfl⟩ dX3_advance_92 ?_
            rintro _ M ⟨rfl, rfl⟩
            rw [xB_iff (nIr (by omega) (by decide) (by decide))]
            refine x_if_eqB (tgt := 111) hC dX3_advance_95 (by decide) (fun c7 => ?_) (fun c7 => ?_)
            · exact done (fun _ => c7)
            · refine x_aload_n hC dX3_advance_98 rfl rfl ?_
              refine x_dup hC dX3_advance_99 rfl ?_
              refine x_get hC 18 hm.1 rfl (by decide) q2348 rfl rfl dX3_advance_100 ?_
              rw [h8]
              refine x_iconst (v := nI 1) hC dX3_advance_103 (by decide) ?_
              refine x_iaddN hC dX3_advance_104 ?_
              refine x_mput hC hm 18 8 (by decide) q2348 rfl rfl rfl rfl rfl rfl dX3_advance_105 (fun M hm hF1 => ?_)
              have hF := hF.tr hF1
              refine x_goto (tgt := 80) hC dX3_advance_108 (by decide) ?_
              exact ih hjl (by omega) (h2.trans (rn_t hjl c7)) M _ hm hF ((upd_n (by decide)).trans h7) rfl (fun q hq => by
                  rw [upd_n (by omega)]; exact hV q hq)
          · rw [if_neg (by omega)]
            refine x_callS0 (na := 3) hC (ct_isIn hG _ _ _ _) (lw_S q2414 q2415 q89 q2416) (by decide +kernel) rfl ⟨Nat.le_of_ble_eq_true rfl, Nat.le_of_ble_eq_true rfl⟩ rfl (Nat.le_of_ble_eq_true rfl) ⟨rfl, rfl⟩ ⟨Nat.le_of_ble_eq_true rfl, Nat.le_of_ble_eq_true rfl⟩ dX3_advance_92 ?_
            rintro _ M ⟨rfl, rfl⟩
            rw [xB_f (p := nI 97 ≤ -1 ∧ (-1 : Int32) ≤ nI 122) (by decide)]
            refine x_if_eq (tgt := 111) hC dX3_advance_95 (by decide) (fun c7 => ?_) (fun c7 => ?_)
            · exact done (fun h => by omega)
            · exact absurd rfl c7
      · exact absurd c1 (nI_m1 (show b st < 2 ^ 31 by omega))
    · rw [if_neg (by omega)]
      refine x_istore_n (lv' := [_, _]) hC dX3_advance_55 rfl (by decide) rfl ?_
      refine x_iload_n hC dX3_advance_56 rfl rfl ?_
      refine x_iconst (v := -1) hC dX3_advance_57 (by decide) ?_
      refine x_icmp_ne (tgt := 69) hC dX3_advance_58 (by decide) (fun c1 => ?_) (fun c1 => ?_)
      · exact absurd rfl c1
      · refine x_aload_n hC dX3_advance_61 rfl rfl ?_
        refine x_iconst (v := 0) hC dX3_advance_62 (by decide) ?_
        refine x_mput hC hm 19 9 (by decide) q2349 rfl rfl rfl rfl rfl rfl dX3_advance_63 (fun M hm hF1 => ?_)
        have hF := hF.tr hF1
        refine x_goto (tgt := 287) hC dX3_advance_66 (by decide) ?_
        have hst2 : st = L := by omega
        refine fin M _ _ hm hF ?_ ?_ ?_ ?_ (fun q hq => by
                rw [upd_n (by omega), upd_n (by omega)]; exact hV q hq)
        · rw [upd_n (by decide)]; rfl
        · rw [upd_n (by decide), upd_n (by decide), h8, tkN, if_pos hst2]
        · rw [upd_s, tkC, if_pos hst2]; rfl
        · intro h; rw [tkC, if_pos hst2] at h; cases h
  refine x_up (n := L) (I := fun j => tkS b L k0 = tkS b L j → ∀ M1 V2, Mdl M1 m P V2 A → Fm _ M1 → V2 8 = nI j → (∀ q, q < 7 → V2 q = V q) → Wg G C M1 0 0 0 [some (.ref m), none] []) (fun j hj ih h2 M V2 hm hF h8 hV => ?_) k0 hk0 rfl M _ hm hF hk8 (fun q hq => rfl)
  have done : (j < L → ¬ isSp (b j)) → Wg G C M 0 0 39 [some (.ref m), none] [] := by
    intro hno
    have hsj : j = st := by rw [← hst, h2, tkS, rn_f hno]
    exact rest M V2 hm hF (by rw [h8, hsj]) hV
  have more : ∀ hjl : j < L, isSp (b j) → Wg G C M 0 0 26 [some (.ref m), none] [] := by
    intro hjl hsp
    refine x_aload_n hC dX3_advance_26 rfl rfl ?_
    refine x_dup hC dX3_advance_27 rfl ?_
    refine x_get hC 18 hm.1 rfl (by decide) q2348 rfl rfl dX3_advance_28 ?_
    rw [h8]
    refine x_iconst (v := nI 1) hC dX3_advance_31 (by decide) ?_
    refine x_iaddN hC dX3_advance_32 ?_
    refine x_mput hC hm 18 8 (by decide) q2348 rfl rfl rfl rfl rfl rfl dX3_advance_33 (fun M hm hF1 => ?_)
    have hF := hF.tr hF1
    refine x_goto (tgt := 0) hC dX3_advance_36 (by decide) ?_
    exact ih hjl (h2.trans (rn_t hjl hsp)) M _ hm hF rfl (fun q hq => by rw [upd_n (by omega)]; exact hV q hq)
  refine x_aload_n hC dX3_advance_0 rfl rfl ?_
  refine x_aload_n hC dX3_advance_1 rfl rfl ?_
  refine x_get hC 18 hm.1 rfl (by decide) q2348 rfl rfl dX3_advance_2 ?_
  rw [h8]
  refine x_callV0 (na := 1) hC (ct_byteAt hG hm ((hV 2 (by decide)).trans hL) hL9 (by omega)) (lw_V q2437 q2439 qs36 q89 q2440) hm.1 rfl rfl (by decide +kernel) rfl ⟨Nat.le_of_ble_eq_true rfl, Nat.le_of_ble_eq_true rfl⟩ rfl (Nat.le_of_ble_eq_true rfl) ⟨rfl, rfl⟩ ⟨Nat.le_of_ble_eq_true rfl, Nat.le_of_ble_eq_true rfl⟩ dX3_advance_5 ?_
  rintro _ M ⟨rfl, rfl⟩
  refine x_bipush (v := nI 32) hC dX3_advance_8 (by decide) ?_
  rcases Nat.lt_or_ge j L with hjl | hjl
  · rw [if_pos hjl, (hb j hjl).2]
    have hb8 := (hb j hjl).1
    refine x_icmp_eqN (tgt := 26) hC (by omega) (by omega) dX3_advance_10 (by decide) (fun c1 => ?_) (fun c1 => ?_)
    · exact more hjl (Or.inl c1)
    · refine x_aload_n hC dX3_advance_13 rfl rfl ?_
      refine x_aload_n hC dX3_advance_14 rfl rfl ?_
      refine x_get hC 18 hm.1 rfl (by decide) q2348 rfl rfl dX3_advance_15 ?_
      rw [h8]
      refine x_callV0 (na := 1) hC (ct_byteAt hG hm ((hV 2 (by decide)).trans hL) hL9 (by omega)) (lw_V q2437 q2439 qs36 q89 q2440) hm.1 rfl rfl (by decide +kernel) rfl ⟨Nat.le_of_ble_eq_true rfl, Nat.le_of_ble_eq_true rfl⟩ rfl (Nat.le_of_ble_eq_true rfl) ⟨rfl, rfl⟩ ⟨Nat.le_of_ble_eq_true rfl, Nat.le_of_ble_eq_true rfl⟩ dX3_advance_18 ?_
      rintro _ M ⟨rfl, rfl⟩
      rw [if_pos hjl, (hb j hjl).2]
      refine x_bipush (v := nI 10) hC dX3_advance_21 (by decide) ?_
      refine x_icmp_neN (tgt := 39) hC (by omega) (by omega) dX3_advance_23 (by decide) (fun c2 => ?_) (fun c2 => ?_)
      · exact done (fun _ h => by rcases h with h | h; exact c1 h; exact c2 h)
      · exact more hjl (Or.inr c2)
  · rw [if_neg (by omega)]
    refine x_icmp_eq (tgt := 26) hC dX3_advance_10 (by decide) (fun c1 => ?_) (fun c1 => ?_)
    · exact absurd c1 (by decide)
    · refine x_aload_n hC dX3_advance_13 rfl rfl ?_
      refine x_aload_n hC dX3_advance_14 rfl rfl ?_
      refine x_get hC 18 hm.1 rfl (by decide) q2348 rfl rfl dX3_advance_15 ?_
      rw [h8]
      refine x_callV0 (na := 1) hC (ct_byteAt hG hm ((hV 2 (by decide)).trans hL) hL9 (by omega)) (lw_V q2437 q2439 qs36 q89 q2440) hm.1 rfl rfl (by decide +kernel) rfl ⟨Nat.le_of_ble_eq_true rfl, Nat.le_of_ble_eq_true rfl⟩ rfl (Nat.le_of_ble_eq_true rfl) ⟨rfl, rfl⟩ ⟨Nat.le_of_ble_eq_true rfl, Nat.le_of_ble_eq_true rfl⟩ dX3_advance_18 ?_
      rintro _ M ⟨rfl, rfl⟩
      rw [if_neg (by omega)]
      refine x_bipush (v := nI 10) hC dX3_advance_21 (by decide) ?_
      refine x_icmp_ne (tgt := 39) hC dX3_advance_23 (by decide) (fun c2 => ?_) (fun c2 => ?_)
      · exact done (fun h => by omega)
      · exact absurd c2 (by decide)
end M7

