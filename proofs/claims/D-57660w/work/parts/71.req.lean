/-! ===== the component's guards ===== -/
abbrev xIOB : String := "java/lang/IndexOutOfBoundsException"
abbrev xIAE : String := "java/lang/IllegalArgumentException"
abbrev xISE : String := "java/lang/IllegalStateException"
abbrev xNSE : String := "java/util/NoSuchElementException"
/-- what a guard leaves: it returns where p holds; otherwise it throws E; the world stays -/
def Pok (p : Prop) (M : X_M) : Option Value → X_M → Prop := fun r M' => r = none ∧ M' = M ∧ p
def Pth (E0 : String) (p : Prop) (M : X_M) : Nat → String → X_M → Prop := fun _ E M' => M' = M ∧ E = E0 ∧ ¬ p
section RQ
variable {G : X_G}
theorem cq_reqIOB (hG : GOK G) (p : Prop) [Decidable p] (M : X_M) : Cq G yX1_requireIndex cX1_requireIndex 1 none (xrm 1 1 6) [.int (xB p)] M (Pok p M) (Pth xIOB p M) := by
  refine cq_open (lv := [_]) hG (by decide +kernel) (Nat.le_of_ble_eq_true rfl) rfl (fun C hC hk hx => ?_)
  refine x_iload_n hC dX1_requireIndex_0 rfl rfl ?_
  refine x_if_neB (tgt := 12) hC dX1_requireIndex_1 (by decide) (fun c => ?_) (fun c => ?_)
  · exact x_vret hC hk dX1_requireIndex_12 (Nat.le_of_ble_eq_true rfl) (Nat.le_of_ble_eq_true rfl) ⟨rfl, rfl, c⟩
  · exact x_throw0 (names := ["java/lang/RuntimeException", "java/lang/Exception"]) hC hx (by decide +kernel) (by decide +kernel) q1541 q119 xt_Index (by decide +kernel) (by decide +kernel) q467 q469 (lw_all_tbl q90) dX1_requireIndex_4 dX1_requireIndex_7 dX1_requireIndex_8 dX1_requireIndex_11 (Nat.le_of_ble_eq_true rfl) (Nat.le_of_ble_eq_true rfl) (Nat.le_of_ble_eq_true rfl) (Nat.le_of_ble_eq_true rfl) (fun _ => ⟨rfl, rfl, c⟩)
theorem cq_reqIAE (hG : GOK G) (p : Prop) [Decidable p] (M : X_M) : Cq G yX1_requireArgument cX1_requireArgument 1 none (xrm 1 1 6) [.int (xB p)] M (Pok p M) (Pth xIAE p M) := by
  refine cq_open (lv := [_]) hG (by decide +kernel) (Nat.le_of_ble_eq_true rfl) rfl (fun C hC hk hx => ?_)
  refine x_iload_n hC dX1_requireArgument_0 rfl rfl ?_
  refine x_if_neB (tgt := 12) hC dX1_requireArgument_1 (by decide) (fun c => ?_) (fun c => ?_)
  · exact x_vret hC hk dX1_requireArgument_12 (Nat.le_of_ble_eq_true rfl) (Nat.le_of_ble_eq_true rfl) ⟨rfl, rfl, c⟩
  · exact x_throw0 (names := ["java/lang/RuntimeException", "java/lang/Exception"]) hC hx (by decide +kernel) (by decide +kernel) q1340 q94 xt_Argument (by decide +kernel) (by decide +kernel) q467 q469 (lw_all_tbl q90) dX1_requireArgument_4 dX1_requireArgument_7 dX1_requireArgument_8 dX1_requireArgument_11 (Nat.le_of_ble_eq_true rfl) (Nat.le_of_ble_eq_true rfl) (Nat.le_of_ble_eq_true rfl) (Nat.le_of_ble_eq_true rfl) (fun _ => ⟨rfl, rfl, c⟩)
theorem cq_reqISE (hG : GOK G) (p : Prop) [Decidable p] (M : X_M) : Cq G yX1_requireState cX1_requireState 1 none (xrm 1 1 6) [.int (xB p)] M (Pok p M) (Pth xISE p M) := by
  refine cq_open (lv := [_]) hG (by decide +kernel) (Nat.le_of_ble_eq_true rfl) rfl (fun C hC hk hx => ?_)
  refine x_iload_n hC dX1_requireState_0 rfl rfl ?_
  refine x_if_neB (tgt := 12) hC dX1_requireState_1 (by decide) (fun c => ?_) (fun c => ?_)
  · exact x_vret hC hk dX1_requireState_12 (Nat.le_of_ble_eq_true rfl) (Nat.le_of_ble_eq_true rfl) ⟨rfl, rfl, c⟩
  · exact x_throw0 (names := ["java/lang/RuntimeException", "java/lang/Exception"]) hC hx (by decide +kernel) (by decide +kernel) q1309 q93 xt_State (by decide +kernel) (by decide +kernel) q467 q469 (lw_all_tbl q90) dX1_requireState_4 dX1_requireState_7 dX1_requireState_8 dX1_requireState_11 (Nat.le_of_ble_eq_true rfl) (Nat.le_of_ble_eq_true rfl) (Nat.le_of_ble_eq_true rfl) (Nat.le_of_ble_eq_true rfl) (fun _ => ⟨rfl, rfl, c⟩)
theorem cq_reqNSE (hG : GOK G) (p : Prop) [Decidable p] (M : X_M) : Cq G yX1_requireElement cX1_requireElement 1 none (xrm 1 1 6) [.int (xB p)] M (Pok p M) (Pth xNSE p M) := by
  refine cq_open (lv := [_]) hG (by decide +kernel) (Nat.le_of_ble_eq_true rfl) rfl (fun C hC hk hx => ?_)
  refine x_iload_n hC dX1_requireElement_0 rfl rfl ?_
  refine x_if_neB (tgt := 12) hC dX1_requireElement_1 (by decide) (fun c => ?_) (fun c => ?_)
  · exact x_vret hC hk dX1_requireElement_12 (Nat.le_of_ble_eq_true rfl) (Nat.le_of_ble_eq_true rfl) ⟨rfl, rfl, c⟩
  · exact x_throw0 (names := ["java/lang/RuntimeException", "java/lang/Exception"]) hC hx (by decide +kernel) (by decide +kernel) q1661 q122 xt_Element (by decide +kernel) (by decide +kernel) q467 q469 (lw_all_tbl q90) dX1_requireElement_4 dX1_requireElement_7 dX1_requireElement_8 dX1_requireElement_11 (Nat.le_of_ble_eq_true rfl) (Nat.le_of_ble_eq_true rfl) (Nat.le_of_ble_eq_true rfl) (Nat.le_of_ble_eq_true rfl) (fun _ => ⟨rfl, rfl, c⟩)
end RQ

