set_option maxRecDepth 100000
def RX9 : String := "WalshAnalyzer$Filter"
abbrev cX9_keepIf : ByteArray := prog_3_method_2_code
def yX9_keepIf : MethodName := ⟨RX9, "keepIf", "(Z)I"⟩
def dkwX9_keepIf_0 : List UInt8 := [26, 153, 0, 7, 4, 167, 0, 4, 3, 172]
abbrev dktX9_keepIf_0 : List UInt8 := dkwX9_keepIf_0 ++ []
theorem dksX9_keepIf_0 : cX9_keepIf.data.toList.drop 0 = dktX9_keepIf_0 := by decide +kernel
theorem dX9_keepIf_0 : decode cX9_keepIf 0 = .ok (.iload_n 0, 1) := dk_26 (dk_at dksX9_keepIf_0 0 rfl rfl)
theorem dX9_keepIf_1 : decode cX9_keepIf 1 = .ok (.ifCond .eq 7, 3) := dk_153 0 7 (dk_at dksX9_keepIf_0 1 rfl rfl)
theorem dX9_keepIf_4 : decode cX9_keepIf 4 = .ok (.iconst 1, 1) := dk_4 (dk_at dksX9_keepIf_0 4 rfl rfl)
theorem dX9_keepIf_5 : decode cX9_keepIf 5 = .ok (.goto 4, 3) := dk_167 0 4 (dk_at dksX9_keepIf_0 5 rfl rfl)
theorem dX9_keepIf_8 : decode cX9_keepIf 8 = .ok (.iconst 0, 1) := dk_3 (dk_at dksX9_keepIf_0 8 rfl rfl)
theorem dX9_keepIf_9 : decode cX9_keepIf 9 = .ok (.ireturn, 1) := dk_172 (dk_at dksX9_keepIf_0 9 rfl rfl)

