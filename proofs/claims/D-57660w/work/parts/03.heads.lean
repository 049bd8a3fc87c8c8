/-! WalshAnalyzerModel -/
set_option maxRecDepth 100000
def RX3 : String := "WalshAnalyzerModel"
def TX3 : u_T := fun k => match k with
  | 0 => ("WalshAnalyzerModel", "s", "[I", true)
  | 1 => ("WalshAnalyzerModel", "aside", "[I", true)
  | 2 => ("WalshAnalyzerModel", "history", "[I", true)
  | 3 => ("WalshAnalyzerModel", "saved", "[I", true)
  | 4 => ("WalshAnalyzerModel", "isSaved", "Z", false)
  | 5 => ("WalshAnalyzerModel", "buffer", "[I", true)
  | 6 => ("WalshAnalyzerModel", "formatted", "[I", true)
  | 7 => ("WalshAnalyzerModel", "coefficients", "[I", true)
  | 8 => ("WalshAnalyzerModel", "others", "[I", true)
  | 9 => ("WalshAnalyzerModel", "peaks", "[I", true)
  | 10 => ("WalshAnalyzerModel", "made", "[I", true)
  | 11 => ("WalshAnalyzerModel", "edits", "I", false)
  | 12 => ("WalshAnalyzerModel", "filled", "I", false)
  | 13 => ("WalshAnalyzerModel", "formattedLength", "I", false)
  | 14 => ("WalshAnalyzerModel", "errorKind", "I", false)
  | 15 => ("WalshAnalyzerModel", "errorOffset", "I", false)
  | 16 => ("WalshAnalyzerModel", "thrown", "I", false)
  | 17 => ("WalshAnalyzerModel", "start", "I", false)
  | 18 => ("WalshAnalyzerModel", "next", "I", false)
  | 19 => ("WalshAnalyzerModel", "token", "I", false)
  | _ => ("WalshAnalyzerModel", "value", "I", false)
def tyX3 : Nat → FieldType := fun k => match k with
  | 0 => .array .int
  | 1 => .array .int
  | 2 => .array .int
  | 3 => .array .int
  | 4 => .boolean
  | 5 => .array .int
  | 6 => .array .int
  | 7 => .array .int
  | 8 => .array .int
  | 9 => .array .int
  | 10 => .array .int
  | 11 => .int
  | 12 => .int
  | 13 => .int
  | 14 => .int
  | 15 => .int
  | 16 => .int
  | 17 => .int
  | 18 => .int
  | 19 => .int
  | _ => .int
abbrev wsX30 : List Cond := u_ws RX3 TX3 21
set_option maxRecDepth 100000 in
theorem nmX3 : ∀ a, a < 21 → ∀ b, b < 21 → a ≠ b → (TX3 a).2.1 ≠ (TX3 b).2.1 := by decide +kernel
set_option maxRecDepth 100000 in
theorem tyX3_ok : ∀ k, k < 21 → parseFieldDescriptor (TX3 k).2.2.1 = some (tyX3 k) := by decide +kernel
theorem in_X3 : ∀ w ∈ wsX30, w ∈ lw_all := lw_in wsX30 [2351, 2353, 2355, 2357, 2359, 2361, 2363, 2365, 2367, 2369, 2371, 2373, 2375, 2377, 2379, 2381, 2383, 2385, 2387, 2389, 2391] (by decide +kernel) (by decide +kernel)
/-! WalshAnalyzer -/
set_option maxRecDepth 100000
def RX1 : String := "WalshAnalyzer"
def TX1 : u_T := fun k => match k with
  | 0 => ("WalshAnalyzer", "buffer", "[B", true)
  | 1 => ("WalshAnalyzer", "bufferLength", "I", false)
  | 2 => ("WalshAnalyzer", "errorKind", "I", false)
  | 3 => ("WalshAnalyzer", "errorOffset", "I", false)
  | 4 => ("WalshAnalyzer", "archive", "LWalshAnalyzer$Archive;", false)
  | 5 => ("WalshAnalyzer", "earlier", "Ljava/util/ArrayDeque;", true)
  | 6 => ("WalshAnalyzer", "saved", "LWalshAnalyzer$Archive;", false)
  | _ => ("WalshAnalyzer", "formatted", "Ljava/lang/String;", false)
def tyX1 : Nat → FieldType := fun k => match k with
  | 0 => .array .byte
  | 1 => .int
  | 2 => .int
  | 3 => .int
  | 4 => .object "WalshAnalyzer$Archive"
  | 5 => .object "java/util/ArrayDeque"
  | 6 => .object "WalshAnalyzer$Archive"
  | _ => .object "java/lang/String"
abbrev wsX10 : List Cond := u_ws RX1 TX1 8
theorem nmX1 : ∀ a, a < 8 → ∀ b, b < 8 → a ≠ b → (TX1 a).2.1 ≠ (TX1 b).2.1 := by decide +kernel
theorem tyX1_ok : ∀ k, k < 8 → parseFieldDescriptor (TX1 k).2.2.1 = some (tyX1 k) := by decide +kernel
theorem in_X1 : ∀ w ∈ wsX10, w ∈ lw_all := lw_in wsX10 [237, 239, 241, 243, 245, 247, 249, 251] (by decide +kernel) (by decide +kernel)
/-! WalshAnalyzer$Archive -/
set_option maxRecDepth 100000
def RX2 : String := "WalshAnalyzer$Archive"
def TX2 : u_T := fun k => match k with
  | 0 => ("WalshAnalyzer$Archive", "recordings", "Ljava/util/ArrayList;", true)
  | _ => ("WalshAnalyzer$Archive", "byName", "Ljava/util/HashMap;", true)
def tyX2 : Nat → FieldType := fun k => match k with
  | 0 => .object "java/util/ArrayList"
  | _ => .object "java/util/HashMap"
abbrev wsX20 : List Cond := u_ws RX2 TX2 2
theorem nmX2 : ∀ a, a < 2 → ∀ b, b < 2 → a ≠ b → (TX2 a).2.1 ≠ (TX2 b).2.1 := by decide +kernel
theorem tyX2_ok : ∀ k, k < 2 → parseFieldDescriptor (TX2 k).2.2.1 = some (tyX2 k) := by decide +kernel
theorem in_X2 : ∀ w ∈ wsX20, w ∈ lw_all := lw_in wsX20 [205, 207] (by decide +kernel) (by decide +kernel)
/-! WalshAnalyzer$Recording -/
set_option maxRecDepth 100000
def RX7 : String := "WalshAnalyzer$Recording"
def TX7 : u_T := fun k => match k with
  | 0 => ("WalshAnalyzer$Recording", "name", "LWalshAnalyzer$Name;", true)
  | 1 => ("WalshAnalyzer$Recording", "samples", "[I", true)
  | 2 => ("WalshAnalyzer$Recording", "coefficients", "[I", false)
  | _ => ("WalshAnalyzer$Recording", "ranking", "[I", false)
def tyX7 : Nat → FieldType := fun k => match k with
  | 0 => .object "WalshAnalyzer$Name"
  | 1 => .array .int
  | 2 => .array .int
  | _ => .array .int
abbrev wsX70 : List Cond := u_ws RX7 TX7 4
theorem nmX7 : ∀ a, a < 4 → ∀ b, b < 4 → a ≠ b → (TX7 a).2.1 ≠ (TX7 b).2.1 := by decide +kernel
theorem tyX7_ok : ∀ k, k < 4 → parseFieldDescriptor (TX7 k).2.2.1 = some (tyX7 k) := by decide +kernel
theorem in_X7 : ∀ w ∈ wsX70, w ∈ lw_all := lw_in wsX70 [1491, 1493, 1495, 1497] (by decide +kernel) (by decide +kernel)
/-! WalshAnalyzer$Name -/
set_option maxRecDepth 100000
def RX6 : String := "WalshAnalyzer$Name"
def TX6 : u_T := fun k => match k with
  | _ => ("WalshAnalyzer$Name", "letters", "Ljava/lang/String;", true)
def tyX6 : Nat → FieldType := fun k => match k with
  | _ => .object "java/lang/String"
abbrev wsX60 : List Cond := u_ws RX6 TX6 1
theorem nmX6 : ∀ a, a < 1 → ∀ b, b < 1 → a ≠ b → (TX6 a).2.1 ≠ (TX6 b).2.1 := by decide +kernel
theorem tyX6_ok : ∀ k, k < 1 → parseFieldDescriptor (TX6 k).2.2.1 = some (tyX6 k) := by decide +kernel
theorem in_X6 : ∀ w ∈ wsX60, w ∈ lw_all := lw_in wsX60 [619] (by decide +kernel) (by decide +kernel)
/-! WalshAnalyzer$Parser -/
set_option maxRecDepth 100000
def RX4 : String := "WalshAnalyzer$Parser"
def TX4 : u_T := fun k => match k with
  | 0 => ("WalshAnalyzer$Parser", "bytes", "[B", true)
  | 1 => ("WalshAnalyzer$Parser", "length", "I", true)
  | 2 => ("WalshAnalyzer$Parser", "archive", "LWalshAnalyzer$Archive;", true)
  | 3 => ("WalshAnalyzer$Parser", "read", "[I", true)
  | 4 => ("WalshAnalyzer$Parser", "readCount", "I", false)
  | 5 => ("WalshAnalyzer$Parser", "position", "I", false)
  | 6 => ("WalshAnalyzer$Parser", "start", "I", false)
  | 7 => ("WalshAnalyzer$Parser", "sort", "LWalshAnalyzer$Sort;", false)
  | 8 => ("WalshAnalyzer$Parser", "word", "Ljava/lang/String;", false)
  | _ => ("WalshAnalyzer$Parser", "number", "I", false)
def tyX4 : Nat → FieldType := fun k => match k with
  | 0 => .array .byte
  | 1 => .int
  | 2 => .object "WalshAnalyzer$Archive"
  | 3 => .array .int
  | 4 => .int
  | 5 => .int
  | 6 => .int
  | 7 => .object "WalshAnalyzer$Sort"
  | 8 => .object "java/lang/String"
  | _ => .int
abbrev wsX40 : List Cond := u_ws RX4 TX4 10
theorem nmX4 : ∀ a, a < 10 → ∀ b, b < 10 → a ≠ b → (TX4 a).2.1 ≠ (TX4 b).2.1 := by decide +kernel
theorem tyX4_ok : ∀ k, k < 10 → parseFieldDescriptor (TX4 k).2.2.1 = some (tyX4 k) := by decide +kernel
theorem in_X4 : ∀ w ∈ wsX40, w ∈ lw_all := lw_in wsX40 [1374, 1376, 1378, 1380, 1382, 1384, 1386, 1388, 1390, 1392] (by decide +kernel) (by decide +kernel)
/-! WalshAnalyzer$ParseError -/
set_option maxRecDepth 100000
def RX5 : String := "WalshAnalyzer$ParseError"
def TX5 : u_T := fun k => match k with
  | 0 => ("java/lang/Throwable", "cause", "Ljava/lang/Throwable;", false)
  | 1 => ("java/lang/Throwable", "stackTrace", "[Ljava/lang/StackTraceElement;", false)
  | 2 => ("java/lang/Throwable", "suppressedExceptions", "Ljava/util/List;", false)
  | 3 => ("java/lang/Throwable", "detailMessage", "Ljava/lang/String;", false)
  | 4 => ("java/lang/Throwable", "backtrace", "Ljava/lang/Object;", false)
  | 5 => ("java/lang/Throwable", "depth", "I", false)
  | 6 => ("WalshAnalyzer$ParseError", "kind", "I", true)
  | _ => ("WalshAnalyzer$ParseError", "offset", "I", true)
def tyX5 : Nat → FieldType := fun k => match k with
  | 0 => .object "java/lang/Throwable"
  | 1 => .array (.object "java/lang/StackTraceElement")
  | 2 => .object "java/util/List"
  | 3 => .object "java/lang/String"
  | 4 => .object "java/lang/Object"
  | 5 => .int
  | 6 => .int
  | _ => .int
abbrev wsX50 : List Cond := u_ws RX5 TX5 8
theorem nmX5 : ∀ a, a < 8 → ∀ b, b < 8 → a ≠ b → (TX5 a).2.1 ≠ (TX5 b).2.1 := by decide +kernel
theorem tyX5_ok : ∀ k, k < 8 → parseFieldDescriptor (TX5 k).2.2.1 = some (tyX5 k) := by decide +kernel
theorem in_X5 : ∀ w ∈ wsX50, w ∈ lw_all := lw_in wsX50 [1424, 1425, 1426, 1427, 1428, 1441, 1437, 1439] (by decide +kernel) (by decide +kernel)
/-! java/util/ArrayList -/
set_option maxRecDepth 100000
def RJ2 : String := "java/util/ArrayList"
def TJ2 : u_T := fun k => match k with
  | 0 => ("java/util/AbstractList", "modCount", "I", false)
  | 1 => ("java/util/ArrayList", "elementData", "[Ljava/lang/Object;", false)
  | _ => ("java/util/ArrayList", "size", "I", false)
def tyJ2 : Nat → FieldType := fun k => match k with
  | 0 => .int
  | 1 => .array (.object "java/lang/Object")
  | _ => .int
abbrev wsJ20 : List Cond := u_ws RJ2 TJ2 3
theorem nmJ2 : ∀ a, a < 3 → ∀ b, b < 3 → a ≠ b → (TJ2 a).2.1 ≠ (TJ2 b).2.1 := by decide +kernel
theorem tyJ2_ok : ∀ k, k < 3 → parseFieldDescriptor (TJ2 k).2.2.1 = some (tyJ2 k) := by decide +kernel
theorem in_J2 : ∀ w ∈ wsJ20, w ∈ lw_all := lw_in wsJ20 [166, 162, 164] (by decide +kernel) (by decide +kernel)
/-! java/util/HashMap -/
set_option maxRecDepth 100000
def RJ4 : String := "java/util/HashMap"
def TJ4 : u_T := fun k => match k with
  | 0 => ("java/util/AbstractMap", "keySet", "Ljava/util/Set;", false)
  | 1 => ("java/util/AbstractMap", "values", "Ljava/util/Collection;", false)
  | 2 => ("java/util/HashMap", "table", "[Ljava/util/HashMap$Node;", false)
  | 3 => ("java/util/HashMap", "entrySet", "Ljava/util/Set;", false)
  | 4 => ("java/util/HashMap", "size", "I", false)
  | 5 => ("java/util/HashMap", "modCount", "I", false)
  | 6 => ("java/util/HashMap", "threshold", "I", false)
  | _ => ("java/util/HashMap", "loadFactor", "F", true)
def tyJ4 : Nat → FieldType := fun k => match k with
  | 0 => .object "java/util/Set"
  | 1 => .object "java/util/Collection"
  | 2 => .array (.object "java/util/HashMap$Node")
  | 3 => .object "java/util/Set"
  | 4 => .int
  | 5 => .int
  | 6 => .int
  | _ => .float
abbrev wsJ40 : List Cond := u_ws RJ4 TJ4 8
theorem nmJ4 : ∀ a, a < 8 → ∀ b, b < 8 → a ≠ b → (TJ4 a).2.1 ≠ (TJ4 b).2.1 := by decide +kernel
theorem tyJ4_ok : ∀ k, k < 8 → parseFieldDescriptor (TJ4 k).2.2.1 = some (tyJ4 k) := by decide +kernel
theorem in_J4 : ∀ w ∈ wsJ40, w ∈ lw_all := lw_in wsJ40 [197, 199, 185, 187, 189, 191, 193, 195] (by decide +kernel) (by decide +kernel)
/-! java/util/HashMap$Node -/
set_option maxRecDepth 100000
def RJ24 : String := "java/util/HashMap$Node"
def TJ24 : u_T := fun k => match k with
  | 0 => ("java/util/HashMap$Node", "hash", "I", true)
  | 1 => ("java/util/HashMap$Node", "key", "Ljava/lang/Object;", true)
  | 2 => ("java/util/HashMap$Node", "value", "Ljava/lang/Object;", false)
  | _ => ("java/util/HashMap$Node", "next", "Ljava/util/HashMap$Node;", false)
def tyJ24 : Nat → FieldType := fun k => match k with
  | 0 => .int
  | 1 => .object "java/lang/Object"
  | 2 => .object "java/lang/Object"
  | _ => .object "java/util/HashMap$Node"
abbrev wsJ240 : List Cond := u_ws RJ24 TJ24 4
theorem nmJ24 : ∀ a, a < 4 → ∀ b, b < 4 → a ≠ b → (TJ24 a).2.1 ≠ (TJ24 b).2.1 := by decide +kernel
theorem tyJ24_ok : ∀ k, k < 4 → parseFieldDescriptor (TJ24 k).2.2.1 = some (tyJ24 k) := by decide +kernel
theorem in_J24 : ∀ w ∈ wsJ240, w ∈ lw_all := lw_in wsJ240 [1209, 1211, 1213, 1215] (by decide +kernel) (by decide +kernel)
/-! java/util/ArrayDeque -/
set_option maxRecDepth 100000
def RJ5 : String := "java/util/ArrayDeque"
def TJ5 : u_T := fun k => match k with
  | 0 => ("java/util/ArrayDeque", "elements", "[Ljava/lang/Object;", false)
  | 1 => ("java/util/ArrayDeque", "head", "I", false)
  | _ => ("java/util/ArrayDeque", "tail", "I", false)
def tyJ5 : Nat → FieldType := fun k => match k with
  | 0 => .array (.object "java/lang/Object")
  | 1 => .int
  | _ => .int
abbrev wsJ50 : List Cond := u_ws RJ5 TJ5 3
theorem nmJ5 : ∀ a, a < 3 → ∀ b, b < 3 → a ≠ b → (TJ5 a).2.1 ≠ (TJ5 b).2.1 := by decide +kernel
theorem tyJ5_ok : ∀ k, k < 3 → parseFieldDescriptor (TJ5 k).2.2.1 = some (tyJ5 k) := by decide +kernel
theorem in_J5 : ∀ w ∈ wsJ50, w ∈ lw_all := lw_in wsJ50 [221, 223, 225] (by decide +kernel) (by decide +kernel)
/-! java/util/ArrayList$Itr -/
set_option maxRecDepth 100000
def RJ31 : String := "java/util/ArrayList$Itr"
def TJ31 : u_T := fun k => match k with
  | 0 => ("java/util/ArrayList$Itr", "cursor", "I", false)
  | 1 => ("java/util/ArrayList$Itr", "lastRet", "I", false)
  | 2 => ("java/util/ArrayList$Itr", "expectedModCount", "I", false)
  | _ => ("java/util/ArrayList$Itr", "this$0", "Ljava/util/ArrayList;", true)
def tyJ31 : Nat → FieldType := fun k => match k with
  | 0 => .int
  | 1 => .int
  | 2 => .int
  | _ => .object "java/util/ArrayList"
abbrev wsJ310 : List Cond := u_ws RJ31 TJ31 4
theorem nmJ31 : ∀ a, a < 4 → ∀ b, b < 4 → a ≠ b → (TJ31 a).2.1 ≠ (TJ31 b).2.1 := by decide +kernel
theorem tyJ31_ok : ∀ k, k < 4 → parseFieldDescriptor (TJ31 k).2.2.1 = some (tyJ31 k) := by decide +kernel
theorem in_J31 : ∀ w ∈ wsJ310, w ∈ lw_all := lw_in wsJ310 [1073, 1075, 1077, 1079] (by decide +kernel) (by decide +kernel)
/-! java/lang/StringBuilder -/
set_option maxRecDepth 100000
def RJ13 : String := "java/lang/StringBuilder"
def TJ13 : u_T := fun k => match k with
  | 0 => ("java/lang/AbstractStringBuilder", "value", "[B", false)
  | 1 => ("java/lang/AbstractStringBuilder", "coder", "B", false)
  | 2 => ("java/lang/AbstractStringBuilder", "maybeLatin1", "Z", false)
  | _ => ("java/lang/AbstractStringBuilder", "count", "I", false)
def tyJ13 : Nat → FieldType := fun k => match k with
  | 0 => .array .byte
  | 1 => .byte
  | 2 => .boolean
  | _ => .int
abbrev wsJ130 : List Cond := u_ws RJ13 TJ13 4
theorem nmJ13 : ∀ a, a < 4 → ∀ b, b < 4 → a ≠ b → (TJ13 a).2.1 ≠ (TJ13 b).2.1 := by decide +kernel
theorem tyJ13_ok : ∀ k, k < 4 → parseFieldDescriptor (TJ13 k).2.2.1 = some (tyJ13 k) := by decide +kernel
theorem in_J13 : ∀ w ∈ wsJ130, w ∈ lw_all := lw_in wsJ130 [300, 302, 304, 306] (by decide +kernel) (by decide +kernel)
/-! java/lang/String -/
set_option maxRecDepth 100000
def RJ14 : String := "java/lang/String"
def TJ14 : u_T := fun k => match k with
  | 0 => ("java/lang/String", "value", "[B", true)
  | 1 => ("java/lang/String", "coder", "B", true)
  | 2 => ("java/lang/String", "hash", "I", false)
  | _ => ("java/lang/String", "hashIsZero", "Z", false)
def tyJ14 : Nat → FieldType := fun k => match k with
  | 0 => .array .byte
  | 1 => .byte
  | 2 => .int
  | _ => .boolean
abbrev wsJ140 : List Cond := u_ws RJ14 TJ14 4
theorem nmJ14 : ∀ a, a < 4 → ∀ b, b < 4 → a ≠ b → (TJ14 a).2.1 ≠ (TJ14 b).2.1 := by decide +kernel
theorem tyJ14_ok : ∀ k, k < 4 → parseFieldDescriptor (TJ14 k).2.2.1 = some (tyJ14 k) := by decide +kernel
theorem in_J14 : ∀ w ∈ wsJ140, w ∈ lw_all := lw_in wsJ140 [602, 604, 606, 608] (by decide +kernel) (by decide +kernel)
/-- the classes whose objects the worlds hold -/
abbrev xcl : List vw_C := [(RX3, TX3, 21), (RX1, TX1, 8), (RX2, TX2, 2), (RX7, TX7, 4), (RX6, TX6, 1), (RX4, TX4, 10), (RX5, TX5, 8), (RJ2, TJ2, 3), (RJ4, TJ4, 8), (RJ24, TJ24, 4), (RJ5, TJ5, 3), (RJ31, TJ31, 4), (RJ13, TJ13, 4), (RJ14, TJ14, 4)]
