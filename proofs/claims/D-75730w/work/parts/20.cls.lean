/-! the classes: their names, fields (out of the names files); the claim's numbers for classes and fields -/
def RX1 : String := "TollRoad"
def TX1 : u_T := fun k => match k with
  | 0 => ("TollRoad", "now", "LTollRoad$World;", false)
  | 1 => ("TollRoad", "saved", "[LTollRoad$World;", true)
  | 2 => ("TollRoad", "text", "[B", true)
  | 3 => ("TollRoad", "textLength", "I", false)
  | 4 => ("TollRoad", "errorCode", "I", false)
  | _ => ("TollRoad", "errorPosition", "I", false)
def tyX1 : Nat → FieldType := fun k => match k with
  | 0 => .object "TollRoad$World"
  | 1 => .array (.object "TollRoad$World")
  | 2 => .array .byte
  | 3 => .int
  | 4 => .int
  | _ => .int
abbrev wsX10 : List Cond := u_ws RX1 TX1 6
theorem nmX1 : ∀ a, a < 6 → ∀ b, b < 6 → a ≠ b → (TX1 a).2.1 ≠ (TX1 b).2.1 := by decide +kernel
theorem tyX1_ok : ∀ k, k < 6 → parseFieldDescriptor (TX1 k).2.2.1 = some (tyX1 k) := by decide +kernel
theorem in_X1 : ∀ w ∈ wsX10, w ∈ lw_all := lw_in wsX10 [671, 673, 675, 677, 679, 681] (by decide +kernel) (by decide +kernel)
def RX2 : String := "TollRoad$World"
def TX2 : u_T := fun k => match k with
  | 0 => ("TollRoad$World", "network", "LTollRoad$Network;", false)
  | 1 => ("TollRoad$World", "settings", "[I", false)
  | 2 => ("TollRoad$World", "accounts", "[LTollRoad$Account;", true)
  | 3 => ("TollRoad$World", "accountCount", "I", false)
  | 4 => ("TollRoad$World", "vehicles", "Ljava/util/ArrayList;", true)
  | 5 => ("TollRoad$World", "reads", "Ljava/util/ArrayList;", true)
  | 6 => ("TollRoad$World", "bills", "Ljava/util/ArrayList;", true)
  | _ => ("TollRoad$World", "marks", "Ljava/util/HashMap;", true)
def tyX2 : Nat → FieldType := fun k => match k with
  | 0 => .object "TollRoad$Network"
  | 1 => .array .int
  | 2 => .array (.object "TollRoad$Account")
  | 3 => .int
  | 4 => .object "java/util/ArrayList"
  | 5 => .object "java/util/ArrayList"
  | 6 => .object "java/util/ArrayList"
  | _ => .object "java/util/HashMap"
abbrev wsX20 : List Cond := u_ws RX2 TX2 8
theorem nmX2 : ∀ a, a < 8 → ∀ b, b < 8 → a ≠ b → (TX2 a).2.1 ≠ (TX2 b).2.1 := by decide +kernel
theorem tyX2_ok : ∀ k, k < 8 → parseFieldDescriptor (TX2 k).2.2.1 = some (tyX2 k) := by decide +kernel
theorem in_X2 : ∀ w ∈ wsX20, w ∈ lw_all := lw_in wsX20 [646, 648, 650, 652, 654, 656, 658, 660] (by decide +kernel) (by decide +kernel)
def RX3 : String := "TollRoad$Network"
def TX3 : u_T := fun k => match k with
  | 0 => ("TollRoad$Network", "misses", "[I", false)
  | 1 => ("TollRoad$Network", "gantries", "I", false)
  | 2 => ("TollRoad$Network", "roads", "[LTollRoad$Road;", false)
  | _ => ("TollRoad$Network", "roadCount", "I", false)
def tyX3 : Nat → FieldType := fun k => match k with
  | 0 => .array .int
  | 1 => .int
  | 2 => .array (.object "TollRoad$Road")
  | _ => .int
abbrev wsX30 : List Cond := u_ws RX3 TX3 4
theorem nmX3 : ∀ a, a < 4 → ∀ b, b < 4 → a ≠ b → (TX3 a).2.1 ≠ (TX3 b).2.1 := by decide +kernel
theorem tyX3_ok : ∀ k, k < 4 → parseFieldDescriptor (TX3 k).2.2.1 = some (tyX3 k) := by decide +kernel
theorem in_X3 : ∀ w ∈ wsX30, w ∈ lw_all := lw_in wsX30 [215, 217, 219, 221] (by decide +kernel) (by decide +kernel)
def RJ2 : String := "java/util/ArrayList"
def TJ2 : u_T := fun k => match k with
  | 0 => ("java/util/AbstractList", "modCount", "I", false)
  | 1 => ("java/util/ArrayList", "elementData", "[Ljava/lang/Object;", false)
  | _ => ("java/util/ArrayList", "size", "I", false)
def tyJ2 : Nat → FieldType := fun k => match k with
  | 0 => .int
  | 1 => .array (.object "java/lang/Object")
  | _ => .int
abbrev wsJ20 : List Cond := u_ws RJ2 TJ2 3
theorem nmJ2 : ∀ a, a < 3 → ∀ b, b < 3 → a ≠ b → (TJ2 a).2.1 ≠ (TJ2 b).2.1 := by decide +kernel
theorem tyJ2_ok : ∀ k, k < 3 → parseFieldDescriptor (TJ2 k).2.2.1 = some (tyJ2 k) := by decide +kernel
theorem in_J2 : ∀ w ∈ wsJ20, w ∈ lw_all := lw_in wsJ20 [585, 581, 583] (by decide +kernel) (by decide +kernel)
def RJ8 : String := "java/lang/StringBuilder"
def TJ8 : u_T := fun k => match k with
  | 0 => ("java/lang/AbstractStringBuilder", "value", "[B", false)
  | 1 => ("java/lang/AbstractStringBuilder", "coder", "B", false)
  | 2 => ("java/lang/AbstractStringBuilder", "maybeLatin1", "Z", false)
  | _ => ("java/lang/AbstractStringBuilder", "count", "I", false)
def tyJ8 : Nat → FieldType := fun k => match k with
  | 0 => .array .byte
  | 1 => .byte
  | 2 => .boolean
  | _ => .int
abbrev wsJ80 : List Cond := u_ws RJ8 TJ8 4
theorem nmJ8 : ∀ a, a < 4 → ∀ b, b < 4 → a ≠ b → (TJ8 a).2.1 ≠ (TJ8 b).2.1 := by decide +kernel
theorem tyJ8_ok : ∀ k, k < 4 → parseFieldDescriptor (TJ8 k).2.2.1 = some (tyJ8 k) := by decide +kernel
theorem in_J8 : ∀ w ∈ wsJ80, w ∈ lw_all := lw_in wsJ80 [322, 324, 326, 328] (by decide +kernel) (by decide +kernel)
def RJ9 : String := "java/lang/String"
def TJ9 : u_T := fun k => match k with
  | 0 => ("java/lang/String", "value", "[B", true)
  | 1 => ("java/lang/String", "coder", "B", true)
  | 2 => ("java/lang/String", "hash", "I", false)
  | _ => ("java/lang/String", "hashIsZero", "Z", false)
def tyJ9 : Nat → FieldType := fun k => match k with
  | 0 => .array .byte
  | 1 => .byte
  | 2 => .int
  | _ => .boolean
abbrev wsJ90 : List Cond := u_ws RJ9 TJ9 4
theorem nmJ9 : ∀ a, a < 4 → ∀ b, b < 4 → a ≠ b → (TJ9 a).2.1 ≠ (TJ9 b).2.1 := by decide +kernel
theorem tyJ9_ok : ∀ k, k < 4 → parseFieldDescriptor (TJ9 k).2.2.1 = some (tyJ9 k) := by decide +kernel
theorem in_J9 : ∀ w ∈ wsJ90, w ∈ lw_all := lw_in wsJ90 [563, 565, 567, 569] (by decide +kernel) (by decide +kernel)
def RJ19 : String := "java/util/HashMap"
def TJ19 : u_T := fun k => match k with
  | 0 => ("java/util/AbstractMap", "keySet", "Ljava/util/Set;", false)
  | 1 => ("java/util/AbstractMap", "values", "Ljava/util/Collection;", false)
  | 2 => ("java/util/HashMap", "table", "[Ljava/util/HashMap$Node;", false)
  | 3 => ("java/util/HashMap", "entrySet", "Ljava/util/Set;", false)
  | 4 => ("java/util/HashMap", "size", "I", false)
  | 5 => ("java/util/HashMap", "modCount", "I", false)
  | 6 => ("java/util/HashMap", "threshold", "I", false)
  | _ => ("java/util/HashMap", "loadFactor", "F", true)
def tyJ19 : Nat → FieldType := fun k => match k with
  | 0 => .object "java/util/Set"
  | 1 => .object "java/util/Collection"
  | 2 => .array (.object "java/util/HashMap$Node")
  | 3 => .object "java/util/Set"
  | 4 => .int
  | 5 => .int
  | 6 => .int
  | _ => .float
abbrev wsJ190 : List Cond := u_ws RJ19 TJ19 8
theorem nmJ19 : ∀ a, a < 8 → ∀ b, b < 8 → a ≠ b → (TJ19 a).2.1 ≠ (TJ19 b).2.1 := by decide +kernel
theorem tyJ19_ok : ∀ k, k < 8 → parseFieldDescriptor (TJ19 k).2.2.1 = some (tyJ19 k) := by decide +kernel
theorem in_J19 : ∀ w ∈ wsJ190, w ∈ lw_all := lw_in wsJ190 [621, 623, 609, 611, 613, 615, 617, 619] (by decide +kernel) (by decide +kernel)
def RJ23 : String := "java/util/ArrayList$Itr"
def TJ23 : u_T := fun k => match k with
  | 0 => ("java/util/ArrayList$Itr", "cursor", "I", false)
  | 1 => ("java/util/ArrayList$Itr", "lastRet", "I", false)
  | 2 => ("java/util/ArrayList$Itr", "expectedModCount", "I", false)
  | _ => ("java/util/ArrayList$Itr", "this$0", "Ljava/util/ArrayList;", true)
def tyJ23 : Nat → FieldType := fun k => match k with
  | 0 => .int
  | 1 => .int
  | 2 => .int
  | _ => .object "java/util/ArrayList"
abbrev wsJ230 : List Cond := u_ws RJ23 TJ23 4
theorem nmJ23 : ∀ a, a < 4 → ∀ b, b < 4 → a ≠ b → (TJ23 a).2.1 ≠ (TJ23 b).2.1 := by decide +kernel
theorem tyJ23_ok : ∀ k, k < 4 → parseFieldDescriptor (TJ23 k).2.2.1 = some (tyJ23 k) := by decide +kernel
theorem in_J23 : ∀ w ∈ wsJ230, w ∈ lw_all := lw_in wsJ230 [702, 704, 706, 708] (by decide +kernel) (by decide +kernel)
def RX20 : String := "TollRoad$Mark"
def TX20 : u_T := fun k => match k with
  | 0 => ("TollRoad$Mark", "gantry", "I", true)
  | _ => ("TollRoad$Mark", "isMissing", "Z", true)
def tyX20 : Nat → FieldType := fun k => match k with
  | 0 => .int
  | _ => .boolean
abbrev wsX200 : List Cond := u_ws RX20 TX20 2
theorem nmX20 : ∀ a, a < 2 → ∀ b, b < 2 → a ≠ b → (TX20 a).2.1 ≠ (TX20 b).2.1 := by decide +kernel
theorem tyX20_ok : ∀ k, k < 2 → parseFieldDescriptor (TX20 k).2.2.1 = some (tyX20 k) := by decide +kernel
theorem in_X20 : ∀ w ∈ wsX200, w ∈ lw_all := lw_in wsX200 [821, 823] (by decide +kernel) (by decide +kernel)
def RX5 : String := "TollRoad$Parser"
def TX5 : u_T := fun k => match k with
  | 0 => ("TollRoad$Parser", "length", "I", true)
  | 1 => ("TollRoad$Parser", "made", "LTollRoad$World;", true)
  | 2 => ("TollRoad$Parser", "next", "I", false)
  | 3 => ("TollRoad$Parser", "begin", "I", false)
  | 4 => ("TollRoad$Parser", "isNumber", "Z", false)
  | 5 => ("TollRoad$Parser", "isSemicolon", "Z", false)
  | 6 => ("TollRoad$Parser", "number", "I", false)
  | 7 => ("TollRoad$Parser", "word", "I", false)
  | _ => ("TollRoad$Parser", "this$0", "LTollRoad;", true)
def tyX5 : Nat → FieldType := fun k => match k with
  | 0 => .int
  | 1 => .object "TollRoad$World"
  | 2 => .int
  | 3 => .int
  | 4 => .boolean
  | 5 => .boolean
  | 6 => .int
  | 7 => .int
  | _ => .object "TollRoad"
abbrev wsX50 : List Cond := u_ws RX5 TX5 9
theorem nmX5 : ∀ a, a < 9 → ∀ b, b < 9 → a ≠ b → (TX5 a).2.1 ≠ (TX5 b).2.1 := by decide +kernel
theorem tyX5_ok : ∀ k, k < 9 → parseFieldDescriptor (TX5 k).2.2.1 = some (tyX5 k) := by decide +kernel
theorem in_X5 : ∀ w ∈ wsX50, w ∈ lw_all := lw_in wsX50 [1348, 1350, 1352, 1354, 1356, 1358, 1360, 1362, 1364] (by decide +kernel) (by decide +kernel)
def RX6 : String := "TollRoad$TextError"
def TX6 : u_T := fun k => match k with
  | 0 => ("java/lang/Throwable", "cause", "Ljava/lang/Throwable;", false)
  | 1 => ("java/lang/Throwable", "stackTrace", "[Ljava/lang/StackTraceElement;", false)
  | 2 => ("java/lang/Throwable", "suppressedExceptions", "Ljava/util/List;", false)
  | 3 => ("java/lang/Throwable", "detailMessage", "Ljava/lang/String;", false)
  | 4 => ("java/lang/Throwable", "backtrace", "Ljava/lang/Object;", false)
  | 5 => ("java/lang/Throwable", "depth", "I", false)
  | 6 => ("TollRoad$TextError", "code", "I", true)
  | _ => ("TollRoad$TextError", "position", "I", true)
def tyX6 : Nat → FieldType := fun k => match k with
  | 0 => .object "java/lang/Throwable"
  | 1 => .array (.object "java/lang/StackTraceElement")
  | 2 => .object "java/util/List"
  | 3 => .object "java/lang/String"
  | 4 => .object "java/lang/Object"
  | 5 => .int
  | 6 => .int
  | _ => .int
abbrev wsX60 : List Cond := u_ws RX6 TX6 8
theorem nmX6 : ∀ a, a < 8 → ∀ b, b < 8 → a ≠ b → (TX6 a).2.1 ≠ (TX6 b).2.1 := by decide +kernel
theorem tyX6_ok : ∀ k, k < 8 → parseFieldDescriptor (TX6 k).2.2.1 = some (tyX6 k) := by decide +kernel
theorem in_X6 : ∀ w ∈ wsX60, w ∈ lw_all := lw_in wsX60 [1383, 1384, 1385, 1386, 1387, 1405, 1401, 1403] (by decide +kernel) (by decide +kernel)
def RX7 : String := "TollRoad$Road"
def TX7 : u_T := fun k => match k with
  | 0 => ("TollRoad$Road", "to", "I", true)
  | 1 => ("TollRoad$Road", "minutes", "I", true)
  | _ => ("TollRoad$Road", "toll", "I", true)
def tyX7 : Nat → FieldType := fun k => match k with
  | 0 => .int
  | 1 => .int
  | _ => .int
abbrev wsX70 : List Cond := u_ws RX7 TX7 3
theorem nmX7 : ∀ a, a < 3 → ∀ b, b < 3 → a ≠ b → (TX7 a).2.1 ≠ (TX7 b).2.1 := by decide +kernel
theorem tyX7_ok : ∀ k, k < 3 → parseFieldDescriptor (TX7 k).2.2.1 = some (tyX7 k) := by decide +kernel
theorem in_X7 : ∀ w ∈ wsX70, w ∈ lw_all := lw_in wsX70 [1441, 1443, 1445] (by decide +kernel) (by decide +kernel)
def RX8 : String := "TollRoad$Account"
def TX8 : u_T := fun k => match k with
  | 0 => ("TollRoad$Account", "balance", "I", false)
  | 1 => ("TollRoad$Account", "percent", "I", true)
  | 2 => ("TollRoad$Account", "after", "I", true)
  | 3 => ("TollRoad$Account", "bills", "I", false)
  | 4 => ("TollRoad$Account", "amounts", "I", false)
  | _ => ("TollRoad$Account", "refunds", "I", false)
def tyX8 : Nat → FieldType := fun k => match k with
  | 0 => .int
  | 1 => .int
  | 2 => .int
  | 3 => .int
  | 4 => .int
  | _ => .int
abbrev wsX80 : List Cond := u_ws RX8 TX8 6
theorem nmX8 : ∀ a, a < 6 → ∀ b, b < 6 → a ≠ b → (TX8 a).2.1 ≠ (TX8 b).2.1 := by decide +kernel
theorem tyX8_ok : ∀ k, k < 6 → parseFieldDescriptor (TX8 k).2.2.1 = some (tyX8 k) := by decide +kernel
theorem in_X8 : ∀ w ∈ wsX80, w ∈ lw_all := lw_in wsX80 [1470, 1472, 1474, 1476, 1478, 1480] (by decide +kernel) (by decide +kernel)
def RX9 : String := "TollRoad$Vehicle"
def TX9 : u_T := fun k => match k with
  | 0 => ("TollRoad$Vehicle", "size", "I", true)
  | 1 => ("TollRoad$Vehicle", "account", "I", false)
  | 2 => ("TollRoad$Vehicle", "debt", "I", false)
  | 3 => ("TollRoad$Vehicle", "billedReads", "I", false)
  | 4 => ("TollRoad$Vehicle", "latest", "I", false)
  | _ => ("TollRoad$Vehicle", "bills", "I", false)
def tyX9 : Nat → FieldType := fun k => match k with
  | 0 => .int
  | 1 => .int
  | 2 => .int
  | 3 => .int
  | 4 => .int
  | _ => .int
abbrev wsX90 : List Cond := u_ws RX9 TX9 6
theorem nmX9 : ∀ a, a < 6 → ∀ b, b < 6 → a ≠ b → (TX9 a).2.1 ≠ (TX9 b).2.1 := by decide +kernel
theorem tyX9_ok : ∀ k, k < 6 → parseFieldDescriptor (TX9 k).2.2.1 = some (tyX9 k) := by decide +kernel
theorem in_X9 : ∀ w ∈ wsX90, w ∈ lw_all := lw_in wsX90 [1517, 1519, 1521, 1523, 1525, 1527] (by decide +kernel) (by decide +kernel)
def RX11 : String := "TollRoad$Bounds$1"
def TX11 : u_T := fun k => match k with
  | 0 => ("TollRoad$Bounds$1", "val$low", "I", true)
  | _ => ("TollRoad$Bounds$1", "val$high", "I", true)
def tyX11 : Nat → FieldType := fun k => match k with
  | 0 => .int
  | _ => .int
abbrev wsX110 : List Cond := u_ws RX11 TX11 2
theorem nmX11 : ∀ a, a < 2 → ∀ b, b < 2 → a ≠ b → (TX11 a).2.1 ≠ (TX11 b).2.1 := by decide +kernel
theorem tyX11_ok : ∀ k, k < 2 → parseFieldDescriptor (TX11 k).2.2.1 = some (tyX11 k) := by decide +kernel
theorem in_X11 : ∀ w ∈ wsX110, w ∈ lw_all := lw_in wsX110 [1571, 1573] (by decide +kernel) (by decide +kernel)
def RX13 : String := "TollRoad$Route"
def TX13 : u_T := fun k => match k with
  | 0 => ("TollRoad$Search", "network", "LTollRoad$Network;", true)
  | 1 => ("TollRoad$Search", "target", "I", true)
  | 2 => ("TollRoad$Search", "way", "[I", true)
  | 3 => ("TollRoad$Search", "best", "[I", true)
  | 4 => ("TollRoad$Search", "steps", "I", false)
  | 5 => ("TollRoad$Route", "elapsed", "I", true)
  | 6 => ("TollRoad$Route", "slack", "I", true)
  | 7 => ("TollRoad$Route", "fastest", "I", true)
  | 8 => ("TollRoad$Route", "cost", "I", false)
  | 9 => ("TollRoad$Route", "minutes", "I", false)
  | _ => ("TollRoad$Route", "toll", "I", false)
def tyX13 : Nat → FieldType := fun k => match k with
  | 0 => .object "TollRoad$Network"
  | 1 => .int
  | 2 => .array .int
  | 3 => .array .int
  | 4 => .int
  | 5 => .int
  | 6 => .int
  | 7 => .int
  | 8 => .int
  | 9 => .int
  | _ => .int
abbrev wsX130 : List Cond := u_ws RX13 TX13 11
theorem nmX13 : ∀ a, a < 11 → ∀ b, b < 11 → a ≠ b → (TX13 a).2.1 ≠ (TX13 b).2.1 := by decide +kernel
theorem tyX13_ok : ∀ k, k < 11 → parseFieldDescriptor (TX13 k).2.2.1 = some (tyX13 k) := by decide +kernel
theorem in_X13 : ∀ w ∈ wsX130, w ∈ lw_all := lw_in wsX130 [1896, 1898, 1900, 1902, 1904, 1884, 1886, 1888, 1890, 1892, 1894] (by decide +kernel) (by decide +kernel)
def RX14 : String := "TollRoad$Cheapest"
def TX14 : u_T := fun k => match k with
  | 0 => ("TollRoad$Search", "network", "LTollRoad$Network;", true)
  | 1 => ("TollRoad$Search", "target", "I", true)
  | 2 => ("TollRoad$Search", "way", "[I", true)
  | 3 => ("TollRoad$Search", "best", "[I", true)
  | 4 => ("TollRoad$Search", "steps", "I", false)
  | _ => ("TollRoad$Cheapest", "toll", "I", false)
def tyX14 : Nat → FieldType := fun k => match k with
  | 0 => .object "TollRoad$Network"
  | 1 => .int
  | 2 => .array .int
  | 3 => .array .int
  | 4 => .int
  | _ => .int
abbrev wsX140 : List Cond := u_ws RX14 TX14 6
theorem nmX14 : ∀ a, a < 6 → ∀ b, b < 6 → a ≠ b → (TX14 a).2.1 ≠ (TX14 b).2.1 := by decide +kernel
theorem tyX14_ok : ∀ k, k < 6 → parseFieldDescriptor (TX14 k).2.2.1 = some (tyX14 k) := by decide +kernel
theorem in_X14 : ∀ w ∈ wsX140, w ∈ lw_all := lw_in wsX140 [1971, 1972, 1973, 1974, 1975, 1969] (by decide +kernel) (by decide +kernel)
def RX15 : String := "TollRoad$Read"
def TX15 : u_T := fun k => match k with
  | 0 => ("TollRoad$Read", "number", "I", true)
  | 1 => ("TollRoad$Read", "gantry", "I", true)
  | 2 => ("TollRoad$Read", "time", "I", true)
  | 3 => ("TollRoad$Read", "isImage", "Z", true)
  | 4 => ("TollRoad$Read", "vehicle", "I", false)
  | 5 => ("TollRoad$Read", "confidence", "I", false)
  | 6 => ("TollRoad$Read", "state", "I", false)
  | _ => ("TollRoad$Read", "bill", "I", false)
def tyX15 : Nat → FieldType := fun k => match k with
  | 0 => .int
  | 1 => .int
  | 2 => .int
  | 3 => .boolean
  | 4 => .int
  | 5 => .int
  | 6 => .int
  | _ => .int
abbrev wsX150 : List Cond := u_ws RX15 TX15 8
theorem nmX15 : ∀ a, a < 8 → ∀ b, b < 8 → a ≠ b → (TX15 a).2.1 ≠ (TX15 b).2.1 := by decide +kernel
theorem tyX15_ok : ∀ k, k < 8 → parseFieldDescriptor (TX15 k).2.2.1 = some (tyX15 k) := by decide +kernel
theorem in_X15 : ∀ w ∈ wsX150, w ∈ lw_all := lw_in wsX150 [2019, 2021, 2023, 2025, 2027, 2029, 2031, 2033] (by decide +kernel) (by decide +kernel)
def RJ28 : String := "java/util/PriorityQueue"
def TJ28 : u_T := fun k => match k with
  | 0 => ("java/util/PriorityQueue", "queue", "[Ljava/lang/Object;", false)
  | 1 => ("java/util/PriorityQueue", "size", "I", false)
  | 2 => ("java/util/PriorityQueue", "comparator", "Ljava/util/Comparator;", true)
  | _ => ("java/util/PriorityQueue", "modCount", "I", false)
def tyJ28 : Nat → FieldType := fun k => match k with
  | 0 => .array (.object "java/lang/Object")
  | 1 => .int
  | 2 => .object "java/util/Comparator"
  | _ => .int
abbrev wsJ280 : List Cond := u_ws RJ28 TJ28 4
theorem nmJ28 : ∀ a, a < 4 → ∀ b, b < 4 → a ≠ b → (TJ28 a).2.1 ≠ (TJ28 b).2.1 := by decide +kernel
theorem tyJ28_ok : ∀ k, k < 4 → parseFieldDescriptor (TJ28 k).2.2.1 = some (tyJ28 k) := by decide +kernel
theorem in_J28 : ∀ w ∈ wsJ280, w ∈ lw_all := lw_in wsJ280 [2108, 2110, 2112, 2114] (by decide +kernel) (by decide +kernel)
def RX16 : String := "TollRoad$Order"
def TX16 : u_T := fun k => match k with
  | _ => ("TollRoad$Order", "world", "LTollRoad$World;", true)
def tyX16 : Nat → FieldType := fun k => match k with
  | _ => .object "TollRoad$World"
abbrev wsX160 : List Cond := u_ws RX16 TX16 1
theorem nmX16 : ∀ a, a < 1 → ∀ b, b < 1 → a ≠ b → (TX16 a).2.1 ≠ (TX16 b).2.1 := by decide +kernel
theorem tyX16_ok : ∀ k, k < 1 → parseFieldDescriptor (TX16 k).2.2.1 = some (tyX16 k) := by decide +kernel
theorem in_X16 : ∀ w ∈ wsX160, w ∈ lw_all := lw_in wsX160 [2088] (by decide +kernel) (by decide +kernel)
def RJ25 : String := "java/util/TreeMap"
def TJ25 : u_T := fun k => match k with
  | 0 => ("java/util/AbstractMap", "keySet", "Ljava/util/Set;", false)
  | 1 => ("java/util/AbstractMap", "values", "Ljava/util/Collection;", false)
  | 2 => ("java/util/TreeMap", "comparator", "Ljava/util/Comparator;", true)
  | 3 => ("java/util/TreeMap", "root", "Ljava/util/TreeMap$Entry;", false)
  | 4 => ("java/util/TreeMap", "size", "I", false)
  | 5 => ("java/util/TreeMap", "modCount", "I", false)
  | 6 => ("java/util/TreeMap", "entrySet", "Ljava/util/TreeMap$EntrySet;", false)
  | 7 => ("java/util/TreeMap", "navigableKeySet", "Ljava/util/TreeMap$KeySet;", false)
  | _ => ("java/util/TreeMap", "descendingMap", "Ljava/util/NavigableMap;", false)
def tyJ25 : Nat → FieldType := fun k => match k with
  | 0 => .object "java/util/Set"
  | 1 => .object "java/util/Collection"
  | 2 => .object "java/util/Comparator"
  | 3 => .object "java/util/TreeMap$Entry"
  | 4 => .int
  | 5 => .int
  | 6 => .object "java/util/TreeMap$EntrySet"
  | 7 => .object "java/util/TreeMap$KeySet"
  | _ => .object "java/util/NavigableMap"
abbrev wsJ250 : List Cond := u_ws RJ25 TJ25 9
theorem nmJ25 : ∀ a, a < 9 → ∀ b, b < 9 → a ≠ b → (TJ25 a).2.1 ≠ (TJ25 b).2.1 := by decide +kernel
theorem tyJ25_ok : ∀ k, k < 9 → parseFieldDescriptor (TJ25 k).2.2.1 = some (tyJ25 k) := by decide +kernel
theorem in_J25 : ∀ w ∈ wsJ250, w ∈ lw_all := lw_in wsJ250 [2249, 2250, 2235, 2237, 2239, 2241, 2243, 2245, 2247] (by decide +kernel) (by decide +kernel)
def RJ17 : String := "java/lang/Integer"
def TJ17 : u_T := fun k => match k with
  | _ => ("java/lang/Integer", "value", "I", true)
def tyJ17 : Nat → FieldType := fun k => match k with
  | _ => .int
abbrev wsJ170 : List Cond := u_ws RJ17 TJ17 1
theorem nmJ17 : ∀ a, a < 1 → ∀ b, b < 1 → a ≠ b → (TJ17 a).2.1 ≠ (TJ17 b).2.1 := by decide +kernel
theorem tyJ17_ok : ∀ k, k < 1 → parseFieldDescriptor (TJ17 k).2.2.1 = some (tyJ17 k) := by decide +kernel
theorem in_J17 : ∀ w ∈ wsJ170, w ∈ lw_all := lw_in wsJ170 [2268] (by decide +kernel) (by decide +kernel)
def RJ32 : String := "java/util/TreeMap$Entry"
def TJ32 : u_T := fun k => match k with
  | 0 => ("java/util/TreeMap$Entry", "key", "Ljava/lang/Object;", false)
  | 1 => ("java/util/TreeMap$Entry", "value", "Ljava/lang/Object;", false)
  | 2 => ("java/util/TreeMap$Entry", "left", "Ljava/util/TreeMap$Entry;", false)
  | 3 => ("java/util/TreeMap$Entry", "right", "Ljava/util/TreeMap$Entry;", false)
  | 4 => ("java/util/TreeMap$Entry", "parent", "Ljava/util/TreeMap$Entry;", false)
  | _ => ("java/util/TreeMap$Entry", "color", "Z", false)
def tyJ32 : Nat → FieldType := fun k => match k with
  | 0 => .object "java/lang/Object"
  | 1 => .object "java/lang/Object"
  | 2 => .object "java/util/TreeMap$Entry"
  | 3 => .object "java/util/TreeMap$Entry"
  | 4 => .object "java/util/TreeMap$Entry"
  | _ => .boolean
abbrev wsJ320 : List Cond := u_ws RJ32 TJ32 6
theorem nmJ32 : ∀ a, a < 6 → ∀ b, b < 6 → a ≠ b → (TJ32 a).2.1 ≠ (TJ32 b).2.1 := by decide +kernel
theorem tyJ32_ok : ∀ k, k < 6 → parseFieldDescriptor (TJ32 k).2.2.1 = some (tyJ32 k) := by decide +kernel
theorem in_J32 : ∀ w ∈ wsJ320, w ∈ lw_all := lw_in wsJ320 [2309, 2311, 2313, 2315, 2317, 2319] (by decide +kernel) (by decide +kernel)
def RJ33 : String := "java/util/TreeMap$Values"
def TJ33 : u_T := fun k => match k with
  | _ => ("java/util/TreeMap$Values", "this$0", "Ljava/util/TreeMap;", true)
def tyJ33 : Nat → FieldType := fun k => match k with
  | _ => .object "java/util/TreeMap"
abbrev wsJ330 : List Cond := u_ws RJ33 TJ33 1
theorem nmJ33 : ∀ a, a < 1 → ∀ b, b < 1 → a ≠ b → (TJ33 a).2.1 ≠ (TJ33 b).2.1 := by decide +kernel
theorem tyJ33_ok : ∀ k, k < 1 → parseFieldDescriptor (TJ33 k).2.2.1 = some (tyJ33 k) := by decide +kernel
theorem in_J33 : ∀ w ∈ wsJ330, w ∈ lw_all := lw_in wsJ330 [2369] (by decide +kernel) (by decide +kernel)
def RJ35 : String := "java/util/HashMap$EntryIterator"
def TJ35 : u_T := fun k => match k with
  | 0 => ("java/util/HashMap$HashIterator", "next", "Ljava/util/HashMap$Node;", false)
  | 1 => ("java/util/HashMap$HashIterator", "current", "Ljava/util/HashMap$Node;", false)
  | 2 => ("java/util/HashMap$HashIterator", "expectedModCount", "I", false)
  | 3 => ("java/util/HashMap$HashIterator", "index", "I", false)
  | _ => ("java/util/HashMap$HashIterator", "this$0", "Ljava/util/HashMap;", true)
def tyJ35 : Nat → FieldType := fun k => match k with
  | 0 => .object "java/util/HashMap$Node"
  | 1 => .object "java/util/HashMap$Node"
  | 2 => .int
  | 3 => .int
  | _ => .object "java/util/HashMap"
abbrev wsJ350 : List Cond := u_ws RJ35 TJ35 5
theorem nmJ35 : ∀ a, a < 5 → ∀ b, b < 5 → a ≠ b → (TJ35 a).2.1 ≠ (TJ35 b).2.1 := by decide +kernel
theorem tyJ35_ok : ∀ k, k < 5 → parseFieldDescriptor (TJ35 k).2.2.1 = some (tyJ35 k) := by decide +kernel
theorem in_J35 : ∀ w ∈ wsJ350, w ∈ lw_all := lw_in wsJ350 [2400, 2402, 2404, 2406, 2408] (by decide +kernel) (by decide +kernel)
def RJ38 : String := "java/util/TreeMap$ValueIterator"
def TJ38 : u_T := fun k => match k with
  | 0 => ("java/util/TreeMap$PrivateEntryIterator", "next", "Ljava/util/TreeMap$Entry;", false)
  | 1 => ("java/util/TreeMap$PrivateEntryIterator", "lastReturned", "Ljava/util/TreeMap$Entry;", false)
  | 2 => ("java/util/TreeMap$PrivateEntryIterator", "expectedModCount", "I", false)
  | _ => ("java/util/TreeMap$PrivateEntryIterator", "this$0", "Ljava/util/TreeMap;", true)
def tyJ38 : Nat → FieldType := fun k => match k with
  | 0 => .object "java/util/TreeMap$Entry"
  | 1 => .object "java/util/TreeMap$Entry"
  | 2 => .int
  | _ => .object "java/util/TreeMap"
abbrev wsJ380 : List Cond := u_ws RJ38 TJ38 4
theorem nmJ38 : ∀ a, a < 4 → ∀ b, b < 4 → a ≠ b → (TJ38 a).2.1 ≠ (TJ38 b).2.1 := by decide +kernel
theorem tyJ38_ok : ∀ k, k < 4 → parseFieldDescriptor (TJ38 k).2.2.1 = some (tyJ38 k) := by decide +kernel
theorem in_J38 : ∀ w ∈ wsJ380, w ∈ lw_all := lw_in wsJ380 [2465, 2467, 2469, 2471] (by decide +kernel) (by decide +kernel)
def RX17 : String := "TollRoad$Trip"
def TX17 : u_T := fun k => match k with
  | 0 => ("TollRoad$Trip", "size", "I", true)
  | 1 => ("TollRoad$Trip", "reads", "Ljava/util/ArrayList;", true)
  | 2 => ("TollRoad$Trip", "gantries", "Ljava/util/ArrayList;", true)
  | 3 => ("TollRoad$Trip", "last", "LTollRoad$Read;", false)
  | 4 => ("TollRoad$Trip", "missing", "I", false)
  | 5 => ("TollRoad$Trip", "tolls", "I", false)
  | _ => ("TollRoad$Trip", "cost", "I", false)
def tyX17 : Nat → FieldType := fun k => match k with
  | 0 => .int
  | 1 => .object "java/util/ArrayList"
  | 2 => .object "java/util/ArrayList"
  | 3 => .object "TollRoad$Read"
  | 4 => .int
  | 5 => .int
  | _ => .int
abbrev wsX170 : List Cond := u_ws RX17 TX17 7
theorem nmX17 : ∀ a, a < 7 → ∀ b, b < 7 → a ≠ b → (TX17 a).2.1 ≠ (TX17 b).2.1 := by decide +kernel
theorem tyX17_ok : ∀ k, k < 7 → parseFieldDescriptor (TX17 k).2.2.1 = some (tyX17 k) := by decide +kernel
theorem in_X17 : ∀ w ∈ wsX170, w ∈ lw_all := lw_in wsX170 [2507, 2509, 2511, 2513, 2515, 2517, 2519] (by decide +kernel) (by decide +kernel)
def RX18 : String := "TollRoad$Bill"
def TX18 : u_T := fun k => match k with
  | 0 => ("TollRoad$Bill", "vehicle", "I", true)
  | 1 => ("TollRoad$Bill", "account", "I", true)
  | 2 => ("TollRoad$Bill", "amount", "I", true)
  | 3 => ("TollRoad$Bill", "toll", "I", true)
  | 4 => ("TollRoad$Bill", "percent", "I", true)
  | 5 => ("TollRoad$Bill", "images", "I", true)
  | 6 => ("TollRoad$Bill", "invoice", "I", true)
  | 7 => ("TollRoad$Bill", "trip", "LTollRoad$Trip;", true)
  | 8 => ("TollRoad$Bill", "dispute", "I", false)
  | _ => ("TollRoad$Bill", "refund", "I", false)
def tyX18 : Nat → FieldType := fun k => match k with
  | 0 => .int
  | 1 => .int
  | 2 => .int
  | 3 => .int
  | 4 => .int
  | 5 => .int
  | 6 => .int
  | 7 => .object "TollRoad$Trip"
  | 8 => .int
  | _ => .int
abbrev wsX180 : List Cond := u_ws RX18 TX18 10
theorem nmX18 : ∀ a, a < 10 → ∀ b, b < 10 → a ≠ b → (TX18 a).2.1 ≠ (TX18 b).2.1 := by decide +kernel
theorem tyX18_ok : ∀ k, k < 10 → parseFieldDescriptor (TX18 k).2.2.1 = some (tyX18 k) := by decide +kernel
theorem in_X18 : ∀ w ∈ wsX180, w ∈ lw_all := lw_in wsX180 [2654, 2656, 2658, 2660, 2662, 2664, 2666, 2668, 2670, 2672] (by decide +kernel) (by decide +kernel)
def RJ39 : String := "java/util/HashMap$Node"
def TJ39 : u_T := fun k => match k with
  | 0 => ("java/util/HashMap$Node", "hash", "I", true)
  | 1 => ("java/util/HashMap$Node", "key", "Ljava/lang/Object;", true)
  | 2 => ("java/util/HashMap$Node", "value", "Ljava/lang/Object;", false)
  | _ => ("java/util/HashMap$Node", "next", "Ljava/util/HashMap$Node;", false)
def tyJ39 : Nat → FieldType := fun k => match k with
  | 0 => .int
  | 1 => .object "java/lang/Object"
  | 2 => .object "java/lang/Object"
  | _ => .object "java/util/HashMap$Node"
abbrev wsJ390 : List Cond := u_ws RJ39 TJ39 4
theorem nmJ39 : ∀ a, a < 4 → ∀ b, b < 4 → a ≠ b → (TJ39 a).2.1 ≠ (TJ39 b).2.1 := by decide +kernel
theorem tyJ39_ok : ∀ k, k < 4 → parseFieldDescriptor (TJ39 k).2.2.1 = some (tyJ39 k) := by decide +kernel
theorem in_J39 : ∀ w ∈ wsJ390, w ∈ lw_all := lw_in wsJ390 [2746, 2748, 2750, 2752] (by decide +kernel) (by decide +kernel)
def RJ43 : String := "java/util/HashMap$EntrySet"
def TJ43 : u_T := fun k => match k with
  | _ => ("java/util/HashMap$EntrySet", "this$0", "Ljava/util/HashMap;", true)
def tyJ43 : Nat → FieldType := fun k => match k with
  | _ => .object "java/util/HashMap"
abbrev wsJ430 : List Cond := u_ws RJ43 TJ43 1
theorem nmJ43 : ∀ a, a < 1 → ∀ b, b < 1 → a ≠ b → (TJ43 a).2.1 ≠ (TJ43 b).2.1 := by decide +kernel
theorem tyJ43_ok : ∀ k, k < 1 → parseFieldDescriptor (TJ43 k).2.2.1 = some (tyJ43 k) := by decide +kernel
theorem in_J43 : ∀ w ∈ wsJ430, w ∈ lw_all := lw_in wsJ430 [3018] (by decide +kernel) (by decide +kernel)
def RX4 : String := "TollRoadModel"
def TX4 : u_T := fun k => match k with
  | 0 => ("TollRoadModel", "state", "[I", true)
  | 1 => ("TollRoadModel", "backup", "[I", true)
  | 2 => ("TollRoadModel", "saved", "[I", true)
  | 3 => ("TollRoadModel", "isSaved", "[Z", true)
  | 4 => ("TollRoadModel", "firstValues", "[I", true)
  | 5 => ("TollRoadModel", "leastValues", "[I", true)
  | 6 => ("TollRoadModel", "greatestValues", "[I", true)
  | 7 => ("TollRoadModel", "thrown", "I", false)
  | 8 => ("TollRoadModel", "text", "[I", true)
  | 9 => ("TollRoadModel", "textLength", "I", false)
  | 10 => ("TollRoadModel", "position", "I", false)
  | 11 => ("TollRoadModel", "tokenStart", "I", false)
  | 12 => ("TollRoadModel", "token", "I", false)
  | 13 => ("TollRoadModel", "letters", "I", false)
  | 14 => ("TollRoadModel", "number", "I", false)
  | 15 => ("TollRoadModel", "errorCode", "I", false)
  | 16 => ("TollRoadModel", "errorPosition", "I", false)
  | 17 => ("TollRoadModel", "word", "J", false)
  | 18 => ("TollRoadModel", "way", "[I", true)
  | 19 => ("TollRoadModel", "tried", "[I", true)
  | 20 => ("TollRoadModel", "wayMinutes", "[I", true)
  | 21 => ("TollRoadModel", "wayToll", "[I", true)
  | 22 => ("TollRoadModel", "wayMiss", "[I", true)
  | 23 => ("TollRoadModel", "bestWay", "[I", true)
  | 24 => ("TollRoadModel", "bestCost", "I", false)
  | 25 => ("TollRoadModel", "bestRoads", "I", false)
  | 26 => ("TollRoadModel", "bestToll", "I", false)
  | 27 => ("TollRoadModel", "bestMinutes", "I", false)
  | 28 => ("TollRoadModel", "cheapest", "I", false)
  | 29 => ("TollRoadModel", "order", "[I", true)
  | 30 => ("TollRoadModel", "tripOf", "[I", true)
  | 31 => ("TollRoadModel", "tripStart", "[I", true)
  | 32 => ("TollRoadModel", "tripCost", "[I", true)
  | 33 => ("TollRoadModel", "tripSum", "[I", true)
  | 34 => ("TollRoadModel", "place", "[I", true)
  | 35 => ("TollRoadModel", "isMissing", "[Z", true)
  | 36 => ("TollRoadModel", "ordered", "I", false)
  | 37 => ("TollRoadModel", "tripCount", "I", false)
  | _ => ("TollRoadModel", "places", "I", false)
def tyX4 : Nat → FieldType := fun k => match k with
  | 0 => .array .int
  | 1 => .array .int
  | 2 => .array .int
  | 3 => .array .boolean
  | 4 => .array .int
  | 5 => .array .int
  | 6 => .array .int
  | 7 => .int
  | 8 => .array .int
  | 9 => .int
  | 10 => .int
  | 11 => .int
  | 12 => .int
  | 13 => .int
  | 14 => .int
  | 15 => .int
  | 16 => .int
  | 17 => .long
  | 18 => .array .int
  | 19 => .array .int
  | 20 => .array .int
  | 21 => .array .int
  | 22 => .array .int
  | 23 => .array .int
  | 24 => .int
  | 25 => .int
  | 26 => .int
  | 27 => .int
  | 28 => .int
  | 29 => .array .int
  | 30 => .array .int
  | 31 => .array .int
  | 32 => .array .int
  | 33 => .array .int
  | 34 => .array .int
  | 35 => .array .boolean
  | 36 => .int
  | 37 => .int
  | _ => .int
abbrev wsX40 : List Cond := u_ws RX4 TX4 39
theorem nmX4 : ∀ a, a < 39 → ∀ b, b < 39 → a ≠ b → (TX4 a).2.1 ≠ (TX4 b).2.1 := by decide +kernel
theorem tyX4_ok : ∀ k, k < 39 → parseFieldDescriptor (TX4 k).2.2.1 = some (tyX4 k) := by decide +kernel
theorem in_X4 : ∀ w ∈ wsX40, w ∈ lw_all := lw_in wsX40 [3119, 3121, 3123, 3125, 3127, 3129, 3131, 3133, 3135, 3137, 3139, 3141, 3143, 3145, 3147, 3149, 3151, 3153, 3155, 3157, 3159, 3161, 3163, 3165, 3167, 3169, 3171, 3173, 3175, 3177, 3179, 3181, 3183, 3185, 3187, 3189, 3191, 3193, 3195] (by decide +kernel) (by decide +kernel)
def RJ21 : String := "java/lang/IndexOutOfBoundsException"
def TJ21 : u_T := fun k => match k with
  | 0 => ("java/lang/Throwable", "cause", "Ljava/lang/Throwable;", false)
  | 1 => ("java/lang/Throwable", "stackTrace", "[Ljava/lang/StackTraceElement;", false)
  | 2 => ("java/lang/Throwable", "suppressedExceptions", "Ljava/util/List;", false)
  | 3 => ("java/lang/Throwable", "detailMessage", "Ljava/lang/String;", false)
  | 4 => ("java/lang/Throwable", "backtrace", "Ljava/lang/Object;", false)
  | _ => ("java/lang/Throwable", "depth", "I", false)
def tyJ21 : Nat → FieldType := fun k => match k with
  | 0 => .object "java/lang/Throwable"
  | 1 => .array (.object "java/lang/StackTraceElement")
  | 2 => .object "java/util/List"
  | 3 => .object "java/lang/String"
  | 4 => .object "java/lang/Object"
  | _ => .int
abbrev wsJ210 : List Cond := u_ws RJ21 TJ21 6
theorem nmJ21 : ∀ a, a < 6 → ∀ b, b < 6 → a ≠ b → (TJ21 a).2.1 ≠ (TJ21 b).2.1 := by decide +kernel
theorem tyJ21_ok : ∀ k, k < 6 → parseFieldDescriptor (TJ21 k).2.2.1 = some (tyJ21 k) := by decide +kernel
def RJ6 : String := "java/lang/IllegalArgumentException"
def TJ6 : u_T := fun k => match k with
  | 0 => ("java/lang/Throwable", "cause", "Ljava/lang/Throwable;", false)
  | 1 => ("java/lang/Throwable", "stackTrace", "[Ljava/lang/StackTraceElement;", false)
  | 2 => ("java/lang/Throwable", "suppressedExceptions", "Ljava/util/List;", false)
  | 3 => ("java/lang/Throwable", "detailMessage", "Ljava/lang/String;", false)
  | 4 => ("java/lang/Throwable", "backtrace", "Ljava/lang/Object;", false)
  | _ => ("java/lang/Throwable", "depth", "I", false)
def tyJ6 : Nat → FieldType := fun k => match k with
  | 0 => .object "java/lang/Throwable"
  | 1 => .array (.object "java/lang/StackTraceElement")
  | 2 => .object "java/util/List"
  | 3 => .object "java/lang/String"
  | 4 => .object "java/lang/Object"
  | _ => .int
abbrev wsJ60 : List Cond := u_ws RJ6 TJ6 6
theorem nmJ6 : ∀ a, a < 6 → ∀ b, b < 6 → a ≠ b → (TJ6 a).2.1 ≠ (TJ6 b).2.1 := by decide +kernel
theorem tyJ6_ok : ∀ k, k < 6 → parseFieldDescriptor (TJ6 k).2.2.1 = some (tyJ6 k) := by decide +kernel
def RJ20 : String := "java/lang/IllegalStateException"
def TJ20 : u_T := fun k => match k with
  | 0 => ("java/lang/Throwable", "cause", "Ljava/lang/Throwable;", false)
  | 1 => ("java/lang/Throwable", "stackTrace", "[Ljava/lang/StackTraceElement;", false)
  | 2 => ("java/lang/Throwable", "suppressedExceptions", "Ljava/util/List;", false)
  | 3 => ("java/lang/Throwable", "detailMessage", "Ljava/lang/String;", false)
  | 4 => ("java/lang/Throwable", "backtrace", "Ljava/lang/Object;", false)
  | _ => ("java/lang/Throwable", "depth", "I", false)
def tyJ20 : Nat → FieldType := fun k => match k with
  | 0 => .object "java/lang/Throwable"
  | 1 => .array (.object "java/lang/StackTraceElement")
  | 2 => .object "java/util/List"
  | 3 => .object "java/lang/String"
  | 4 => .object "java/lang/Object"
  | _ => .int
abbrev wsJ200 : List Cond := u_ws RJ20 TJ20 6
theorem nmJ20 : ∀ a, a < 6 → ∀ b, b < 6 → a ≠ b → (TJ20 a).2.1 ≠ (TJ20 b).2.1 := by decide +kernel
theorem tyJ20_ok : ∀ k, k < 6 → parseFieldDescriptor (TJ20 k).2.2.1 = some (tyJ20 k) := by decide +kernel
def RJ29 : String := "java/lang/NullPointerException"
def TJ29 : u_T := fun k => match k with
  | 0 => ("java/lang/Throwable", "cause", "Ljava/lang/Throwable;", false)
  | 1 => ("java/lang/Throwable", "stackTrace", "[Ljava/lang/StackTraceElement;", false)
  | 2 => ("java/lang/Throwable", "suppressedExceptions", "Ljava/util/List;", false)
  | 3 => ("java/lang/Throwable", "detailMessage", "Ljava/lang/String;", false)
  | 4 => ("java/lang/Throwable", "backtrace", "Ljava/lang/Object;", false)
  | 5 => ("java/lang/Throwable", "depth", "I", false)
  | 6 => ("java/lang/NullPointerException", "extendedMessageState", "I", false)
  | _ => ("java/lang/NullPointerException", "extendedMessage", "Ljava/lang/String;", false)
def tyJ29 : Nat → FieldType := fun k => match k with
  | 0 => .object "java/lang/Throwable"
  | 1 => .array (.object "java/lang/StackTraceElement")
  | 2 => .object "java/util/List"
  | 3 => .object "java/lang/String"
  | 4 => .object "java/lang/Object"
  | 5 => .int
  | 6 => .int
  | _ => .object "java/lang/String"
abbrev wsJ290 : List Cond := u_ws RJ29 TJ29 8
theorem nmJ29 : ∀ a, a < 8 → ∀ b, b < 8 → a ≠ b → (TJ29 a).2.1 ≠ (TJ29 b).2.1 := by decide +kernel
theorem tyJ29_ok : ∀ k, k < 8 → parseFieldDescriptor (TJ29 k).2.2.1 = some (tyJ29 k) := by decide +kernel
/-- class number -> name, fields, how many -/
def CL : List vw_C := [(RX1, TX1, 6), (RX2, TX2, 8), (RX3, TX3, 4), (RJ2, TJ2, 3), (RJ8, TJ8, 4), (RJ9, TJ9, 4), (RJ19, TJ19, 8), (RJ23, TJ23, 4), (RX20, TX20, 2), (RX5, TX5, 9), (RX6, TX6, 8), (RX7, TX7, 3), (RX8, TX8, 6), (RX9, TX9, 6), (RX11, TX11, 2), (RX13, TX13, 11), (RX14, TX14, 6), (RX15, TX15, 8), (RJ28, TJ28, 4), (RX16, TX16, 1), (RJ25, TJ25, 9), (RJ17, TJ17, 1), (RJ32, TJ32, 6), (RJ33, TJ33, 1), (RJ35, TJ35, 5), (RJ38, TJ38, 4), (RX17, TX17, 7), (RX18, TX18, 10), (RJ39, TJ39, 4), (RJ43, TJ43, 1), (RX4, TX4, 39), (RJ21, TJ21, 0), (RJ6, TJ6, 0), (RJ20, TJ20, 0), (RJ29, TJ29, 0)]
/-- class number, place -> the field's number -/
def fidT : List (List Nat) := [[0, 1, 2, 3, 4, 5], [6, 7, 8, 9, 10, 11, 12, 13], [14, 15, 16, 17], [18, 19, 20], [21, 22, 23, 24], [25, 26, 27, 28], [29, 30, 31, 32, 33, 34, 35, 36], [37, 38, 39, 40], [41, 42], [43, 44, 45, 46, 47, 48, 49, 50, 51], [52, 53, 54, 55, 56, 57, 58, 59], [60, 61, 62], [63, 64, 65, 66, 67, 68], [69, 70, 71, 72, 73, 74], [75, 76], [77, 78, 79, 80, 81, 82, 83, 84, 85, 86, 87], [77, 78, 79, 80, 81, 88], [89, 90, 91, 92, 93, 94, 95, 96], [97, 98, 99, 100], [101], [29, 30, 102, 103, 104, 105, 106, 107, 108], [109], [110, 111, 112, 113, 114, 115], [116], [117, 118, 119, 120, 121], [122, 123, 124, 125], [126, 127, 128, 129, 130, 131, 132], [133, 134, 135, 136, 137, 138, 139, 140, 141, 142], [143, 144, 145, 146], [147], [148, 149, 150, 151, 152, 153, 154, 155, 156, 157, 158, 159, 160, 161, 162, 163, 164, 165, 166, 167, 168, 169, 170, 171, 172, 173, 174, 175, 176, 177, 178, 179, 180, 181, 182, 183, 184, 185, 186], [], [], [], []]
def fidG (ci k : Nat) : Nat := (fidT.getD ci []).getD k 0
def fdT : List (String × String × String × Bool) := [("TollRoad", "now", "LTollRoad$World;", false), ("TollRoad", "saved", "[LTollRoad$World;", true), ("TollRoad", "text", "[B", true), ("TollRoad", "textLength", "I", false), ("TollRoad", "errorCode", "I", false), ("TollRoad", "errorPosition", "I", false), ("TollRoad$World", "network", "LTollRoad$Network;", false), ("TollRoad$World", "settings", "[I", false), ("TollRoad$World", "accounts", "[LTollRoad$Account;", true), ("TollRoad$World", "accountCount", "I", false), ("TollRoad$World", "vehicles", "Ljava/util/ArrayList;", true), ("TollRoad$World", "reads", "Ljava/util/ArrayList;", true), ("TollRoad$World", "bills", "Ljava/util/ArrayList;", true), ("TollRoad$World", "marks", "Ljava/util/HashMap;", true), ("TollRoad$Network", "misses", "[I", false), ("TollRoad$Network", "gantries", "I", false), ("TollRoad$Network", "roads", "[LTollRoad$Road;", false), ("TollRoad$Network", "roadCount", "I", false), ("java/util/AbstractList", "modCount", "I", false), ("java/util/ArrayList", "elementData", "[Ljava/lang/Object;", false), ("java/util/ArrayList", "size", "I", false), ("java/lang/AbstractStringBuilder", "value", "[B", false), ("java/lang/AbstractStringBuilder", "coder", "B", false), ("java/lang/AbstractStringBuilder", "maybeLatin1", "Z", false), ("java/lang/AbstractStringBuilder", "count", "I", false), ("java/lang/String", "value", "[B", true), ("java/lang/String", "coder", "B", true), ("java/lang/String", "hash", "I", false), ("java/lang/String", "hashIsZero", "Z", false), ("java/util/AbstractMap", "keySet", "Ljava/util/Set;", false), ("java/util/AbstractMap", "values", "Ljava/util/Collection;", false), ("java/util/HashMap", "table", "[Ljava/util/HashMap$Node;", false), ("java/util/HashMap", "entrySet", "Ljava/util/Set;", false), ("java/util/HashMap", "size", "I", false), ("java/util/HashMap", "modCount", "I", false), ("java/util/HashMap", "threshold", "I", false), ("java/util/HashMap", "loadFactor", "F", true), ("java/util/ArrayList$Itr", "cursor", "I", false), ("java/util/ArrayList$Itr", "lastRet", "I", false), ("java/util/ArrayList$Itr", "expectedModCount", "I", false), ("java/util/ArrayList$Itr", "this$0", "Ljava/util/ArrayList;", true), ("TollRoad$Mark", "gantry", "I", true), ("TollRoad$Mark", "isMissing", "Z", true), ("TollRoad$Parser", "length", "I", true), ("TollRoad$Parser", "made", "LTollRoad$World;", true), ("TollRoad$Parser", "next", "I", false), ("TollRoad$Parser", "begin", "I", false), ("TollRoad$Parser", "isNumber", "Z", false), ("TollRoad$Parser", "isSemicolon", "Z", false), ("TollRoad$Parser", "number", "I", false), ("TollRoad$Parser", "word", "I", false), ("TollRoad$Parser", "this$0", "LTollRoad;", true), ("java/lang/Throwable", "cause", "Ljava/lang/Throwable;", false), ("java/lang/Throwable", "stackTrace", "[Ljava/lang/StackTraceElement;", false), ("java/lang/Throwable", "suppressedExceptions", "Ljava/util/List;", false), ("java/lang/Throwable", "detailMessage", "Ljava/lang/String;", false), ("java/lang/Throwable", "backtrace", "Ljava/lang/Object;", false), ("java/lang/Throwable", "depth", "I", false), ("TollRoad$TextError", "code", "I", true), ("TollRoad$TextError", "position", "I", true), ("TollRoad$Road", "to", "I", true), ("TollRoad$Road", "minutes", "I", true), ("TollRoad$Road", "toll", "I", true), ("TollRoad$Account", "balance", "I", false), ("TollRoad$Account", "percent", "I", true), ("TollRoad$Account", "after", "I", true), ("TollRoad$Account", "bills", "I", false), ("TollRoad$Account", "amounts", "I", false), ("TollRoad$Account", "refunds", "I", false), ("TollRoad$Vehicle", "size", "I", true), ("TollRoad$Vehicle", "account", "I", false), ("TollRoad$Vehicle", "debt", "I", false), ("TollRoad$Vehicle", "billedReads", "I", false), ("TollRoad$Vehicle", "latest", "I", false), ("TollRoad$Vehicle", "bills", "I", false), ("TollRoad$Bounds$1", "val$low", "I", true), ("TollRoad$Bounds$1", "val$high", "I", true), ("TollRoad$Search", "network", "LTollRoad$Network;", true), ("TollRoad$Search", "target", "I", true), ("TollRoad$Search", "way", "[I", true), ("TollRoad$Search", "best", "[I", true), ("TollRoad$Search", "steps", "I", false), ("TollRoad$Route", "elapsed", "I", true), ("TollRoad$Route", "slack", "I", true), ("TollRoad$Route", "fastest", "I", true), ("TollRoad$Route", "cost", "I", false), ("TollRoad$Route", "minutes", "I", false), ("TollRoad$Route", "toll", "I", false), ("TollRoad$Cheapest", "toll", "I", false), ("TollRoad$Read", "number", "I", true), ("TollRoad$Read", "gantry", "I", true), ("TollRoad$Read", "time", "I", true), ("TollRoad$Read", "isImage", "Z", true), ("TollRoad$Read", "vehicle", "I", false), ("TollRoad$Read", "confidence", "I", false), ("TollRoad$Read", "state", "I", false), ("TollRoad$Read", "bill", "I", false), ("java/util/PriorityQueue", "queue", "[Ljava/lang/Object;", false), ("java/util/PriorityQueue", "size", "I", false), ("java/util/PriorityQueue", "comparator", "Ljava/util/Comparator;", true), ("java/util/PriorityQueue", "modCount", "I", false), ("TollRoad$Order", "world", "LTollRoad$World;", true), ("java/util/TreeMap", "comparator", "Ljava/util/Comparator;", true), ("java/util/TreeMap", "root", "Ljava/util/TreeMap$Entry;", false), ("java/util/TreeMap", "size", "I", false), ("java/util/TreeMap", "modCount", "I", false), ("java/util/TreeMap", "entrySet", "Ljava/util/TreeMap$EntrySet;", false), ("java/util/TreeMap", "navigableKeySet", "Ljava/util/TreeMap$KeySet;", false), ("java/util/TreeMap", "descendingMap", "Ljava/util/NavigableMap;", false), ("java/lang/Integer", "value", "I", true), ("java/util/TreeMap$Entry", "key", "Ljava/lang/Object;", false), ("java/util/TreeMap$Entry", "value", "Ljava/lang/Object;", false), ("java/util/TreeMap$Entry", "left", "Ljava/util/TreeMap$Entry;", false), ("java/util/TreeMap$Entry", "right", "Ljava/util/TreeMap$Entry;", false), ("java/util/TreeMap$Entry", "parent", "Ljava/util/TreeMap$Entry;", false), ("java/util/TreeMap$Entry", "color", "Z", false), ("java/util/TreeMap$Values", "this$0", "Ljava/util/TreeMap;", true), ("java/util/HashMap$HashIterator", "next", "Ljava/util/HashMap$Node;", false), ("java/util/HashMap$HashIterator", "current", "Ljava/util/HashMap$Node;", false), ("java/util/HashMap$HashIterator", "expectedModCount", "I", false), ("java/util/HashMap$HashIterator", "index", "I", false), ("java/util/HashMap$HashIterator", "this$0", "Ljava/util/HashMap;", true), ("java/util/TreeMap$PrivateEntryIterator", "next", "Ljava/util/TreeMap$Entry;", false), ("java/util/TreeMap$PrivateEntryIterator", "lastReturned", "Ljava/util/TreeMap$Entry;", false), ("java/util/TreeMap$PrivateEntryIterator", "expectedModCount", "I", false), ("java/util/TreeMap$PrivateEntryIterator", "this$0", "Ljava/util/TreeMap;", true), ("TollRoad$Trip", "size", "I", true), ("TollRoad$Trip", "reads", "Ljava/util/ArrayList;", true), ("TollRoad$Trip", "gantries", "Ljava/util/ArrayList;", true), ("TollRoad$Trip", "last", "LTollRoad$Read;", false), ("TollRoad$Trip", "missing", "I", false), ("TollRoad$Trip", "tolls", "I", false), ("TollRoad$Trip", "cost", "I", false), ("TollRoad$Bill", "vehicle", "I", true), ("TollRoad$Bill", "account", "I", true), ("TollRoad$Bill", "amount", "I", true), ("TollRoad$Bill", "toll", "I", true), ("TollRoad$Bill", "percent", "I", true), ("TollRoad$Bill", "images", "I", true), ("TollRoad$Bill", "invoice", "I", true), ("TollRoad$Bill", "trip", "LTollRoad$Trip;", true), ("TollRoad$Bill", "dispute", "I", false), ("TollRoad$Bill", "refund", "I", false), ("java/util/HashMap$Node", "hash", "I", true), ("java/util/HashMap$Node", "key", "Ljava/lang/Object;", true), ("java/util/HashMap$Node", "value", "Ljava/lang/Object;", false), ("java/util/HashMap$Node", "next", "Ljava/util/HashMap$Node;", false), ("java/util/HashMap$EntrySet", "this$0", "Ljava/util/HashMap;", true), ("TollRoadModel", "state", "[I", true), ("TollRoadModel", "backup", "[I", true), ("TollRoadModel", "saved", "[I", true), ("TollRoadModel", "isSaved", "[Z", true), ("TollRoadModel", "firstValues", "[I", true), ("TollRoadModel", "leastValues", "[I", true), ("TollRoadModel", "greatestValues", "[I", true), ("TollRoadModel", "thrown", "I", false), ("TollRoadModel", "text", "[I", true), ("TollRoadModel", "textLength", "I", false), ("TollRoadModel", "position", "I", false), ("TollRoadModel", "tokenStart", "I", false), ("TollRoadModel", "token", "I", false), ("TollRoadModel", "letters", "I", false), ("TollRoadModel", "number", "I", false), ("TollRoadModel", "errorCode", "I", false), ("TollRoadModel", "errorPosition", "I", false), ("TollRoadModel", "word", "J", false), ("TollRoadModel", "way", "[I", true), ("TollRoadModel", "tried", "[I", true), ("TollRoadModel", "wayMinutes", "[I", true), ("TollRoadModel", "wayToll", "[I", true), ("TollRoadModel", "wayMiss", "[I", true), ("TollRoadModel", "bestWay", "[I", true), ("TollRoadModel", "bestCost", "I", false), ("TollRoadModel", "bestRoads", "I", false), ("TollRoadModel", "bestToll", "I", false), ("TollRoadModel", "bestMinutes", "I", false), ("TollRoadModel", "cheapest", "I", false), ("TollRoadModel", "order", "[I", true), ("TollRoadModel", "tripOf", "[I", true), ("TollRoadModel", "tripStart", "[I", true), ("TollRoadModel", "tripCost", "[I", true), ("TollRoadModel", "tripSum", "[I", true), ("TollRoadModel", "place", "[I", true), ("TollRoadModel", "isMissing", "[Z", true), ("TollRoadModel", "ordered", "I", false), ("TollRoadModel", "tripCount", "I", false), ("TollRoadModel", "places", "I", false)]
def fdn (f : Nat) : String × String × String × Bool := fdT.getD f ("", "", "", false)
def atT : List FieldType := [.int, .byte, .boolean, .long, .double, .object "java/lang/Object", .object "TollRoad$Road", .object "TollRoad$Account", .object "TollRoad$World", .object "java/util/HashMap$Node", .object "java/lang/Integer"]
def aty (t : Nat) : FieldType := atT.getD t .int
def dv0 : Nat → Option Value := fun f => match f with
  | 0 => some (.null)
  | 1 => some (.null)
  | 2 => some (.null)
  | 3 => some (.int 0)
  | 4 => some (.int 0)
  | 5 => some (.int 0)
  | _ => none
def dv1 : Nat → Option Value := fun f => match f with
  | 6 => some (.null)
  | 7 => some (.null)
  | 8 => some (.null)
  | 9 => some (.int 0)
  | 10 => some (.null)
  | 11 => some (.null)
  | 12 => some (.null)
  | 13 => some (.null)
  | _ => none
def dv2 : Nat → Option Value := fun f => match f with
  | 14 => some (.null)
  | 15 => some (.int 0)
  | 16 => some (.null)
  | 17 => some (.int 0)
  | _ => none
def dv3 : Nat → Option Value := fun f => match f with
  | 18 => some (.int 0)
  | 19 => some (.null)
  | 20 => some (.int 0)
  | _ => none
def dv4 : Nat → Option Value := fun f => match f with
  | 21 => some (.null)
  | 22 => some (.int 0)
  | 23 => some (.int 0)
  | 24 => some (.int 0)
  | _ => none
def dv5 : Nat → Option Value := fun f => match f with
  | 25 => some (.null)
  | 26 => some (.int 0)
  | 27 => some (.int 0)
  | 28 => some (.int 0)
  | _ => none
def dv6 : Nat → Option Value := fun f => match f with
  | 29 => some (.null)
  | 30 => some (.null)
  | 31 => some (.null)
  | 32 => some (.null)
  | 33 => some (.int 0)
  | 34 => some (.int 0)
  | 35 => some (.int 0)
  | 36 => some (.float 0)
  | _ => none
def dv7 : Nat → Option Value := fun f => match f with
  | 37 => some (.int 0)
  | 38 => some (.int 0)
  | 39 => some (.int 0)
  | 40 => some (.null)
  | _ => none
def dv8 : Nat → Option Value := fun f => match f with
  | 41 => some (.int 0)
  | 42 => some (.int 0)
  | _ => none
def dv9 : Nat → Option Value := fun f => match f with
  | 43 => some (.int 0)
  | 44 => some (.null)
  | 45 => some (.int 0)
  | 46 => some (.int 0)
  | 47 => some (.int 0)
  | 48 => some (.int 0)
  | 49 => some (.int 0)
  | 50 => some (.int 0)
  | 51 => some (.null)
  | _ => none
def dv10 : Nat → Option Value := fun f => match f with
  | 52 => some (.null)
  | 53 => some (.null)
  | 54 => some (.null)
  | 55 => some (.null)
  | 56 => some (.null)
  | 57 => some (.int 0)
  | 58 => some (.int 0)
  | 59 => some (.int 0)
  | _ => none
def dv11 : Nat → Option Value := fun f => match f with
  | 60 => some (.int 0)
  | 61 => some (.int 0)
  | 62 => some (.int 0)
  | _ => none
def dv12 : Nat → Option Value := fun f => match f with
  | 63 => some (.int 0)
  | 64 => some (.int 0)
  | 65 => some (.int 0)
  | 66 => some (.int 0)
  | 67 => some (.int 0)
  | 68 => some (.int 0)
  | _ => none
def dv13 : Nat → Option Value := fun f => match f with
  | 69 => some (.int 0)
  | 70 => some (.int 0)
  | 71 => some (.int 0)
  | 72 => some (.int 0)
  | 73 => some (.int 0)
  | 74 => some (.int 0)
  | _ => none
def dv14 : Nat → Option Value := fun f => match f with
  | 75 => some (.int 0)
  | 76 => some (.int 0)
  | _ => none
def dv15 : Nat → Option Value := fun f => match f with
  | 77 => some (.null)
  | 78 => some (.int 0)
  | 79 => some (.null)
  | 80 => some (.null)
  | 81 => some (.int 0)
  | 82 => some (.int 0)
  | 83 => some (.int 0)
  | 84 => some (.int 0)
  | 85 => some (.int 0)
  | 86 => some (.int 0)
  | 87 => some (.int 0)
  | _ => none
def dv16 : Nat → Option Value := fun f => match f with
  | 77 => some (.null)
  | 78 => some (.int 0)
  | 79 => some (.null)
  | 80 => some (.null)
  | 81 => some (.int 0)
  | 88 => some (.int 0)
  | _ => none
def dv17 : Nat → Option Value := fun f => match f with
  | 89 => some (.int 0)
  | 90 => some (.int 0)
  | 91 => some (.int 0)
  | 92 => some (.int 0)
  | 93 => some (.int 0)
  | 94 => some (.int 0)
  | 95 => some (.int 0)
  | 96 => some (.int 0)
  | _ => none
def dv18 : Nat → Option Value := fun f => match f with
  | 97 => some (.null)
  | 98 => some (.int 0)
  | 99 => some (.null)
  | 100 => some (.int 0)
  | _ => none
def dv19 : Nat → Option Value := fun f => match f with
  | 101 => some (.null)
  | _ => none
def dv20 : Nat → Option Value := fun f => match f with
  | 29 => some (.null)
  | 30 => some (.null)
  | 102 => some (.null)
  | 103 => some (.null)
  | 104 => some (.int 0)
  | 105 => some (.int 0)
  | 106 => some (.null)
  | 107 => some (.null)
  | 108 => some (.null)
  | _ => none
def dv21 : Nat → Option Value := fun f => match f with
  | 109 => some (.int 0)
  | _ => none
def dv22 : Nat → Option Value := fun f => match f with
  | 110 => some (.null)
  | 111 => some (.null)
  | 112 => some (.null)
  | 113 => some (.null)
  | 114 => some (.null)
  | 115 => some (.int 0)
  | _ => none
def dv23 : Nat → Option Value := fun f => match f with
  | 116 => some (.null)
  | _ => none
def dv24 : Nat → Option Value := fun f => match f with
  | 117 => some (.null)
  | 118 => some (.null)
  | 119 => some (.int 0)
  | 120 => some (.int 0)
  | 121 => some (.null)
  | _ => none
def dv25 : Nat → Option Value := fun f => match f with
  | 122 => some (.null)
  | 123 => some (.null)
  | 124 => some (.int 0)
  | 125 => some (.null)
  | _ => none
def dv26 : Nat → Option Value := fun f => match f with
  | 126 => some (.int 0)
  | 127 => some (.null)
  | 128 => some (.null)
  | 129 => some (.null)
  | 130 => some (.int 0)
  | 131 => some (.int 0)
  | 132 => some (.int 0)
  | _ => none
def dv27 : Nat → Option Value := fun f => match f with
  | 133 => some (.int 0)
  | 134 => some (.int 0)
  | 135 => some (.int 0)
  | 136 => some (.int 0)
  | 137 => some (.int 0)
  | 138 => some (.int 0)
  | 139 => some (.int 0)
  | 140 => some (.null)
  | 141 => some (.int 0)
  | 142 => some (.int 0)
  | _ => none
def dv28 : Nat → Option Value := fun f => match f with
  | 143 => some (.int 0)
  | 144 => some (.null)
  | 145 => some (.null)
  | 146 => some (.null)
  | _ => none
def dv29 : Nat → Option Value := fun f => match f with
  | 147 => some (.null)
  | _ => none
def dv30 : Nat → Option Value := fun f => match f with
  | 148 => some (.null)
  | 149 => some (.null)
  | 150 => some (.null)
  | 151 => some (.null)
  | 152 => some (.null)
  | 153 => some (.null)
  | 154 => some (.null)
  | 155 => some (.int 0)
  | 156 => some (.null)
  | 157 => some (.int 0)
  | 158 => some (.int 0)
  | 159 => some (.int 0)
  | 160 => some (.int 0)
  | 161 => some (.int 0)
  | 162 => some (.int 0)
  | 163 => some (.int 0)
  | 164 => some (.int 0)
  | 165 => some (.long 0)
  | 166 => some (.null)
  | 167 => some (.null)
  | 168 => some (.null)
  | 169 => some (.null)
  | 170 => some (.null)
  | 171 => some (.null)
  | 172 => some (.int 0)
  | 173 => some (.int 0)
  | 174 => some (.int 0)
  | 175 => some (.int 0)
  | 176 => some (.int 0)
  | 177 => some (.null)
  | 178 => some (.null)
  | 179 => some (.null)
  | 180 => some (.null)
  | 181 => some (.null)
  | 182 => some (.null)
  | 183 => some (.null)
  | 184 => some (.int 0)
  | 185 => some (.int 0)
  | 186 => some (.int 0)
  | _ => none
def ClsOK (ci : Nat) (r : vw_C) : Prop := (∀ w ∈ u_ws r.1 r.2.1 r.2.2, w ∈ lw_all) ∧ (∃ ty : Nat → FieldType, ∀ k, k < r.2.2 → parseFieldDescriptor (r.2.1 k).2.2.1 = some (ty k)) ∧ (∀ a, a < r.2.2 → ∀ b, b < r.2.2 → a ≠ b → (r.2.1 a).2.1 ≠ (r.2.1 b).2.1) ∧ ∀ k, k < r.2.2 → r.2.1 k = fdn (fidG ci k)
theorem u_ws0 (C : String) (T : u_T) : ∀ w ∈ u_ws C T 0, w ∈ lw_all := fun w h => by cases h
theorem clok_0 : ClsOK 0 (RX1, TX1, 6) := ⟨in_X1, ⟨tyX1, tyX1_ok⟩, nmX1, by decide +kernel⟩
theorem clok_1 : ClsOK 1 (RX2, TX2, 8) := ⟨in_X2, ⟨tyX2, tyX2_ok⟩, nmX2, by decide +kernel⟩
theorem clok_2 : ClsOK 2 (RX3, TX3, 4) := ⟨in_X3, ⟨tyX3, tyX3_ok⟩, nmX3, by decide +kernel⟩
theorem clok_3 : ClsOK 3 (RJ2, TJ2, 3) := ⟨in_J2, ⟨tyJ2, tyJ2_ok⟩, nmJ2, by decide +kernel⟩
theorem clok_4 : ClsOK 4 (RJ8, TJ8, 4) := ⟨in_J8, ⟨tyJ8, tyJ8_ok⟩, nmJ8, by decide +kernel⟩
theorem clok_5 : ClsOK 5 (RJ9, TJ9, 4) := ⟨in_J9, ⟨tyJ9, tyJ9_ok⟩, nmJ9, by decide +kernel⟩
theorem clok_6 : ClsOK 6 (RJ19, TJ19, 8) := ⟨in_J19, ⟨tyJ19, tyJ19_ok⟩, nmJ19, by decide +kernel⟩
theorem clok_7 : ClsOK 7 (RJ23, TJ23, 4) := ⟨in_J23, ⟨tyJ23, tyJ23_ok⟩, nmJ23, by decide +kernel⟩
theorem clok_8 : ClsOK 8 (RX20, TX20, 2) := ⟨in_X20, ⟨tyX20, tyX20_ok⟩, nmX20, by decide +kernel⟩
theorem clok_9 : ClsOK 9 (RX5, TX5, 9) := ⟨in_X5, ⟨tyX5, tyX5_ok⟩, nmX5, by decide +kernel⟩
theorem clok_10 : ClsOK 10 (RX6, TX6, 8) := ⟨in_X6, ⟨tyX6, tyX6_ok⟩, nmX6, by decide +kernel⟩
theorem clok_11 : ClsOK 11 (RX7, TX7, 3) := ⟨in_X7, ⟨tyX7, tyX7_ok⟩, nmX7, by decide +kernel⟩
theorem clok_12 : ClsOK 12 (RX8, TX8, 6) := ⟨in_X8, ⟨tyX8, tyX8_ok⟩, nmX8, by decide +kernel⟩
theorem clok_13 : ClsOK 13 (RX9, TX9, 6) := ⟨in_X9, ⟨tyX9, tyX9_ok⟩, nmX9, by decide +kernel⟩
theorem clok_14 : ClsOK 14 (RX11, TX11, 2) := ⟨in_X11, ⟨tyX11, tyX11_ok⟩, nmX11, by decide +kernel⟩
theorem clok_15 : ClsOK 15 (RX13, TX13, 11) := ⟨in_X13, ⟨tyX13, tyX13_ok⟩, nmX13, by decide +kernel⟩
theorem clok_16 : ClsOK 16 (RX14, TX14, 6) := ⟨in_X14, ⟨tyX14, tyX14_ok⟩, nmX14, by decide +kernel⟩
theorem clok_17 : ClsOK 17 (RX15, TX15, 8) := ⟨in_X15, ⟨tyX15, tyX15_ok⟩, nmX15, by decide +kernel⟩
theorem clok_18 : ClsOK 18 (RJ28, TJ28, 4) := ⟨in_J28, ⟨tyJ28, tyJ28_ok⟩, nmJ28, by decide +kernel⟩
theorem clok_19 : ClsOK 19 (RX16, TX16, 1) := ⟨in_X16, ⟨tyX16, tyX16_ok⟩, nmX16, by decide +kernel⟩
theorem clok_20 : ClsOK 20 (RJ25, TJ25, 9) := ⟨in_J25, ⟨tyJ25, tyJ25_ok⟩, nmJ25, by decide +kernel⟩
theorem clok_21 : ClsOK 21 (RJ17, TJ17, 1) := ⟨in_J17, ⟨tyJ17, tyJ17_ok⟩, nmJ17, by decide +kernel⟩
theorem clok_22 : ClsOK 22 (RJ32, TJ32, 6) := ⟨in_J32, ⟨tyJ32, tyJ32_ok⟩, nmJ32, by decide +kernel⟩
theorem clok_23 : ClsOK 23 (RJ33, TJ33, 1) := ⟨in_J33, ⟨tyJ33, tyJ33_ok⟩, nmJ33, by decide +kernel⟩
theorem clok_24 : ClsOK 24 (RJ35, TJ35, 5) := ⟨in_J35, ⟨tyJ35, tyJ35_ok⟩, nmJ35, by decide +kernel⟩
theorem clok_25 : ClsOK 25 (RJ38, TJ38, 4) := ⟨in_J38, ⟨tyJ38, tyJ38_ok⟩, nmJ38, by decide +kernel⟩
theorem clok_26 : ClsOK 26 (RX17, TX17, 7) := ⟨in_X17, ⟨tyX17, tyX17_ok⟩, nmX17, by decide +kernel⟩
theorem clok_27 : ClsOK 27 (RX18, TX18, 10) := ⟨in_X18, ⟨tyX18, tyX18_ok⟩, nmX18, by decide +kernel⟩
theorem clok_28 : ClsOK 28 (RJ39, TJ39, 4) := ⟨in_J39, ⟨tyJ39, tyJ39_ok⟩, nmJ39, by decide +kernel⟩
theorem clok_29 : ClsOK 29 (RJ43, TJ43, 1) := ⟨in_J43, ⟨tyJ43, tyJ43_ok⟩, nmJ43, by decide +kernel⟩
theorem clok_30 : ClsOK 30 (RX4, TX4, 39) := ⟨in_X4, ⟨tyX4, tyX4_ok⟩, nmX4, by decide +kernel⟩
theorem clok_31 : ClsOK 31 (RJ21, TJ21, 0) := ⟨u_ws0 _ _, ⟨fun _ => .int, fun k h => absurd h (Nat.not_lt_zero k)⟩, fun a h => absurd h (Nat.not_lt_zero a), fun k h => absurd h (Nat.not_lt_zero k)⟩
theorem clok_32 : ClsOK 32 (RJ6, TJ6, 0) := ⟨u_ws0 _ _, ⟨fun _ => .int, fun k h => absurd h (Nat.not_lt_zero k)⟩, fun a h => absurd h (Nat.not_lt_zero a), fun k h => absurd h (Nat.not_lt_zero k)⟩
theorem clok_33 : ClsOK 33 (RJ20, TJ20, 0) := ⟨u_ws0 _ _, ⟨fun _ => .int, fun k h => absurd h (Nat.not_lt_zero k)⟩, fun a h => absurd h (Nat.not_lt_zero a), fun k h => absurd h (Nat.not_lt_zero k)⟩
theorem clok_34 : ClsOK 34 (RJ29, TJ29, 0) := ⟨u_ws0 _ _, ⟨fun _ => .int, fun k h => absurd h (Nat.not_lt_zero k)⟩, fun a h => absurd h (Nat.not_lt_zero a), fun k h => absurd h (Nat.not_lt_zero k)⟩
theorem cl_ok : ∀ (ci : Nat) (r : vw_C), CL[ci]? = some r → ClsOK ci r := by
  intro ci r h
  match ci, h with
  | 0, h => cases h; exact clok_0
  | 1, h => cases h; exact clok_1
  | 2, h => cases h; exact clok_2
  | 3, h => cases h; exact clok_3
  | 4, h => cases h; exact clok_4
  | 5, h => cases h; exact clok_5
  | 6, h => cases h; exact clok_6
  | 7, h => cases h; exact clok_7
  | 8, h => cases h; exact clok_8
  | 9, h => cases h; exact clok_9
  | 10, h => cases h; exact clok_10
  | 11, h => cases h; exact clok_11
  | 12, h => cases h; exact clok_12
  | 13, h => cases h; exact clok_13
  | 14, h => cases h; exact clok_14
  | 15, h => cases h; exact clok_15
  | 16, h => cases h; exact clok_16
  | 17, h => cases h; exact clok_17
  | 18, h => cases h; exact clok_18
  | 19, h => cases h; exact clok_19
  | 20, h => cases h; exact clok_20
  | 21, h => cases h; exact clok_21
  | 22, h => cases h; exact clok_22
  | 23, h => cases h; exact clok_23
  | 24, h => cases h; exact clok_24
  | 25, h => cases h; exact clok_25
  | 26, h => cases h; exact clok_26
  | 27, h => cases h; exact clok_27
  | 28, h => cases h; exact clok_28
  | 29, h => cases h; exact clok_29
  | 30, h => cases h; exact clok_30
  | 31, h => cases h; exact clok_31
  | 32, h => cases h; exact clok_32
  | 33, h => cases h; exact clok_33
  | 34, h => cases h; exact clok_34
  | k + 35, h => cases h
