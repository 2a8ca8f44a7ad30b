set_option maxRecDepth 100000
/-! java/util/AbstractCollection -/
def RJ0 : String := "java/util/AbstractCollection"
/-! java/util/ArrayDeque -/
def RJ1 : String := "java/util/ArrayDeque"
def TJ1 : u_T := fun k => match k with
  | 0 => ("java/util/ArrayDeque", "elements", "[Ljava/lang/Object;", false)
  | 1 => ("java/util/ArrayDeque", "head", "I", false)
  | _ => ("java/util/ArrayDeque", "tail", "I", false)
def tyJ1 : Nat → FieldType := fun k => match k with
  | 0 => .array (.object "java/lang/Object")
  | 1 => .int
  | _ => .int
abbrev wsJ10 : List Cond := u_ws RJ1 TJ1 3
theorem nmJ1 : ∀ a, a < 3 → ∀ b, b < 3 → a ≠ b → (TJ1 a).2.1 ≠ (TJ1 b).2.1 := by decide +kernel
theorem tyJ1_ok : ∀ k, k < 3 → parseFieldDescriptor (TJ1 k).2.2.1 = some (tyJ1 k) := by decide +kernel
theorem in_J1 : ∀ w ∈ wsJ10, w ∈ lw_all := lw_in wsJ10 [268, 270, 272] (by decide +kernel) (by decide +kernel)
/-! java/lang/RuntimeException -/
def RJ10 : String := "java/lang/RuntimeException"
/-! java/lang/ArrayStoreException -/
def RJ11 : String := "java/lang/ArrayStoreException"
def TJ11 : u_T := fun k => match k with
  | 0 => ("java/lang/Throwable", "backtrace", "Ljava/lang/Object;", false)
  | 1 => ("java/lang/Throwable", "detailMessage", "Ljava/lang/String;", false)
  | 2 => ("java/lang/Throwable", "cause", "Ljava/lang/Throwable;", false)
  | 3 => ("java/lang/Throwable", "stackTrace", "[Ljava/lang/StackTraceElement;", false)
  | 4 => ("java/lang/Throwable", "depth", "I", false)
  | _ => ("java/lang/Throwable", "suppressedExceptions", "Ljava/util/List;", false)
def tyJ11 : Nat → FieldType := fun k => match k with
  | 0 => .object "java/lang/Object"
  | 1 => .object "java/lang/String"
  | 2 => .object "java/lang/Throwable"
  | 3 => .array (.object "java/lang/StackTraceElement")
  | 4 => .int
  | _ => .object "java/util/List"
abbrev wsJ110 : List Cond := u_ws RJ11 TJ11 6
theorem nmJ11 : ∀ a, a < 6 → ∀ b, b < 6 → a ≠ b → (TJ11 a).2.1 ≠ (TJ11 b).2.1 := by decide +kernel
theorem tyJ11_ok : ∀ k, k < 6 → parseFieldDescriptor (TJ11 k).2.2.1 = some (tyJ11 k) := by decide +kernel
theorem in_J11 : ∀ w ∈ wsJ110, w ∈ lw_all := lw_in wsJ110 [528, 530, 532, 534, 536, 538] (by decide +kernel) (by decide +kernel)
/-! jdk/internal/util/ArraysSupport -/
def RJ12 : String := "jdk/internal/util/ArraysSupport"
/-! jdk/internal/misc/Unsafe -/
def RJ13 : String := "jdk/internal/misc/Unsafe"
/-! java/lang/Long -/
def RJ14 : String := "java/lang/Long"
/-! java/lang/Integer -/
def RJ15 : String := "java/lang/Integer"
/-! java/lang/Float -/
def RJ16 : String := "java/lang/Float"
/-! java/lang/Double -/
def RJ17 : String := "java/lang/Double"
/-! java/lang/AbstractStringBuilder -/
def RJ18 : String := "java/lang/AbstractStringBuilder"
/-! java/lang/StringBuilder -/
def RJ19 : String := "java/lang/StringBuilder"
def TJ19 : u_T := fun k => match k with
  | 0 => ("java/lang/AbstractStringBuilder", "value", "[B", false)
  | 1 => ("java/lang/AbstractStringBuilder", "coder", "B", false)
  | 2 => ("java/lang/AbstractStringBuilder", "maybeLatin1", "Z", false)
  | _ => ("java/lang/AbstractStringBuilder", "count", "I", false)
def tyJ19 : Nat → FieldType := fun k => match k with
  | 0 => .array .byte
  | 1 => .byte
  | 2 => .boolean
  | _ => .int
abbrev wsJ190 : List Cond := u_ws RJ19 TJ19 4
theorem nmJ19 : ∀ a, a < 4 → ∀ b, b < 4 → a ≠ b → (TJ19 a).2.1 ≠ (TJ19 b).2.1 := by decide +kernel
theorem tyJ19_ok : ∀ k, k < 4 → parseFieldDescriptor (TJ19 k).2.2.1 = some (tyJ19 k) := by decide +kernel
theorem in_J19 : ∀ w ∈ wsJ190, w ∈ lw_all := lw_in wsJ190 [1192, 1194, 1196, 1198] (by decide +kernel) (by decide +kernel)
/-! java/lang/String -/
def RJ2 : String := "java/lang/String"
def TJ2 : u_T := fun k => match k with
  | 0 => ("java/lang/String", "value", "[B", true)
  | 1 => ("java/lang/String", "coder", "B", true)
  | 2 => ("java/lang/String", "hash", "I", false)
  | _ => ("java/lang/String", "hashIsZero", "Z", false)
def tyJ2 : Nat → FieldType := fun k => match k with
  | 0 => .array .byte
  | 1 => .byte
  | 2 => .int
  | _ => .boolean
abbrev wsJ20 : List Cond := u_ws RJ2 TJ2 4
theorem nmJ2 : ∀ a, a < 4 → ∀ b, b < 4 → a ≠ b → (TJ2 a).2.1 ≠ (TJ2 b).2.1 := by decide +kernel
theorem tyJ2_ok : ∀ k, k < 4 → parseFieldDescriptor (TJ2 k).2.2.1 = some (tyJ2 k) := by decide +kernel
theorem in_J2 : ∀ w ∈ wsJ20, w ∈ lw_all := lw_in wsJ20 [559, 561, 1424, 1426] (by decide +kernel) (by decide +kernel)
/-! java/lang/Object -/
def RJ20 : String := "java/lang/Object"
/-! java/lang/StringLatin1 -/
def RJ3 : String := "java/lang/StringLatin1"
/-! jdk/internal/util/Preconditions -/
def RJ4 : String := "jdk/internal/util/Preconditions"
/-! java/lang/StringUTF16 -/
def RJ5 : String := "java/lang/StringUTF16"
/-! java/lang/Throwable -/
def RJ6 : String := "java/lang/Throwable"
def TJ6 : u_T := fun k => match k with
  | 0 => ("java/lang/Throwable", "cause", "Ljava/lang/Throwable;", false)
  | 1 => ("java/lang/Throwable", "stackTrace", "[Ljava/lang/StackTraceElement;", false)
  | 2 => ("java/lang/Throwable", "suppressedExceptions", "Ljava/util/List;", false)
  | 3 => ("java/lang/Throwable", "detailMessage", "Ljava/lang/String;", false)
  | _ => ("java/lang/Throwable", "backtrace", "Ljava/lang/Object;", false)
def tyJ6 : Nat → FieldType := fun k => match k with
  | 0 => .object "java/lang/Throwable"
  | 1 => .array (.object "java/lang/StackTraceElement")
  | 2 => .object "java/util/List"
  | 3 => .object "java/lang/String"
  | _ => .object "java/lang/Object"
abbrev wsJ60 : List Cond := u_ws RJ6 TJ6 5
theorem nmJ6 : ∀ a, a < 5 → ∀ b, b < 5 → a ≠ b → (TJ6 a).2.1 ≠ (TJ6 b).2.1 := by decide +kernel
theorem tyJ6_ok : ∀ k, k < 5 → parseFieldDescriptor (TJ6 k).2.2.1 = some (tyJ6 k) := by decide +kernel
theorem in_J6 : ∀ w ∈ wsJ60, w ∈ lw_all := lw_in wsJ60 [549, 550, 551, 552, 553] (by decide +kernel) (by decide +kernel)
/-! java/lang/Exception -/
def RJ7 : String := "java/lang/Exception"
/-! java/lang/Math -/
def RJ8 : String := "java/lang/Math"
/-! java/util/Arrays -/
def RJ9 : String := "java/util/Arrays"
/-! FireSale -/
def RX0 : String := "FireSale"
def TX0 : u_T := fun k => match k with
  | 0 => ("FireSale", "now", "LFireSale$Town;", false)
  | 1 => ("FireSale", "acts", "Ljava/util/ArrayDeque;", true)
  | 2 => ("FireSale", "bestGiven", "[I", false)
  | 3 => ("FireSale", "bestLost", "I", false)
  | 4 => ("FireSale", "tape", "[B", true)
  | _ => ("FireSale", "taped", "I", false)
def tyX0 : Nat → FieldType := fun k => match k with
  | 0 => .object "FireSale$Town"
  | 1 => .object "java/util/ArrayDeque"
  | 2 => .array .int
  | 3 => .int
  | 4 => .array .byte
  | _ => .int
abbrev wsX00 : List Cond := u_ws RX0 TX0 6
theorem nmX0 : ∀ a, a < 6 → ∀ b, b < 6 → a ≠ b → (TX0 a).2.1 ≠ (TX0 b).2.1 := by decide +kernel
theorem tyX0_ok : ∀ k, k < 6 → parseFieldDescriptor (TX0 k).2.2.1 = some (tyX0 k) := by decide +kernel
theorem in_X0 : ∀ w ∈ wsX00, w ∈ lw_all := lw_in wsX00 [283, 285, 287, 289, 291, 293] (by decide +kernel) (by decide +kernel)
/-! FireSale$Town -/
def RX1 : String := "FireSale$Town"
def TX1 : u_T := fun k => match k with
  | 0 => ("FireSale$Town", "assets", "I", false)
  | 1 => ("FireSale$Town", "houses", "I", false)
  | 2 => ("FireSale$Town", "curve", "[[I", false)
  | 3 => ("FireSale$Town", "of", "[[I", false)
  | 4 => ("FireSale$Town", "hold", "[[I", false)
  | 5 => ("FireSale$Town", "loan", "[[I", false)
  | 6 => ("FireSale$Town", "shelves", "[LFireSale$Shelf;", false)
  | 7 => ("FireSale$Town", "forced", "I", false)
  | 8 => ("FireSale$Town", "taken", "[I", false)
  | 9 => ("FireSale$Town", "capped", "[I", false)
  | 10 => ("FireSale$Town", "shocked", "[I", false)
  | 11 => ("FireSale$Town", "one", "LFireSale$State;", true)
  | 12 => ("FireSale$Town", "two", "LFireSale$State;", true)
  | 13 => ("FireSale$Town", "priced", "[I", true)
  | _ => ("FireSale$Town", "gone", "I", false)
def tyX1 : Nat → FieldType := fun k => match k with
  | 0 => .int
  | 1 => .int
  | 2 => .array (.array .int)
  | 3 => .array (.array .int)
  | 4 => .array (.array .int)
  | 5 => .array (.array .int)
  | 6 => .array (.object "FireSale$Shelf")
  | 7 => .int
  | 8 => .array .int
  | 9 => .array .int
  | 10 => .array .int
  | 11 => .object "FireSale$State"
  | 12 => .object "FireSale$State"
  | 13 => .array .int
  | _ => .int
abbrev wsX10 : List Cond := u_ws RX1 TX1 15
set_option maxRecDepth 100000 in
theorem nmX1 : ∀ a, a < 15 → ∀ b, b < 15 → a ≠ b → (TX1 a).2.1 ≠ (TX1 b).2.1 := by decide +kernel
set_option maxRecDepth 100000 in
theorem tyX1_ok : ∀ k, k < 15 → parseFieldDescriptor (TX1 k).2.2.1 = some (tyX1 k) := by decide +kernel
theorem in_X1 : ∀ w ∈ wsX10, w ∈ lw_all := lw_in wsX10 [223, 225, 227, 229, 231, 233, 235, 237, 239, 241, 243, 245, 247, 249, 251] (by decide +kernel) (by decide +kernel)
/-! FireSale$Shelf -/
def RX2 : String := "FireSale$Shelf"
def TX2 : u_T := fun k => match k with
  | 0 => ("FireSale$Shelf", "row", "[LFireSale$Rule;", false)
  | _ => ("FireSale$Shelf", "many", "I", false)
def tyX2 : Nat → FieldType := fun k => match k with
  | 0 => .array (.object "FireSale$Rule")
  | _ => .int
abbrev wsX20 : List Cond := u_ws RX2 TX2 2
theorem nmX2 : ∀ a, a < 2 → ∀ b, b < 2 → a ≠ b → (TX2 a).2.1 ≠ (TX2 b).2.1 := by decide +kernel
theorem tyX2_ok : ∀ k, k < 2 → parseFieldDescriptor (TX2 k).2.2.1 = some (tyX2 k) := by decide +kernel
theorem in_X2 : ∀ w ∈ wsX20, w ∈ lw_all := lw_in wsX20 [163, 165] (by decide +kernel) (by decide +kernel)
/-! FireSale$State -/
def RX3 : String := "FireSale$State"
def TX3 : u_T := fun k => match k with
  | 0 => ("FireSale$State", "sold", "[I", false)
  | _ => ("FireSale$State", "fallen", "I", false)
def tyX3 : Nat → FieldType := fun k => match k with
  | 0 => .array .int
  | _ => .int
abbrev wsX30 : List Cond := u_ws RX3 TX3 2
theorem nmX3 : ∀ a, a < 2 → ∀ b, b < 2 → a ≠ b → (TX3 a).2.1 ≠ (TX3 b).2.1 := by decide +kernel
theorem tyX3_ok : ∀ k, k < 2 → parseFieldDescriptor (TX3 k).2.2.1 = some (tyX3 k) := by decide +kernel
theorem in_X3 : ∀ w ∈ wsX30, w ∈ lw_all := lw_in wsX30 [185, 187] (by decide +kernel) (by decide +kernel)
/-! FireSaleModel -/
def RX4 : String := "FireSaleModel"
def TX4 : u_T := fun k => match k with
  | 0 => ("FireSaleModel", "thrown", "I", false)
  | 1 => ("FireSaleModel", "now", "[I", true)
  | 2 => ("FireSaleModel", "aside", "[I", true)
  | 3 => ("FireSaleModel", "undos", "[I", true)
  | 4 => ("FireSaleModel", "undoMany", "I", false)
  | 5 => ("FireSaleModel", "tape", "[I", true)
  | 6 => ("FireSaleModel", "taped", "I", false)
  | 7 => ("FireSaleModel", "size", "I", false)
  | 8 => ("FireSaleModel", "at", "I", false)
  | 9 => ("FireSaleModel", "token", "I", false)
  | 10 => ("FireSaleModel", "from", "I", false)
  | 11 => ("FireSaleModel", "value", "I", false)
  | 12 => ("FireSaleModel", "fault", "I", false)
  | 13 => ("FireSaleModel", "sold", "[I", true)
  | 14 => ("FireSaleModel", "sells", "[I", true)
  | 15 => ("FireSaleModel", "fallen", "I", false)
  | 16 => ("FireSaleModel", "willFall", "I", false)
  | 17 => ("FireSaleModel", "rounds", "I", false)
  | 18 => ("FireSaleModel", "coins", "[I", true)
  | 19 => ("FireSaleModel", "extraOf", "I", false)
  | 20 => ("FireSaleModel", "extraCap", "I", false)
  | 21 => ("FireSaleModel", "extraShock", "I", false)
  | 22 => ("FireSaleModel", "buyerOf", "I", false)
  | 23 => ("FireSaleModel", "buys", "I", false)
  | 24 => ("FireSaleModel", "part", "I", false)
  | 25 => ("FireSaleModel", "forced", "I", false)
  | 26 => ("FireSaleModel", "left", "[I", true)
  | 27 => ("FireSaleModel", "prices", "[I", true)
  | 28 => ("FireSaleModel", "musts", "[I", true)
  | 29 => ("FireSaleModel", "fell", "[I", true)
  | 30 => ("FireSaleModel", "leastLost", "I", false)
  | 31 => ("FireSaleModel", "gifts", "[I", true)
  | 32 => ("FireSaleModel", "bestGifts", "[I", true)
  | 33 => ("FireSaleModel", "spelt", "[I", true)
  | _ => ("FireSaleModel", "speltMany", "I", false)
def tyX4 : Nat → FieldType := fun k => match k with
  | 0 => .int
  | 1 => .array .int
  | 2 => .array .int
  | 3 => .array .int
  | 4 => .int
  | 5 => .array .int
  | 6 => .int
  | 7 => .int
  | 8 => .int
  | 9 => .int
  | 10 => .int
  | 11 => .int
  | 12 => .int
  | 13 => .array .int
  | 14 => .array .int
  | 15 => .int
  | 16 => .int
  | 17 => .int
  | 18 => .array .int
  | 19 => .int
  | 20 => .int
  | 21 => .int
  | 22 => .int
  | 23 => .int
  | 24 => .int
  | 25 => .int
  | 26 => .array .int
  | 27 => .array .int
  | 28 => .array .int
  | 29 => .array .int
  | 30 => .int
  | 31 => .array .int
  | 32 => .array .int
  | 33 => .array .int
  | _ => .int
abbrev wsX40 : List Cond := u_ws RX4 TX4 35
set_option maxRecDepth 100000 in
theorem nmX4 : ∀ a, a < 35 → ∀ b, b < 35 → a ≠ b → (TX4 a).2.1 ≠ (TX4 b).2.1 := by decide +kernel
set_option maxRecDepth 100000 in
theorem tyX4_ok : ∀ k, k < 35 → parseFieldDescriptor (TX4 k).2.2.1 = some (tyX4 k) := by decide +kernel
theorem in_X4 : ∀ w ∈ wsX40, w ∈ lw_all := lw_in wsX40 [1634, 1636, 1638, 1640, 1642, 1644, 1646, 1648, 1650, 1652, 1654, 1656, 1658, 1660, 1662, 1664, 1666, 1668, 1670, 1672, 1674, 1676, 1678, 1680, 1682, 1684, 1686, 1688, 1690, 1692, 1694, 1696, 1698, 1700, 1702] (by decide +kernel) (by decide +kernel)
/-! FireSale$Reader -/
def RX5 : String := "FireSale$Reader"
def TX5 : u_T := fun k => match k with
  | 0 => ("FireSale$Reader", "made", "LFireSale$Town;", true)
  | 1 => ("FireSale$Reader", "at", "I", false)
  | 2 => ("FireSale$Reader", "begin", "I", false)
  | 3 => ("FireSale$Reader", "isLoose", "Z", false)
  | _ => ("FireSale$Reader", "this$0", "LFireSale;", true)
def tyX5 : Nat → FieldType := fun k => match k with
  | 0 => .object "FireSale$Town"
  | 1 => .int
  | 2 => .int
  | 3 => .boolean
  | _ => .object "FireSale"
abbrev wsX50 : List Cond := u_ws RX5 TX5 5
theorem nmX5 : ∀ a, a < 5 → ∀ b, b < 5 → a ≠ b → (TX5 a).2.1 ≠ (TX5 b).2.1 := by decide +kernel
theorem tyX5_ok : ∀ k, k < 5 → parseFieldDescriptor (TX5 k).2.2.1 = some (tyX5 k) := by decide +kernel
theorem in_X5 : ∀ w ∈ wsX50, w ∈ lw_all := lw_in wsX50 [1484, 1486, 1488, 1490, 1492] (by decide +kernel) (by decide +kernel)
/-! FireSale$Wrong -/
def RX6 : String := "FireSale$Wrong"
def TX6 : u_T := fun k => match k with
  | 0 => ("java/lang/Throwable", "cause", "Ljava/lang/Throwable;", false)
  | 1 => ("java/lang/Throwable", "stackTrace", "[Ljava/lang/StackTraceElement;", false)
  | 2 => ("java/lang/Throwable", "suppressedExceptions", "Ljava/util/List;", false)
  | 3 => ("java/lang/Throwable", "detailMessage", "Ljava/lang/String;", false)
  | 4 => ("java/lang/Throwable", "backtrace", "Ljava/lang/Object;", false)
  | 5 => ("java/lang/Throwable", "depth", "I", false)
  | _ => ("FireSale$Wrong", "place", "I", true)
def tyX6 : Nat → FieldType := fun k => match k with
  | 0 => .object "java/lang/Throwable"
  | 1 => .array (.object "java/lang/StackTraceElement")
  | 2 => .object "java/util/List"
  | 3 => .object "java/lang/String"
  | 4 => .object "java/lang/Object"
  | 5 => .int
  | _ => .int
abbrev wsX60 : List Cond := u_ws RX6 TX6 7
theorem nmX6 : ∀ a, a < 7 → ∀ b, b < 7 → a ≠ b → (TX6 a).2.1 ≠ (TX6 b).2.1 := by decide +kernel
theorem tyX6_ok : ∀ k, k < 7 → parseFieldDescriptor (TX6 k).2.2.1 = some (tyX6 k) := by decide +kernel
theorem in_X6 : ∀ w ∈ wsX60, w ∈ lw_all := lw_in wsX60 [1529, 1530, 1531, 1532, 1533, 1547, 1545] (by decide +kernel) (by decide +kernel)
/-! FireSale$Rule -/
def RX7 : String := "FireSale$Rule"
/-! FireSale$Cap -/
def RX8 : String := "FireSale$Cap"
def TX8 : u_T := fun k => match k with
  | 0 => ("FireSale$Rule", "asset", "I", true)
  | _ => ("FireSale$Rule", "much", "I", true)
def tyX8 : Nat → FieldType := fun k => match k with
  | 0 => .int
  | _ => .int
abbrev wsX80 : List Cond := u_ws RX8 TX8 2
theorem nmX8 : ∀ a, a < 2 → ∀ b, b < 2 → a ≠ b → (TX8 a).2.1 ≠ (TX8 b).2.1 := by decide +kernel
theorem tyX8_ok : ∀ k, k < 2 → parseFieldDescriptor (TX8 k).2.2.1 = some (tyX8 k) := by decide +kernel
theorem in_X8 : ∀ w ∈ wsX80, w ∈ lw_all := lw_in wsX80 [476, 478] (by decide +kernel) (by decide +kernel)
/-! FireSale$Shock -/
def RX9 : String := "FireSale$Shock"
def TX9 : u_T := fun k => match k with
  | 0 => ("FireSale$Rule", "asset", "I", true)
  | _ => ("FireSale$Rule", "much", "I", true)
def tyX9 : Nat → FieldType := fun k => match k with
  | 0 => .int
  | _ => .int
abbrev wsX90 : List Cond := u_ws RX9 TX9 2
theorem nmX9 : ∀ a, a < 2 → ∀ b, b < 2 → a ≠ b → (TX9 a).2.1 ≠ (TX9 b).2.1 := by decide +kernel
theorem tyX9_ok : ∀ k, k < 2 → parseFieldDescriptor (TX9 k).2.2.1 = some (tyX9 k) := by decide +kernel
theorem in_X9 : ∀ w ∈ wsX90, w ∈ lw_all := lw_in wsX90 [487, 488] (by decide +kernel) (by decide +kernel)
def zcl : List vw_C := [(RX0, TX0, 6), (RX1, TX1, 15), (RX2, TX2, 2), (RX3, TX3, 2), (RX4, TX4, 35), (RX5, TX5, 5), (RX6, TX6, 7), (RX8, TX8, 2), (RX9, TX9, 2), (RJ1, TJ1, 3), (RJ2, TJ2, 4), (RJ19, TJ19, 4)]
