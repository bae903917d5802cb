/-! the classes: names, fields, types, words (out of claim/names) -/
set_option maxRecDepth 100000
def RX0 : String := "ThreadTown"
def TX0 : u_T := fun k => match k with
  | 0 => ("ThreadTown", "fault", "LThreadTown$Fault;", true)
  | 1 => ("ThreadTown", "tokens", "LThreadTown$Tokens;", true)
  | 2 => ("ThreadTown", "parser", "LThreadTown$Parser;", true)
  | 3 => ("ThreadTown", "text", "LThreadTown$Text;", false)
  | 4 => ("ThreadTown", "place", "I", false)
  | 5 => ("ThreadTown", "undos", "I", false)
  | 6 => ("ThreadTown", "undoAt", "I", false)
  | 7 => ("ThreadTown", "cloth", "LThreadTown$Cloth;", true)
  | 8 => ("ThreadTown", "trial", "LThreadTown$Cloth;", true)
  | 9 => ("ThreadTown", "past", "[LThreadTown$Cloth;", true)
  | 10 => ("ThreadTown", "slots", "[LThreadTown$Cloth;", true)
  | 11 => ("ThreadTown", "dusks", "[LThreadTown$Dusk;", true)
  | 12 => ("ThreadTown", "held", "[Z", true)
  | 13 => ("ThreadTown", "waitsFor", "[I", true)
  | 14 => ("ThreadTown", "ways", "[I", true)
  | 15 => ("ThreadTown", "left", "[[I", true)
  | 16 => ("ThreadTown", "told", "[I", true)
  | 17 => ("ThreadTown", "duskMinutes", "I", false)
  | 18 => ("ThreadTown", "duskPieces", "I", false)
  | 19 => ("ThreadTown", "lies", "[[[I", true)
  | 20 => ("ThreadTown", "tolds", "I", false)
  | 21 => ("ThreadTown", "toldMan", "[I", true)
  | 22 => ("ThreadTown", "toldOther", "[I", true)
  | 23 => ("ThreadTown", "start", "[I", true)
  | _ => ("ThreadTown", "toldOver", "[Z", true)
def tyX0 : Nat → FieldType := fun k => match k with
  | 0 => .object "ThreadTown$Fault"
  | 1 => .object "ThreadTown$Tokens"
  | 2 => .object "ThreadTown$Parser"
  | 3 => .object "ThreadTown$Text"
  | 4 => .int
  | 5 => .int
  | 6 => .int
  | 7 => .object "ThreadTown$Cloth"
  | 8 => .object "ThreadTown$Cloth"
  | 9 => .array (.object "ThreadTown$Cloth")
  | 10 => .array (.object "ThreadTown$Cloth")
  | 11 => .array (.object "ThreadTown$Dusk")
  | 12 => .array .boolean
  | 13 => .array .int
  | 14 => .array .int
  | 15 => .array (.array .int)
  | 16 => .array .int
  | 17 => .int
  | 18 => .int
  | 19 => .array (.array (.array .int))
  | 20 => .int
  | 21 => .array .int
  | 22 => .array .int
  | 23 => .array .int
  | _ => .array .boolean
abbrev wsX00 : List Cond := u_ws RX0 TX0 25
theorem nmX0 : ∀ a, a < 25 → ∀ b, b < 25 → a ≠ b → (TX0 a).2.1 ≠ (TX0 b).2.1 := by decide +kernel
theorem tyX0_ok : ∀ k, k < 25 → parseFieldDescriptor (TX0 k).2.2.1 = some (tyX0 k) := by decide +kernel
theorem in_X0 : ∀ w ∈ wsX00, w ∈ lw_all := lw_in wsX00 [596, 598, 600, 602, 604, 606, 608, 610, 612, 614, 616, 618, 620, 622, 624, 626, 628, 630, 632, 634, 636, 638, 640, 642, 644] (by decide +kernel) (by decide +kernel)
def RX1 : String := "ThreadTown$Fault"
def TX1 : u_T := fun k => match k with
  | 0 => ("java/lang/Throwable", "cause", "Ljava/lang/Throwable;", false)
  | 1 => ("java/lang/Throwable", "stackTrace", "[Ljava/lang/StackTraceElement;", false)
  | 2 => ("java/lang/Throwable", "suppressedExceptions", "Ljava/util/List;", false)
  | 3 => ("java/lang/Throwable", "detailMessage", "Ljava/lang/String;", false)
  | 4 => ("java/lang/Throwable", "backtrace", "Ljava/lang/Object;", false)
  | 5 => ("java/lang/Throwable", "depth", "I", false)
  | 6 => ("ThreadTown$Fault", "number", "I", false)
  | _ => ("ThreadTown$Fault", "place", "I", false)
def tyX1 : Nat → FieldType := fun k => match k with
  | 0 => .object "java/lang/Throwable"
  | 1 => .array (.object "java/lang/StackTraceElement")
  | 2 => .object "java/util/List"
  | 3 => .object "java/lang/String"
  | 4 => .object "java/lang/Object"
  | 5 => .int
  | 6 => .int
  | _ => .int
abbrev wsX10 : List Cond := u_ws RX1 TX1 8
theorem nmX1 : ∀ a, a < 8 → ∀ b, b < 8 → a ≠ b → (TX1 a).2.1 ≠ (TX1 b).2.1 := by decide +kernel
theorem tyX1_ok : ∀ k, k < 8 → parseFieldDescriptor (TX1 k).2.2.1 = some (tyX1 k) := by decide +kernel
theorem in_X1 : ∀ w ∈ wsX10, w ∈ lw_all := lw_in wsX10 [171, 173, 175, 177, 179, 229, 221, 223] (by decide +kernel) (by decide +kernel)
def RX2 : String := "ThreadTown$Tokens"
def TX2 : u_T := fun k => match k with
  | 0 => ("ThreadTown$Tokens", "words", "[Ljava/lang/String;", true)
  | 1 => ("ThreadTown$Tokens", "tape", "[B", true)
  | 2 => ("ThreadTown$Tokens", "taped", "I", false)
  | 3 => ("ThreadTown$Tokens", "sort", "[B", true)
  | 4 => ("ThreadTown$Tokens", "from", "[S", true)
  | 5 => ("ThreadTown$Tokens", "to", "[S", true)
  | 6 => ("ThreadTown$Tokens", "what", "[S", true)
  | _ => ("ThreadTown$Tokens", "many", "I", false)
def tyX2 : Nat → FieldType := fun k => match k with
  | 0 => .array (.object "java/lang/String")
  | 1 => .array .byte
  | 2 => .int
  | 3 => .array .byte
  | 4 => .array .short
  | 5 => .array .short
  | 6 => .array .short
  | _ => .int
abbrev wsX20 : List Cond := u_ws RX2 TX2 8
theorem nmX2 : ∀ a, a < 8 → ∀ b, b < 8 → a ≠ b → (TX2 a).2.1 ≠ (TX2 b).2.1 := by decide +kernel
theorem tyX2_ok : ∀ k, k < 8 → parseFieldDescriptor (TX2 k).2.2.1 = some (tyX2 k) := by decide +kernel
theorem in_X2 : ∀ w ∈ wsX20, w ∈ lw_all := lw_in wsX20 [272, 274, 276, 278, 280, 282, 284, 286] (by decide +kernel) (by decide +kernel)
def RX3 : String := "ThreadTown$Parser"
def TX3 : u_T := fun k => match k with
  | 0 => ("ThreadTown$Parser", "t", "LThreadTown$Tokens;", true)
  | 1 => ("ThreadTown$Parser", "fault", "LThreadTown$Fault;", true)
  | 2 => ("ThreadTown$Parser", "text", "LThreadTown$Text;", false)
  | 3 => ("ThreadTown$Parser", "at", "I", false)
  | 4 => ("ThreadTown$Parser", "open", "I", false)
  | 5 => ("ThreadTown$Parser", "worst", "I", false)
  | _ => ("ThreadTown$Parser", "worstToken", "I", false)
def tyX3 : Nat → FieldType := fun k => match k with
  | 0 => .object "ThreadTown$Tokens"
  | 1 => .object "ThreadTown$Fault"
  | 2 => .object "ThreadTown$Text"
  | 3 => .int
  | 4 => .int
  | 5 => .int
  | _ => .int
abbrev wsX30 : List Cond := u_ws RX3 TX3 7
theorem nmX3 : ∀ a, a < 7 → ∀ b, b < 7 → a ≠ b → (TX3 a).2.1 ≠ (TX3 b).2.1 := by decide +kernel
theorem tyX3_ok : ∀ k, k < 7 → parseFieldDescriptor (TX3 k).2.2.1 = some (tyX3 k) := by decide +kernel
theorem in_X3 : ∀ w ∈ wsX30, w ∈ lw_all := lw_in wsX30 [303, 305, 307, 309, 311, 313, 315] (by decide +kernel) (by decide +kernel)
def RX4 : String := "ThreadTown$Text"
def TX4 : u_T := fun k => match k with
  | 0 => ("ThreadTown$Text", "men", "Ljava/util/ArrayList;", true)
  | 1 => ("ThreadTown$Text", "pillarX", "[I", true)
  | 2 => ("ThreadTown$Text", "pillarY", "[I", true)
  | 3 => ("ThreadTown$Text", "cornerX", "[I", true)
  | 4 => ("ThreadTown$Text", "cornerY", "[I", true)
  | 5 => ("ThreadTown$Text", "cornerToken", "[I", true)
  | 6 => ("ThreadTown$Text", "wide", "I", false)
  | 7 => ("ThreadTown$Text", "deep", "I", false)
  | 8 => ("ThreadTown$Text", "pillars", "I", false)
  | 9 => ("ThreadTown$Text", "corners", "I", false)
  | 10 => ("ThreadTown$Text", "seed", "I", false)
  | _ => ("ThreadTown$Text", "thread", "LThreadTown$Law;", false)
def tyX4 : Nat → FieldType := fun k => match k with
  | 0 => .object "java/util/ArrayList"
  | 1 => .array .int
  | 2 => .array .int
  | 3 => .array .int
  | 4 => .array .int
  | 5 => .array .int
  | 6 => .int
  | 7 => .int
  | 8 => .int
  | 9 => .int
  | 10 => .int
  | _ => .object "ThreadTown$Law"
abbrev wsX40 : List Cond := u_ws RX4 TX4 12
theorem nmX4 : ∀ a, a < 12 → ∀ b, b < 12 → a ≠ b → (TX4 a).2.1 ≠ (TX4 b).2.1 := by decide +kernel
theorem tyX4_ok : ∀ k, k < 12 → parseFieldDescriptor (TX4 k).2.2.1 = some (tyX4 k) := by decide +kernel
theorem in_X4 : ∀ w ∈ wsX40, w ∈ lw_all := lw_in wsX40 [381, 383, 385, 387, 389, 391, 393, 395, 397, 399, 401, 403] (by decide +kernel) (by decide +kernel)
def RX5 : String := "ThreadTown$Cloth"
def TX5 : u_T := fun k => match k with
  | 0 => ("ThreadTown$Cloth", "x", "[I", true)
  | 1 => ("ThreadTown$Cloth", "y", "[I", true)
  | 2 => ("ThreadTown$Cloth", "many", "[I", true)
  | 3 => ("ThreadTown$Cloth", "thread", "[I", true)
  | 4 => ("ThreadTown$Cloth", "way", "[[I", true)
  | 5 => ("ThreadTown$Cloth", "street", "[[I", true)
  | 6 => ("ThreadTown$Cloth", "laid", "[[I", true)
  | 7 => ("ThreadTown$Cloth", "lost", "I", false)
  | 8 => ("ThreadTown$Cloth", "minute", "I", false)
  | 9 => ("ThreadTown$Cloth", "next", "I", false)
  | _ => ("ThreadTown$Cloth", "asked", "LThreadTown$Asked;", true)
def tyX5 : Nat → FieldType := fun k => match k with
  | 0 => .array .int
  | 1 => .array .int
  | 2 => .array .int
  | 3 => .array .int
  | 4 => .array (.array .int)
  | 5 => .array (.array .int)
  | 6 => .array (.array .int)
  | 7 => .int
  | 8 => .int
  | 9 => .int
  | _ => .object "ThreadTown$Asked"
abbrev wsX50 : List Cond := u_ws RX5 TX5 11
theorem nmX5 : ∀ a, a < 11 → ∀ b, b < 11 → a ≠ b → (TX5 a).2.1 ≠ (TX5 b).2.1 := by decide +kernel
theorem tyX5_ok : ∀ k, k < 11 → parseFieldDescriptor (TX5 k).2.2.1 = some (tyX5 k) := by decide +kernel
theorem in_X5 : ∀ w ∈ wsX50, w ∈ lw_all := lw_in wsX50 [454, 456, 458, 460, 462, 464, 466, 468, 470, 472, 474] (by decide +kernel) (by decide +kernel)
def RX6 : String := "ThreadTown$Asked"
def TX6 : u_T := fun k => match k with
  | 0 => ("ThreadTown$Asked", "v", "[I", true)
  | _ => ("ThreadTown$Asked", "nought", "Z", false)
def tyX6 : Nat → FieldType := fun k => match k with
  | 0 => .array .int
  | _ => .boolean
abbrev wsX60 : List Cond := u_ws RX6 TX6 2
theorem nmX6 : ∀ a, a < 2 → ∀ b, b < 2 → a ≠ b → (TX6 a).2.1 ≠ (TX6 b).2.1 := by decide +kernel
theorem tyX6_ok : ∀ k, k < 2 → parseFieldDescriptor (TX6 k).2.2.1 = some (tyX6 k) := by decide +kernel
theorem in_X6 : ∀ w ∈ wsX60, w ∈ lw_all := lw_in wsX60 [426, 428] (by decide +kernel) (by decide +kernel)
def RX7 : String := "ThreadTown$Dusk"
def RX8 : String := "ThreadTown$ByNumber"
def RX9 : String := "ThreadTown$ByLying"
def RX10 : String := "ThreadTown$ByLeft"
def RX11 : String := "ThreadTown$ByLaid"
def RX12 : String := "ThreadTown$ByLot"
def RX13 : String := "ThreadTownModel"
def TX13 : u_T := fun k => match k with
  | 0 => ("ThreadTownModel", "thrown", "I", false)
  | 1 => ("ThreadTownModel", "tape", "[B", true)
  | 2 => ("ThreadTownModel", "taped", "I", false)
  | 3 => ("ThreadTownModel", "text", "[B", true)
  | 4 => ("ThreadTownModel", "size", "I", false)
  | 5 => ("ThreadTownModel", "tKind", "[I", true)
  | 6 => ("ThreadTownModel", "tPlace", "[I", true)
  | 7 => ("ThreadTownModel", "tValue", "[I", true)
  | 8 => ("ThreadTownModel", "tName", "[J", true)
  | 9 => ("ThreadTownModel", "keys", "[J", true)
  | 10 => ("ThreadTownModel", "tokens", "I", false)
  | 11 => ("ThreadTownModel", "t", "I", false)
  | 12 => ("ThreadTownModel", "open", "I", false)
  | 13 => ("ThreadTownModel", "fault", "I", false)
  | 14 => ("ThreadTownModel", "faultPlace", "I", false)
  | 15 => ("ThreadTownModel", "worst", "I", false)
  | 16 => ("ThreadTownModel", "worstPlace", "I", false)
  | 17 => ("ThreadTownModel", "place", "I", false)
  | 18 => ("ThreadTownModel", "live", "I", false)
  | 19 => ("ThreadTownModel", "side", "I", false)
  | 20 => ("ThreadTownModel", "names", "I", false)
  | 21 => ("ThreadTownModel", "nameOf", "[J", true)
  | 22 => ("ThreadTownModel", "wide", "[I", true)
  | 23 => ("ThreadTownModel", "high", "[I", true)
  | 24 => ("ThreadTownModel", "men", "[I", true)
  | 25 => ("ThreadTownModel", "doorX", "[I", true)
  | 26 => ("ThreadTownModel", "doorY", "[I", true)
  | 27 => ("ThreadTownModel", "dyeOf", "[I", true)
  | 28 => ("ThreadTownModel", "errands", "[I", true)
  | 29 => ("ThreadTownModel", "errandX", "[I", true)
  | 30 => ("ThreadTownModel", "errandY", "[I", true)
  | 31 => ("ThreadTownModel", "pillars", "[I", true)
  | 32 => ("ThreadTownModel", "pillarX", "[I", true)
  | 33 => ("ThreadTownModel", "pillarY", "[I", true)
  | 34 => ("ThreadTownModel", "seed", "[I", true)
  | 35 => ("ThreadTownModel", "corners", "I", false)
  | 36 => ("ThreadTownModel", "cornerX", "[I", true)
  | 37 => ("ThreadTownModel", "cornerY", "[I", true)
  | 38 => ("ThreadTownModel", "cornerToken", "[I", true)
  | 39 => ("ThreadTownModel", "lawFirst", "[I", true)
  | 40 => ("ThreadTownModel", "lawLast", "[I", true)
  | 41 => ("ThreadTownModel", "branches", "I", false)
  | 42 => ("ThreadTownModel", "hasTest", "[Z", true)
  | 43 => ("ThreadTownModel", "testFrom", "[I", true)
  | 44 => ("ThreadTownModel", "testMid", "[I", true)
  | 45 => ("ThreadTownModel", "testTo", "[I", true)
  | 46 => ("ThreadTownModel", "termTo", "[I", true)
  | 47 => ("ThreadTownModel", "codes", "I", false)
  | 48 => ("ThreadTownModel", "code", "[I", true)
  | 49 => ("ThreadTownModel", "codeInt", "[I", true)
  | 50 => ("ThreadTownModel", "waits", "[I", true)
  | 51 => ("ThreadTownModel", "waiting", "I", false)
  | 52 => ("ThreadTownModel", "variables", "[I", true)
  | 53 => ("ThreadTownModel", "pile", "[I", true)
  | 54 => ("ThreadTownModel", "isBroken", "Z", false)
  | 55 => ("ThreadTownModel", "now", "[I", true)
  | 56 => ("ThreadTownModel", "row", "[I", true)
  | 57 => ("ThreadTownModel", "later", "[I", true)
  | 58 => ("ThreadTownModel", "undos", "I", false)
  | 59 => ("ThreadTownModel", "history", "[I", true)
  | 60 => ("ThreadTownModel", "waitsFor", "[I", true)
  | 61 => ("ThreadTownModel", "ordersOf", "[I", true)
  | 62 => ("ThreadTownModel", "order", "[I", true)
  | 63 => ("ThreadTownModel", "bestOrder", "[I", true)
  | 64 => ("ThreadTownModel", "goneBy", "I", false)
  | 65 => ("ThreadTownModel", "wound", "I", false)
  | 66 => ("ThreadTownModel", "keyOf", "[I", true)
  | 67 => ("ThreadTownModel", "laid", "[I", true)
  | 68 => ("ThreadTownModel", "crossed", "[I", true)
  | 69 => ("ThreadTownModel", "told", "I", false)
  | 70 => ("ThreadTownModel", "toldMan", "[I", true)
  | 71 => ("ThreadTownModel", "toldOther", "[I", true)
  | 72 => ("ThreadTownModel", "toldOver", "[Z", true)
  | 73 => ("ThreadTownModel", "isHeld", "[Z", true)
  | _ => ("ThreadTownModel", "held", "[I", true)
def tyX13 : Nat → FieldType := fun k => match k with
  | 0 => .int
  | 1 => .array .byte
  | 2 => .int
  | 3 => .array .byte
  | 4 => .int
  | 5 => .array .int
  | 6 => .array .int
  | 7 => .array .int
  | 8 => .array .long
  | 9 => .array .long
  | 10 => .int
  | 11 => .int
  | 12 => .int
  | 13 => .int
  | 14 => .int
  | 15 => .int
  | 16 => .int
  | 17 => .int
  | 18 => .int
  | 19 => .int
  | 20 => .int
  | 21 => .array .long
  | 22 => .array .int
  | 23 => .array .int
  | 24 => .array .int
  | 25 => .array .int
  | 26 => .array .int
  | 27 => .array .int
  | 28 => .array .int
  | 29 => .array .int
  | 30 => .array .int
  | 31 => .array .int
  | 32 => .array .int
  | 33 => .array .int
  | 34 => .array .int
  | 35 => .int
  | 36 => .array .int
  | 37 => .array .int
  | 38 => .array .int
  | 39 => .array .int
  | 40 => .array .int
  | 41 => .int
  | 42 => .array .boolean
  | 43 => .array .int
  | 44 => .array .int
  | 45 => .array .int
  | 46 => .array .int
  | 47 => .int
  | 48 => .array .int
  | 49 => .array .int
  | 50 => .array .int
  | 51 => .int
  | 52 => .array .int
  | 53 => .array .int
  | 54 => .boolean
  | 55 => .array .int
  | 56 => .array .int
  | 57 => .array .int
  | 58 => .int
  | 59 => .array .int
  | 60 => .array .int
  | 61 => .array .int
  | 62 => .array .int
  | 63 => .array .int
  | 64 => .int
  | 65 => .int
  | 66 => .array .int
  | 67 => .array .int
  | 68 => .array .int
  | 69 => .int
  | 70 => .array .int
  | 71 => .array .int
  | 72 => .array .boolean
  | 73 => .array .boolean
  | _ => .array .int
abbrev wsX130 : List Cond := u_ws RX13 TX13 75
theorem nmX13 : ∀ a, a < 75 → ∀ b, b < 75 → a ≠ b → (TX13 a).2.1 ≠ (TX13 b).2.1 := by decide +kernel
theorem tyX13_ok : ∀ k, k < 75 → parseFieldDescriptor (TX13 k).2.2.1 = some (tyX13 k) := by decide +kernel
theorem in_X13 : ∀ w ∈ wsX130, w ∈ lw_all := lw_in wsX130 [1649, 1651, 1653, 1655, 1657, 1659, 1661, 1663, 1665, 1667, 1669, 1671, 1673, 1675, 1677, 1679, 1681, 1683, 1685, 1687, 1689, 1691, 1693, 1695, 1697, 1699, 1701, 1703, 1705, 1707, 1709, 1711, 1713, 1715, 1717, 1719, 1721, 1723, 1725, 1727, 1729, 1731, 1733, 1735, 1737, 1739, 1741, 1743, 1745, 1747, 1749, 1751, 1753, 1755, 1757, 1759, 1761, 1763, 1765, 1767, 1769, 1771, 1773, 1775, 1777, 1779, 1781, 1783, 1785, 1787, 1789, 1791, 1793, 1795, 1797] (by decide +kernel) (by decide +kernel)
def RX14 : String := "ThreadTown$Man"
def TX14 : u_T := fun k => match k with
  | 0 => ("ThreadTown$Man", "name", "Ljava/lang/String;", true)
  | 1 => ("ThreadTown$Man", "errandX", "[I", true)
  | 2 => ("ThreadTown$Man", "errandY", "[I", true)
  | 3 => ("ThreadTown$Man", "x", "I", false)
  | 4 => ("ThreadTown$Man", "y", "I", false)
  | 5 => ("ThreadTown$Man", "errands", "I", false)
  | 6 => ("ThreadTown$Man", "dye", "I", false)
  | _ => ("ThreadTown$Man", "goes", "LThreadTown$Law;", false)
def tyX14 : Nat → FieldType := fun k => match k with
  | 0 => .object "java/lang/String"
  | 1 => .array .int
  | 2 => .array .int
  | 3 => .int
  | 4 => .int
  | 5 => .int
  | 6 => .int
  | _ => .object "ThreadTown$Law"
abbrev wsX140 : List Cond := u_ws RX14 TX14 8
theorem nmX14 : ∀ a, a < 8 → ∀ b, b < 8 → a ≠ b → (TX14 a).2.1 ≠ (TX14 b).2.1 := by decide +kernel
theorem tyX14_ok : ∀ k, k < 8 → parseFieldDescriptor (TX14 k).2.2.1 = some (tyX14 k) := by decide +kernel
theorem in_X14 : ∀ w ∈ wsX140, w ∈ lw_all := lw_in wsX140 [1000, 1002, 1004, 1006, 1008, 1010, 1012, 1014] (by decide +kernel) (by decide +kernel)
def RX15 : String := "ThreadTown$Law"
def TX15 : u_T := fun k => match k with
  | 0 => ("ThreadTown$Law", "less", "[LThreadTown$Sum;", true)
  | 1 => ("ThreadTown$Law", "than", "[LThreadTown$Sum;", true)
  | 2 => ("ThreadTown$Law", "then", "[LThreadTown$Sum;", true)
  | _ => ("ThreadTown$Law", "ifs", "I", false)
def tyX15 : Nat → FieldType := fun k => match k with
  | 0 => .array (.object "ThreadTown$Sum")
  | 1 => .array (.object "ThreadTown$Sum")
  | 2 => .array (.object "ThreadTown$Sum")
  | _ => .int
abbrev wsX150 : List Cond := u_ws RX15 TX15 4
theorem nmX15 : ∀ a, a < 4 → ∀ b, b < 4 → a ≠ b → (TX15 a).2.1 ≠ (TX15 b).2.1 := by decide +kernel
theorem tyX15_ok : ∀ k, k < 4 → parseFieldDescriptor (TX15 k).2.2.1 = some (tyX15 k) := by decide +kernel
theorem in_X15 : ∀ w ∈ wsX150, w ∈ lw_all := lw_in wsX150 [1099, 1101, 1103, 1105] (by decide +kernel) (by decide +kernel)
def RX16 : String := "ThreadTown$Sum"
def RX17 : String := "ThreadTown$Number"
def TX17 : u_T := fun k => match k with
  | _ => ("ThreadTown$Number", "v", "I", true)
def tyX17 : Nat → FieldType := fun k => match k with
  | _ => .int
abbrev wsX170 : List Cond := u_ws RX17 TX17 1
theorem nmX17 : ∀ a, a < 1 → ∀ b, b < 1 → a ≠ b → (TX17 a).2.1 ≠ (TX17 b).2.1 := by decide +kernel
theorem tyX17_ok : ∀ k, k < 1 → parseFieldDescriptor (TX17 k).2.2.1 = some (tyX17 k) := by decide +kernel
theorem in_X17 : ∀ w ∈ wsX170, w ∈ lw_all := lw_in wsX170 [1142] (by decide +kernel) (by decide +kernel)
def RX18 : String := "ThreadTown$Var"
def TX18 : u_T := fun k => match k with
  | _ => ("ThreadTown$Var", "k", "I", true)
def tyX18 : Nat → FieldType := fun k => match k with
  | _ => .int
abbrev wsX180 : List Cond := u_ws RX18 TX18 1
theorem nmX18 : ∀ a, a < 1 → ∀ b, b < 1 → a ≠ b → (TX18 a).2.1 ≠ (TX18 b).2.1 := by decide +kernel
theorem tyX18_ok : ∀ k, k < 1 → parseFieldDescriptor (TX18 k).2.2.1 = some (tyX18 k) := by decide +kernel
theorem in_X18 : ∀ w ∈ wsX180, w ∈ lw_all := lw_in wsX180 [1152] (by decide +kernel) (by decide +kernel)
def RX19 : String := "ThreadTown$Joined"
def TX19 : u_T := fun k => match k with
  | 0 => ("ThreadTown$Joined", "op", "I", true)
  | 1 => ("ThreadTown$Joined", "a", "LThreadTown$Sum;", true)
  | _ => ("ThreadTown$Joined", "b", "LThreadTown$Sum;", true)
def tyX19 : Nat → FieldType := fun k => match k with
  | 0 => .int
  | 1 => .object "ThreadTown$Sum"
  | _ => .object "ThreadTown$Sum"
abbrev wsX190 : List Cond := u_ws RX19 TX19 3
theorem nmX19 : ∀ a, a < 3 → ∀ b, b < 3 → a ≠ b → (TX19 a).2.1 ≠ (TX19 b).2.1 := by decide +kernel
theorem tyX19_ok : ∀ k, k < 3 → parseFieldDescriptor (TX19 k).2.2.1 = some (tyX19 k) := by decide +kernel
theorem in_X19 : ∀ w ∈ wsX190, w ∈ lw_all := lw_in wsX190 [1164, 1166, 1168] (by decide +kernel) (by decide +kernel)
def RJ5 : String := "java/util/ArrayList"
def TJ5 : u_T := fun k => match k with
  | 0 => ("java/util/AbstractList", "modCount", "I", false)
  | 1 => ("java/util/ArrayList", "elementData", "[Ljava/lang/Object;", false)
  | _ => ("java/util/ArrayList", "size", "I", false)
def tyJ5 : Nat → FieldType := fun k => match k with
  | 0 => .int
  | 1 => .array (.object "java/lang/Object")
  | _ => .int
abbrev wsJ50 : List Cond := u_ws RJ5 TJ5 3
theorem nmJ5 : ∀ a, a < 3 → ∀ b, b < 3 → a ≠ b → (TJ5 a).2.1 ≠ (TJ5 b).2.1 := by decide +kernel
theorem tyJ5_ok : ∀ k, k < 3 → parseFieldDescriptor (TJ5 k).2.2.1 = some (tyJ5 k) := by decide +kernel
theorem in_J5 : ∀ w ∈ wsJ50, w ∈ lw_all := lw_in wsJ50 [347, 343, 345] (by decide +kernel) (by decide +kernel)
def RJ9 : String := "java/lang/String"
def TJ9 : u_T := fun k => match k with
  | 0 => ("java/lang/String", "value", "[B", true)
  | 1 => ("java/lang/String", "coder", "B", true)
  | 2 => ("java/lang/String", "hash", "I", false)
  | _ => ("java/lang/String", "hashIsZero", "Z", false)
def tyJ9 : Nat → FieldType := fun k => match k with
  | 0 => .array .byte
  | 1 => .byte
  | 2 => .int
  | _ => .boolean
abbrev wsJ90 : List Cond := u_ws RJ9 TJ9 4
theorem nmJ9 : ∀ a, a < 4 → ∀ b, b < 4 → a ≠ b → (TJ9 a).2.1 ≠ (TJ9 b).2.1 := by decide +kernel
theorem tyJ9_ok : ∀ k, k < 4 → parseFieldDescriptor (TJ9 k).2.2.1 = some (tyJ9 k) := by decide +kernel
theorem in_J9 : ∀ w ∈ wsJ90, w ∈ lw_all := lw_in wsJ90 [948, 950, 952, 954] (by decide +kernel) (by decide +kernel)
def RJ13 : String := "java/lang/StringBuilder"
def TJ13 : u_T := fun k => match k with
  | 0 => ("java/lang/AbstractStringBuilder", "value", "[B", false)
  | 1 => ("java/lang/AbstractStringBuilder", "coder", "B", false)
  | 2 => ("java/lang/AbstractStringBuilder", "maybeLatin1", "Z", false)
  | _ => ("java/lang/AbstractStringBuilder", "count", "I", false)
def tyJ13 : Nat → FieldType := fun k => match k with
  | 0 => .array .byte
  | 1 => .byte
  | 2 => .boolean
  | _ => .int
abbrev wsJ130 : List Cond := u_ws RJ13 TJ13 4
theorem nmJ13 : ∀ a, a < 4 → ∀ b, b < 4 → a ≠ b → (TJ13 a).2.1 ≠ (TJ13 b).2.1 := by decide +kernel
theorem tyJ13_ok : ∀ k, k < 4 → parseFieldDescriptor (TJ13 k).2.2.1 = some (tyJ13 k) := by decide +kernel
theorem in_J13 : ∀ w ∈ wsJ130, w ∈ lw_all := lw_in wsJ130 [820, 822, 824, 826] (by decide +kernel) (by decide +kernel)
