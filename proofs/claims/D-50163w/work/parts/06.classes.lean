/-! the classes: field tables (out of the claim's names), numbers; array types; statics -/
set_option maxRecDepth 100000
def RX1 : String := "SpiritWall"
def TX1 : u_T := fun k => match k with
  | 0 => ("SpiritWall", "wall", "LSpiritWall$Wall;", false)
  | 1 => ("SpiritWall", "saved", "LSpiritWall$Wall;", false)
  | 2 => ("SpiritWall", "history", "Ljava/util/LinkedList;", true)
  | 3 => ("SpiritWall", "buffer", "[B", true)
  | 4 => ("SpiritWall", "length", "I", false)
  | 5 => ("SpiritWall", "errorCode", "I", false)
  | 6 => ("SpiritWall", "errorOffset", "I", false)
  | _ => ("SpiritWall", "output", "Ljava/lang/StringBuilder;", true)
def tyX1 : Nat → FieldType := fun k => match k with
  | 0 => .object "SpiritWall$Wall"
  | 1 => .object "SpiritWall$Wall"
  | 2 => .object "java/util/LinkedList"
  | 3 => .array .byte
  | 4 => .int
  | 5 => .int
  | 6 => .int
  | _ => .object "java/lang/StringBuilder"
abbrev wsX10 : List Cond := u_ws RX1 TX1 8
theorem nmX1 : ∀ a, a < 8 → ∀ b, b < 8 → a ≠ b → (TX1 a).2.1 ≠ (TX1 b).2.1 := by decide +kernel
theorem tyX1_ok : ∀ k, k < 8 → parseFieldDescriptor (TX1 k).2.2.1 = some (tyX1 k) := by decide +kernel
theorem in_X1 : ∀ w ∈ wsX10, w ∈ lw_all := lw_in wsX10 [336, 338, 340, 342, 344, 346, 348, 350] (by decide +kernel) (by decide +kernel)
def RX2 : String := "SpiritWall$Wall"
def TX2 : u_T := fun k => match k with
  | 0 => ("SpiritWall$Wall", "marks", "Ljava/util/List;", true)
  | 1 => ("SpiritWall$Wall", "sights", "Ljava/util/List;", true)
  | 2 => ("SpiritWall$Wall", "settings", "[I", true)
  | 3 => ("SpiritWall$Wall", "isTold", "Z", false)
  | _ => ("SpiritWall$Wall", "told", "I", false)
def tyX2 : Nat → FieldType := fun k => match k with
  | 0 => .object "java/util/List"
  | 1 => .object "java/util/List"
  | 2 => .array .int
  | 3 => .boolean
  | _ => .int
abbrev wsX20 : List Cond := u_ws RX2 TX2 5
theorem nmX2 : ∀ a, a < 5 → ∀ b, b < 5 → a ≠ b → (TX2 a).2.1 ≠ (TX2 b).2.1 := by decide +kernel
theorem tyX2_ok : ∀ k, k < 5 → parseFieldDescriptor (TX2 k).2.2.1 = some (tyX2 k) := by decide +kernel
theorem in_X2 : ∀ w ∈ wsX20, w ∈ lw_all := lw_in wsX20 [260, 262, 264, 266, 268] (by decide +kernel) (by decide +kernel)
def RX6 : String := "SpiritWall$Mark"
def TX6 : u_T := fun k => match k with
  | 0 => ("SpiritWall$Mark", "name", "Ljava/lang/String;", true)
  | 1 => ("SpiritWall$Mark", "place", "I", true)
  | 2 => ("SpiritWall$Mark", "isBench", "Z", false)
  | _ => ("SpiritWall$Mark", "height", "I", false)
def tyX6 : Nat → FieldType := fun k => match k with
  | 0 => .object "java/lang/String"
  | 1 => .int
  | 2 => .boolean
  | _ => .int
abbrev wsX60 : List Cond := u_ws RX6 TX6 4
theorem nmX6 : ∀ a, a < 4 → ∀ b, b < 4 → a ≠ b → (TX6 a).2.1 ≠ (TX6 b).2.1 := by decide +kernel
theorem tyX6_ok : ∀ k, k < 4 → parseFieldDescriptor (TX6 k).2.2.1 = some (tyX6 k) := by decide +kernel
theorem in_X6 : ∀ w ∈ wsX60, w ∈ lw_all := lw_in wsX60 [1460, 1462, 1464, 1466] (by decide +kernel) (by decide +kernel)
def RX7 : String := "SpiritWall$Sight"
def TX7 : u_T := fun k => match k with
  | 0 => ("SpiritWall$Sight", "from", "I", true)
  | 1 => ("SpiritWall$Sight", "to", "I", true)
  | 2 => ("SpiritWall$Sight", "end", "I", false)
  | 3 => ("SpiritWall$Sight", "reading", "I", false)
  | 4 => ("SpiritWall$Sight", "heat", "I", false)
  | _ => ("SpiritWall$Sight", "isStruck", "Z", false)
def tyX7 : Nat → FieldType := fun k => match k with
  | 0 => .int
  | 1 => .int
  | 2 => .int
  | 3 => .int
  | 4 => .int
  | _ => .boolean
abbrev wsX70 : List Cond := u_ws RX7 TX7 6
theorem nmX7 : ∀ a, a < 6 → ∀ b, b < 6 → a ≠ b → (TX7 a).2.1 ≠ (TX7 b).2.1 := by decide +kernel
theorem tyX7_ok : ∀ k, k < 6 → parseFieldDescriptor (TX7 k).2.2.1 = some (tyX7 k) := by decide +kernel
theorem in_X7 : ∀ w ∈ wsX70, w ∈ lw_all := lw_in wsX70 [1592, 1594, 1596, 1598, 1600, 1602] (by decide +kernel) (by decide +kernel)
def RX11 : String := "SpiritWall$Loop"
def TX11 : u_T := fun k => match k with
  | 0 => ("SpiritWall$Loop", "marks", "[I", true)
  | 1 => ("SpiritWall$Loop", "misclosure", "I", true)
  | _ => ("SpiritWall$Loop", "way", "I", true)
def tyX11 : Nat → FieldType := fun k => match k with
  | 0 => .array .int
  | 1 => .int
  | _ => .int
abbrev wsX110 : List Cond := u_ws RX11 TX11 3
theorem nmX11 : ∀ a, a < 3 → ∀ b, b < 3 → a ≠ b → (TX11 a).2.1 ≠ (TX11 b).2.1 := by decide +kernel
theorem tyX11_ok : ∀ k, k < 3 → parseFieldDescriptor (TX11 k).2.2.1 = some (tyX11 k) := by decide +kernel
theorem in_X11 : ∀ w ∈ wsX110, w ∈ lw_all := lw_in wsX110 [1913, 1915, 1917] (by decide +kernel) (by decide +kernel)
def RX4 : String := "SpiritWall$Parser"
def TX4 : u_T := fun k => match k with
  | 0 => ("SpiritWall$Parser", "settings", "Ljava/util/List;", true)
  | 1 => ("SpiritWall$Parser", "words", "Ljava/util/List;", true)
  | 2 => ("SpiritWall$Parser", "made", "LSpiritWall$Wall;", true)
  | 3 => ("SpiritWall$Parser", "told", "[Z", true)
  | 4 => ("SpiritWall$Parser", "next", "I", false)
  | 5 => ("SpiritWall$Parser", "start", "I", false)
  | 6 => ("SpiritWall$Parser", "kind", "I", false)
  | 7 => ("SpiritWall$Parser", "value", "I", false)
  | 8 => ("SpiritWall$Parser", "sign", "I", false)
  | 9 => ("SpiritWall$Parser", "word", "Ljava/lang/String;", false)
  | _ => ("SpiritWall$Parser", "this$0", "LSpiritWall;", true)
def tyX4 : Nat → FieldType := fun k => match k with
  | 0 => .object "java/util/List"
  | 1 => .object "java/util/List"
  | 2 => .object "SpiritWall$Wall"
  | 3 => .array .boolean
  | 4 => .int
  | 5 => .int
  | 6 => .int
  | 7 => .int
  | 8 => .int
  | 9 => .object "java/lang/String"
  | _ => .object "SpiritWall"
abbrev wsX40 : List Cond := u_ws RX4 TX4 11
theorem nmX4 : ∀ a, a < 11 → ∀ b, b < 11 → a ≠ b → (TX4 a).2.1 ≠ (TX4 b).2.1 := by decide +kernel
theorem tyX4_ok : ∀ k, k < 11 → parseFieldDescriptor (TX4 k).2.2.1 = some (tyX4 k) := by decide +kernel
theorem in_X4 : ∀ w ∈ wsX40, w ∈ lw_all := lw_in wsX40 [495, 497, 499, 501, 503, 505, 507, 509, 511, 513, 515] (by decide +kernel) (by decide +kernel)
def RX8 : String := "SpiritWall$Wall$Net"
def TX8 : u_T := fun k => match k with
  | 0 => ("SpiritWall$Wall$Net", "counts", "[I", true)
  | 1 => ("SpiritWall$Wall$Net", "rises", "[I", true)
  | 2 => ("SpiritWall$Wall$Net", "least", "[I", true)
  | 3 => ("SpiritWall$Wall$Net", "most", "[I", true)
  | 4 => ("SpiritWall$Wall$Net", "parts", "[I", true)
  | 5 => ("SpiritWall$Wall$Net", "inForest", "[Z", true)
  | 6 => ("SpiritWall$Wall$Net", "loops", "Ljava/util/List;", true)
  | 7 => ("SpiritWall$Wall$Net", "error", "I", true)
  | 8 => ("SpiritWall$Wall$Net", "hangsOn", "[I", true)
  | 9 => ("SpiritWall$Wall$Net", "depths", "[I", true)
  | 10 => ("SpiritWall$Wall$Net", "way", "[I", true)
  | 11 => ("SpiritWall$Wall$Net", "wayMany", "I", false)
  | _ => ("SpiritWall$Wall$Net", "this$0", "LSpiritWall$Wall;", true)
def tyX8 : Nat → FieldType := fun k => match k with
  | 0 => .array .int
  | 1 => .array .int
  | 2 => .array .int
  | 3 => .array .int
  | 4 => .array .int
  | 5 => .array .boolean
  | 6 => .object "java/util/List"
  | 7 => .int
  | 8 => .array .int
  | 9 => .array .int
  | 10 => .array .int
  | 11 => .int
  | _ => .object "SpiritWall$Wall"
abbrev wsX80 : List Cond := u_ws RX8 TX8 13
theorem nmX8 : ∀ a, a < 13 → ∀ b, b < 13 → a ≠ b → (TX8 a).2.1 ≠ (TX8 b).2.1 := by decide +kernel
theorem tyX8_ok : ∀ k, k < 13 → parseFieldDescriptor (TX8 k).2.2.1 = some (tyX8 k) := by decide +kernel
theorem in_X8 : ∀ w ∈ wsX80, w ∈ lw_all := lw_in wsX80 [1942, 1944, 1946, 1948, 1950, 1952, 1954, 1956, 1958, 1960, 1962, 1964, 1966] (by decide +kernel) (by decide +kernel)
def RX10 : String := "SpiritWall$Wall$Net$1"
def TX10 : u_T := fun k => match k with
  | 0 => ("SpiritWall$Wall$Net$1", "next", "I", false)
  | _ => ("SpiritWall$Wall$Net$1", "this$1", "LSpiritWall$Wall$Net;", true)
def tyX10 : Nat → FieldType := fun k => match k with
  | 0 => .int
  | _ => .object "SpiritWall$Wall$Net"
abbrev wsX100 : List Cond := u_ws RX10 TX10 2
theorem nmX10 : ∀ a, a < 2 → ∀ b, b < 2 → a ≠ b → (TX10 a).2.1 ≠ (TX10 b).2.1 := by decide +kernel
theorem tyX10_ok : ∀ k, k < 2 → parseFieldDescriptor (TX10 k).2.2.1 = some (tyX10 k) := by decide +kernel
theorem in_X10 : ∀ w ∈ wsX100, w ∈ lw_all := lw_in wsX100 [1856, 1858] (by decide +kernel) (by decide +kernel)
def RX9 : String := "SpiritWall$Wall$1Row"
def TX9 : u_T := fun k => match k with
  | 0 => ("SpiritWall$Wall$1Row", "row", "Ljava/util/List;", true)
  | _ => ("SpiritWall$Wall$1Row", "this$0", "LSpiritWall$Wall;", true)
def tyX9 : Nat → FieldType := fun k => match k with
  | 0 => .object "java/util/List"
  | _ => .object "SpiritWall$Wall"
abbrev wsX90 : List Cond := u_ws RX9 TX9 2
theorem nmX9 : ∀ a, a < 2 → ∀ b, b < 2 → a ≠ b → (TX9 a).2.1 ≠ (TX9 b).2.1 := by decide +kernel
theorem tyX9_ok : ∀ k, k < 2 → parseFieldDescriptor (TX9 k).2.2.1 = some (tyX9 k) := by decide +kernel
theorem in_X9 : ∀ w ∈ wsX90, w ∈ lw_all := lw_in wsX90 [1693, 1695] (by decide +kernel) (by decide +kernel)
def RX5 : String := "SpiritWall$ParseException"
def TX5 : u_T := fun k => match k with
  | 0 => ("java/lang/Throwable", "cause", "Ljava/lang/Throwable;", false)
  | 1 => ("java/lang/Throwable", "stackTrace", "[Ljava/lang/StackTraceElement;", false)
  | 2 => ("java/lang/Throwable", "suppressedExceptions", "Ljava/util/List;", false)
  | 3 => ("java/lang/Throwable", "detailMessage", "Ljava/lang/String;", false)
  | 4 => ("java/lang/Throwable", "backtrace", "Ljava/lang/Object;", false)
  | 5 => ("java/lang/Throwable", "depth", "I", false)
  | 6 => ("SpiritWall$ParseException", "code", "I", true)
  | _ => ("SpiritWall$ParseException", "offset", "I", true)
def tyX5 : Nat → FieldType := fun k => match k with
  | 0 => .object "java/lang/Throwable"
  | 1 => .array (.object "java/lang/StackTraceElement")
  | 2 => .object "java/util/List"
  | 3 => .object "java/lang/String"
  | 4 => .object "java/lang/Object"
  | 5 => .int
  | 6 => .int
  | _ => .int
abbrev wsX50 : List Cond := u_ws RX5 TX5 8
theorem nmX5 : ∀ a, a < 8 → ∀ b, b < 8 → a ≠ b → (TX5 a).2.1 ≠ (TX5 b).2.1 := by decide +kernel
theorem tyX5_ok : ∀ k, k < 8 → parseFieldDescriptor (TX5 k).2.2.1 = some (tyX5 k) := by decide +kernel
theorem in_X5 : ∀ w ∈ wsX50, w ∈ lw_all := lw_in wsX50 [843, 844, 845, 846, 847, 865, 861, 863] (by decide +kernel) (by decide +kernel)
def RX3 : String := "SpiritWallModel"
def TX3 : u_T := fun k => match k with
  | 0 => ("SpiritWallModel", "told", "I", false)
  | 1 => ("SpiritWallModel", "now", "[I", true)
  | 2 => ("SpiritWallModel", "aside", "[I", true)
  | 3 => ("SpiritWallModel", "tried", "[I", true)
  | 4 => ("SpiritWallModel", "parsed", "[I", true)
  | 5 => ("SpiritWallModel", "saved", "[I", true)
  | 6 => ("SpiritWallModel", "history", "[I", true)
  | 7 => ("SpiritWallModel", "historyMany", "I", false)
  | 8 => ("SpiritWallModel", "isSaved", "Z", false)
  | 9 => ("SpiritWallModel", "estimates", "[I", true)
  | 10 => ("SpiritWallModel", "error", "I", false)
  | 11 => ("SpiritWallModel", "many", "[I", true)
  | 12 => ("SpiritWallModel", "up", "[I", true)
  | 13 => ("SpiritWallModel", "weight", "[I", true)
  | 14 => ("SpiritWallModel", "isTaken", "[Z", true)
  | 15 => ("SpiritWallModel", "part", "[I", true)
  | 16 => ("SpiritWallModel", "way", "[I", true)
  | 17 => ("SpiritWallModel", "wayMany", "I", false)
  | 18 => ("SpiritWallModel", "far", "[I", true)
  | 19 => ("SpiritWallModel", "buffer", "[B", true)
  | 20 => ("SpiritWallModel", "filled", "I", false)
  | 21 => ("SpiritWallModel", "length", "I", false)
  | 22 => ("SpiritWallModel", "place", "I", false)
  | 23 => ("SpiritWallModel", "from", "I", false)
  | 24 => ("SpiritWallModel", "token", "I", false)
  | 25 => ("SpiritWallModel", "word", "I", false)
  | 26 => ("SpiritWallModel", "value", "I", false)
  | 27 => ("SpiritWallModel", "code", "I", false)
  | 28 => ("SpiritWallModel", "offset", "I", false)
  | 29 => ("SpiritWallModel", "once", "I", false)
  | 30 => ("SpiritWallModel", "output", "[B", true)
  | _ => ("SpiritWallModel", "written", "I", false)
def tyX3 : Nat → FieldType := fun k => match k with
  | 0 => .int
  | 1 => .array .int
  | 2 => .array .int
  | 3 => .array .int
  | 4 => .array .int
  | 5 => .array .int
  | 6 => .array .int
  | 7 => .int
  | 8 => .boolean
  | 9 => .array .int
  | 10 => .int
  | 11 => .array .int
  | 12 => .array .int
  | 13 => .array .int
  | 14 => .array .boolean
  | 15 => .array .int
  | 16 => .array .int
  | 17 => .int
  | 18 => .array .int
  | 19 => .array .byte
  | 20 => .int
  | 21 => .int
  | 22 => .int
  | 23 => .int
  | 24 => .int
  | 25 => .int
  | 26 => .int
  | 27 => .int
  | 28 => .int
  | 29 => .int
  | 30 => .array .byte
  | _ => .int
abbrev wsX30 : List Cond := u_ws RX3 TX3 32
theorem nmX3 : ∀ a, a < 32 → ∀ b, b < 32 → a ≠ b → (TX3 a).2.1 ≠ (TX3 b).2.1 := by decide +kernel
theorem tyX3_ok : ∀ k, k < 32 → parseFieldDescriptor (TX3 k).2.2.1 = some (tyX3 k) := by decide +kernel
theorem in_X3 : ∀ w ∈ wsX30, w ∈ lw_all := lw_in wsX30 [2623, 2625, 2627, 2629, 2631, 2633, 2635, 2637, 2639, 2641, 2643, 2645, 2647, 2649, 2651, 2653, 2655, 2657, 2659, 2661, 2663, 2665, 2667, 2669, 2671, 2673, 2675, 2677, 2679, 2681, 2683, 2685] (by decide +kernel) (by decide +kernel)
def RJ2 : String := "java/util/ArrayList"
def TJ2 : u_T := fun k => match k with
  | 0 => ("java/util/AbstractList", "modCount", "I", false)
  | 1 => ("java/util/ArrayList", "elementData", "[Ljava/lang/Object;", false)
  | _ => ("java/util/ArrayList", "size", "I", false)
def tyJ2 : Nat → FieldType := fun k => match k with
  | 0 => .int
  | 1 => .array (.object "java/lang/Object")
  | _ => .int
abbrev wsJ20 : List Cond := u_ws RJ2 TJ2 3
theorem nmJ2 : ∀ a, a < 3 → ∀ b, b < 3 → a ≠ b → (TJ2 a).2.1 ≠ (TJ2 b).2.1 := by decide +kernel
theorem tyJ2_ok : ∀ k, k < 3 → parseFieldDescriptor (TJ2 k).2.2.1 = some (tyJ2 k) := by decide +kernel
theorem in_J2 : ∀ w ∈ wsJ20, w ∈ lw_all := lw_in wsJ20 [239, 235, 237] (by decide +kernel) (by decide +kernel)
def RJ28 : String := "java/util/ArrayList$Itr"
def TJ28 : u_T := fun k => match k with
  | 0 => ("java/util/ArrayList$Itr", "cursor", "I", false)
  | 1 => ("java/util/ArrayList$Itr", "lastRet", "I", false)
  | 2 => ("java/util/ArrayList$Itr", "expectedModCount", "I", false)
  | _ => ("java/util/ArrayList$Itr", "this$0", "Ljava/util/ArrayList;", true)
def tyJ28 : Nat → FieldType := fun k => match k with
  | 0 => .int
  | 1 => .int
  | 2 => .int
  | _ => .object "java/util/ArrayList"
abbrev wsJ280 : List Cond := u_ws RJ28 TJ28 4
theorem nmJ28 : ∀ a, a < 4 → ∀ b, b < 4 → a ≠ b → (TJ28 a).2.1 ≠ (TJ28 b).2.1 := by decide +kernel
theorem tyJ28_ok : ∀ k, k < 4 → parseFieldDescriptor (TJ28 k).2.2.1 = some (tyJ28 k) := by decide +kernel
theorem in_J28 : ∀ w ∈ wsJ280, w ∈ lw_all := lw_in wsJ280 [1122, 1124, 1126, 1128] (by decide +kernel) (by decide +kernel)
def RJ4 : String := "java/util/LinkedList"
def TJ4 : u_T := fun k => match k with
  | 0 => ("java/util/AbstractList", "modCount", "I", false)
  | 1 => ("java/util/LinkedList", "size", "I", false)
  | 2 => ("java/util/LinkedList", "first", "Ljava/util/LinkedList$Node;", false)
  | _ => ("java/util/LinkedList", "last", "Ljava/util/LinkedList$Node;", false)
def tyJ4 : Nat → FieldType := fun k => match k with
  | 0 => .int
  | 1 => .int
  | 2 => .object "java/util/LinkedList$Node"
  | _ => .object "java/util/LinkedList$Node"
abbrev wsJ40 : List Cond := u_ws RJ4 TJ4 4
theorem nmJ4 : ∀ a, a < 4 → ∀ b, b < 4 → a ≠ b → (TJ4 a).2.1 ≠ (TJ4 b).2.1 := by decide +kernel
theorem tyJ4_ok : ∀ k, k < 4 → parseFieldDescriptor (TJ4 k).2.2.1 = some (tyJ4 k) := by decide +kernel
theorem in_J4 : ∀ w ∈ wsJ40, w ∈ lw_all := lw_in wsJ40 [291, 285, 287, 289] (by decide +kernel) (by decide +kernel)
def RJ34 : String := "java/util/LinkedList$Node"
def TJ34 : u_T := fun k => match k with
  | 0 => ("java/util/LinkedList$Node", "item", "Ljava/lang/Object;", false)
  | 1 => ("java/util/LinkedList$Node", "next", "Ljava/util/LinkedList$Node;", false)
  | _ => ("java/util/LinkedList$Node", "prev", "Ljava/util/LinkedList$Node;", false)
def tyJ34 : Nat → FieldType := fun k => match k with
  | 0 => .object "java/lang/Object"
  | 1 => .object "java/util/LinkedList$Node"
  | _ => .object "java/util/LinkedList$Node"
abbrev wsJ340 : List Cond := u_ws RJ34 TJ34 3
theorem nmJ34 : ∀ a, a < 3 → ∀ b, b < 3 → a ≠ b → (TJ34 a).2.1 ≠ (TJ34 b).2.1 := by decide +kernel
theorem tyJ34_ok : ∀ k, k < 3 → parseFieldDescriptor (TJ34 k).2.2.1 = some (tyJ34 k) := by decide +kernel
theorem in_J34 : ∀ w ∈ wsJ340, w ∈ lw_all := lw_in wsJ340 [1549, 1551, 1553] (by decide +kernel) (by decide +kernel)
def RJ6 : String := "java/lang/StringBuilder"
def TJ6 : u_T := fun k => match k with
  | 0 => ("java/lang/AbstractStringBuilder", "value", "[B", false)
  | 1 => ("java/lang/AbstractStringBuilder", "coder", "B", false)
  | 2 => ("java/lang/AbstractStringBuilder", "maybeLatin1", "Z", false)
  | _ => ("java/lang/AbstractStringBuilder", "count", "I", false)
def tyJ6 : Nat → FieldType := fun k => match k with
  | 0 => .array .byte
  | 1 => .byte
  | 2 => .boolean
  | _ => .int
abbrev wsJ60 : List Cond := u_ws RJ6 TJ6 4
theorem nmJ6 : ∀ a, a < 4 → ∀ b, b < 4 → a ≠ b → (TJ6 a).2.1 ≠ (TJ6 b).2.1 := by decide +kernel
theorem tyJ6_ok : ∀ k, k < 4 → parseFieldDescriptor (TJ6 k).2.2.1 = some (tyJ6 k) := by decide +kernel
theorem in_J6 : ∀ w ∈ wsJ60, w ∈ lw_all := lw_in wsJ60 [316, 318, 320, 322] (by decide +kernel) (by decide +kernel)
def RJ7 : String := "java/lang/String"
def TJ7 : u_T := fun k => match k with
  | 0 => ("java/lang/String", "value", "[B", true)
  | 1 => ("java/lang/String", "coder", "B", true)
  | 2 => ("java/lang/String", "hash", "I", false)
  | _ => ("java/lang/String", "hashIsZero", "Z", false)
def tyJ7 : Nat → FieldType := fun k => match k with
  | 0 => .array .byte
  | 1 => .byte
  | 2 => .int
  | _ => .boolean
abbrev wsJ70 : List Cond := u_ws RJ7 TJ7 4
theorem nmJ7 : ∀ a, a < 4 → ∀ b, b < 4 → a ≠ b → (TJ7 a).2.1 ≠ (TJ7 b).2.1 := by decide +kernel
theorem tyJ7_ok : ∀ k, k < 4 → parseFieldDescriptor (TJ7 k).2.2.1 = some (tyJ7 k) := by decide +kernel
theorem in_J7 : ∀ w ∈ wsJ70, w ∈ lw_all := lw_in wsJ70 [826, 828, 830, 832] (by decide +kernel) (by decide +kernel)
def RJ26 : String := "java/lang/Integer"
def TJ26 : u_T := fun k => match k with
  | _ => ("java/lang/Integer", "value", "I", true)
def tyJ26 : Nat → FieldType := fun k => match k with
  | _ => .int
abbrev wsJ260 : List Cond := u_ws RJ26 TJ26 1
theorem nmJ26 : ∀ a, a < 1 → ∀ b, b < 1 → a ≠ b → (TJ26 a).2.1 ≠ (TJ26 b).2.1 := by decide +kernel
theorem tyJ26_ok : ∀ k, k < 1 → parseFieldDescriptor (TJ26 k).2.2.1 = some (tyJ26 k) := by decide +kernel
theorem in_J26 : ∀ w ∈ wsJ260, w ∈ lw_all := lw_in wsJ260 [1337] (by decide +kernel) (by decide +kernel)
def RJ15 : String := "java/util/ImmutableCollections$ListN"
def TJ15 : u_T := fun k => match k with
  | 0 => ("java/util/ImmutableCollections$ListN", "elements", "[Ljava/lang/Object;", true)
  | _ => ("java/util/ImmutableCollections$ListN", "allowNulls", "Z", true)
def tyJ15 : Nat → FieldType := fun k => match k with
  | 0 => .array (.object "java/lang/Object")
  | _ => .boolean
abbrev wsJ150 : List Cond := u_ws RJ15 TJ15 2
theorem nmJ15 : ∀ a, a < 2 → ∀ b, b < 2 → a ≠ b → (TJ15 a).2.1 ≠ (TJ15 b).2.1 := by decide +kernel
theorem tyJ15_ok : ∀ k, k < 2 → parseFieldDescriptor (TJ15 k).2.2.1 = some (tyJ15 k) := by decide +kernel
theorem in_J15 : ∀ w ∈ wsJ150, w ∈ lw_all := lw_in wsJ150 [467, 469] (by decide +kernel) (by decide +kernel)
def T0_ : u_T := fun _ => ("", "", "", false)
def cl_ : List vw_C := [(RX1, TX1, 8), (RX2, TX2, 5), (RX6, TX6, 4), (RX7, TX7, 6), (RX11, TX11, 3), (RX4, TX4, 11), (RX8, TX8, 13), (RX10, TX10, 2), (RX9, TX9, 2), (RX5, TX5, 8), (RX3, TX3, 32), (RJ2, TJ2, 3), (RJ28, TJ28, 4), (RJ4, TJ4, 4), (RJ34, TJ34, 3), (RJ6, TJ6, 4), (RJ7, TJ7, 4), (RJ26, TJ26, 1), (RJ15, TJ15, 2), ("java/lang/IndexOutOfBoundsException", T0_, 0), ("java/lang/IllegalArgumentException", T0_, 0), ("java/lang/IllegalStateException", T0_, 0)]
def cnm_ (k : Nat) : String := match cl_[k]? with
  | some q => q.1
  | none => ""
/-- the statics that are read -/
def stA_ : List (String × String × String) := [("SpiritWall", "LEAST", "[I"), ("SpiritWall", "MOST", "[I"), ("java/lang/Integer", "DigitOnes", "[B"), ("java/lang/Integer", "DigitTens", "[B"), ("java/lang/Integer$IntegerCache", "cache", "[Ljava/lang/Integer;"), ("java/lang/Integer$IntegerCache", "high", "I"), ("java/lang/String", "COMPACT_STRINGS", "Z"), ("java/util/ArrayList", "DEFAULTCAPACITY_EMPTY_ELEMENTDATA", "[Ljava/lang/Object;"), ("java/lang/Throwable", "UNASSIGNED_STACK", "[Ljava/lang/StackTraceElement;"), ("java/lang/Throwable", "SUPPRESSED_SENTINEL", "Ljava/util/List;"), ("jdk/internal/util/Preconditions", "SIOOBE_FORMATTER", "Ljava/util/function/BiFunction;"), ("java/util/ImmutableCollections", "$assertionsDisabled", "Z")]
def strA_ : List (String × Nat × String) := [("SpiritWall", 424, "- "), ("SpiritWall", 426, "sight "), ("SpiritWall", 428, " fore "), ("SpiritWall", 430, " back "), ("SpiritWall", 432, " heat "), ("SpiritWall$Parser", 15, "length"), ("SpiritWall$Parser", 17, "bend"), ("SpiritWall$Parser", 19, "warm"), ("SpiritWall$Parser", 21, "limit"), ("SpiritWall$Parser", 23, "error"), ("SpiritWall$Parser", 35, "mark"), ("SpiritWall$Parser", 37, "sight"), ("SpiritWall$Parser", 39, "at"), ("SpiritWall$Parser", 41, "fore"), ("SpiritWall$Parser", 43, "back"), ("SpiritWall$Parser", 45, "heat"), ("SpiritWall$Parser", 64, ""), ("SpiritWallModel", 425, "length bend warm limit error mark sight at fore back heat "), ("SpiritWallModel", 511, "- "), ("SpiritWallModel", 517, "sight "), ("SpiritWallModel", 519, " fore "), ("SpiritWallModel", 521, " back "), ("SpiritWallModel", 523, " heat "), ("java/lang/ArrayIndexOutOfBoundsException", 13, "Array index out of range: "), ("java/lang/StringIndexOutOfBoundsException", 13, "String index out of range: "), ("java/lang/Throwable", 81, ": "), ("java/util/ArrayList", 201, "Index: "), ("java/util/ArrayList", 203, ", Size: "), ("java/util/Arrays", 48, "fromIndex("), ("java/util/Arrays", 57, ") > toIndex("), ("java/util/Arrays", 59, ")"), ("java/util/Arrays", 337, " > "), ("java/util/ImmutableCollections$AbstractImmutableList", 116, "Index: "), ("java/util/ImmutableCollections$AbstractImmutableList", 118, " Size: "), ("java/util/LinkedList", 100, "Index: "), ("java/util/LinkedList", 109, ", Size: ")]
def ifl_ : List (String × MethodName × MethodName) := [("SpiritWall$Wall$Net$1", ⟨"java/util/Iterator", "hasNext", "()Z"⟩, ⟨"SpiritWall$Wall$Net$1", "hasNext", "()Z"⟩), ("java/util/ArrayList$Itr", ⟨"java/util/Iterator", "hasNext", "()Z"⟩, ⟨"java/util/ArrayList$Itr", "hasNext", "()Z"⟩), ("SpiritWall$Wall$Net$1", ⟨"java/util/Iterator", "next", "()Ljava/lang/Object;"⟩, ⟨"SpiritWall$Wall$Net$1", "next", "()Ljava/lang/Object;"⟩), ("java/util/ArrayList$Itr", ⟨"java/util/Iterator", "next", "()Ljava/lang/Object;"⟩, ⟨"java/util/ArrayList$Itr", "next", "()Ljava/lang/Object;"⟩), ("java/util/ArrayList", ⟨"java/util/List", "add", "(ILjava/lang/Object;)V"⟩, ⟨"java/util/ArrayList", "add", "(ILjava/lang/Object;)V"⟩), ("java/util/ImmutableCollections$ListN", ⟨"java/util/List", "add", "(ILjava/lang/Object;)V"⟩, ⟨"java/util/ImmutableCollections$AbstractImmutableList", "add", "(ILjava/lang/Object;)V"⟩), ("java/util/ArrayList", ⟨"java/util/List", "add", "(Ljava/lang/Object;)Z"⟩, ⟨"java/util/ArrayList", "add", "(Ljava/lang/Object;)Z"⟩), ("java/util/ImmutableCollections$ListN", ⟨"java/util/List", "add", "(Ljava/lang/Object;)Z"⟩, ⟨"java/util/ImmutableCollections$AbstractImmutableCollection", "add", "(Ljava/lang/Object;)Z"⟩), ("java/util/ArrayList", ⟨"java/util/List", "contains", "(Ljava/lang/Object;)Z"⟩, ⟨"java/util/ArrayList", "contains", "(Ljava/lang/Object;)Z"⟩), ("java/util/ImmutableCollections$ListN", ⟨"java/util/List", "contains", "(Ljava/lang/Object;)Z"⟩, ⟨"java/util/ImmutableCollections$AbstractImmutableList", "contains", "(Ljava/lang/Object;)Z"⟩), ("java/util/ArrayList", ⟨"java/util/List", "get", "(I)Ljava/lang/Object;"⟩, ⟨"java/util/ArrayList", "get", "(I)Ljava/lang/Object;"⟩), ("java/util/ImmutableCollections$ListN", ⟨"java/util/List", "get", "(I)Ljava/lang/Object;"⟩, ⟨"java/util/ImmutableCollections$ListN", "get", "(I)Ljava/lang/Object;"⟩), ("java/util/ArrayList", ⟨"java/util/List", "indexOf", "(Ljava/lang/Object;)I"⟩, ⟨"java/util/ArrayList", "indexOf", "(Ljava/lang/Object;)I"⟩), ("java/util/ImmutableCollections$ListN", ⟨"java/util/List", "indexOf", "(Ljava/lang/Object;)I"⟩, ⟨"java/util/ImmutableCollections$ListN", "indexOf", "(Ljava/lang/Object;)I"⟩), ("java/util/ArrayList", ⟨"java/util/List", "isEmpty", "()Z"⟩, ⟨"java/util/ArrayList", "isEmpty", "()Z"⟩), ("java/util/ImmutableCollections$ListN", ⟨"java/util/List", "isEmpty", "()Z"⟩, ⟨"java/util/ImmutableCollections$ListN", "isEmpty", "()Z"⟩), ("java/util/ArrayList", ⟨"java/util/List", "iterator", "()Ljava/util/Iterator;"⟩, ⟨"java/util/ArrayList", "iterator", "()Ljava/util/Iterator;"⟩), ("java/util/ImmutableCollections$ListN", ⟨"java/util/List", "iterator", "()Ljava/util/Iterator;"⟩, ⟨"java/util/ImmutableCollections$AbstractImmutableList", "iterator", "()Ljava/util/Iterator;"⟩), ("java/util/ArrayList", ⟨"java/util/List", "size", "()I"⟩, ⟨"java/util/ArrayList", "size", "()I"⟩), ("java/util/ImmutableCollections$ListN", ⟨"java/util/List", "size", "()I"⟩, ⟨"java/util/ImmutableCollections$ListN", "size", "()I"⟩)]
theorem ifl_ok : ∀ q ∈ ifl_, q.2.1.cls ≠ "java/lang/invoke/MethodHandle" ∧ q.2.1.cls ≠ "java/lang/invoke/VarHandle" := by decide +kernel
