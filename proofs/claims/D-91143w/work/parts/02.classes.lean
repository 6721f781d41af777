/-! the classes by tag: 1 RightsHouse 2 Reader 3 Refused 4 Flow 5 Model 6 Stop 7 Part 9 Get 10 Let 11 Ask 12 Put 13 Wash 14 Result 15 String 16 NoSuchElementException -/
set_option maxRecDepth 100000
def RX1 : String := "RightsHouse"
def TX1 : u_T := fun k => match k with
  | 0 => ("RightsHouse", "tape", "[B", true)
  | 1 => ("RightsHouse", "taped", "I", false)
  | 2 => ("RightsHouse", "reader", "LRightsHouse$Reader;", true)
  | 3 => ("RightsHouse", "parts", "[LRightsHouse$Part;", true)
  | 4 => ("RightsHouse", "meant", "[I", true)
  | 5 => ("RightsHouse", "partMany", "I", false)
  | 6 => ("RightsHouse", "flow", "LRightsHouse$Flow;", true)
  | 7 => ("RightsHouse", "trial", "LRightsHouse$Flow;", true)
  | 8 => ("RightsHouse", "isFlown", "Z", false)
  | 9 => ("RightsHouse", "refused", "LRightsHouse$Refused;", true)
  | 10 => ("RightsHouse", "trouble", "I", false)
  | 11 => ("RightsHouse", "fault", "I", false)
  | 12 => ("RightsHouse", "where", "I", false)
  | 13 => ("RightsHouse", "far", "[I", true)
  | 14 => ("RightsHouse", "steps", "[I", true)
  | 15 => ("RightsHouse", "stepMany", "I", false)
  | 16 => ("RightsHouse", "may", "[I", true)
  | 17 => ("RightsHouse", "cured", "[I", true)
  | 18 => ("RightsHouse", "picked", "[I", true)
  | 19 => ("RightsHouse", "mayMany", "I", false)
  | _ => ("RightsHouse", "curedMany", "I", false)
def tyX1 : Nat → FieldType := fun k => match k with
  | 0 => .array .byte
  | 1 => .int
  | 2 => .object "RightsHouse$Reader"
  | 3 => .array (.object "RightsHouse$Part")
  | 4 => .array .int
  | 5 => .int
  | 6 => .object "RightsHouse$Flow"
  | 7 => .object "RightsHouse$Flow"
  | 8 => .boolean
  | 9 => .object "RightsHouse$Refused"
  | 10 => .int
  | 11 => .int
  | 12 => .int
  | 13 => .array .int
  | 14 => .array .int
  | 15 => .int
  | 16 => .array .int
  | 17 => .array .int
  | 18 => .array .int
  | 19 => .int
  | _ => .int
abbrev wsX10 : List Cond := u_ws RX1 TX1 21
theorem nmX1 : ∀ a, a < 21 → ∀ b, b < 21 → a ≠ b → (TX1 a).2.1 ≠ (TX1 b).2.1 := by decide +kernel
theorem tyX1_ok : ∀ k, k < 21 → parseFieldDescriptor (TX1 k).2.2.1 = some (tyX1 k) := by decide +kernel
theorem in_X1 : ∀ w ∈ wsX10, w ∈ lw_all := lw_in wsX10 [269, 271, 273, 275, 277, 279, 281, 283, 285, 287, 289, 291, 293, 295, 297, 299, 301, 303, 305, 307, 309] (by decide +kernel) (by decide +kernel)
def RX2 : String := "RightsHouse$Reader"
def TX2 : u_T := fun k => match k with
  | 0 => ("RightsHouse$Reader", "wrong", "LRightsHouse$Refused;", true)
  | 1 => ("RightsHouse$Reader", "text", "[B", true)
  | 2 => ("RightsHouse$Reader", "letters", "[C", true)
  | 3 => ("RightsHouse$Reader", "names", "[I", true)
  | 4 => ("RightsHouse$Reader", "size", "I", false)
  | 5 => ("RightsHouse$Reader", "end", "I", false)
  | 6 => ("RightsHouse$Reader", "token", "I", false)
  | 7 => ("RightsHouse$Reader", "at", "I", false)
  | 8 => ("RightsHouse$Reader", "whole", "I", false)
  | _ => ("RightsHouse$Reader", "word", "Ljava/lang/String;", false)
def tyX2 : Nat → FieldType := fun k => match k with
  | 0 => .object "RightsHouse$Refused"
  | 1 => .array .byte
  | 2 => .array .char
  | 3 => .array .int
  | 4 => .int
  | 5 => .int
  | 6 => .int
  | 7 => .int
  | 8 => .int
  | _ => .object "java/lang/String"
abbrev wsX20 : List Cond := u_ws RX2 TX2 10
theorem nmX2 : ∀ a, a < 10 → ∀ b, b < 10 → a ≠ b → (TX2 a).2.1 ≠ (TX2 b).2.1 := by decide +kernel
theorem tyX2_ok : ∀ k, k < 10 → parseFieldDescriptor (TX2 k).2.2.1 = some (tyX2 k) := by decide +kernel
theorem in_X2 : ∀ w ∈ wsX20, w ∈ lw_all := lw_in wsX20 [186, 188, 190, 192, 194, 196, 198, 200, 202, 204] (by decide +kernel) (by decide +kernel)
def RX3 : String := "RightsHouse$Refused"
def TX3 : u_T := fun k => match k with
  | 0 => ("java/lang/Throwable", "cause", "Ljava/lang/Throwable;", false)
  | 1 => ("java/lang/Throwable", "stackTrace", "[Ljava/lang/StackTraceElement;", false)
  | 2 => ("java/lang/Throwable", "suppressedExceptions", "Ljava/util/List;", false)
  | 3 => ("java/lang/Throwable", "detailMessage", "Ljava/lang/String;", false)
  | 4 => ("java/lang/Throwable", "backtrace", "Ljava/lang/Object;", false)
  | 5 => ("java/lang/Throwable", "depth", "I", false)
  | 6 => ("RightsHouse$Refused", "why", "I", false)
  | 7 => ("RightsHouse$Refused", "fault", "I", false)
  | _ => ("RightsHouse$Refused", "place", "I", false)
def tyX3 : Nat → FieldType := fun k => match k with
  | 0 => .object "java/lang/Throwable"
  | 1 => .array (.object "java/lang/StackTraceElement")
  | 2 => .object "java/util/List"
  | 3 => .object "java/lang/String"
  | 4 => .object "java/lang/Object"
  | 5 => .int
  | 6 => .int
  | 7 => .int
  | _ => .int
abbrev wsX30 : List Cond := u_ws RX3 TX3 9
theorem nmX3 : ∀ a, a < 9 → ∀ b, b < 9 → a ≠ b → (TX3 a).2.1 ≠ (TX3 b).2.1 := by decide +kernel
theorem tyX3_ok : ∀ k, k < 9 → parseFieldDescriptor (TX3 k).2.2.1 = some (tyX3 k) := by decide +kernel
theorem in_X3 : ∀ w ∈ wsX30, w ∈ lw_all := lw_in wsX30 [108, 110, 112, 114, 116, 171, 161, 163, 165] (by decide +kernel) (by decide +kernel)
def RX4 : String := "RightsHouse$Flow"
def TX4 : u_T := fun k => match k with
  | 0 => ("RightsHouse$Flow", "parts", "[LRightsHouse$Part;", true)
  | 1 => ("RightsHouse$Flow", "grants", "[I", true)
  | 2 => ("RightsHouse$Flow", "held", "[I", true)
  | 3 => ("RightsHouse$Flow", "doors", "[I", true)
  | 4 => ("RightsHouse$Flow", "asked", "I", false)
  | _ => ("RightsHouse$Flow", "partMany", "I", false)
def tyX4 : Nat → FieldType := fun k => match k with
  | 0 => .array (.object "RightsHouse$Part")
  | 1 => .array .int
  | 2 => .array .int
  | 3 => .array .int
  | 4 => .int
  | _ => .int
abbrev wsX40 : List Cond := u_ws RX4 TX4 6
theorem nmX4 : ∀ a, a < 6 → ∀ b, b < 6 → a ≠ b → (TX4 a).2.1 ≠ (TX4 b).2.1 := by decide +kernel
theorem tyX4_ok : ∀ k, k < 6 → parseFieldDescriptor (TX4 k).2.2.1 = some (tyX4 k) := by decide +kernel
theorem in_X4 : ∀ w ∈ wsX40, w ∈ lw_all := lw_in wsX40 [233, 235, 237, 239, 241, 243] (by decide +kernel) (by decide +kernel)
def RX5 : String := "RightsHouseModel"
def TX5 : u_T := fun k => match k with
  | 0 => ("RightsHouseModel", "thrown", "I", false)
  | 1 => ("RightsHouseModel", "trouble", "I", false)
  | 2 => ("RightsHouseModel", "where", "I", false)
  | 3 => ("RightsHouseModel", "fault", "I", false)
  | 4 => ("RightsHouseModel", "parts", "I", false)
  | 5 => ("RightsHouseModel", "grants", "[I", true)
  | 6 => ("RightsHouseModel", "lines", "[I", true)
  | 7 => ("RightsHouseModel", "meant", "[I", true)
  | 8 => ("RightsHouseModel", "kind", "[I", true)
  | 9 => ("RightsHouseModel", "number", "[I", true)
  | 10 => ("RightsHouseModel", "first", "[I", true)
  | 11 => ("RightsHouseModel", "second", "[I", true)
  | 12 => ("RightsHouseModel", "from", "[I", true)
  | 13 => ("RightsHouseModel", "stop", "LRightsHouseModel$Stop;", true)
  | 14 => ("RightsHouseModel", "tape", "[B", true)
  | 15 => ("RightsHouseModel", "taped", "I", false)
  | 16 => ("RightsHouseModel", "size", "I", false)
  | 17 => ("RightsHouseModel", "at", "I", false)
  | 18 => ("RightsHouseModel", "sort", "I", false)
  | 19 => ("RightsHouseModel", "place", "I", false)
  | 20 => ("RightsHouseModel", "sign", "I", false)
  | 21 => ("RightsHouseModel", "value", "I", false)
  | 22 => ("RightsHouseModel", "word", "J", false)
  | 23 => ("RightsHouseModel", "holds", "[I", true)
  | 24 => ("RightsHouseModel", "washed", "[I", true)
  | 25 => ("RightsHouseModel", "results", "[I", true)
  | 26 => ("RightsHouseModel", "leaks", "[I", true)
  | 27 => ("RightsHouseModel", "isAsked", "[Z", true)
  | 28 => ("RightsHouseModel", "far", "[I", true)
  | 29 => ("RightsHouseModel", "step", "[I", true)
  | 30 => ("RightsHouseModel", "steps", "I", false)
  | 31 => ("RightsHouseModel", "candidate", "[I", true)
  | 32 => ("RightsHouseModel", "cured", "[I", true)
  | 33 => ("RightsHouseModel", "services", "[I", true)
  | _ => ("RightsHouseModel", "cures", "I", false)
def tyX5 : Nat → FieldType := fun k => match k with
  | 0 => .int
  | 1 => .int
  | 2 => .int
  | 3 => .int
  | 4 => .int
  | 5 => .array .int
  | 6 => .array .int
  | 7 => .array .int
  | 8 => .array .int
  | 9 => .array .int
  | 10 => .array .int
  | 11 => .array .int
  | 12 => .array .int
  | 13 => .object "RightsHouseModel$Stop"
  | 14 => .array .byte
  | 15 => .int
  | 16 => .int
  | 17 => .int
  | 18 => .int
  | 19 => .int
  | 20 => .int
  | 21 => .int
  | 22 => .long
  | 23 => .array .int
  | 24 => .array .int
  | 25 => .array .int
  | 26 => .array .int
  | 27 => .array .boolean
  | 28 => .array .int
  | 29 => .array .int
  | 30 => .int
  | 31 => .array .int
  | 32 => .array .int
  | 33 => .array .int
  | _ => .int
abbrev wsX50 : List Cond := u_ws RX5 TX5 35
theorem nmX5 : ∀ a, a < 35 → ∀ b, b < 35 → a ≠ b → (TX5 a).2.1 ≠ (TX5 b).2.1 := by decide +kernel
theorem tyX5_ok : ∀ k, k < 35 → parseFieldDescriptor (TX5 k).2.2.1 = some (tyX5 k) := by decide +kernel
theorem in_X5 : ∀ w ∈ wsX50, w ∈ lw_all := lw_in wsX50 [1079, 1081, 1083, 1085, 1087, 1089, 1091, 1093, 1095, 1097, 1099, 1101, 1103, 1105, 1107, 1109, 1111, 1113, 1115, 1117, 1119, 1121, 1123, 1125, 1127, 1129, 1131, 1133, 1135, 1137, 1139, 1141, 1143, 1145, 1147] (by decide +kernel) (by decide +kernel)
def RX6 : String := "RightsHouseModel$Stop"
def TX6 : u_T := fun k => match k with
  | 0 => ("java/lang/Throwable", "cause", "Ljava/lang/Throwable;", false)
  | 1 => ("java/lang/Throwable", "stackTrace", "[Ljava/lang/StackTraceElement;", false)
  | 2 => ("java/lang/Throwable", "suppressedExceptions", "Ljava/util/List;", false)
  | 3 => ("java/lang/Throwable", "detailMessage", "Ljava/lang/String;", false)
  | 4 => ("java/lang/Throwable", "backtrace", "Ljava/lang/Object;", false)
  | 5 => ("java/lang/Throwable", "depth", "I", false)
  | 6 => ("RightsHouseModel$Stop", "kind", "I", false)
  | _ => ("RightsHouseModel$Stop", "place", "I", false)
def tyX6 : Nat → FieldType := fun k => match k with
  | 0 => .object "java/lang/Throwable"
  | 1 => .array (.object "java/lang/StackTraceElement")
  | 2 => .object "java/util/List"
  | 3 => .object "java/lang/String"
  | 4 => .object "java/lang/Object"
  | 5 => .int
  | 6 => .int
  | _ => .int
abbrev wsX60 : List Cond := u_ws RX6 TX6 8
theorem nmX6 : ∀ a, a < 8 → ∀ b, b < 8 → a ≠ b → (TX6 a).2.1 ≠ (TX6 b).2.1 := by decide +kernel
theorem tyX6_ok : ∀ k, k < 8 → parseFieldDescriptor (TX6 k).2.2.1 = some (tyX6 k) := by decide +kernel
theorem in_X6 : ∀ w ∈ wsX60, w ∈ lw_all := lw_in wsX60 [1027, 1028, 1029, 1030, 1031, 1042, 1038, 1040] (by decide +kernel) (by decide +kernel)
def RX7 : String := "RightsHouse$Part"
def TX7 : u_T := fun k => match k with
  | 0 => ("RightsHouse$Part", "grants", "I", false)
  | 1 => ("RightsHouse$Part", "many", "I", false)
  | 2 => ("RightsHouse$Part", "lines", "[LRightsHouse$Line;", false)
  | _ => ("RightsHouse$Part", "washed", "[I", true)
def tyX7 : Nat → FieldType := fun k => match k with
  | 0 => .int
  | 1 => .int
  | 2 => .array (.object "RightsHouse$Line")
  | _ => .array .int
abbrev wsX70 : List Cond := u_ws RX7 TX7 4
theorem nmX7 : ∀ a, a < 4 → ∀ b, b < 4 → a ≠ b → (TX7 a).2.1 ≠ (TX7 b).2.1 := by decide +kernel
theorem tyX7_ok : ∀ k, k < 4 → parseFieldDescriptor (TX7 k).2.2.1 = some (tyX7 k) := by decide +kernel
theorem in_X7 : ∀ w ∈ wsX70, w ∈ lw_all := lw_in wsX70 [345, 347, 349, 351] (by decide +kernel) (by decide +kernel)
def RX9 : String := "RightsHouse$Get"
def TX9 : u_T := fun k => match k with
  | 0 => ("RightsHouse$Line", "kind", "I", true)
  | 1 => ("RightsHouse$Line", "number", "I", true)
  | _ => ("RightsHouse$Line", "name", "I", true)
def tyX9 : Nat → FieldType := fun k => match k with
  | 0 => .int
  | 1 => .int
  | _ => .int
abbrev wsX90 : List Cond := u_ws RX9 TX9 3
theorem nmX9 : ∀ a, a < 3 → ∀ b, b < 3 → a ≠ b → (TX9 a).2.1 ≠ (TX9 b).2.1 := by decide +kernel
theorem tyX9_ok : ∀ k, k < 3 → parseFieldDescriptor (TX9 k).2.2.1 = some (tyX9 k) := by decide +kernel
theorem in_X9 : ∀ w ∈ wsX90, w ∈ lw_all := lw_in wsX90 [640, 642, 644] (by decide +kernel) (by decide +kernel)
def RX10 : String := "RightsHouse$Let"
def TX10 : u_T := fun k => match k with
  | 0 => ("RightsHouse$Line", "kind", "I", true)
  | 1 => ("RightsHouse$Line", "number", "I", true)
  | 2 => ("RightsHouse$Line", "name", "I", true)
  | _ => ("RightsHouse$Let", "from", "[I", true)
def tyX10 : Nat → FieldType := fun k => match k with
  | 0 => .int
  | 1 => .int
  | 2 => .int
  | _ => .array .int
abbrev wsX100 : List Cond := u_ws RX10 TX10 4
theorem nmX10 : ∀ a, a < 4 → ∀ b, b < 4 → a ≠ b → (TX10 a).2.1 ≠ (TX10 b).2.1 := by decide +kernel
theorem tyX10_ok : ∀ k, k < 4 → parseFieldDescriptor (TX10 k).2.2.1 = some (tyX10 k) := by decide +kernel
theorem in_X10 : ∀ w ∈ wsX100, w ∈ lw_all := lw_in wsX100 [668, 669, 670, 666] (by decide +kernel) (by decide +kernel)
def RX11 : String := "RightsHouse$Ask"
def TX11 : u_T := fun k => match k with
  | 0 => ("RightsHouse$Line", "kind", "I", true)
  | 1 => ("RightsHouse$Line", "number", "I", true)
  | 2 => ("RightsHouse$Line", "name", "I", true)
  | _ => ("RightsHouse$Ask", "to", "I", true)
def tyX11 : Nat → FieldType := fun k => match k with
  | 0 => .int
  | 1 => .int
  | 2 => .int
  | _ => .int
abbrev wsX110 : List Cond := u_ws RX11 TX11 4
theorem nmX11 : ∀ a, a < 4 → ∀ b, b < 4 → a ≠ b → (TX11 a).2.1 ≠ (TX11 b).2.1 := by decide +kernel
theorem tyX11_ok : ∀ k, k < 4 → parseFieldDescriptor (TX11 k).2.2.1 = some (tyX11 k) := by decide +kernel
theorem in_X11 : ∀ w ∈ wsX110, w ∈ lw_all := lw_in wsX110 [682, 683, 684, 680] (by decide +kernel) (by decide +kernel)
def RX12 : String := "RightsHouse$Put"
def TX12 : u_T := fun k => match k with
  | 0 => ("RightsHouse$Line", "kind", "I", true)
  | 1 => ("RightsHouse$Line", "number", "I", true)
  | _ => ("RightsHouse$Line", "name", "I", true)
def tyX12 : Nat → FieldType := fun k => match k with
  | 0 => .int
  | 1 => .int
  | _ => .int
abbrev wsX120 : List Cond := u_ws RX12 TX12 3
theorem nmX12 : ∀ a, a < 3 → ∀ b, b < 3 → a ≠ b → (TX12 a).2.1 ≠ (TX12 b).2.1 := by decide +kernel
theorem tyX12_ok : ∀ k, k < 3 → parseFieldDescriptor (TX12 k).2.2.1 = some (tyX12 k) := by decide +kernel
theorem in_X12 : ∀ w ∈ wsX120, w ∈ lw_all := lw_in wsX120 [693, 694, 695] (by decide +kernel) (by decide +kernel)
def RX13 : String := "RightsHouse$Wash"
def TX13 : u_T := fun k => match k with
  | 0 => ("RightsHouse$Line", "kind", "I", true)
  | 1 => ("RightsHouse$Line", "number", "I", true)
  | _ => ("RightsHouse$Line", "name", "I", true)
def tyX13 : Nat → FieldType := fun k => match k with
  | 0 => .int
  | 1 => .int
  | _ => .int
abbrev wsX130 : List Cond := u_ws RX13 TX13 3
theorem nmX13 : ∀ a, a < 3 → ∀ b, b < 3 → a ≠ b → (TX13 a).2.1 ≠ (TX13 b).2.1 := by decide +kernel
theorem tyX13_ok : ∀ k, k < 3 → parseFieldDescriptor (TX13 k).2.2.1 = some (tyX13 k) := by decide +kernel
theorem in_X13 : ∀ w ∈ wsX130, w ∈ lw_all := lw_in wsX130 [704, 705, 706] (by decide +kernel) (by decide +kernel)
def RX14 : String := "RightsHouse$Result"
def TX14 : u_T := fun k => match k with
  | 0 => ("RightsHouse$Line", "kind", "I", true)
  | 1 => ("RightsHouse$Line", "number", "I", true)
  | _ => ("RightsHouse$Line", "name", "I", true)
def tyX14 : Nat → FieldType := fun k => match k with
  | 0 => .int
  | 1 => .int
  | _ => .int
abbrev wsX140 : List Cond := u_ws RX14 TX14 3
theorem nmX14 : ∀ a, a < 3 → ∀ b, b < 3 → a ≠ b → (TX14 a).2.1 ≠ (TX14 b).2.1 := by decide +kernel
theorem tyX14_ok : ∀ k, k < 3 → parseFieldDescriptor (TX14 k).2.2.1 = some (tyX14 k) := by decide +kernel
theorem in_X14 : ∀ w ∈ wsX140, w ∈ lw_all := lw_in wsX140 [714, 715, 716] (by decide +kernel) (by decide +kernel)
def RJ3 : String := "java/lang/String"
def TJ3 : u_T := fun k => match k with
  | 0 => ("java/lang/String", "value", "[B", true)
  | 1 => ("java/lang/String", "coder", "B", true)
  | 2 => ("java/lang/String", "hash", "I", false)
  | _ => ("java/lang/String", "hashIsZero", "Z", false)
def tyJ3 : Nat → FieldType := fun k => match k with
  | 0 => .array .byte
  | 1 => .byte
  | 2 => .int
  | _ => .boolean
abbrev wsJ30 : List Cond := u_ws RJ3 TJ3 4
theorem nmJ3 : ∀ a, a < 4 → ∀ b, b < 4 → a ≠ b → (TJ3 a).2.1 ≠ (TJ3 b).2.1 := by decide +kernel
theorem tyJ3_ok : ∀ k, k < 4 → parseFieldDescriptor (TJ3 k).2.2.1 = some (tyJ3 k) := by decide +kernel
theorem in_J3 : ∀ w ∈ wsJ30, w ∈ lw_all := lw_in wsJ30 [459, 461, 463, 465] (by decide +kernel) (by decide +kernel)
def RJ8 : String := "java/util/NoSuchElementException"
def TJ8 : u_T := fun k => match k with
  | 0 => ("java/lang/Throwable", "cause", "Ljava/lang/Throwable;", false)
  | 1 => ("java/lang/Throwable", "stackTrace", "[Ljava/lang/StackTraceElement;", false)
  | 2 => ("java/lang/Throwable", "suppressedExceptions", "Ljava/util/List;", false)
  | 3 => ("java/lang/Throwable", "detailMessage", "Ljava/lang/String;", false)
  | 4 => ("java/lang/Throwable", "backtrace", "Ljava/lang/Object;", false)
  | _ => ("java/lang/Throwable", "depth", "I", false)
def tyJ8 : Nat → FieldType := fun k => match k with
  | 0 => .object "java/lang/Throwable"
  | 1 => .array (.object "java/lang/StackTraceElement")
  | 2 => .object "java/util/List"
  | 3 => .object "java/lang/String"
  | 4 => .object "java/lang/Object"
  | _ => .int
abbrev wsJ80 : List Cond := u_ws RJ8 TJ8 6
theorem nmJ8 : ∀ a, a < 6 → ∀ b, b < 6 → a ≠ b → (TJ8 a).2.1 ≠ (TJ8 b).2.1 := by decide +kernel
theorem tyJ8_ok : ∀ k, k < 6 → parseFieldDescriptor (TJ8 k).2.2.1 = some (tyJ8 k) := by decide +kernel
theorem in_J8 : ∀ w ∈ wsJ80, w ∈ lw_all := lw_in wsJ80 [1000, 1001, 1002, 1003, 1004, 1015] (by decide +kernel) (by decide +kernel)
abbrev CL : Type := List (String × u_T × Nat × (Nat → FieldType))
def clsT : CL := [("", TX1, 0, tyX1), (RX1, TX1, 21, tyX1), (RX2, TX2, 10, tyX2), (RX3, TX3, 9, tyX3), (RX4, TX4, 6, tyX4), (RX5, TX5, 35, tyX5), (RX6, TX6, 8, tyX6), (RX7, TX7, 4, tyX7), ("", TX1, 0, tyX1), (RX9, TX9, 3, tyX9), (RX10, TX10, 4, tyX10), (RX11, TX11, 4, tyX11), (RX12, TX12, 3, tyX12), (RX13, TX13, 3, tyX13), (RX14, TX14, 3, tyX14), (RJ3, TJ3, 4, tyJ3), (RJ8, TJ8, 6, tyJ8)]
theorem clsT_ok : ∀ (c : Nat) (q : String × u_T × Nat × (Nat → FieldType)), clsT[c]? = some q → (∀ w ∈ u_ws q.1 q.2.1 q.2.2.1, w ∈ lw_all) ∧ (∀ a, a < q.2.2.1 → ∀ b, b < q.2.2.1 → a ≠ b → (q.2.1 a).2.1 ≠ (q.2.1 b).2.1) ∧ ∀ k, k < q.2.2.1 → parseFieldDescriptor (q.2.1 k).2.2.1 = some (q.2.2.2 k) := by
  intro c q hq
  match c, hq with
  | 0, hq => cases hq; exact ⟨fun w h => absurd h List.not_mem_nil, fun a ha => absurd ha (Nat.not_lt_zero _), fun k hk => absurd hk (Nat.not_lt_zero _)⟩
  | 1, hq => cases hq; exact ⟨in_X1, nmX1, tyX1_ok⟩
  | 2, hq => cases hq; exact ⟨in_X2, nmX2, tyX2_ok⟩
  | 3, hq => cases hq; exact ⟨in_X3, nmX3, tyX3_ok⟩
  | 4, hq => cases hq; exact ⟨in_X4, nmX4, tyX4_ok⟩
  | 5, hq => cases hq; exact ⟨in_X5, nmX5, tyX5_ok⟩
  | 6, hq => cases hq; exact ⟨in_X6, nmX6, tyX6_ok⟩
  | 7, hq => cases hq; exact ⟨in_X7, nmX7, tyX7_ok⟩
  | 8, hq => cases hq; exact ⟨fun w h => absurd h List.not_mem_nil, fun a ha => absurd ha (Nat.not_lt_zero _), fun k hk => absurd hk (Nat.not_lt_zero _)⟩
  | 9, hq => cases hq; exact ⟨in_X9, nmX9, tyX9_ok⟩
  | 10, hq => cases hq; exact ⟨in_X10, nmX10, tyX10_ok⟩
  | 11, hq => cases hq; exact ⟨in_X11, nmX11, tyX11_ok⟩
  | 12, hq => cases hq; exact ⟨in_X12, nmX12, tyX12_ok⟩
  | 13, hq => cases hq; exact ⟨in_X13, nmX13, tyX13_ok⟩
  | 14, hq => cases hq; exact ⟨in_X14, nmX14, tyX14_ok⟩
  | 15, hq => cases hq; exact ⟨in_J3, nmJ3, tyJ3_ok⟩
  | 16, hq => cases hq; exact ⟨in_J8, nmJ8, tyJ8_ok⟩
  | c + 17, hq => exact absurd hq (by simp [clsT])
