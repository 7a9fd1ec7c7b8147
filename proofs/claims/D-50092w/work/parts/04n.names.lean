/-! names of the classes that have objects, out of claim/names, by wip/gen/emit.py -/
set_option maxRecDepth 100000
def RX1 : String := "BallotBus"
def TX1 : u_T := fun k => match k with
  | 0 => ("BallotBus", "tallies", "[LBallotBus$Tally;", true)
  | 1 => ("BallotBus", "bus", "LBallotBus$Bus;", false)
  | 2 => ("BallotBus", "saved", "LBallotBus$Bus;", false)
  | 3 => ("BallotBus", "history", "Ljava/util/List;", true)
  | 4 => ("BallotBus", "buffer", "[B", true)
  | 5 => ("BallotBus", "length", "I", false)
  | 6 => ("BallotBus", "errorCode", "I", false)
  | 7 => ("BallotBus", "errorOffset", "I", false)
  | 8 => ("BallotBus", "laid", "[I", true)
  | 9 => ("BallotBus", "laidWithout", "[I", true)
  | 10 => ("BallotBus", "bestRow", "[I", true)
  | 11 => ("BallotBus", "bestValue", "I", false)
  | _ => ("BallotBus", "output", "Ljava/lang/StringBuilder;", true)
def tyX1 : Nat → FieldType := fun k => match k with
  | 0 => .array (.object "BallotBus$Tally")
  | 1 => .object "BallotBus$Bus"
  | 2 => .object "BallotBus$Bus"
  | 3 => .object "java/util/List"
  | 4 => .array .byte
  | 5 => .int
  | 6 => .int
  | 7 => .int
  | 8 => .array .int
  | 9 => .array .int
  | 10 => .array .int
  | 11 => .int
  | _ => .object "java/lang/StringBuilder"
abbrev wsX10 : List Cond := u_ws RX1 TX1 13
theorem nmX1 : ∀ a, a < 13 → ∀ b, b < 13 → a ≠ b → (TX1 a).2.1 ≠ (TX1 b).2.1 := by decide +kernel
theorem tyX1_ok : ∀ k, k < 13 → parseFieldDescriptor (TX1 k).2.2.1 = some (tyX1 k) := by decide +kernel
theorem in_X1 : ∀ w ∈ wsX10, w ∈ lw_all := lw_in wsX10 [1101, 1103, 1105, 1107, 1109, 1111, 1113, 1115, 1117, 1119, 1121, 1123, 1125] (by decide +kernel) (by decide +kernel)
def RX3 : String := "BallotBus$Setup"
def TX3 : u_T := fun k => match k with
  | 0 => ("BallotBus$Setup", "classNames", "Ljava/util/TreeMap;", true)
  | 1 => ("BallotBus$Setup", "askerNames", "Ljava/util/TreeMap;", true)
  | 2 => ("BallotBus$Setup", "printed", "Ljava/util/List;", true)
  | 3 => ("BallotBus$Setup", "requests", "Ljava/util/List;", true)
  | 4 => ("BallotBus$Setup", "manners", "[I", true)
  | 5 => ("BallotBus$Setup", "credits", "[I", true)
  | 6 => ("BallotBus$Setup", "weights", "[I", true)
  | 7 => ("BallotBus$Setup", "tally", "I", false)
  | 8 => ("BallotBus$Setup", "turn", "I", false)
  | 9 => ("BallotBus$Setup", "round", "I", false)
  | 10 => ("BallotBus$Setup", "veto", "I", false)
  | 11 => ("BallotBus$Setup", "line", "I", false)
  | _ => ("BallotBus$Setup", "silence", "I", false)
def tyX3 : Nat → FieldType := fun k => match k with
  | 0 => .object "java/util/TreeMap"
  | 1 => .object "java/util/TreeMap"
  | 2 => .object "java/util/List"
  | 3 => .object "java/util/List"
  | 4 => .array .int
  | 5 => .array .int
  | 6 => .array .int
  | 7 => .int
  | 8 => .int
  | 9 => .int
  | 10 => .int
  | 11 => .int
  | _ => .int
abbrev wsX30 : List Cond := u_ws RX3 TX3 13
theorem nmX3 : ∀ a, a < 13 → ∀ b, b < 13 → a ≠ b → (TX3 a).2.1 ≠ (TX3 b).2.1 := by decide +kernel
theorem tyX3_ok : ∀ k, k < 13 → parseFieldDescriptor (TX3 k).2.2.1 = some (tyX3 k) := by decide +kernel
theorem in_X3 : ∀ w ∈ wsX30, w ∈ lw_all := lw_in wsX30 [348, 350, 352, 354, 356, 358, 360, 362, 364, 366, 368, 370, 372] (by decide +kernel) (by decide +kernel)
def RX4 : String := "BallotBus$Bus"
def TX4 : u_T := fun k => match k with
  | 0 => ("BallotBus$Bus", "setup", "LBallotBus$Setup;", true)
  | 1 => ("BallotBus$Bus", "credits", "[I", true)
  | 2 => ("BallotBus$Bus", "debts", "[I", true)
  | 3 => ("BallotBus$Bus", "silence", "[I", true)
  | 4 => ("BallotBus$Bus", "vetoes", "[I", true)
  | 5 => ("BallotBus$Bus", "answered", "[I", true)
  | 6 => ("BallotBus$Bus", "lengths", "[I", true)
  | 7 => ("BallotBus$Bus", "ballots", "[I", true)
  | 8 => ("BallotBus$Bus", "order", "[I", true)
  | 9 => ("BallotBus$Bus", "manners", "[I", true)
  | 10 => ("BallotBus$Bus", "kindAnswered", "[I", true)
  | 11 => ("BallotBus$Bus", "kindWaits", "[I", true)
  | 12 => ("BallotBus$Bus", "answers", "[I", true)
  | 13 => ("BallotBus$Bus", "waiting", "Ljava/util/List;", true)
  | 14 => ("BallotBus$Bus", "sheet", "LBallotBus$Sheet;", true)
  | 15 => ("BallotBus$Bus", "measures", "[LBallotBus$Measure;", true)
  | 16 => ("BallotBus$Bus", "tally", "LBallotBus$Tally;", false)
  | 17 => ("BallotBus$Bus", "current", "LBallotBus$Request;", false)
  | 18 => ("BallotBus$Bus", "time", "I", false)
  | 19 => ("BallotBus$Bus", "left", "I", false)
  | 20 => ("BallotBus$Bus", "asked", "I", false)
  | 21 => ("BallotBus$Bus", "answeredMany", "I", false)
  | 22 => ("BallotBus$Bus", "votings", "I", false)
  | 23 => ("BallotBus$Bus", "turnOf", "I", false)
  | 24 => ("BallotBus$Bus", "vetoed", "I", false)
  | _ => ("BallotBus$Bus", "hasCast", "Z", false)
def tyX4 : Nat → FieldType := fun k => match k with
  | 0 => .object "BallotBus$Setup"
  | 1 => .array .int
  | 2 => .array .int
  | 3 => .array .int
  | 4 => .array .int
  | 5 => .array .int
  | 6 => .array .int
  | 7 => .array .int
  | 8 => .array .int
  | 9 => .array .int
  | 10 => .array .int
  | 11 => .array .int
  | 12 => .array .int
  | 13 => .object "java/util/List"
  | 14 => .object "BallotBus$Sheet"
  | 15 => .array (.object "BallotBus$Measure")
  | 16 => .object "BallotBus$Tally"
  | 17 => .object "BallotBus$Request"
  | 18 => .int
  | 19 => .int
  | 20 => .int
  | 21 => .int
  | 22 => .int
  | 23 => .int
  | 24 => .int
  | _ => .boolean
abbrev wsX40 : List Cond := u_ws RX4 TX4 26
theorem nmX4 : ∀ a, a < 26 → ∀ b, b < 26 → a ≠ b → (TX4 a).2.1 ≠ (TX4 b).2.1 := by decide +kernel
theorem tyX4_ok : ∀ k, k < 26 → parseFieldDescriptor (TX4 k).2.2.1 = some (tyX4 k) := by decide +kernel
theorem in_X4 : ∀ w ∈ wsX40, w ∈ lw_all := lw_in wsX40 [1033, 1035, 1037, 1039, 1041, 1043, 1045, 1047, 1049, 1051, 1053, 1055, 1057, 1059, 1061, 1063, 1065, 1067, 1069, 1071, 1073, 1075, 1077, 1079, 1081, 1083] (by decide +kernel) (by decide +kernel)
def RX5 : String := "BallotBus$Sheet"
def TX5 : u_T := fun k => match k with
  | 0 => ("BallotBus$Sheet", "points", "[I", true)
  | 1 => ("BallotBus$Sheet", "firsts", "[I", true)
  | 2 => ("BallotBus$Sheet", "before", "[I", true)
  | 3 => ("BallotBus$Sheet", "classes", "I", true)
  | _ => ("BallotBus$Sheet", "votes", "I", false)
def tyX5 : Nat → FieldType := fun k => match k with
  | 0 => .array .int
  | 1 => .array .int
  | 2 => .array .int
  | 3 => .int
  | _ => .int
abbrev wsX50 : List Cond := u_ws RX5 TX5 5
theorem nmX5 : ∀ a, a < 5 → ∀ b, b < 5 → a ≠ b → (TX5 a).2.1 ≠ (TX5 b).2.1 := by decide +kernel
theorem tyX5_ok : ∀ k, k < 5 → parseFieldDescriptor (TX5 k).2.2.1 = some (tyX5 k) := by decide +kernel
theorem in_X5 : ∀ w ∈ wsX50, w ∈ lw_all := lw_in wsX50 [902, 904, 906, 908, 910] (by decide +kernel) (by decide +kernel)
def RX6 : String := "BallotBusModel"
def TX6 : u_T := fun k => match k with
  | 0 => ("BallotBusModel", "told", "I", false)
  | 1 => ("BallotBusModel", "classes", "I", false)
  | 2 => ("BallotBusModel", "askers", "I", false)
  | 3 => ("BallotBusModel", "turn", "I", false)
  | 4 => ("BallotBusModel", "round", "I", false)
  | 5 => ("BallotBusModel", "price", "I", false)
  | 6 => ("BallotBusModel", "line", "I", false)
  | 7 => ("BallotBusModel", "limit", "I", false)
  | 8 => ("BallotBusModel", "weights", "[I", true)
  | 9 => ("BallotBusModel", "classNames", "[J", true)
  | 10 => ("BallotBusModel", "askerNames", "[J", true)
  | 11 => ("BallotBusModel", "now", "[I", true)
  | 12 => ("BallotBusModel", "first", "[I", true)
  | 13 => ("BallotBusModel", "aside", "[I", true)
  | 14 => ("BallotBusModel", "tried", "[I", true)
  | 15 => ("BallotBusModel", "saved", "[I", true)
  | 16 => ("BallotBusModel", "history", "[I", true)
  | 17 => ("BallotBusModel", "historyMany", "I", false)
  | 18 => ("BallotBusModel", "isSaved", "Z", false)
  | 19 => ("BallotBusModel", "leftOut", "I", false)
  | 20 => ("BallotBusModel", "outcome", "[I", true)
  | 21 => ("BallotBusModel", "outcomeBefore", "[I", true)
  | 22 => ("BallotBusModel", "buffer", "[B", true)
  | 23 => ("BallotBusModel", "filled", "I", false)
  | 24 => ("BallotBusModel", "length", "I", false)
  | 25 => ("BallotBusModel", "place", "I", false)
  | 26 => ("BallotBusModel", "from", "I", false)
  | 27 => ("BallotBusModel", "token", "I", false)
  | 28 => ("BallotBusModel", "word", "I", false)
  | 29 => ("BallotBusModel", "value", "I", false)
  | 30 => ("BallotBusModel", "spelt", "J", false)
  | 31 => ("BallotBusModel", "code", "I", false)
  | 32 => ("BallotBusModel", "offset", "I", false)
  | 33 => ("BallotBusModel", "draftClasses", "I", false)
  | 34 => ("BallotBusModel", "draftAskers", "I", false)
  | 35 => ("BallotBusModel", "draftOnce", "I", false)
  | 36 => ("BallotBusModel", "draftNumbers", "[I", true)
  | 37 => ("BallotBusModel", "weightDraft", "[I", true)
  | 38 => ("BallotBusModel", "classDraft", "[J", true)
  | 39 => ("BallotBusModel", "askerDraft", "[J", true)
  | 40 => ("BallotBusModel", "output", "[B", true)
  | _ => ("BallotBusModel", "written", "I", false)
def tyX6 : Nat → FieldType := fun k => match k with
  | 0 => .int
  | 1 => .int
  | 2 => .int
  | 3 => .int
  | 4 => .int
  | 5 => .int
  | 6 => .int
  | 7 => .int
  | 8 => .array .int
  | 9 => .array .long
  | 10 => .array .long
  | 11 => .array .int
  | 12 => .array .int
  | 13 => .array .int
  | 14 => .array .int
  | 15 => .array .int
  | 16 => .array .int
  | 17 => .int
  | 18 => .boolean
  | 19 => .int
  | 20 => .array .int
  | 21 => .array .int
  | 22 => .array .byte
  | 23 => .int
  | 24 => .int
  | 25 => .int
  | 26 => .int
  | 27 => .int
  | 28 => .int
  | 29 => .int
  | 30 => .long
  | 31 => .int
  | 32 => .int
  | 33 => .int
  | 34 => .int
  | 35 => .int
  | 36 => .array .int
  | 37 => .array .int
  | 38 => .array .long
  | 39 => .array .long
  | 40 => .array .byte
  | _ => .int
abbrev wsX60 : List Cond := u_ws RX6 TX6 42
theorem nmX6 : ∀ a, a < 42 → ∀ b, b < 42 → a ≠ b → (TX6 a).2.1 ≠ (TX6 b).2.1 := by decide +kernel
theorem tyX6_ok : ∀ k, k < 42 → parseFieldDescriptor (TX6 k).2.2.1 = some (tyX6 k) := by decide +kernel
theorem in_X6 : ∀ w ∈ wsX60, w ∈ lw_all := lw_in wsX60 [2891, 2893, 2895, 2897, 2899, 2901, 2903, 2905, 2907, 2909, 2911, 2913, 2915, 2917, 2919, 2921, 2923, 2925, 2927, 2929, 2931, 2933, 2935, 2937, 2939, 2941, 2943, 2945, 2947, 2949, 2951, 2953, 2955, 2957, 2959, 2961, 2963, 2965, 2967, 2969, 2971, 2973] (by decide +kernel) (by decide +kernel)
def RX7 : String := "BallotBus$Parser"
def TX7 : u_T := fun k => match k with
  | 0 => ("BallotBus$Parser", "keywords", "Ljava/util/List;", true)
  | 1 => ("BallotBus$Parser", "setup", "LBallotBus$Setup;", true)
  | 2 => ("BallotBus$Parser", "once", "Ljava/util/BitSet;", true)
  | 3 => ("BallotBus$Parser", "next", "I", false)
  | 4 => ("BallotBus$Parser", "start", "I", false)
  | 5 => ("BallotBus$Parser", "kind", "I", false)
  | 6 => ("BallotBus$Parser", "value", "I", false)
  | 7 => ("BallotBus$Parser", "word", "Ljava/lang/String;", false)
  | _ => ("BallotBus$Parser", "this$0", "LBallotBus;", true)
def tyX7 : Nat → FieldType := fun k => match k with
  | 0 => .object "java/util/List"
  | 1 => .object "BallotBus$Setup"
  | 2 => .object "java/util/BitSet"
  | 3 => .int
  | 4 => .int
  | 5 => .int
  | 6 => .int
  | 7 => .object "java/lang/String"
  | _ => .object "BallotBus"
abbrev wsX70 : List Cond := u_ws RX7 TX7 9
theorem nmX7 : ∀ a, a < 9 → ∀ b, b < 9 → a ≠ b → (TX7 a).2.1 ≠ (TX7 b).2.1 := by decide +kernel
theorem tyX7_ok : ∀ k, k < 9 → parseFieldDescriptor (TX7 k).2.2.1 = some (tyX7 k) := by decide +kernel
theorem in_X7 : ∀ w ∈ wsX70, w ∈ lw_all := lw_in wsX70 [1525, 1527, 1529, 1531, 1533, 1535, 1537, 1539, 1541] (by decide +kernel) (by decide +kernel)
def RX8 : String := "BallotBus$ParseException"
def TX8 : u_T := fun k => match k with
  | 0 => ("java/lang/Throwable", "cause", "Ljava/lang/Throwable;", false)
  | 1 => ("java/lang/Throwable", "stackTrace", "[Ljava/lang/StackTraceElement;", false)
  | 2 => ("java/lang/Throwable", "suppressedExceptions", "Ljava/util/List;", false)
  | 3 => ("java/lang/Throwable", "detailMessage", "Ljava/lang/String;", false)
  | 4 => ("java/lang/Throwable", "backtrace", "Ljava/lang/Object;", false)
  | 5 => ("java/lang/Throwable", "depth", "I", false)
  | 6 => ("BallotBus$ParseException", "code", "I", true)
  | _ => ("BallotBus$ParseException", "offset", "I", true)
def tyX8 : Nat → FieldType := fun k => match k with
  | 0 => .object "java/lang/Throwable"
  | 1 => .array (.object "java/lang/StackTraceElement")
  | 2 => .object "java/util/List"
  | 3 => .object "java/lang/String"
  | 4 => .object "java/lang/Object"
  | 5 => .int
  | 6 => .int
  | _ => .int
abbrev wsX80 : List Cond := u_ws RX8 TX8 8
theorem nmX8 : ∀ a, a < 8 → ∀ b, b < 8 → a ≠ b → (TX8 a).2.1 ≠ (TX8 b).2.1 := by decide +kernel
theorem tyX8_ok : ∀ k, k < 8 → parseFieldDescriptor (TX8 k).2.2.1 = some (tyX8 k) := by decide +kernel
theorem in_X8 : ∀ w ∈ wsX80, w ∈ lw_all := lw_in wsX80 [1633, 1634, 1635, 1636, 1637, 1655, 1651, 1653] (by decide +kernel) (by decide +kernel)
def RX9 : String := "BallotBus$Request"
def TX9 : u_T := fun k => match k with
  | 0 => ("BallotBus$Request", "serial", "I", true)
  | 1 => ("BallotBus$Request", "asker", "I", true)
  | 2 => ("BallotBus$Request", "kind", "I", true)
  | 3 => ("BallotBus$Request", "length", "I", true)
  | _ => ("BallotBus$Request", "asked", "I", true)
def tyX9 : Nat → FieldType := fun k => match k with
  | 0 => .int
  | 1 => .int
  | 2 => .int
  | 3 => .int
  | _ => .int
abbrev wsX90 : List Cond := u_ws RX9 TX9 5
theorem nmX9 : ∀ a, a < 5 → ∀ b, b < 5 → a ≠ b → (TX9 a).2.1 ≠ (TX9 b).2.1 := by decide +kernel
theorem tyX9_ok : ∀ k, k < 5 → parseFieldDescriptor (TX9 k).2.2.1 = some (tyX9 k) := by decide +kernel
theorem in_X9 : ∀ w ∈ wsX90, w ∈ lw_all := lw_in wsX90 [1803, 1805, 1807, 1809, 1811] (by decide +kernel) (by decide +kernel)
def RX10 : String := "BallotBus$ByMeasure"
def TX10 : u_T := fun k => match k with
  | _ => ("BallotBus$ByMeasure", "measure", "LBallotBus$Measure;", true)
def tyX10 : Nat → FieldType := fun k => match k with
  | _ => .object "BallotBus$Measure"
abbrev wsX100 : List Cond := u_ws RX10 TX10 1
theorem nmX10 : ∀ a, a < 1 → ∀ b, b < 1 → a ≠ b → (TX10 a).2.1 ≠ (TX10 b).2.1 := by decide +kernel
theorem tyX10_ok : ∀ k, k < 1 → parseFieldDescriptor (TX10 k).2.2.1 = some (tyX10 k) := by decide +kernel
theorem in_X10 : ∀ w ∈ wsX100, w ∈ lw_all := lw_in wsX100 [2447] (by decide +kernel) (by decide +kernel)
def RJ3 : String := "java/util/ArrayList"
def TJ3 : u_T := fun k => match k with
  | 0 => ("java/util/AbstractList", "modCount", "I", false)
  | 1 => ("java/util/ArrayList", "elementData", "[Ljava/lang/Object;", false)
  | _ => ("java/util/ArrayList", "size", "I", false)
def tyJ3 : Nat → FieldType := fun k => match k with
  | 0 => .int
  | 1 => .array (.object "java/lang/Object")
  | _ => .int
abbrev wsJ30 : List Cond := u_ws RJ3 TJ3 3
theorem nmJ3 : ∀ a, a < 3 → ∀ b, b < 3 → a ≠ b → (TJ3 a).2.1 ≠ (TJ3 b).2.1 := by decide +kernel
theorem tyJ3_ok : ∀ k, k < 3 → parseFieldDescriptor (TJ3 k).2.2.1 = some (tyJ3 k) := by decide +kernel
theorem in_J3 : ∀ w ∈ wsJ30, w ∈ lw_all := lw_in wsJ30 [232, 228, 230] (by decide +kernel) (by decide +kernel)
def RJ5 : String := "java/lang/StringBuilder"
def TJ5 : u_T := fun k => match k with
  | 0 => ("java/lang/AbstractStringBuilder", "value", "[B", false)
  | 1 => ("java/lang/AbstractStringBuilder", "coder", "B", false)
  | 2 => ("java/lang/AbstractStringBuilder", "maybeLatin1", "Z", false)
  | _ => ("java/lang/AbstractStringBuilder", "count", "I", false)
def tyJ5 : Nat → FieldType := fun k => match k with
  | 0 => .array .byte
  | 1 => .byte
  | 2 => .boolean
  | _ => .int
abbrev wsJ50 : List Cond := u_ws RJ5 TJ5 4
theorem nmJ5 : ∀ a, a < 4 → ∀ b, b < 4 → a ≠ b → (TJ5 a).2.1 ≠ (TJ5 b).2.1 := by decide +kernel
theorem tyJ5_ok : ∀ k, k < 4 → parseFieldDescriptor (TJ5 k).2.2.1 = some (tyJ5 k) := by decide +kernel
theorem in_J5 : ∀ w ∈ wsJ50, w ∈ lw_all := lw_in wsJ50 [258, 260, 262, 264] (by decide +kernel) (by decide +kernel)
def RJ6 : String := "java/lang/String"
def TJ6 : u_T := fun k => match k with
  | 0 => ("java/lang/String", "value", "[B", true)
  | 1 => ("java/lang/String", "coder", "B", true)
  | 2 => ("java/lang/String", "hash", "I", false)
  | _ => ("java/lang/String", "hashIsZero", "Z", false)
def tyJ6 : Nat → FieldType := fun k => match k with
  | 0 => .array .byte
  | 1 => .byte
  | 2 => .int
  | _ => .boolean
abbrev wsJ60 : List Cond := u_ws RJ6 TJ6 4
theorem nmJ6 : ∀ a, a < 4 → ∀ b, b < 4 → a ≠ b → (TJ6 a).2.1 ≠ (TJ6 b).2.1 := by decide +kernel
theorem tyJ6_ok : ∀ k, k < 4 → parseFieldDescriptor (TJ6 k).2.2.1 = some (tyJ6 k) := by decide +kernel
theorem in_J6 : ∀ w ∈ wsJ60, w ∈ lw_all := lw_in wsJ60 [1507, 1509, 1511, 1513] (by decide +kernel) (by decide +kernel)
def RJ9 : String := "java/util/TreeMap"
def TJ9 : u_T := fun k => match k with
  | 0 => ("java/util/AbstractMap", "keySet", "Ljava/util/Set;", false)
  | 1 => ("java/util/AbstractMap", "values", "Ljava/util/Collection;", false)
  | 2 => ("java/util/TreeMap", "comparator", "Ljava/util/Comparator;", true)
  | 3 => ("java/util/TreeMap", "root", "Ljava/util/TreeMap$Entry;", false)
  | 4 => ("java/util/TreeMap", "size", "I", false)
  | 5 => ("java/util/TreeMap", "modCount", "I", false)
  | 6 => ("java/util/TreeMap", "entrySet", "Ljava/util/TreeMap$EntrySet;", false)
  | 7 => ("java/util/TreeMap", "navigableKeySet", "Ljava/util/TreeMap$KeySet;", false)
  | _ => ("java/util/TreeMap", "descendingMap", "Ljava/util/NavigableMap;", false)
def tyJ9 : Nat → FieldType := fun k => match k with
  | 0 => .object "java/util/Set"
  | 1 => .object "java/util/Collection"
  | 2 => .object "java/util/Comparator"
  | 3 => .object "java/util/TreeMap$Entry"
  | 4 => .int
  | 5 => .int
  | 6 => .object "java/util/TreeMap$EntrySet"
  | 7 => .object "java/util/TreeMap$KeySet"
  | _ => .object "java/util/NavigableMap"
abbrev wsJ90 : List Cond := u_ws RJ9 TJ9 9
theorem nmJ9 : ∀ a, a < 9 → ∀ b, b < 9 → a ≠ b → (TJ9 a).2.1 ≠ (TJ9 b).2.1 := by decide +kernel
theorem tyJ9_ok : ∀ k, k < 9 → parseFieldDescriptor (TJ9 k).2.2.1 = some (tyJ9 k) := by decide +kernel
theorem in_J9 : ∀ w ∈ wsJ90, w ∈ lw_all := lw_in wsJ90 [302, 304, 288, 290, 292, 294, 296, 298, 300] (by decide +kernel) (by decide +kernel)
def RJ14 : String := "java/lang/Integer"
def TJ14 : u_T := fun k => match k with
  | _ => ("java/lang/Integer", "value", "I", true)
def tyJ14 : Nat → FieldType := fun k => match k with
  | _ => .int
abbrev wsJ140 : List Cond := u_ws RJ14 TJ14 1
theorem nmJ14 : ∀ a, a < 1 → ∀ b, b < 1 → a ≠ b → (TJ14 a).2.1 ≠ (TJ14 b).2.1 := by decide +kernel
theorem tyJ14_ok : ∀ k, k < 1 → parseFieldDescriptor (TJ14 k).2.2.1 = some (tyJ14 k) := by decide +kernel
theorem in_J14 : ∀ w ∈ wsJ140, w ∈ lw_all := lw_in wsJ140 [499] (by decide +kernel) (by decide +kernel)
def RJ19 : String := "java/util/TreeMap$Entry"
def TJ19 : u_T := fun k => match k with
  | 0 => ("java/util/TreeMap$Entry", "key", "Ljava/lang/Object;", false)
  | 1 => ("java/util/TreeMap$Entry", "value", "Ljava/lang/Object;", false)
  | 2 => ("java/util/TreeMap$Entry", "left", "Ljava/util/TreeMap$Entry;", false)
  | 3 => ("java/util/TreeMap$Entry", "right", "Ljava/util/TreeMap$Entry;", false)
  | 4 => ("java/util/TreeMap$Entry", "parent", "Ljava/util/TreeMap$Entry;", false)
  | _ => ("java/util/TreeMap$Entry", "color", "Z", false)
def tyJ19 : Nat → FieldType := fun k => match k with
  | 0 => .object "java/lang/Object"
  | 1 => .object "java/lang/Object"
  | 2 => .object "java/util/TreeMap$Entry"
  | 3 => .object "java/util/TreeMap$Entry"
  | 4 => .object "java/util/TreeMap$Entry"
  | _ => .boolean
abbrev wsJ190 : List Cond := u_ws RJ19 TJ19 6
theorem nmJ19 : ∀ a, a < 6 → ∀ b, b < 6 → a ≠ b → (TJ19 a).2.1 ≠ (TJ19 b).2.1 := by decide +kernel
theorem tyJ19_ok : ∀ k, k < 6 → parseFieldDescriptor (TJ19 k).2.2.1 = some (tyJ19 k) := by decide +kernel
theorem in_J19 : ∀ w ∈ wsJ190, w ∈ lw_all := lw_in wsJ190 [806, 808, 810, 812, 814, 816] (by decide +kernel) (by decide +kernel)
def RJ26 : String := "java/util/ImmutableCollections$ListN"
def TJ26 : u_T := fun k => match k with
  | 0 => ("java/util/ImmutableCollections$ListN", "elements", "[Ljava/lang/Object;", true)
  | _ => ("java/util/ImmutableCollections$ListN", "allowNulls", "Z", true)
def tyJ26 : Nat → FieldType := fun k => match k with
  | 0 => .array (.object "java/lang/Object")
  | _ => .boolean
abbrev wsJ260 : List Cond := u_ws RJ26 TJ26 2
theorem nmJ26 : ∀ a, a < 2 → ∀ b, b < 2 → a ≠ b → (TJ26 a).2.1 ≠ (TJ26 b).2.1 := by decide +kernel
theorem tyJ26_ok : ∀ k, k < 2 → parseFieldDescriptor (TJ26 k).2.2.1 = some (tyJ26 k) := by decide +kernel
theorem in_J26 : ∀ w ∈ wsJ260, w ∈ lw_all := lw_in wsJ260 [1214, 1216] (by decide +kernel) (by decide +kernel)
def RJ27 : String := "java/util/BitSet"
def TJ27 : u_T := fun k => match k with
  | 0 => ("java/util/BitSet", "words", "[J", false)
  | 1 => ("java/util/BitSet", "wordsInUse", "I", false)
  | _ => ("java/util/BitSet", "sizeIsSticky", "Z", false)
def tyJ27 : Nat → FieldType := fun k => match k with
  | 0 => .array .long
  | 1 => .int
  | _ => .boolean
abbrev wsJ270 : List Cond := u_ws RJ27 TJ27 3
theorem nmJ27 : ∀ a, a < 3 → ∀ b, b < 3 → a ≠ b → (TJ27 a).2.1 ≠ (TJ27 b).2.1 := by decide +kernel
theorem tyJ27_ok : ∀ k, k < 3 → parseFieldDescriptor (TJ27 k).2.2.1 = some (tyJ27 k) := by decide +kernel
theorem in_J27 : ∀ w ∈ wsJ270, w ∈ lw_all := lw_in wsJ270 [1237, 1239, 1241] (by decide +kernel) (by decide +kernel)
def RJ34 : String := "java/util/ArrayList$Itr"
def TJ34 : u_T := fun k => match k with
  | 0 => ("java/util/ArrayList$Itr", "cursor", "I", false)
  | 1 => ("java/util/ArrayList$Itr", "lastRet", "I", false)
  | 2 => ("java/util/ArrayList$Itr", "expectedModCount", "I", false)
  | _ => ("java/util/ArrayList$Itr", "this$0", "Ljava/util/ArrayList;", true)
def tyJ34 : Nat → FieldType := fun k => match k with
  | 0 => .int
  | 1 => .int
  | 2 => .int
  | _ => .object "java/util/ArrayList"
abbrev wsJ340 : List Cond := u_ws RJ34 TJ34 4
theorem nmJ34 : ∀ a, a < 4 → ∀ b, b < 4 → a ≠ b → (TJ34 a).2.1 ≠ (TJ34 b).2.1 := by decide +kernel
theorem tyJ34_ok : ∀ k, k < 4 → parseFieldDescriptor (TJ34 k).2.2.1 = some (tyJ34 k) := by decide +kernel
theorem in_J34 : ∀ w ∈ wsJ340, w ∈ lw_all := lw_in wsJ340 [2286, 2288, 2290, 2292] (by decide +kernel) (by decide +kernel)
def RJ38 : String := "java/util/PriorityQueue"
def TJ38 : u_T := fun k => match k with
  | 0 => ("java/util/PriorityQueue", "queue", "[Ljava/lang/Object;", false)
  | 1 => ("java/util/PriorityQueue", "size", "I", false)
  | 2 => ("java/util/PriorityQueue", "comparator", "Ljava/util/Comparator;", true)
  | _ => ("java/util/PriorityQueue", "modCount", "I", false)
def tyJ38 : Nat → FieldType := fun k => match k with
  | 0 => .array (.object "java/lang/Object")
  | 1 => .int
  | 2 => .object "java/util/Comparator"
  | _ => .int
abbrev wsJ380 : List Cond := u_ws RJ38 TJ38 4
theorem nmJ38 : ∀ a, a < 4 → ∀ b, b < 4 → a ≠ b → (TJ38 a).2.1 ≠ (TJ38 b).2.1 := by decide +kernel
theorem tyJ38_ok : ∀ k, k < 4 → parseFieldDescriptor (TJ38 k).2.2.1 = some (tyJ38 k) := by decide +kernel
theorem in_J38 : ∀ w ∈ wsJ380, w ∈ lw_all := lw_in wsJ380 [2467, 2469, 2471, 2473] (by decide +kernel) (by decide +kernel)
def RJ32 : String := "java/lang/IndexOutOfBoundsException"
def TJ32 : u_T := fun k => match k with
  | 0 => ("java/lang/Throwable", "cause", "Ljava/lang/Throwable;", false)
  | 1 => ("java/lang/Throwable", "stackTrace", "[Ljava/lang/StackTraceElement;", false)
  | 2 => ("java/lang/Throwable", "suppressedExceptions", "Ljava/util/List;", false)
  | 3 => ("java/lang/Throwable", "detailMessage", "Ljava/lang/String;", false)
  | 4 => ("java/lang/Throwable", "backtrace", "Ljava/lang/Object;", false)
  | _ => ("java/lang/Throwable", "depth", "I", false)
def tyJ32 : Nat → FieldType := fun k => match k with
  | 0 => .object "java/lang/Throwable"
  | 1 => .array (.object "java/lang/StackTraceElement")
  | 2 => .object "java/util/List"
  | 3 => .object "java/lang/String"
  | 4 => .object "java/lang/Object"
  | _ => .int
abbrev wsJ320 : List Cond := u_ws RJ32 TJ32 6
theorem nmJ32 : ∀ a, a < 6 → ∀ b, b < 6 → a ≠ b → (TJ32 a).2.1 ≠ (TJ32 b).2.1 := by decide +kernel
theorem tyJ32_ok : ∀ k, k < 6 → parseFieldDescriptor (TJ32 k).2.2.1 = some (tyJ32 k) := by decide +kernel
theorem in_J32 : ∀ w ∈ wsJ320, w ∈ lw_all := lw_in wsJ320 [1842, 1843, 1844, 1845, 1846, 1857] (by decide +kernel) (by decide +kernel)
def RJ31 : String := "java/lang/IllegalArgumentException"
def TJ31 : u_T := fun k => match k with
  | 0 => ("java/lang/Throwable", "cause", "Ljava/lang/Throwable;", false)
  | 1 => ("java/lang/Throwable", "stackTrace", "[Ljava/lang/StackTraceElement;", false)
  | 2 => ("java/lang/Throwable", "suppressedExceptions", "Ljava/util/List;", false)
  | 3 => ("java/lang/Throwable", "detailMessage", "Ljava/lang/String;", false)
  | 4 => ("java/lang/Throwable", "backtrace", "Ljava/lang/Object;", false)
  | _ => ("java/lang/Throwable", "depth", "I", false)
def tyJ31 : Nat → FieldType := fun k => match k with
  | 0 => .object "java/lang/Throwable"
  | 1 => .array (.object "java/lang/StackTraceElement")
  | 2 => .object "java/util/List"
  | 3 => .object "java/lang/String"
  | 4 => .object "java/lang/Object"
  | _ => .int
abbrev wsJ310 : List Cond := u_ws RJ31 TJ31 6
theorem nmJ31 : ∀ a, a < 6 → ∀ b, b < 6 → a ≠ b → (TJ31 a).2.1 ≠ (TJ31 b).2.1 := by decide +kernel
theorem tyJ31_ok : ∀ k, k < 6 → parseFieldDescriptor (TJ31 k).2.2.1 = some (tyJ31 k) := by decide +kernel
theorem in_J31 : ∀ w ∈ wsJ310, w ∈ lw_all := lw_in wsJ310 [1366, 1368, 1370, 1372, 1374, 1489] (by decide +kernel) (by decide +kernel)
def RJ39 : String := "java/lang/IllegalStateException"
def TJ39 : u_T := fun k => match k with
  | 0 => ("java/lang/Throwable", "cause", "Ljava/lang/Throwable;", false)
  | 1 => ("java/lang/Throwable", "stackTrace", "[Ljava/lang/StackTraceElement;", false)
  | 2 => ("java/lang/Throwable", "suppressedExceptions", "Ljava/util/List;", false)
  | 3 => ("java/lang/Throwable", "detailMessage", "Ljava/lang/String;", false)
  | 4 => ("java/lang/Throwable", "backtrace", "Ljava/lang/Object;", false)
  | _ => ("java/lang/Throwable", "depth", "I", false)
def tyJ39 : Nat → FieldType := fun k => match k with
  | 0 => .object "java/lang/Throwable"
  | 1 => .array (.object "java/lang/StackTraceElement")
  | 2 => .object "java/util/List"
  | 3 => .object "java/lang/String"
  | 4 => .object "java/lang/Object"
  | _ => .int
abbrev wsJ390 : List Cond := u_ws RJ39 TJ39 6
theorem nmJ39 : ∀ a, a < 6 → ∀ b, b < 6 → a ≠ b → (TJ39 a).2.1 ≠ (TJ39 b).2.1 := by decide +kernel
theorem tyJ39_ok : ∀ k, k < 6 → parseFieldDescriptor (TJ39 k).2.2.1 = some (tyJ39 k) := by decide +kernel
theorem in_J39 : ∀ w ∈ wsJ390, w ∈ lw_all := lw_in wsJ390 [2679, 2680, 2681, 2682, 2683, 2688] (by decide +kernel) (by decide +kernel)
def RJ36 : String := "java/util/NoSuchElementException"
def TJ36 : u_T := fun k => match k with
  | 0 => ("java/lang/Throwable", "cause", "Ljava/lang/Throwable;", false)
  | 1 => ("java/lang/Throwable", "stackTrace", "[Ljava/lang/StackTraceElement;", false)
  | 2 => ("java/lang/Throwable", "suppressedExceptions", "Ljava/util/List;", false)
  | 3 => ("java/lang/Throwable", "detailMessage", "Ljava/lang/String;", false)
  | 4 => ("java/lang/Throwable", "backtrace", "Ljava/lang/Object;", false)
  | _ => ("java/lang/Throwable", "depth", "I", false)
def tyJ36 : Nat → FieldType := fun k => match k with
  | 0 => .object "java/lang/Throwable"
  | 1 => .array (.object "java/lang/StackTraceElement")
  | 2 => .object "java/util/List"
  | 3 => .object "java/lang/String"
  | 4 => .object "java/lang/Object"
  | _ => .int
abbrev wsJ360 : List Cond := u_ws RJ36 TJ36 6
theorem nmJ36 : ∀ a, a < 6 → ∀ b, b < 6 → a ≠ b → (TJ36 a).2.1 ≠ (TJ36 b).2.1 := by decide +kernel
theorem tyJ36_ok : ∀ k, k < 6 → parseFieldDescriptor (TJ36 k).2.2.1 = some (tyJ36 k) := by decide +kernel
theorem in_J36 : ∀ w ∈ wsJ360, w ∈ lw_all := lw_in wsJ360 [2354, 2355, 2356, 2357, 2358, 2363] (by decide +kernel) (by decide +kernel)
def cT (t : Nat) : u_T := match t with
  | 1 => TX1
  | 5 => TX3
  | 6 => TX4
  | 7 => TX5
  | 8 => TX6
  | 9 => TX7
  | 10 => TX8
  | 11 => TX9
  | 12 => TX10
  | 13 => TJ3
  | 14 => TJ5
  | 15 => TJ6
  | 16 => TJ9
  | 17 => TJ14
  | 18 => TJ19
  | 19 => TJ26
  | 20 => TJ27
  | 21 => TJ34
  | 22 => TJ38
  | 23 => TJ32
  | 24 => TJ31
  | 25 => TJ39
  | 26 => TJ36
  | _ => fun _ => ("java/lang/Enum", "ordinal", "I", true)
def cTy (t : Nat) : Nat → FieldType := match t with
  | 1 => tyX1
  | 5 => tyX3
  | 6 => tyX4
  | 7 => tyX5
  | 8 => tyX6
  | 9 => tyX7
  | 10 => tyX8
  | 11 => tyX9
  | 12 => tyX10
  | 13 => tyJ3
  | 14 => tyJ5
  | 15 => tyJ6
  | 16 => tyJ9
  | 17 => tyJ14
  | 18 => tyJ19
  | 19 => tyJ26
  | 20 => tyJ27
  | 21 => tyJ34
  | 22 => tyJ38
  | 23 => tyJ32
  | 24 => tyJ31
  | 25 => tyJ39
  | 26 => tyJ36
  | _ => fun _ => .int
def cL (t : Nat) : Nat := match t with
  | 1 => 13
  | 5 => 13
  | 6 => 26
  | 7 => 5
  | 8 => 42
  | 9 => 9
  | 10 => 8
  | 11 => 5
  | 12 => 1
  | 13 => 3
  | 14 => 4
  | 15 => 4
  | 16 => 9
  | 17 => 1
  | 18 => 6
  | 19 => 2
  | 20 => 3
  | 21 => 4
  | 22 => 4
  | 23 => 0
  | 24 => 0
  | 25 => 0
  | 26 => 0
  | _ => 1
def sRef : List (Nat × String × String × String) := [(2, "BallotBus$Tally", "$VALUES", "[LBallotBus$Tally;"), (22, "BallotBus$Tally", "BY_POINTS", "LBallotBus$Tally;"), (23, "java/util/ArrayList", "DEFAULTCAPACITY_EMPTY_ELEMENTDATA", "[Ljava/lang/Object;"), (31, "java/lang/Integer$IntegerCache", "cache", "[Ljava/lang/Integer;"), (32, "java/lang/Integer", "DigitOnes", "[B"), (33, "java/lang/Integer", "DigitTens", "[B"), (34, "java/util/ImmutableCollections", "EMPTY_LIST", "Ljava/util/ImmutableCollections$ListN;")]
def sQ : List (Nat × String × String × String) := [(24, "jdk/internal/util/Preconditions", "SIOOBE_FORMATTER", "Ljava/util/function/BiFunction;"), (38, "java/lang/Throwable", "UNASSIGNED_STACK", "[Ljava/lang/StackTraceElement;"), (39, "java/lang/Throwable", "SUPPRESSED_SENTINEL", "Ljava/util/List;")]
def sMir : List (Nat × String) := [(26, "[Ljava/lang/Object;")]
def jcI : Nat := 31
def sStr : List (Nat × String × Nat × String) := [(0, "BallotBus", 66, "a"),
  (1, "BallotBus", 470, " > "),
  (3, "BallotBusModel", 379, "class short rich owing asker credits weight tally points firsts pairs turn round veto line silence ask "),
  (4, "BallotBus$Parser", 17, "class"),
  (5, "BallotBus$Parser", 19, "asker"),
  (6, "BallotBus$Parser", 21, "tally"),
  (7, "BallotBus$Parser", 23, "turn"),
  (8, "BallotBus$Parser", 25, "round"),
  (9, "BallotBus$Parser", 27, "veto"),
  (10, "BallotBus$Parser", 29, "line"),
  (11, "BallotBus$Parser", 31, "silence"),
  (12, "BallotBus$Parser", 33, "ask"),
  (13, "BallotBus$Parser", 35, "short"),
  (14, "BallotBus$Parser", 37, "rich"),
  (15, "BallotBus$Parser", 39, "owing"),
  (16, "BallotBus$Parser", 41, "credits"),
  (17, "BallotBus$Parser", 43, "weight"),
  (18, "BallotBus$Parser", 45, "points"),
  (19, "BallotBus$Parser", 47, "firsts"),
  (20, "BallotBus$Parser", 49, "pairs"),
  (21, "BallotBus$Parser", 75, ""),
  (25, "jdk/internal/util/ArraysSupport", 92, "unrecognized basic type: "),
  (27, "java/util/Arrays", 337, " > "),
  (28, "java/util/Arrays", 48, "fromIndex("),
  (29, "java/util/Arrays", 57, ") > toIndex("),
  (30, "java/util/Arrays", 59, ")"),
  (35, "java/util/ImmutableCollections$AbstractImmutableList", 116, "Index: "),
  (36, "java/util/ImmutableCollections$AbstractImmutableList", 118, " Size: "),
  (37, "java/util/BitSet", 153, "bitIndex < 0: ")]
def sInt : List (String × String × String × Int32) := [("java/lang/Integer$IntegerCache", "high", "I", 127), ("java/lang/StringUTF16", "HI_BYTE_SHIFT", "I", 0), ("java/lang/StringUTF16", "LO_BYTE_SHIFT", "I", 8), ("java/lang/String", "COMPACT_STRINGS", "Z", 1), ("java/util/BitSet", "$assertionsDisabled", "Z", 1), ("java/lang/StringUTF16", "$assertionsDisabled", "Z", 1)]
def tkC : List (String × String) := [("BallotBus", "java/lang/Object"), ("BallotBus$Bus", "java/lang/Object"), ("BallotBus$ByMeasure", "java/lang/Object"), ("BallotBus$ByMeasure", "java/util/Comparator"), ("BallotBus$Measure", "java/lang/Object"), ("BallotBus$ParseException", "BallotBus$ParseException"), ("BallotBus$ParseException", "java/lang/Object"), ("BallotBus$Parser", "java/lang/Object"), ("BallotBus$Request", "java/lang/Object"), ("BallotBus$Setup", "java/lang/Object"), ("BallotBus$Sheet", "java/lang/Object"), ("BallotBus$Tally", "java/lang/Object"), ("BallotBus$Tally$1", "BallotBus$Tally"), ("BallotBus$Tally$1", "java/lang/Comparable"), ("BallotBus$Tally$1", "java/lang/Enum"), ("BallotBus$Tally$1", "java/lang/Object"), ("BallotBus$Tally$2", "BallotBus$Tally"), ("BallotBus$Tally$2", "java/lang/Comparable"), ("BallotBus$Tally$2", "java/lang/Enum"), ("BallotBus$Tally$2", "java/lang/Object"), ("BallotBus$Tally$3", "BallotBus$Tally"), ("BallotBus$Tally$3", "java/lang/Comparable"), ("BallotBus$Tally$3", "java/lang/Enum"), ("BallotBus$Tally$3", "java/lang/Object"), ("BallotBusModel", "java/lang/Object"), ("[B", "java/lang/Cloneable"), ("[B", "java/lang/Object"), ("[D", "java/lang/Object"), ("[I", "java/lang/Object"), ("[J", "java/lang/Cloneable"), ("[J", "java/lang/Object"), ("[LBallotBus$Measure;", "java/lang/Object"), ("[LBallotBus$Tally;", "java/lang/Cloneable"), ("[LBallotBus$Tally;", "java/lang/Object"), ("[Ljava/lang/Object;", "java/lang/Object"), ("[Ljava/lang/String;", "java/lang/Object"), ("java/lang/ArrayIndexOutOfBoundsException", "java/lang/ArrayIndexOutOfBoundsException"), ("java/lang/ArrayIndexOutOfBoundsException", "java/lang/IndexOutOfBoundsException"), ("java/lang/ArrayIndexOutOfBoundsException", "java/lang/Object"), ("java/lang/IllegalArgumentException", "java/lang/IllegalArgumentException"), ("java/lang/IllegalArgumentException", "java/lang/Object"), ("java/lang/IllegalStateException", "java/lang/IllegalStateException"), ("java/lang/IllegalStateException", "java/lang/Object"), ("java/lang/IndexOutOfBoundsException", "java/lang/IndexOutOfBoundsException"), ("java/lang/IndexOutOfBoundsException", "java/lang/Object"), ("java/lang/Integer", "java/lang/Comparable"), ("java/lang/Integer", "java/lang/Object"), ("java/lang/String", "java/lang/Comparable"), ("java/lang/String", "java/lang/Object"), ("java/lang/StringBuilder", "java/lang/Comparable"), ("java/lang/StringBuilder", "java/lang/Object"), ("java/lang/StringIndexOutOfBoundsException", "java/lang/IndexOutOfBoundsException"), ("java/lang/StringIndexOutOfBoundsException", "java/lang/Object"), ("java/lang/System$2", "java/lang/Object"), ("java/lang/System$2", "jdk/internal/access/JavaLangAccess"), ("java/lang/Throwable", "java/lang/Object"), ("java/util/ArrayList", "java/lang/Object"), ("java/util/ArrayList", "java/util/Collection"), ("java/util/ArrayList", "java/util/List"), ("java/util/ArrayList$Itr", "java/lang/Object"), ("java/util/ArrayList$Itr", "java/util/Iterator"), ("java/util/BitSet", "java/lang/Object"), ("java/util/ImmutableCollections$List12", "java/lang/Object"), ("java/util/ImmutableCollections$List12", "java/util/Collection"), ("java/util/ImmutableCollections$List12", "java/util/List"), ("java/util/ImmutableCollections$ListItr", "java/lang/Object"), ("java/util/ImmutableCollections$ListItr", "java/util/Iterator"), ("java/util/ImmutableCollections$ListN", "java/lang/Object"), ("java/util/ImmutableCollections$ListN", "java/util/Collection"), ("java/util/ImmutableCollections$ListN", "java/util/List"), ("java/util/NoSuchElementException", "java/lang/Object"), ("java/util/NoSuchElementException", "java/util/NoSuchElementException"), ("java/util/PriorityQueue", "java/lang/Object"), ("java/util/PriorityQueue", "java/util/Collection"), ("java/util/TreeMap", "java/lang/Object"), ("java/util/TreeMap$Entry", "java/lang/Object"), ("jdk/internal/misc/Unsafe", "java/lang/Object")]
def tkN : List (String × String) := [("BallotBus", "BallotBus$Measure"), ("BallotBus", "BallotBus$ParseException"), ("BallotBus", "BallotBus$Tally"), ("BallotBus", "[B"), ("BallotBus", "java/lang/IllegalArgumentException"), ("BallotBus", "java/lang/IllegalStateException"), ("BallotBus", "java/lang/IndexOutOfBoundsException"), ("BallotBus", "java/lang/Integer"), ("BallotBus", "java/lang/String"), ("BallotBus", "java/util/NoSuchElementException"), ("BallotBus$Bus", "BallotBus$Measure"), ("BallotBus$Bus", "BallotBus$ParseException"), ("BallotBus$Bus", "BallotBus$Tally"), ("BallotBus$Bus", "[B"), ("BallotBus$Bus", "java/lang/IllegalArgumentException"), ("BallotBus$Bus", "java/lang/IllegalStateException"), ("BallotBus$Bus", "java/lang/IndexOutOfBoundsException"), ("BallotBus$Bus", "java/lang/Integer"), ("BallotBus$Bus", "java/lang/String"), ("BallotBus$Bus", "java/util/NoSuchElementException"), ("BallotBus$ByMeasure", "BallotBus$Measure"), ("BallotBus$ByMeasure", "BallotBus$ParseException"), ("BallotBus$ByMeasure", "BallotBus$Tally"), ("BallotBus$ByMeasure", "[B"), ("BallotBus$ByMeasure", "java/lang/IllegalArgumentException"), ("BallotBus$ByMeasure", "java/lang/IllegalStateException"), ("BallotBus$ByMeasure", "java/lang/IndexOutOfBoundsException"), ("BallotBus$ByMeasure", "java/lang/Integer"), ("BallotBus$ByMeasure", "java/lang/String"), ("BallotBus$ByMeasure", "java/util/NoSuchElementException"), ("BallotBus$ParseException", "BallotBus$Measure"), ("BallotBus$ParseException", "BallotBus$Tally"), ("BallotBus$ParseException", "[B"), ("BallotBus$ParseException", "java/lang/IllegalArgumentException"), ("BallotBus$ParseException", "java/lang/IllegalStateException"), ("BallotBus$ParseException", "java/lang/IndexOutOfBoundsException"), ("BallotBus$ParseException", "java/lang/Integer"), ("BallotBus$ParseException", "java/lang/String"), ("BallotBus$ParseException", "java/util/NoSuchElementException"), ("BallotBus$Parser", "BallotBus$Measure"), ("BallotBus$Parser", "BallotBus$ParseException"), ("BallotBus$Parser", "BallotBus$Tally"), ("BallotBus$Parser", "[B"), ("BallotBus$Parser", "java/lang/IllegalArgumentException"), ("BallotBus$Parser", "java/lang/IllegalStateException"), ("BallotBus$Parser", "java/lang/IndexOutOfBoundsException"), ("BallotBus$Parser", "java/lang/Integer"), ("BallotBus$Parser", "java/lang/String"), ("BallotBus$Parser", "java/util/NoSuchElementException"), ("BallotBus$Request", "BallotBus$Measure"), ("BallotBus$Request", "BallotBus$ParseException"), ("BallotBus$Request", "BallotBus$Tally"), ("BallotBus$Request", "[B"), ("BallotBus$Request", "java/lang/IllegalArgumentException"), ("BallotBus$Request", "java/lang/IllegalStateException"), ("BallotBus$Request", "java/lang/IndexOutOfBoundsException"), ("BallotBus$Request", "java/lang/Integer"), ("BallotBus$Request", "java/lang/String"), ("BallotBus$Request", "java/util/NoSuchElementException"), ("BallotBus$Setup", "BallotBus$Measure"), ("BallotBus$Setup", "BallotBus$ParseException"), ("BallotBus$Setup", "BallotBus$Tally"), ("BallotBus$Setup", "[B"), ("BallotBus$Setup", "java/lang/IllegalArgumentException"), ("BallotBus$Setup", "java/lang/IllegalStateException"), ("BallotBus$Setup", "java/lang/IndexOutOfBoundsException"), ("BallotBus$Setup", "java/lang/Integer"), ("BallotBus$Setup", "java/lang/String"), ("BallotBus$Setup", "java/util/NoSuchElementException"), ("BallotBus$Sheet", "BallotBus$Measure"), ("BallotBus$Sheet", "BallotBus$ParseException"), ("BallotBus$Sheet", "BallotBus$Tally"), ("BallotBus$Sheet", "[B"), ("BallotBus$Sheet", "java/lang/IllegalArgumentException"), ("BallotBus$Sheet", "java/lang/IllegalStateException"), ("BallotBus$Sheet", "java/lang/IndexOutOfBoundsException"), ("BallotBus$Sheet", "java/lang/Integer"), ("BallotBus$Sheet", "java/lang/String"), ("BallotBus$Sheet", "java/util/NoSuchElementException"), ("BallotBus$Tally$1", "BallotBus$Measure"), ("BallotBus$Tally$1", "BallotBus$ParseException"), ("BallotBus$Tally$1", "[B"), ("BallotBus$Tally$1", "java/lang/IllegalArgumentException"), ("BallotBus$Tally$1", "java/lang/IllegalStateException"), ("BallotBus$Tally$1", "java/lang/IndexOutOfBoundsException"), ("BallotBus$Tally$1", "java/lang/Integer"), ("BallotBus$Tally$1", "java/lang/String"), ("BallotBus$Tally$1", "java/util/NoSuchElementException"), ("BallotBus$Tally$2", "BallotBus$Measure"), ("BallotBus$Tally$2", "BallotBus$ParseException"), ("BallotBus$Tally$2", "[B"), ("BallotBus$Tally$2", "java/lang/IllegalArgumentException"), ("BallotBus$Tally$2", "java/lang/IllegalStateException"), ("BallotBus$Tally$2", "java/lang/IndexOutOfBoundsException"), ("BallotBus$Tally$2", "java/lang/Integer"), ("BallotBus$Tally$2", "java/lang/String"), ("BallotBus$Tally$2", "java/util/NoSuchElementException"), ("BallotBus$Tally$3", "BallotBus$Measure"), ("BallotBus$Tally$3", "BallotBus$ParseException"), ("BallotBus$Tally$3", "[B"), ("BallotBus$Tally$3", "java/lang/IllegalArgumentException"), ("BallotBus$Tally$3", "java/lang/IllegalStateException"), ("BallotBus$Tally$3", "java/lang/IndexOutOfBoundsException"), ("BallotBus$Tally$3", "java/lang/Integer"), ("BallotBus$Tally$3", "java/lang/String"), ("BallotBus$Tally$3", "java/util/NoSuchElementException"), ("BallotBusModel", "BallotBus$Measure"), ("BallotBusModel", "BallotBus$ParseException"), ("BallotBusModel", "BallotBus$Tally"), ("BallotBusModel", "[B"), ("BallotBusModel", "java/lang/IllegalArgumentException"), ("BallotBusModel", "java/lang/IllegalStateException"), ("BallotBusModel", "java/lang/IndexOutOfBoundsException"), ("BallotBusModel", "java/lang/Integer"), ("BallotBusModel", "java/lang/String"), ("BallotBusModel", "java/util/NoSuchElementException"), ("[B", "java/lang/Integer"), ("[B", "java/lang/String"), ("[C", "[B"), ("[C", "java/lang/Integer"), ("[C", "java/lang/String"), ("[D", "[B"), ("[D", "java/lang/Integer"), ("[D", "java/lang/String"), ("[I", "[B"), ("[I", "java/lang/Integer"), ("[I", "java/lang/String"), ("[J", "[B"), ("[J", "java/lang/Integer"), ("[J", "java/lang/String"), ("[LBallotBus$Measure;", "[B"), ("[LBallotBus$Measure;", "java/lang/Integer"), ("[LBallotBus$Measure;", "java/lang/String"), ("[LBallotBus$Tally;", "[B"), ("[LBallotBus$Tally;", "java/lang/Integer"), ("[LBallotBus$Tally;", "java/lang/String"), ("[Ljava/lang/Object;", "[B"), ("[Ljava/lang/Object;", "java/lang/Integer"), ("[Ljava/lang/Object;", "java/lang/String"), ("[Ljava/lang/String;", "[B"), ("[Ljava/lang/String;", "java/lang/Integer"), ("[Ljava/lang/String;", "java/lang/String"), ("java/lang/IllegalArgumentException", "BallotBus$Measure"), ("java/lang/IllegalArgumentException", "BallotBus$ParseException"), ("java/lang/IllegalArgumentException", "BallotBus$Tally"), ("java/lang/IllegalArgumentException", "[B"), ("java/lang/IllegalArgumentException", "java/lang/IllegalStateException"), ("java/lang/IllegalArgumentException", "java/lang/IndexOutOfBoundsException"), ("java/lang/IllegalArgumentException", "java/lang/Integer"), ("java/lang/IllegalArgumentException", "java/lang/String"), ("java/lang/IllegalArgumentException", "java/util/NoSuchElementException"), ("java/lang/IllegalStateException", "BallotBus$Measure"), ("java/lang/IllegalStateException", "BallotBus$ParseException"), ("java/lang/IllegalStateException", "BallotBus$Tally"), ("java/lang/IllegalStateException", "[B"), ("java/lang/IllegalStateException", "java/lang/IllegalArgumentException"), ("java/lang/IllegalStateException", "java/lang/IndexOutOfBoundsException"), ("java/lang/IllegalStateException", "java/lang/Integer"), ("java/lang/IllegalStateException", "java/lang/String"), ("java/lang/IllegalStateException", "java/util/NoSuchElementException"), ("java/lang/IndexOutOfBoundsException", "BallotBus$Measure"), ("java/lang/IndexOutOfBoundsException", "BallotBus$ParseException"), ("java/lang/IndexOutOfBoundsException", "BallotBus$Tally"), ("java/lang/IndexOutOfBoundsException", "[B"), ("java/lang/IndexOutOfBoundsException", "java/lang/IllegalArgumentException"), ("java/lang/IndexOutOfBoundsException", "java/lang/IllegalStateException"), ("java/lang/IndexOutOfBoundsException", "java/lang/Integer"), ("java/lang/IndexOutOfBoundsException", "java/lang/String"), ("java/lang/IndexOutOfBoundsException", "java/util/NoSuchElementException"), ("java/lang/Integer", "BallotBus$Measure"), ("java/lang/Integer", "BallotBus$ParseException"), ("java/lang/Integer", "BallotBus$Tally"), ("java/lang/Integer", "[B"), ("java/lang/Integer", "java/lang/IllegalArgumentException"), ("java/lang/Integer", "java/lang/IllegalStateException"), ("java/lang/Integer", "java/lang/IndexOutOfBoundsException"), ("java/lang/Integer", "java/lang/String"), ("java/lang/Integer", "java/util/NoSuchElementException"), ("java/lang/String", "BallotBus$Measure"), ("java/lang/String", "BallotBus$ParseException"), ("java/lang/String", "BallotBus$Tally"), ("java/lang/String", "[B"), ("java/lang/String", "java/lang/IllegalArgumentException"), ("java/lang/String", "java/lang/IllegalStateException"), ("java/lang/String", "java/lang/IndexOutOfBoundsException"), ("java/lang/String", "java/lang/Integer"), ("java/lang/String", "java/util/NoSuchElementException"), ("java/lang/StringBuilder", "BallotBus$Measure"), ("java/lang/StringBuilder", "BallotBus$ParseException"), ("java/lang/StringBuilder", "BallotBus$Tally"), ("java/lang/StringBuilder", "[B"), ("java/lang/StringBuilder", "java/lang/IllegalArgumentException"), ("java/lang/StringBuilder", "java/lang/IllegalStateException"), ("java/lang/StringBuilder", "java/lang/IndexOutOfBoundsException"), ("java/lang/StringBuilder", "java/lang/Integer"), ("java/lang/StringBuilder", "java/lang/String"), ("java/lang/StringBuilder", "java/util/NoSuchElementException"), ("java/util/ArrayList", "BallotBus$Measure"), ("java/util/ArrayList", "BallotBus$ParseException"), ("java/util/ArrayList", "BallotBus$Tally"), ("java/util/ArrayList", "[B"), ("java/util/ArrayList", "java/lang/IllegalArgumentException"), ("java/util/ArrayList", "java/lang/IllegalStateException"), ("java/util/ArrayList", "java/lang/IndexOutOfBoundsException"), ("java/util/ArrayList", "java/lang/Integer"), ("java/util/ArrayList", "java/lang/String"), ("java/util/ArrayList", "java/util/NoSuchElementException"), ("java/util/ArrayList$Itr", "BallotBus$Measure"), ("java/util/ArrayList$Itr", "BallotBus$ParseException"), ("java/util/ArrayList$Itr", "BallotBus$Tally"), ("java/util/ArrayList$Itr", "[B"), ("java/util/ArrayList$Itr", "java/lang/IllegalArgumentException"), ("java/util/ArrayList$Itr", "java/lang/IllegalStateException"), ("java/util/ArrayList$Itr", "java/lang/IndexOutOfBoundsException"), ("java/util/ArrayList$Itr", "java/lang/Integer"), ("java/util/ArrayList$Itr", "java/lang/String"), ("java/util/ArrayList$Itr", "java/util/NoSuchElementException"), ("java/util/BitSet", "BallotBus$Measure"), ("java/util/BitSet", "BallotBus$ParseException"), ("java/util/BitSet", "BallotBus$Tally"), ("java/util/BitSet", "[B"), ("java/util/BitSet", "java/lang/IllegalArgumentException"), ("java/util/BitSet", "java/lang/IllegalStateException"), ("java/util/BitSet", "java/lang/IndexOutOfBoundsException"), ("java/util/BitSet", "java/lang/Integer"), ("java/util/BitSet", "java/lang/String"), ("java/util/BitSet", "java/util/NoSuchElementException"), ("java/util/ImmutableCollections$ListN", "BallotBus$Measure"), ("java/util/ImmutableCollections$ListN", "BallotBus$ParseException"), ("java/util/ImmutableCollections$ListN", "BallotBus$Tally"), ("java/util/ImmutableCollections$ListN", "[B"), ("java/util/ImmutableCollections$ListN", "java/lang/IllegalArgumentException"), ("java/util/ImmutableCollections$ListN", "java/lang/IllegalStateException"), ("java/util/ImmutableCollections$ListN", "java/lang/IndexOutOfBoundsException"), ("java/util/ImmutableCollections$ListN", "java/lang/Integer"), ("java/util/ImmutableCollections$ListN", "java/lang/String"), ("java/util/ImmutableCollections$ListN", "java/util/NoSuchElementException"), ("java/util/NoSuchElementException", "BallotBus$Measure"), ("java/util/NoSuchElementException", "BallotBus$ParseException"), ("java/util/NoSuchElementException", "BallotBus$Tally"), ("java/util/NoSuchElementException", "[B"), ("java/util/NoSuchElementException", "java/lang/IllegalArgumentException"), ("java/util/NoSuchElementException", "java/lang/IllegalStateException"), ("java/util/NoSuchElementException", "java/lang/IndexOutOfBoundsException"), ("java/util/NoSuchElementException", "java/lang/Integer"), ("java/util/NoSuchElementException", "java/lang/String"), ("java/util/PriorityQueue", "BallotBus$Measure"), ("java/util/PriorityQueue", "BallotBus$ParseException"), ("java/util/PriorityQueue", "BallotBus$Tally"), ("java/util/PriorityQueue", "[B"), ("java/util/PriorityQueue", "java/lang/IllegalArgumentException"), ("java/util/PriorityQueue", "java/lang/IllegalStateException"), ("java/util/PriorityQueue", "java/lang/IndexOutOfBoundsException"), ("java/util/PriorityQueue", "java/lang/Integer"), ("java/util/PriorityQueue", "java/lang/String"), ("java/util/PriorityQueue", "java/util/NoSuchElementException"), ("java/util/TreeMap", "BallotBus$Measure"), ("java/util/TreeMap", "BallotBus$ParseException"), ("java/util/TreeMap", "BallotBus$Tally"), ("java/util/TreeMap", "[B"), ("java/util/TreeMap", "java/lang/IllegalArgumentException"), ("java/util/TreeMap", "java/lang/IllegalStateException"), ("java/util/TreeMap", "java/lang/IndexOutOfBoundsException"), ("java/util/TreeMap", "java/lang/Integer"), ("java/util/TreeMap", "java/lang/String"), ("java/util/TreeMap", "java/util/NoSuchElementException"), ("java/util/TreeMap$Entry", "BallotBus$Measure"), ("java/util/TreeMap$Entry", "BallotBus$ParseException"), ("java/util/TreeMap$Entry", "BallotBus$Tally"), ("java/util/TreeMap$Entry", "[B"), ("java/util/TreeMap$Entry", "java/lang/IllegalArgumentException"), ("java/util/TreeMap$Entry", "java/lang/IllegalStateException"), ("java/util/TreeMap$Entry", "java/lang/IndexOutOfBoundsException"), ("java/util/TreeMap$Entry", "java/lang/Integer"), ("java/util/TreeMap$Entry", "java/lang/String"), ("java/util/TreeMap$Entry", "java/util/NoSuchElementException")]
def tkFN : List (String × Nat × String × String × String × String) := [("java/util/ArrayList$Itr", 28, "java/util/ArrayList", "size", "I", "java/util/ArrayList"), ("BallotBus$Parser", 162, "BallotBus$Setup", "classNames", "Ljava/util/TreeMap;", "BallotBus"), ("BallotBus", 204, "BallotBus$Setup", "classNames", "Ljava/util/TreeMap;", "BallotBus"), ("BallotBus$Parser", 181, "BallotBus$Setup", "askerNames", "Ljava/util/TreeMap;", "BallotBus"), ("BallotBus", 200, "BallotBus$Setup", "askerNames", "Ljava/util/TreeMap;", "BallotBus"), ("BallotBus", 475, "BallotBus$Setup", "printed", "Ljava/util/List;", "BallotBus"), ("BallotBus$Bus", 95, "BallotBus$Setup", "requests", "Ljava/util/List;", "BallotBus"), ("BallotBus$Parser", 192, "BallotBus$Setup", "requests", "Ljava/util/List;", "BallotBus"), ("BallotBus$Bus", 94, "BallotBus$Setup", "manners", "[I", "BallotBus"), ("BallotBus$Bus", 93, "BallotBus$Setup", "credits", "[I", "BallotBus"), ("BallotBus$Bus", 163, "BallotBus$Setup", "weights", "[I", "BallotBus"), ("BallotBus", 257, "BallotBus$Setup", "weights", "[I", "BallotBus"), ("BallotBus", 130, "BallotBus$Setup", "tally", "I", "BallotBus"), ("BallotBus$Parser", 224, "BallotBus$Setup", "tally", "I", "BallotBus"), ("BallotBus", 164, "BallotBus$Setup", "turn", "I", "BallotBus"), ("BallotBus$Parser", 244, "BallotBus$Setup", "turn", "I", "BallotBus"), ("BallotBus$Bus", 237, "BallotBus$Setup", "turn", "I", "BallotBus"), ("BallotBus", 167, "BallotBus$Setup", "round", "I", "BallotBus"), ("BallotBus$Parser", 246, "BallotBus$Setup", "round", "I", "BallotBus"), ("BallotBus$Bus", 231, "BallotBus$Setup", "round", "I", "BallotBus"), ("BallotBus", 170, "BallotBus$Setup", "veto", "I", "BallotBus"), ("BallotBus$Parser", 248, "BallotBus$Setup", "veto", "I", "BallotBus"), ("BallotBus$Bus", 252, "BallotBus$Setup", "veto", "I", "BallotBus"), ("BallotBus", 173, "BallotBus$Setup", "line", "I", "BallotBus"), ("BallotBus$Parser", 250, "BallotBus$Setup", "line", "I", "BallotBus"), ("BallotBus$Bus", 258, "BallotBus$Setup", "line", "I", "BallotBus"), ("BallotBus$Bus", 153, "BallotBus$Setup", "silence", "I", "BallotBus"), ("BallotBus", 176, "BallotBus$Setup", "silence", "I", "BallotBus"), ("BallotBus$Parser", 252, "BallotBus$Setup", "silence", "I", "BallotBus"), ("BallotBus$Tally$1", 7, "BallotBus$Sheet", "points", "[I", "BallotBus"), ("BallotBus", 360, "BallotBus$Sheet", "points", "[I", "BallotBus"), ("BallotBus$Tally$2", 15, "BallotBus$Sheet", "firsts", "[I", "BallotBus"), ("BallotBus", 365, "BallotBus$Sheet", "firsts", "[I", "BallotBus"), ("BallotBus$Tally$2", 9, "BallotBus$Sheet", "classes", "I", "BallotBus"), ("BallotBus$Tally", 32, "BallotBus$Sheet", "classes", "I", "BallotBus"), ("BallotBus", 375, "BallotBus$Sheet", "classes", "I", "BallotBus"), ("BallotBus$Bus", 174, "BallotBus$Sheet", "votes", "I", "BallotBus"), ("BallotBus", 377, "BallotBus$Sheet", "votes", "I", "BallotBus"), ("java/util/ImmutableCollections$List12", 19, "java/util/ImmutableCollections", "EMPTY", "Ljava/lang/Object;", "java/util/ImmutableCollections"), ("BallotBus", 85, "BallotBus$Bus", "setup", "LBallotBus$Setup;", "BallotBus"), ("BallotBus", 251, "BallotBus$Bus", "credits", "[I", "BallotBus"), ("BallotBus", 254, "BallotBus$Bus", "debts", "[I", "BallotBus"), ("BallotBus", 260, "BallotBus$Bus", "silence", "[I", "BallotBus"), ("BallotBus", 280, "BallotBus$Bus", "vetoes", "[I", "BallotBus"), ("BallotBus", 274, "BallotBus$Bus", "answered", "[I", "BallotBus"), ("BallotBus", 277, "BallotBus$Bus", "lengths", "[I", "BallotBus"), ("BallotBus", 309, "BallotBus$Bus", "ballots", "[I", "BallotBus"), ("BallotBus", 283, "BallotBus$Bus", "order", "[I", "BallotBus"), ("BallotBus", 289, "BallotBus$Bus", "manners", "[I", "BallotBus"), ("BallotBus", 292, "BallotBus$Bus", "kindAnswered", "[I", "BallotBus"), ("BallotBus", 415, "BallotBus$Bus", "kindWaits", "[I", "BallotBus"), ("BallotBus", 353, "BallotBus$Bus", "answers", "[I", "BallotBus"), ("BallotBus", 179, "BallotBus$Bus", "waiting", "Ljava/util/List;", "BallotBus"), ("BallotBus", 334, "BallotBus$Bus", "measures", "[LBallotBus$Measure;", "BallotBus"), ("BallotBus", 158, "BallotBus$Bus", "tally", "LBallotBus$Tally;", "BallotBus"), ("BallotBus", 322, "BallotBus$Bus", "current", "LBallotBus$Request;", "BallotBus"), ("BallotBus", 155, "BallotBus$Bus", "time", "I", "BallotBus"), ("BallotBus", 326, "BallotBus$Bus", "left", "I", "BallotBus"), ("BallotBus", 185, "BallotBus$Bus", "asked", "I", "BallotBus"), ("BallotBus", 182, "BallotBus$Bus", "answeredMany", "I", "BallotBus"), ("BallotBus", 194, "BallotBus$Bus", "votings", "I", "BallotBus"), ("BallotBus", 188, "BallotBus$Bus", "turnOf", "I", "BallotBus"), ("BallotBus", 191, "BallotBus$Bus", "vetoed", "I", "BallotBus"), ("BallotBus", 266, "BallotBus$Bus", "hasCast", "Z", "BallotBus"), ("BallotBus$Parser", 88, "BallotBus", "buffer", "[B", "BallotBus"), ("BallotBus$Parser", 84, "BallotBus", "length", "I", "BallotBus"), ("BallotBus", 144, "BallotBus$ParseException", "code", "I", "BallotBus"), ("BallotBus", 147, "BallotBus$ParseException", "offset", "I", "BallotBus"), ("BallotBus$ByMeasure", 25, "BallotBus$Request", "serial", "I", "BallotBus"), ("BallotBus$Bus", 214, "BallotBus$Request", "serial", "I", "BallotBus"), ("BallotBus", 306, "BallotBus$Request", "serial", "I", "BallotBus"), ("BallotBus$Bus", 227, "BallotBus$Request", "asker", "I", "BallotBus"), ("BallotBus", 242, "BallotBus$Request", "asker", "I", "BallotBus"), ("BallotBus$Bus", 198, "BallotBus$Request", "kind", "I", "BallotBus"), ("BallotBus", 245, "BallotBus$Request", "kind", "I", "BallotBus"), ("BallotBus$Bus", 211, "BallotBus$Request", "length", "I", "BallotBus"), ("BallotBus", 321, "BallotBus$Request", "length", "I", "BallotBus"), ("BallotBus$Bus", 230, "BallotBus$Request", "asked", "I", "BallotBus"), ("BallotBus", 329, "BallotBus$Request", "asked", "I", "BallotBus")]
def tkMN : List (String × Nat × MethodName × String) := [("BallotBus", 65, ⟨"BallotBus$Setup", "<init>", "()V"⟩, "BallotBus"), ("java/util/ImmutableCollections", 43, ⟨"java/util/ImmutableCollections$ListN", "<init>", "([Ljava/lang/Object;Z)V"⟩, "java/util/ImmutableCollections"), ("BallotBus$Parser", 63, ⟨"BallotBus$Setup", "<init>", "()V"⟩, "BallotBus"), ("BallotBus$Parser", 108, ⟨"BallotBus", "inRange", "(III)Z"⟩, "BallotBus"), ("BallotBus$Bus", 188, ⟨"BallotBus", "inRange", "(III)Z"⟩, "BallotBus")]
def tkAO : List String := ["BallotBus$Tally", "java/lang/Object", "BallotBus$Measure", "java/lang/String"]
def tkF : List (String × MethodName × MethodName) := [("BallotBus$Tally$1", ⟨"java/lang/Comparable", "compareTo", "(Ljava/lang/Object;)I"⟩, ⟨"java/lang/Enum", "compareTo", "(Ljava/lang/Object;)I"⟩), ("BallotBus$Tally$2", ⟨"java/lang/Comparable", "compareTo", "(Ljava/lang/Object;)I"⟩, ⟨"java/lang/Enum", "compareTo", "(Ljava/lang/Object;)I"⟩), ("BallotBus$Tally$3", ⟨"java/lang/Comparable", "compareTo", "(Ljava/lang/Object;)I"⟩, ⟨"java/lang/Enum", "compareTo", "(Ljava/lang/Object;)I"⟩), ("java/lang/Integer", ⟨"java/lang/Comparable", "compareTo", "(Ljava/lang/Object;)I"⟩, ⟨"java/lang/Integer", "compareTo", "(Ljava/lang/Object;)I"⟩), ("java/lang/String", ⟨"java/lang/Comparable", "compareTo", "(Ljava/lang/Object;)I"⟩, ⟨"java/lang/String", "compareTo", "(Ljava/lang/Object;)I"⟩), ("java/lang/StringBuilder", ⟨"java/lang/Comparable", "compareTo", "(Ljava/lang/Object;)I"⟩, ⟨"java/lang/StringBuilder", "compareTo", "(Ljava/lang/Object;)I"⟩), ("java/util/ArrayList", ⟨"java/util/Collection", "toArray", "()[Ljava/lang/Object;"⟩, ⟨"java/util/ArrayList", "toArray", "()[Ljava/lang/Object;"⟩), ("java/util/ImmutableCollections$List12", ⟨"java/util/Collection", "toArray", "()[Ljava/lang/Object;"⟩, ⟨"java/util/ImmutableCollections$List12", "toArray", "()[Ljava/lang/Object;"⟩), ("java/util/ImmutableCollections$ListN", ⟨"java/util/Collection", "toArray", "()[Ljava/lang/Object;"⟩, ⟨"java/util/ImmutableCollections$ListN", "toArray", "()[Ljava/lang/Object;"⟩), ("java/util/PriorityQueue", ⟨"java/util/Collection", "toArray", "()[Ljava/lang/Object;"⟩, ⟨"java/util/PriorityQueue", "toArray", "()[Ljava/lang/Object;"⟩), ("BallotBus$ByMeasure", ⟨"java/util/Comparator", "compare", "(Ljava/lang/Object;Ljava/lang/Object;)I"⟩, ⟨"BallotBus$ByMeasure", "compare", "(Ljava/lang/Object;Ljava/lang/Object;)I"⟩), ("java/util/ArrayList$Itr", ⟨"java/util/Iterator", "hasNext", "()Z"⟩, ⟨"java/util/ArrayList$Itr", "hasNext", "()Z"⟩), ("java/util/ImmutableCollections$ListItr", ⟨"java/util/Iterator", "hasNext", "()Z"⟩, ⟨"java/util/ImmutableCollections$ListItr", "hasNext", "()Z"⟩), ("java/util/ArrayList$Itr", ⟨"java/util/Iterator", "next", "()Ljava/lang/Object;"⟩, ⟨"java/util/ArrayList$Itr", "next", "()Ljava/lang/Object;"⟩), ("java/util/ImmutableCollections$ListItr", ⟨"java/util/Iterator", "next", "()Ljava/lang/Object;"⟩, ⟨"java/util/ImmutableCollections$ListItr", "next", "()Ljava/lang/Object;"⟩), ("java/util/ArrayList", ⟨"java/util/List", "add", "(Ljava/lang/Object;)Z"⟩, ⟨"java/util/ArrayList", "add", "(Ljava/lang/Object;)Z"⟩), ("java/util/ImmutableCollections$List12", ⟨"java/util/List", "add", "(Ljava/lang/Object;)Z"⟩, ⟨"java/util/ImmutableCollections$AbstractImmutableCollection", "add", "(Ljava/lang/Object;)Z"⟩), ("java/util/ImmutableCollections$ListN", ⟨"java/util/List", "add", "(Ljava/lang/Object;)Z"⟩, ⟨"java/util/ImmutableCollections$AbstractImmutableCollection", "add", "(Ljava/lang/Object;)Z"⟩), ("java/util/ArrayList", ⟨"java/util/List", "addAll", "(Ljava/util/Collection;)Z"⟩, ⟨"java/util/ArrayList", "addAll", "(Ljava/util/Collection;)Z"⟩), ("java/util/ImmutableCollections$List12", ⟨"java/util/List", "addAll", "(Ljava/util/Collection;)Z"⟩, ⟨"java/util/ImmutableCollections$AbstractImmutableCollection", "addAll", "(Ljava/util/Collection;)Z"⟩), ("java/util/ImmutableCollections$ListN", ⟨"java/util/List", "addAll", "(Ljava/util/Collection;)Z"⟩, ⟨"java/util/ImmutableCollections$AbstractImmutableCollection", "addAll", "(Ljava/util/Collection;)Z"⟩), ("java/util/ArrayList", ⟨"java/util/List", "clear", "()V"⟩, ⟨"java/util/ArrayList", "clear", "()V"⟩), ("java/util/ImmutableCollections$List12", ⟨"java/util/List", "clear", "()V"⟩, ⟨"java/util/ImmutableCollections$AbstractImmutableCollection", "clear", "()V"⟩), ("java/util/ImmutableCollections$ListN", ⟨"java/util/List", "clear", "()V"⟩, ⟨"java/util/ImmutableCollections$AbstractImmutableCollection", "clear", "()V"⟩), ("java/util/ArrayList", ⟨"java/util/List", "contains", "(Ljava/lang/Object;)Z"⟩, ⟨"java/util/ArrayList", "contains", "(Ljava/lang/Object;)Z"⟩), ("java/util/ImmutableCollections$List12", ⟨"java/util/List", "contains", "(Ljava/lang/Object;)Z"⟩, ⟨"java/util/ImmutableCollections$AbstractImmutableList", "contains", "(Ljava/lang/Object;)Z"⟩), ("java/util/ImmutableCollections$ListN", ⟨"java/util/List", "contains", "(Ljava/lang/Object;)Z"⟩, ⟨"java/util/ImmutableCollections$AbstractImmutableList", "contains", "(Ljava/lang/Object;)Z"⟩), ("java/util/ArrayList", ⟨"java/util/List", "get", "(I)Ljava/lang/Object;"⟩, ⟨"java/util/ArrayList", "get", "(I)Ljava/lang/Object;"⟩), ("java/util/ImmutableCollections$List12", ⟨"java/util/List", "get", "(I)Ljava/lang/Object;"⟩, ⟨"java/util/ImmutableCollections$List12", "get", "(I)Ljava/lang/Object;"⟩), ("java/util/ImmutableCollections$ListN", ⟨"java/util/List", "get", "(I)Ljava/lang/Object;"⟩, ⟨"java/util/ImmutableCollections$ListN", "get", "(I)Ljava/lang/Object;"⟩), ("java/util/ArrayList", ⟨"java/util/List", "indexOf", "(Ljava/lang/Object;)I"⟩, ⟨"java/util/ArrayList", "indexOf", "(Ljava/lang/Object;)I"⟩), ("java/util/ImmutableCollections$List12", ⟨"java/util/List", "indexOf", "(Ljava/lang/Object;)I"⟩, ⟨"java/util/ImmutableCollections$List12", "indexOf", "(Ljava/lang/Object;)I"⟩), ("java/util/ImmutableCollections$ListN", ⟨"java/util/List", "indexOf", "(Ljava/lang/Object;)I"⟩, ⟨"java/util/ImmutableCollections$ListN", "indexOf", "(Ljava/lang/Object;)I"⟩), ("java/util/ArrayList", ⟨"java/util/List", "isEmpty", "()Z"⟩, ⟨"java/util/ArrayList", "isEmpty", "()Z"⟩), ("java/util/ImmutableCollections$List12", ⟨"java/util/List", "isEmpty", "()Z"⟩, ⟨"java/util/ImmutableCollections$List12", "isEmpty", "()Z"⟩), ("java/util/ImmutableCollections$ListN", ⟨"java/util/List", "isEmpty", "()Z"⟩, ⟨"java/util/ImmutableCollections$ListN", "isEmpty", "()Z"⟩), ("java/util/ArrayList", ⟨"java/util/List", "iterator", "()Ljava/util/Iterator;"⟩, ⟨"java/util/ArrayList", "iterator", "()Ljava/util/Iterator;"⟩), ("java/util/ImmutableCollections$List12", ⟨"java/util/List", "iterator", "()Ljava/util/Iterator;"⟩, ⟨"java/util/ImmutableCollections$AbstractImmutableList", "iterator", "()Ljava/util/Iterator;"⟩), ("java/util/ImmutableCollections$ListN", ⟨"java/util/List", "iterator", "()Ljava/util/Iterator;"⟩, ⟨"java/util/ImmutableCollections$AbstractImmutableList", "iterator", "()Ljava/util/Iterator;"⟩), ("java/util/ArrayList", ⟨"java/util/List", "remove", "(I)Ljava/lang/Object;"⟩, ⟨"java/util/ArrayList", "remove", "(I)Ljava/lang/Object;"⟩), ("java/util/ImmutableCollections$List12", ⟨"java/util/List", "remove", "(I)Ljava/lang/Object;"⟩, ⟨"java/util/ImmutableCollections$AbstractImmutableList", "remove", "(I)Ljava/lang/Object;"⟩), ("java/util/ImmutableCollections$ListN", ⟨"java/util/List", "remove", "(I)Ljava/lang/Object;"⟩, ⟨"java/util/ImmutableCollections$AbstractImmutableList", "remove", "(I)Ljava/lang/Object;"⟩), ("java/util/ArrayList", ⟨"java/util/List", "size", "()I"⟩, ⟨"java/util/ArrayList", "size", "()I"⟩), ("java/util/ImmutableCollections$List12", ⟨"java/util/List", "size", "()I"⟩, ⟨"java/util/ImmutableCollections$List12", "size", "()I"⟩), ("java/util/ImmutableCollections$ListN", ⟨"java/util/List", "size", "()I"⟩, ⟨"java/util/ImmutableCollections$ListN", "size", "()I"⟩), ("java/lang/System$2", ⟨"jdk/internal/access/JavaLangAccess", "getUTF16Char", "([BI)C"⟩, ⟨"java/lang/System$2", "getUTF16Char", "([BI)C"⟩)]
def tkD : List MethodName := [⟨"java/util/List", "add", "(Ljava/lang/Object;)Z"⟩, ⟨"java/lang/Comparable", "compareTo", "(Ljava/lang/Object;)I"⟩, ⟨"java/util/Comparator", "compare", "(Ljava/lang/Object;Ljava/lang/Object;)I"⟩, ⟨"BallotBus$Measure", "of", "(LBallotBus$Request;)I"⟩, ⟨"java/util/List", "addAll", "(Ljava/util/Collection;)Z"⟩, ⟨"java/util/Collection", "toArray", "()[Ljava/lang/Object;"⟩, ⟨"java/util/List", "size", "()I"⟩, ⟨"java/lang/RuntimeException", "<init>", "()V"⟩, ⟨"java/lang/RuntimeException", "<init>", "(Ljava/lang/String;)V"⟩, ⟨"java/lang/Exception", "<init>", "()V"⟩, ⟨"java/lang/Exception", "<init>", "(Ljava/lang/String;)V"⟩, ⟨"java/lang/Throwable", "<init>", "()V"⟩, ⟨"java/lang/Throwable", "<init>", "(Ljava/lang/String;)V"⟩, ⟨"jdk/internal/access/JavaLangAccess", "getUTF16Char", "([BI)C"⟩, ⟨"java/util/List", "contains", "(Ljava/lang/Object;)Z"⟩, ⟨"java/lang/Object", "equals", "(Ljava/lang/Object;)Z"⟩, ⟨"java/util/List", "indexOf", "(Ljava/lang/Object;)I"⟩, ⟨"java/util/List", "clear", "()V"⟩, ⟨"java/lang/Enum", "ordinal", "()I"⟩, ⟨"BallotBus$Tally", "more", "(LBallotBus$Sheet;II)I"⟩, ⟨"java/util/List", "get", "(I)Ljava/lang/Object;"⟩, ⟨"java/util/ImmutableCollections$AbstractImmutableList", "outOfBounds", "(I)Ljava/lang/IndexOutOfBoundsException;"⟩, ⟨"java/util/AbstractCollection", "size", "()I"⟩, ⟨"java/util/List", "remove", "(I)Ljava/lang/Object;"⟩, ⟨"java/lang/IndexOutOfBoundsException", "<init>", "()V"⟩, ⟨"java/lang/IndexOutOfBoundsException", "<init>", "(Ljava/lang/String;)V"⟩, ⟨"java/util/List", "iterator", "()Ljava/util/Iterator;"⟩, ⟨"java/util/Iterator", "hasNext", "()Z"⟩, ⟨"java/util/Iterator", "next", "()Ljava/lang/Object;"⟩, ⟨"java/util/AbstractQueue", "remove", "()Ljava/lang/Object;"⟩, ⟨"java/util/Queue", "poll", "()Ljava/lang/Object;"⟩, ⟨"BallotBus$Trial", "with", "([I)V"⟩, ⟨"java/util/List", "isEmpty", "()Z"⟩, ⟨"java/lang/Object", "getClass", "()Ljava/lang/Class;"⟩]
def tkP : List MethodName := [⟨"java/lang/AbstractStringBuilder", "appendNull", "()Ljava/lang/AbstractStringBuilder;"⟩, ⟨"java/lang/AbstractStringBuilder", "ensureCapacityInternal", "(I)V"⟩, ⟨"java/lang/AbstractStringBuilder", "inflate", "()V"⟩, ⟨"java/lang/AbstractStringBuilder", "inflateIfNeededFor", "(Ljava/lang/String;)V"⟩, ⟨"java/lang/AbstractStringBuilder", "newCapacity", "(I)I"⟩, ⟨"java/lang/AbstractStringBuilder", "putStringAt", "(ILjava/lang/String;)V"⟩]
def tkW : List Cond := [.methodLink "java/util/ImmutableCollections$AbstractImmutableList" 107 ⟨"java/util/ImmutableCollections$AbstractImmutableList", "indexOf", "(Ljava/lang/Object;)I"⟩, .sameMethod "java/util/ImmutableCollections$AbstractImmutableList" "java/util/List" "indexOf" "(Ljava/lang/Object;)I", .methodLink "java/util/AbstractQueue" 20 ⟨"java/util/AbstractQueue", "poll", "()Ljava/lang/Object;"⟩, .sameMethod "java/util/AbstractQueue" "java/util/Queue" "poll" "()Ljava/lang/Object;"]
