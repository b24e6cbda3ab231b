/-! THE COMPONENT's WORLD: classes by number, an abstract heap, its picture (gen/aworld.py) -/
set_option maxRecDepth 100000
def kN0 : String := "LateAndEarly"
def kT0 : u_T := fun k => match k with
  | 0 => ("LateAndEarly", "tape", "[B", true)
  | 1 => ("LateAndEarly", "taped", "I", false)
  | 2 => ("LateAndEarly", "begins", "[I", true)
  | 3 => ("LateAndEarly", "places", "[LLateAndEarly$Routine;", true)
  | 4 => ("LateAndEarly", "wrong", "I", false)
  | 5 => ("LateAndEarly", "ran", "LLateAndEarly$Run;", false)
  | _ => ("LateAndEarly", "text", "LLateAndEarly$Text;", true)
def kY0 : Nat → FieldType := fun k => match k with
  | 0 => .array (.byte)
  | 1 => .int
  | 2 => .array (.int)
  | 3 => .array (.object "LateAndEarly$Routine")
  | 4 => .int
  | 5 => .object "LateAndEarly$Run"
  | _ => .object "LateAndEarly$Text"
theorem kI0 : ∀ w ∈ u_ws kN0 kT0 7, w ∈ lw_all := lw_in _ [216, 218, 220, 222, 224, 226, 228] (by decide +kernel) (by decide +kernel)
theorem kM0 : ∀ a, a < 7 → ∀ b, b < 7 → a ≠ b → (kT0 a).2.1 ≠ (kT0 b).2.1 := by decide +kernel
theorem kO0 : ∀ k, k < 7 → parseFieldDescriptor (kT0 k).2.2.1 = some (kY0 k) := by decide +kernel
def kN1 : String := "LateAndEarly$Text"
def kT1 : u_T := fun k => match k with
  | 0 => ("LateAndEarly$Text", "row", "[B", true)
  | 1 => ("LateAndEarly$Text", "blockOf", "[I", true)
  | 2 => ("LateAndEarly$Text", "size", "I", false)
  | _ => ("LateAndEarly$Text", "this$0", "LLateAndEarly;", true)
def kY1 : Nat → FieldType := fun k => match k with
  | 0 => .array (.byte)
  | 1 => .array (.int)
  | 2 => .int
  | _ => .object "LateAndEarly"
theorem kI1 : ∀ w ∈ u_ws kN1 kT1 4, w ∈ lw_all := lw_in _ [195, 197, 199, 201] (by decide +kernel) (by decide +kernel)
theorem kM1 : ∀ a, a < 4 → ∀ b, b < 4 → a ≠ b → (kT1 a).2.1 ≠ (kT1 b).2.1 := by decide +kernel
theorem kO1 : ∀ k, k < 4 → parseFieldDescriptor (kT1 k).2.2.1 = some (kY1 k) := by decide +kernel
def kN2 : String := "LateAndEarly$Reader"
def kT2 : u_T := fun k => match k with
  | 0 => ("LateAndEarly$Reader", "\x72", "LLateAndEarly$Routine;", true)
  | 1 => ("LateAndEarly$Reader", "kind", "I", false)
  | 2 => ("LateAndEarly$Reader", "from", "I", false)
  | 3 => ("LateAndEarly$Reader", "behind", "I", false)
  | 4 => ("LateAndEarly$Reader", "number", "I", false)
  | 5 => ("LateAndEarly$Reader", "named", "Ljava/util/ArrayList;", true)
  | 6 => ("LateAndEarly$Reader", "namedAt", "Ljava/util/ArrayList;", true)
  | 7 => ("LateAndEarly$Reader", "headAt", "Ljava/util/ArrayList;", true)
  | _ => ("LateAndEarly$Reader", "this$0", "LLateAndEarly;", true)
def kY2 : Nat → FieldType := fun k => match k with
  | 0 => .object "LateAndEarly$Routine"
  | 1 => .int
  | 2 => .int
  | 3 => .int
  | 4 => .int
  | 5 => .object "java/util/ArrayList"
  | 6 => .object "java/util/ArrayList"
  | 7 => .object "java/util/ArrayList"
  | _ => .object "LateAndEarly"
theorem kI2 : ∀ w ∈ u_ws kN2 kT2 9, w ∈ lw_all := lw_in _ [364, 366, 368, 370, 372, 374, 376, 378, 380] (by decide +kernel) (by decide +kernel)
theorem kM2 : ∀ a, a < 9 → ∀ b, b < 9 → a ≠ b → (kT2 a).2.1 ≠ (kT2 b).2.1 := by decide +kernel
theorem kO2 : ∀ k, k < 9 → parseFieldDescriptor (kT2 k).2.2.1 = some (kY2 k) := by decide +kernel
def kN3 : String := "LateAndEarly$Routine"
def kT3 : u_T := fun k => match k with
  | 0 => ("LateAndEarly$Routine", "blocks", "Ljava/util/ArrayList;", true)
  | 1 => ("LateAndEarly$Routine", "nodes", "Ljava/util/ArrayList;", true)
  | 2 => ("LateAndEarly$Routine", "sums", "Ljava/util/ArrayList;", true)
  | 3 => ("LateAndEarly$Routine", "way", "Ljava/util/ArrayList;", true)
  | 4 => ("LateAndEarly$Routine", "lines", "I", false)
  | 5 => ("LateAndEarly$Routine", "onWays", "I", false)
  | 6 => ("LateAndEarly$Routine", "works", "[J", false)
  | 7 => ("LateAndEarly$Routine", "kills", "[J", false)
  | 8 => ("LateAndEarly$Routine", "wanted", "[J", false)
  | 9 => ("LateAndEarly$Routine", "there", "[J", false)
  | 10 => ("LateAndEarly$Routine", "early", "[J", false)
  | 11 => ("LateAndEarly$Routine", "delayed", "[J", false)
  | 12 => ("LateAndEarly$Routine", "latest", "[J", false)
  | _ => ("LateAndEarly$Routine", "alone", "[J", false)
def kY3 : Nat → FieldType := fun k => match k with
  | 0 => .object "java/util/ArrayList"
  | 1 => .object "java/util/ArrayList"
  | 2 => .object "java/util/ArrayList"
  | 3 => .object "java/util/ArrayList"
  | 4 => .int
  | 5 => .int
  | 6 => .array (.long)
  | 7 => .array (.long)
  | 8 => .array (.long)
  | 9 => .array (.long)
  | 10 => .array (.long)
  | 11 => .array (.long)
  | 12 => .array (.long)
  | _ => .array (.long)
theorem kI3 : ∀ w ∈ u_ws kN3 kT3 14, w ∈ lw_all := lw_in _ [324, 326, 328, 330, 332, 334, 336, 338, 340, 342, 344, 346, 348, 350] (by decide +kernel) (by decide +kernel)
theorem kM3 : ∀ a, a < 14 → ∀ b, b < 14 → a ≠ b → (kT3 a).2.1 ≠ (kT3 b).2.1 := by decide +kernel
theorem kO3 : ∀ k, k < 14 → parseFieldDescriptor (kT3 k).2.2.1 = some (kY3 k) := by decide +kernel
def kN4 : String := "LateAndEarly$Fault"
def kT4 : u_T := fun k => match k with
  | 0 => ("java/lang/Throwable", "cause", "Ljava/lang/Throwable;", false)
  | 1 => ("java/lang/Throwable", "stackTrace", "[Ljava/lang/StackTraceElement;", false)
  | 2 => ("java/lang/Throwable", "suppressedExceptions", "Ljava/util/List;", false)
  | 3 => ("java/lang/Throwable", "detailMessage", "Ljava/lang/String;", false)
  | 4 => ("java/lang/Throwable", "backtrace", "Ljava/lang/Object;", false)
  | 5 => ("java/lang/Throwable", "depth", "I", false)
  | 6 => ("LateAndEarly$Fault", "kind", "I", true)
  | _ => ("LateAndEarly$Fault", "place", "I", true)
def kY4 : Nat → FieldType := fun k => match k with
  | 0 => .object "java/lang/Throwable"
  | 1 => .array (.object "java/lang/StackTraceElement")
  | 2 => .object "java/util/List"
  | 3 => .object "java/lang/String"
  | 4 => .object "java/lang/Object"
  | 5 => .int
  | 6 => .int
  | _ => .int
theorem kI4 : ∀ w ∈ u_ws kN4 kT4 8, w ∈ lw_all := lw_in _ [517, 519, 521, 523, 525, 575, 567, 569] (by decide +kernel) (by decide +kernel)
theorem kM4 : ∀ a, a < 8 → ∀ b, b < 8 → a ≠ b → (kT4 a).2.1 ≠ (kT4 b).2.1 := by decide +kernel
theorem kO4 : ∀ k, k < 8 → parseFieldDescriptor (kT4 k).2.2.1 = some (kY4 k) := by decide +kernel
def kN5 : String := "LateAndEarly$Refusal"
def kT5 : u_T := fun k => match k with
  | 0 => ("java/lang/Throwable", "cause", "Ljava/lang/Throwable;", false)
  | 1 => ("java/lang/Throwable", "stackTrace", "[Ljava/lang/StackTraceElement;", false)
  | 2 => ("java/lang/Throwable", "suppressedExceptions", "Ljava/util/List;", false)
  | 3 => ("java/lang/Throwable", "detailMessage", "Ljava/lang/String;", false)
  | 4 => ("java/lang/Throwable", "backtrace", "Ljava/lang/Object;", false)
  | _ => ("java/lang/Throwable", "depth", "I", false)
def kY5 : Nat → FieldType := fun k => match k with
  | 0 => .object "java/lang/Throwable"
  | 1 => .array (.object "java/lang/StackTraceElement")
  | 2 => .object "java/util/List"
  | 3 => .object "java/lang/String"
  | 4 => .object "java/lang/Object"
  | _ => .int
theorem kI5 : ∀ w ∈ u_ws kN5 kT5 6, w ∈ lw_all := lw_in _ [1458, 1459, 1460, 1461, 1462, 1467] (by decide +kernel) (by decide +kernel)
theorem kM5 : ∀ a, a < 6 → ∀ b, b < 6 → a ≠ b → (kT5 a).2.1 ≠ (kT5 b).2.1 := by decide +kernel
theorem kO5 : ∀ k, k < 6 → parseFieldDescriptor (kT5 k).2.2.1 = some (kY5 k) := by decide +kernel
def kN6 : String := "LateAndEarly$SetSum"
def kT6 : u_T := fun k => match k with
  | 0 => ("LateAndEarly$Node", "number", "I", false)
  | 1 => ("LateAndEarly$Node", "block", "I", false)
  | 2 => ("LateAndEarly$Node", "next", "Ljava/util/ArrayList;", true)
  | 3 => ("LateAndEarly$Node", "before", "Ljava/util/ArrayList;", true)
  | 4 => ("LateAndEarly$Setting", "name", "I", true)
  | _ => ("LateAndEarly$SetSum", "sum", "LLateAndEarly$Sum;", false)
def kY6 : Nat → FieldType := fun k => match k with
  | 0 => .int
  | 1 => .int
  | 2 => .object "java/util/ArrayList"
  | 3 => .object "java/util/ArrayList"
  | 4 => .int
  | _ => .object "LateAndEarly$Sum"
theorem kI6 : ∀ w ∈ u_ws kN6 kT6 6, w ∈ lw_all := lw_in _ [931, 932, 933, 934, 929, 927] (by decide +kernel) (by decide +kernel)
theorem kM6 : ∀ a, a < 6 → ∀ b, b < 6 → a ≠ b → (kT6 a).2.1 ≠ (kT6 b).2.1 := by decide +kernel
theorem kO6 : ∀ k, k < 6 → parseFieldDescriptor (kT6 k).2.2.1 = some (kY6 k) := by decide +kernel
def kN7 : String := "LateAndEarly$SetOperand"
def kT7 : u_T := fun k => match k with
  | 0 => ("LateAndEarly$Node", "number", "I", false)
  | 1 => ("LateAndEarly$Node", "block", "I", false)
  | 2 => ("LateAndEarly$Node", "next", "Ljava/util/ArrayList;", true)
  | 3 => ("LateAndEarly$Node", "before", "Ljava/util/ArrayList;", true)
  | 4 => ("LateAndEarly$Setting", "name", "I", true)
  | _ => ("LateAndEarly$SetOperand", "from", "LLateAndEarly$Operand;", true)
def kY7 : Nat → FieldType := fun k => match k with
  | 0 => .int
  | 1 => .int
  | 2 => .object "java/util/ArrayList"
  | 3 => .object "java/util/ArrayList"
  | 4 => .int
  | _ => .object "LateAndEarly$Operand"
theorem kI7 : ∀ w ∈ u_ws kN7 kT7 6, w ∈ lw_all := lw_in _ [950, 951, 952, 953, 949, 947] (by decide +kernel) (by decide +kernel)
theorem kM7 : ∀ a, a < 6 → ∀ b, b < 6 → a ≠ b → (kT7 a).2.1 ≠ (kT7 b).2.1 := by decide +kernel
theorem kO7 : ∀ k, k < 6 → parseFieldDescriptor (kT7 k).2.2.1 = some (kY7 k) := by decide +kernel
def kN8 : String := "LateAndEarly$Write"
def kT8 : u_T := fun k => match k with
  | 0 => ("LateAndEarly$Node", "number", "I", false)
  | 1 => ("LateAndEarly$Node", "block", "I", false)
  | 2 => ("LateAndEarly$Node", "next", "Ljava/util/ArrayList;", true)
  | 3 => ("LateAndEarly$Node", "before", "Ljava/util/ArrayList;", true)
  | 4 => ("LateAndEarly$Write", "row", "I", true)
  | 5 => ("LateAndEarly$Write", "at", "LLateAndEarly$Operand;", true)
  | _ => ("LateAndEarly$Write", "what", "LLateAndEarly$Operand;", true)
def kY8 : Nat → FieldType := fun k => match k with
  | 0 => .int
  | 1 => .int
  | 2 => .object "java/util/ArrayList"
  | 3 => .object "java/util/ArrayList"
  | 4 => .int
  | 5 => .object "LateAndEarly$Operand"
  | _ => .object "LateAndEarly$Operand"
theorem kI8 : ∀ w ∈ u_ws kN8 kT8 7, w ∈ lw_all := lw_in _ [871, 872, 873, 874, 865, 867, 869] (by decide +kernel) (by decide +kernel)
theorem kM8 : ∀ a, a < 7 → ∀ b, b < 7 → a ≠ b → (kT8 a).2.1 ≠ (kT8 b).2.1 := by decide +kernel
theorem kO8 : ∀ k, k < 7 → parseFieldDescriptor (kT8 k).2.2.1 = some (kY8 k) := by decide +kernel
def kN9 : String := "LateAndEarly$Tell"
def kT9 : u_T := fun k => match k with
  | 0 => ("LateAndEarly$Node", "number", "I", false)
  | 1 => ("LateAndEarly$Node", "block", "I", false)
  | 2 => ("LateAndEarly$Node", "next", "Ljava/util/ArrayList;", true)
  | 3 => ("LateAndEarly$Node", "before", "Ljava/util/ArrayList;", true)
  | _ => ("LateAndEarly$Tell", "what", "LLateAndEarly$Operand;", true)
def kY9 : Nat → FieldType := fun k => match k with
  | 0 => .int
  | 1 => .int
  | 2 => .object "java/util/ArrayList"
  | 3 => .object "java/util/ArrayList"
  | _ => .object "LateAndEarly$Operand"
theorem kI9 : ∀ w ∈ u_ws kN9 kT9 5, w ∈ lw_all := lw_in _ [770, 772, 774, 776, 768] (by decide +kernel) (by decide +kernel)
theorem kM9 : ∀ a, a < 5 → ∀ b, b < 5 → a ≠ b → (kT9 a).2.1 ≠ (kT9 b).2.1 := by decide +kernel
theorem kO9 : ∀ k, k < 5 → parseFieldDescriptor (kT9 k).2.2.1 = some (kY9 k) := by decide +kernel
def kN10 : String := "LateAndEarly$Go"
def kT10 : u_T := fun k => match k with
  | 0 => ("LateAndEarly$Node", "number", "I", false)
  | 1 => ("LateAndEarly$Node", "block", "I", false)
  | 2 => ("LateAndEarly$Node", "next", "Ljava/util/ArrayList;", true)
  | 3 => ("LateAndEarly$Node", "before", "Ljava/util/ArrayList;", true)
  | _ => ("LateAndEarly$Go", "to", "I", true)
def kY10 : Nat → FieldType := fun k => match k with
  | 0 => .int
  | 1 => .int
  | 2 => .object "java/util/ArrayList"
  | 3 => .object "java/util/ArrayList"
  | _ => .int
theorem kI10 : ∀ w ∈ u_ws kN10 kT10 5, w ∈ lw_all := lw_in _ [806, 807, 808, 809, 804] (by decide +kernel) (by decide +kernel)
theorem kM10 : ∀ a, a < 5 → ∀ b, b < 5 → a ≠ b → (kT10 a).2.1 ≠ (kT10 b).2.1 := by decide +kernel
theorem kO10 : ∀ k, k < 5 → parseFieldDescriptor (kT10 k).2.2.1 = some (kY10 k) := by decide +kernel
def kN11 : String := "LateAndEarly$If"
def kT11 : u_T := fun k => match k with
  | 0 => ("LateAndEarly$Node", "number", "I", false)
  | 1 => ("LateAndEarly$Node", "block", "I", false)
  | 2 => ("LateAndEarly$Node", "next", "Ljava/util/ArrayList;", true)
  | 3 => ("LateAndEarly$Node", "before", "Ljava/util/ArrayList;", true)
  | 4 => ("LateAndEarly$If", "a", "LLateAndEarly$Operand;", true)
  | 5 => ("LateAndEarly$If", "b", "LLateAndEarly$Operand;", true)
  | 6 => ("LateAndEarly$If", "to", "I", true)
  | _ => ("LateAndEarly$If", "or", "I", true)
def kY11 : Nat → FieldType := fun k => match k with
  | 0 => .int
  | 1 => .int
  | 2 => .object "java/util/ArrayList"
  | 3 => .object "java/util/ArrayList"
  | 4 => .object "LateAndEarly$Operand"
  | 5 => .object "LateAndEarly$Operand"
  | 6 => .int
  | _ => .int
theorem kI11 : ∀ w ∈ u_ws kN11 kT11 8, w ∈ lw_all := lw_in _ [839, 840, 841, 842, 831, 833, 835, 837] (by decide +kernel) (by decide +kernel)
theorem kM11 : ∀ a, a < 8 → ∀ b, b < 8 → a ≠ b → (kT11 a).2.1 ≠ (kT11 b).2.1 := by decide +kernel
theorem kO11 : ∀ k, k < 8 → parseFieldDescriptor (kT11 k).2.2.1 = some (kY11 k) := by decide +kernel
def kN12 : String := "LateAndEarly$Leave"
def kT12 : u_T := fun k => match k with
  | 0 => ("LateAndEarly$Node", "number", "I", false)
  | 1 => ("LateAndEarly$Node", "block", "I", false)
  | 2 => ("LateAndEarly$Node", "next", "Ljava/util/ArrayList;", true)
  | _ => ("LateAndEarly$Node", "before", "Ljava/util/ArrayList;", true)
def kY12 : Nat → FieldType := fun k => match k with
  | 0 => .int
  | 1 => .int
  | 2 => .object "java/util/ArrayList"
  | _ => .object "java/util/ArrayList"
theorem kI12 : ∀ w ∈ u_ws kN12 kT12 4, w ∈ lw_all := lw_in _ [788, 789, 790, 791] (by decide +kernel) (by decide +kernel)
theorem kM12 : ∀ a, a < 4 → ∀ b, b < 4 → a ≠ b → (kT12 a).2.1 ≠ (kT12 b).2.1 := by decide +kernel
theorem kO12 : ∀ k, k < 4 → parseFieldDescriptor (kT12 k).2.2.1 = some (kY12 k) := by decide +kernel
def kN13 : String := "LateAndEarly$OnWay"
def kT13 : u_T := fun k => match k with
  | 0 => ("LateAndEarly$Node", "number", "I", false)
  | 1 => ("LateAndEarly$Node", "block", "I", false)
  | 2 => ("LateAndEarly$Node", "next", "Ljava/util/ArrayList;", true)
  | _ => ("LateAndEarly$Node", "before", "Ljava/util/ArrayList;", true)
def kY13 : Nat → FieldType := fun k => match k with
  | 0 => .int
  | 1 => .int
  | 2 => .object "java/util/ArrayList"
  | _ => .object "java/util/ArrayList"
theorem kI13 : ∀ w ∈ u_ws kN13 kT13 4, w ∈ lw_all := lw_in _ [1067, 1068, 1069, 1070] (by decide +kernel) (by decide +kernel)
theorem kM13 : ∀ a, a < 4 → ∀ b, b < 4 → a ≠ b → (kT13 a).2.1 ≠ (kT13 b).2.1 := by decide +kernel
theorem kO13 : ∀ k, k < 4 → parseFieldDescriptor (kT13 k).2.2.1 = some (kY13 k) := by decide +kernel
def kN14 : String := "LateAndEarly$Pair"
def kT14 : u_T := fun k => match k with
  | 0 => ("LateAndEarly$Sum", "number", "I", false)
  | 1 => ("LateAndEarly$Pair", "sign", "C", true)
  | 2 => ("LateAndEarly$Pair", "a", "LLateAndEarly$Operand;", true)
  | _ => ("LateAndEarly$Pair", "b", "LLateAndEarly$Operand;", true)
def kY14 : Nat → FieldType := fun k => match k with
  | 0 => .int
  | 1 => .char
  | 2 => .object "LateAndEarly$Operand"
  | _ => .object "LateAndEarly$Operand"
theorem kI14 : ∀ w ∈ u_ws kN14 kT14 4, w ∈ lw_all := lw_in _ [970, 964, 966, 968] (by decide +kernel) (by decide +kernel)
theorem kM14 : ∀ a, a < 4 → ∀ b, b < 4 → a ≠ b → (kT14 a).2.1 ≠ (kT14 b).2.1 := by decide +kernel
theorem kO14 : ∀ k, k < 4 → parseFieldDescriptor (kT14 k).2.2.1 = some (kY14 k) := by decide +kernel
def kN15 : String := "LateAndEarly$Read"
def kT15 : u_T := fun k => match k with
  | 0 => ("LateAndEarly$Sum", "number", "I", false)
  | 1 => ("LateAndEarly$Read", "row", "I", true)
  | _ => ("LateAndEarly$Read", "at", "LLateAndEarly$Operand;", true)
def kY15 : Nat → FieldType := fun k => match k with
  | 0 => .int
  | 1 => .int
  | _ => .object "LateAndEarly$Operand"
theorem kI15 : ∀ w ∈ u_ws kN15 kT15 3, w ∈ lw_all := lw_in _ [906, 902, 904] (by decide +kernel) (by decide +kernel)
theorem kM15 : ∀ a, a < 3 → ∀ b, b < 3 → a ≠ b → (kT15 a).2.1 ≠ (kT15 b).2.1 := by decide +kernel
theorem kO15 : ∀ k, k < 3 → parseFieldDescriptor (kT15 k).2.2.1 = some (kY15 k) := by decide +kernel
def kN16 : String := "LateAndEarly$Operand"
def kT16 : u_T := fun k => match k with
  | 0 => ("LateAndEarly$Operand", "isName", "Z", true)
  | _ => ("LateAndEarly$Operand", "v", "I", true)
def kY16 : Nat → FieldType := fun k => match k with
  | 0 => .boolean
  | _ => .int
theorem kI16 : ∀ w ∈ u_ws kN16 kT16 2, w ∈ lw_all := lw_in _ [732, 734] (by decide +kernel) (by decide +kernel)
theorem kM16 : ∀ a, a < 2 → ∀ b, b < 2 → a ≠ b → (kT16 a).2.1 ≠ (kT16 b).2.1 := by decide +kernel
theorem kO16 : ∀ k, k < 2 → parseFieldDescriptor (kT16 k).2.2.1 = some (kY16 k) := by decide +kernel
def kN17 : String := "LateAndEarly$Run"
def kT17 : u_T := fun k => match k with
  | 0 => ("LateAndEarly$Run", "\x72", "LLateAndEarly$Routine;", true)
  | 1 => ("LateAndEarly$Run", "placing", "I", true)
  | 2 => ("LateAndEarly$Run", "names", "[I", true)
  | 3 => ("LateAndEarly$Run", "kept", "[I", true)
  | 4 => ("LateAndEarly$Run", "worked", "[I", true)
  | 5 => ("LateAndEarly$Run", "told", "[I", true)
  | 6 => ("LateAndEarly$Run", "rows", "[[I", true)
  | 7 => ("LateAndEarly$Run", "how", "I", false)
  | 8 => ("LateAndEarly$Run", "steps", "I", false)
  | 9 => ("LateAndEarly$Run", "tolds", "I", false)
  | 10 => ("LateAndEarly$Run", "block", "I", false)
  | _ => ("LateAndEarly$Run", "this$0", "LLateAndEarly;", true)
def kY17 : Nat → FieldType := fun k => match k with
  | 0 => .object "LateAndEarly$Routine"
  | 1 => .int
  | 2 => .array (.int)
  | 3 => .array (.int)
  | 4 => .array (.int)
  | 5 => .array (.int)
  | 6 => .array (.array (.int))
  | 7 => .int
  | 8 => .int
  | 9 => .int
  | 10 => .int
  | _ => .object "LateAndEarly"
theorem kI17 : ∀ w ∈ u_ws kN17 kT17 12, w ∈ lw_all := lw_in _ [1405, 1407, 1409, 1411, 1413, 1415, 1417, 1419, 1421, 1423, 1425, 1427] (by decide +kernel) (by decide +kernel)
theorem kM17 : ∀ a, a < 12 → ∀ b, b < 12 → a ≠ b → (kT17 a).2.1 ≠ (kT17 b).2.1 := by decide +kernel
theorem kO17 : ∀ k, k < 12 → parseFieldDescriptor (kT17 k).2.2.1 = some (kY17 k) := by decide +kernel
def kN18 : String := "java/util/ArrayList"
def kT18 : u_T := fun k => match k with
  | 0 => ("java/util/AbstractList", "modCount", "I", false)
  | 1 => ("java/util/ArrayList", "elementData", "[Ljava/lang/Object;", false)
  | _ => ("java/util/ArrayList", "size", "I", false)
def kY18 : Nat → FieldType := fun k => match k with
  | 0 => .int
  | 1 => .array (.object "java/lang/Object")
  | _ => .int
theorem kI18 : ∀ w ∈ u_ws kN18 kT18 3, w ∈ lw_all := lw_in _ [286, 282, 284] (by decide +kernel) (by decide +kernel)
theorem kM18 : ∀ a, a < 3 → ∀ b, b < 3 → a ≠ b → (kT18 a).2.1 ≠ (kT18 b).2.1 := by decide +kernel
theorem kO18 : ∀ k, k < 3 → parseFieldDescriptor (kT18 k).2.2.1 = some (kY18 k) := by decide +kernel
def kN19 : String := "java/lang/Integer"
def kT19 : u_T := fun k => match k with
  | _ => ("java/lang/Integer", "value", "I", true)
def kY19 : Nat → FieldType := fun k => match k with
  | _ => .int
theorem kI19 : ∀ w ∈ u_ws kN19 kT19 1, w ∈ lw_all := lw_in _ [600] (by decide +kernel) (by decide +kernel)
theorem kM19 : ∀ a, a < 1 → ∀ b, b < 1 → a ≠ b → (kT19 a).2.1 ≠ (kT19 b).2.1 := by decide +kernel
theorem kO19 : ∀ k, k < 1 → parseFieldDescriptor (kT19 k).2.2.1 = some (kY19 k) := by decide +kernel
abbrev cCl : List vw_C := [(kN0, kT0, 7), (kN1, kT1, 4), (kN2, kT2, 9), (kN3, kT3, 14), (kN4, kT4, 8), (kN5, kT5, 6), (kN6, kT6, 6), (kN7, kT7, 6), (kN8, kT8, 7), (kN9, kT9, 5), (kN10, kT10, 5), (kN11, kT11, 8), (kN12, kT12, 4), (kN13, kT13, 4), (kN14, kT14, 4), (kN15, kT15, 3), (kN16, kT16, 2), (kN17, kT17, 12), (kN18, kT18, 3), (kN19, kT19, 1), (kN19, kT19, 1), (RX2, TX2, 62)]
def nF (c : Nat) : Nat := match c with
  | 0 => 7
  | 1 => 4
  | 2 => 9
  | 3 => 14
  | 4 => 8
  | 5 => 6
  | 6 => 6
  | 7 => 6
  | 8 => 7
  | 9 => 5
  | 10 => 5
  | 11 => 8
  | 12 => 4
  | 13 => 4
  | 14 => 4
  | 15 => 3
  | 16 => 2
  | 17 => 12
  | 18 => 3
  | 19 => 1
  | 20 => 1
  | 21 => 62
  | _ => 0
/-- kinds: 0 an int, 1 a long, 2 a reference -/
def fK (c k : Nat) : Nat := match c, k with
  | 0, 0 => 2
  | 0, 2 => 2
  | 0, 3 => 2
  | 0, 5 => 2
  | 0, 6 => 2
  | 1, 0 => 2
  | 1, 1 => 2
  | 1, 3 => 2
  | 2, 0 => 2
  | 2, 5 => 2
  | 2, 6 => 2
  | 2, 7 => 2
  | 2, 8 => 2
  | 3, 0 => 2
  | 3, 1 => 2
  | 3, 2 => 2
  | 3, 3 => 2
  | 3, 6 => 2
  | 3, 7 => 2
  | 3, 8 => 2
  | 3, 9 => 2
  | 3, 10 => 2
  | 3, 11 => 2
  | 3, 12 => 2
  | 3, 13 => 2
  | 4, 0 => 2
  | 4, 1 => 2
  | 4, 2 => 2
  | 4, 3 => 2
  | 4, 4 => 2
  | 5, 0 => 2
  | 5, 1 => 2
  | 5, 2 => 2
  | 5, 3 => 2
  | 5, 4 => 2
  | 6, 2 => 2
  | 6, 3 => 2
  | 6, 5 => 2
  | 7, 2 => 2
  | 7, 3 => 2
  | 7, 5 => 2
  | 8, 2 => 2
  | 8, 3 => 2
  | 8, 5 => 2
  | 8, 6 => 2
  | 9, 2 => 2
  | 9, 3 => 2
  | 9, 4 => 2
  | 10, 2 => 2
  | 10, 3 => 2
  | 11, 2 => 2
  | 11, 3 => 2
  | 11, 4 => 2
  | 11, 5 => 2
  | 12, 2 => 2
  | 12, 3 => 2
  | 13, 2 => 2
  | 13, 3 => 2
  | 14, 2 => 2
  | 14, 3 => 2
  | 15, 2 => 2
  | 17, 0 => 2
  | 17, 2 => 2
  | 17, 3 => 2
  | 17, 4 => 2
  | 17, 5 => 2
  | 17, 6 => 2
  | 17, 11 => 2
  | 18, 1 => 2
  | 21, 0 => 2
  | 21, 7 => 1
  | 21, 8 => 2
  | 21, 9 => 2
  | 21, 10 => 2
  | 21, 11 => 2
  | 21, 12 => 2
  | 21, 13 => 2
  | 21, 14 => 2
  | 21, 15 => 2
  | 21, 16 => 2
  | 21, 17 => 2
  | 21, 18 => 2
  | 21, 19 => 2
  | 21, 20 => 2
  | 21, 21 => 2
  | 21, 22 => 2
  | 21, 23 => 2
  | 21, 24 => 2
  | 21, 25 => 2
  | 21, 26 => 2
  | 21, 27 => 2
  | 21, 28 => 2
  | 21, 29 => 2
  | 21, 30 => 2
  | 21, 31 => 2
  | 21, 39 => 2
  | 21, 40 => 2
  | 21, 42 => 2
  | 21, 43 => 2
  | 21, 44 => 2
  | 21, 45 => 2
  | 21, 46 => 2
  | 21, 47 => 2
  | 21, 48 => 2
  | 21, 49 => 2
  | 21, 50 => 2
  | 21, 57 => 2
  | 21, 58 => 2
  | 21, 59 => 2
  | 21, 61 => 2
  | _, _ => 0

/-- the abstract heap: (next address, cells left, slots left), tags, lengths, ints, longs, references -/
abbrev AH : Type := (Nat × Nat × Nat) × (Nat → Nat) × (Nat → Nat) × (Nat → Nat → Int32) × (Nat → Nat → Int64) × (Nat → Nat → Option Nat)
def hN (σ : AH) : Nat := σ.1.1
def hC (σ : AH) : Nat := σ.1.2.1
def hS (σ : AH) : Nat := σ.1.2.2
def hT (σ : AH) : Nat → Nat := σ.2.1
def hL (σ : AH) : Nat → Nat := σ.2.2.1
def hI (σ : AH) : Nat → Nat → Int32 := σ.2.2.2.1
def hG (σ : AH) : Nat → Nat → Int64 := σ.2.2.2.2.1
def hR (σ : AH) : Nat → Nat → Option Nat := σ.2.2.2.2.2
def up2 {α : Type} (f : Nat → Nat → α) (a k : Nat) (v : α) : Nat → Nat → α := fun b j => if b = a ∧ j = k then v else f b j
def hsI (σ : AH) (a k : Nat) (v : Int32) : AH := (σ.1, σ.2.1, σ.2.2.1, up2 σ.2.2.2.1 a k v, σ.2.2.2.2.1, σ.2.2.2.2.2)
def hsG (σ : AH) (a k : Nat) (v : Int64) : AH := (σ.1, σ.2.1, σ.2.2.1, σ.2.2.2.1, up2 σ.2.2.2.2.1 a k v, σ.2.2.2.2.2)
def hsR (σ : AH) (a k : Nat) (v : Option Nat) : AH := (σ.1, σ.2.1, σ.2.2.1, σ.2.2.2.1, σ.2.2.2.2.1, up2 σ.2.2.2.2.2 a k v)
/-- a cell is made: tag t, length n, s slots -/
def hnw (σ : AH) (t n s : Nat) : AH := ((σ.1.1 + 1, σ.1.2.1 - 1, σ.1.2.2 - s), va_up σ.2.1 σ.1.1 t, va_up σ.2.2.1 σ.1.1 n, σ.2.2.2)
theorem h_rw (σ : AH) (a k : Nat) :
    (∀ v b j, hI (hsI σ a k v) b j = if b = a ∧ j = k then v else hI σ b j) ∧ (∀ v, hG (hsI σ a k v) = hG σ) ∧ (∀ v, hR (hsI σ a k v) = hR σ) ∧ (∀ v, hT (hsI σ a k v) = hT σ) ∧ (∀ v, hL (hsI σ a k v) = hL σ) ∧ (∀ v, hN (hsI σ a k v) = hN σ) ∧ (∀ v, hC (hsI σ a k v) = hC σ) ∧ (∀ v, hS (hsI σ a k v) = hS σ) ∧
    (∀ v b j, hG (hsG σ a k v) b j = if b = a ∧ j = k then v else hG σ b j) ∧ (∀ v, hI (hsG σ a k v) = hI σ) ∧ (∀ v, hR (hsG σ a k v) = hR σ) ∧ (∀ v, hT (hsG σ a k v) = hT σ) ∧ (∀ v, hL (hsG σ a k v) = hL σ) ∧ (∀ v, hN (hsG σ a k v) = hN σ) ∧ (∀ v, hC (hsG σ a k v) = hC σ) ∧ (∀ v, hS (hsG σ a k v) = hS σ) ∧
    (∀ v b j, hR (hsR σ a k v) b j = if b = a ∧ j = k then v else hR σ b j) ∧ (∀ v, hI (hsR σ a k v) = hI σ) ∧ (∀ v, hG (hsR σ a k v) = hG σ) ∧ (∀ v, hT (hsR σ a k v) = hT σ) ∧ (∀ v, hL (hsR σ a k v) = hL σ) ∧ (∀ v, hN (hsR σ a k v) = hN σ) ∧ (∀ v, hC (hsR σ a k v) = hC σ) ∧ (∀ v, hS (hsR σ a k v) = hS σ) :=
  ⟨fun _ _ _ => rfl, fun _ => rfl, fun _ => rfl, fun _ => rfl, fun _ => rfl, fun _ => rfl, fun _ => rfl, fun _ => rfl, fun _ _ _ => rfl, fun _ => rfl, fun _ => rfl, fun _ => rfl, fun _ => rfl, fun _ => rfl, fun _ => rfl, fun _ => rfl, fun _ _ _ => rfl, fun _ => rfl, fun _ => rfl, fun _ => rfl, fun _ => rfl, fun _ => rfl, fun _ => rfl, fun _ => rfl⟩
theorem h_nw (σ : AH) (t n s : Nat) : hI (hnw σ t n s) = hI σ ∧ hG (hnw σ t n s) = hG σ ∧ hR (hnw σ t n s) = hR σ ∧ hN (hnw σ t n s) = hN σ + 1 ∧ hC (hnw σ t n s) = hC σ - 1 ∧ hS (hnw σ t n s) = hS σ - s ∧ (∀ b, hT (hnw σ t n s) b = if b = hN σ then t else hT σ b) ∧ (∀ b, hL (hnw σ t n s) b = if b = hN σ then n else hL σ b) := ⟨rfl, rfl, rfl, rfl, rfl, rfl, fun _ => rfl, fun _ => rfl⟩
/-! tags: an object of class c: c + 1; of Integer's cache 60, a String 61 (read only); arrays: 100 + u, read only 150 + u; u: 0 int, 1 long, 2 byte, 3 boolean, 4 Object, 5 Routine, 6 int[], 7 long[], 8 Integer -/
def cV (c : Nat) (fI : Nat → Int32) (fG : Nat → Int64) (fR : Nat → Option Nat) (k : Nat) : Value := match fK c k with
  | 0 => .int (fI k)
  | 1 => .long (fG k)
  | _ => va_rf (fR k)
def aV (u : Nat) (fI : Nat → Int32) (fG : Nat → Int64) (fR : Nat → Option Nat) (j : Nat) : Value := match u with
  | 0 => .int (fI j)
  | 1 => .long (fG j)
  | 2 => .int (fI j)
  | 3 => .int (fI j)
  | _ => va_rf (fR j)
def aTy (u : Nat) : FieldType := match u with
  | 0 => .int
  | 1 => .long
  | 2 => .byte
  | 3 => .boolean
  | 4 => .object "java/lang/Object"
  | 5 => .object "LateAndEarly$Routine"
  | 6 => .array .int
  | 7 => .array .long
  | _ => .object "java/lang/Integer"
/-- the start; constants; classes, slots, array classes; the cells that may be written -/
abbrev GC : Type := State × (Nat → Option Nat) × (Nat → ClassId) × (Nat → Nat → Nat) × (Nat → ClassId) × (Nat → Prop)
def cTys (g : GC) : List (ClassId × FieldType) := (List.range 8).map (fun u => (g.2.2.2.2.1 u, aTy u))
def cellAt (g : GC) (a t n : Nat) (fI : Nat → Int32) (fG : Nat → Int64) (fR : Nat → Option Nat) (o : Option Cell) : Prop :=
  (∀ c, t = c + 1 → c < 22 → g.2.2.2.2.2 a ∧ ∃ cell : Cell, o = some cell ∧ cell.cls = g.2.2.1 c ∧ cell.vm = .none ∧ ∀ k, k < nF c → cell.slots[g.2.2.2.1 c k]? = some (cV c fI fG fR k)) ∧
  (t = 60 → ∃ cell : Cell, o = some cell ∧ cell.vm.isStatics = false ∧ cell.vm ≠ .unknown ∧ g.1.vm.findClass "java/lang/Integer" = some cell.cls ∧ ∃ (cf : ClassId) (k : Class) (i : Nat) (f : Field), g.1.fieldFound? "java/lang/Integer" "value" "I" = some (cf, k, i, f) ∧ f.isStatic = false ∧ cell.slots[f.slot]? = some (.int (fI 0))) ∧
  (t = 61 → ∃ cell : Cell, o = some cell ∧ cell.vm.isStatics = false ∧ cell.vm ≠ .unknown ∧ g.1.vm.findClass "java/lang/String" = some cell.cls ∧ (∃ (cf : ClassId) (k : Class) (i : Nat) (f : Field), g.1.fieldFound? "java/lang/String" "value" "[B" = some (cf, k, i, f) ∧ f.isStatic = false ∧ cell.slots[f.slot]? = some (va_rf (fR 0))) ∧ ∃ (cf : ClassId) (k : Class) (i : Nat) (f : Field), g.1.fieldFound? "java/lang/String" "coder" "B" = some (cf, k, i, f) ∧ f.isStatic = false ∧ cell.slots[f.slot]? = some (.int (fI 1))) ∧
  (∀ u, t = u + 100 → u < 8 → g.2.2.2.2.2 a ∧ o = some (arrV (g.2.2.2.2.1 u) n (aV u fI fG fR))) ∧
  (∀ u, t = u + 150 → u < 9 → ∃ cell : Cell, o = some cell ∧ g.1.isArrayOf cell (aTy u) ∧ cell.vm ≠ .unknown ∧ cell.vm.isStatics = false ∧ cell.slots.size = n ∧ ∀ j, j < n → cell.slots[j]? = some (aV u fI fG fR j))
def RepC (g : GC) (σ : AH) (H : Heap) : Prop :=
  H.size = hN σ ∧ (∀ a, hN σ ≤ a → g.2.2.2.2.2 a ∧ hT σ a = 0 ∧ ∀ k, hI σ a k = 0 ∧ hG σ a k = 0 ∧ hR σ a k = none) ∧
  (g.1.heap.size ≤ hN σ ∧ ∀ a, a < g.1.heap.size → H[a]? = g.1.heap[a]?) ∧ (∀ a, g.2.2.2.2.2 a → g.1.heap.size ≤ a) ∧
  ∀ a, cellAt g a (hT σ a) (hL σ a) (hI σ a) (hG σ a) (hR σ a) H[a]?
/-- the text constants: class, entry, text -/
def kStr : List (String × Nat × String) := [("LateAndEarly$Reader", 66, ":;=+-*/&^<[]"), ("LateAndEarly$Reader", 133, "tell"), ("LateAndEarly$Reader", 139, "go"), ("LateAndEarly$Reader", 141, "if"), ("LateAndEarly$Reader", 143, "leave"), ("LateAndEarly$Reader", 207, "+-*/&^"), ("LateAndEarly$Text", 99, "b"), ("LateAndEarly$Text", 101, ":\n"), ("LateAndEarly$Text", 126, "  t"), ("LateAndEarly$Text", 128, " = "), ("LateAndEarly$Text", 70, "\x72"), ("LateAndEarly$Text", 74, " [ "), ("LateAndEarly$Text", 47, "v"), ("LateAndEarly$Text", 55, "t"), ("LateAndEarly$Text", 83, " ]"), ("LateAndEarly$Text", 91, " "), ("LateAndEarly$Text", 103, ";\n"), ("LateAndEarly$Text", 156, "  "), ("LateAndEarly$Text", 179, " ] = "), ("LateAndEarly$Text", 186, "tell "), ("LateAndEarly$Text", 191, "if "), ("LateAndEarly$Text", 196, " < "), ("LateAndEarly$Text", 143, " b"), ("LateAndEarly$Text", 205, "go"), ("LateAndEarly$Text", 207, "leave"), ("LateAndEarly$Text", 223, "  go b")]
def kSta : List (String × String × String) := [("java/util/ArrayList", "DEFAULTCAPACITY_EMPTY_ELEMENTDATA", "[Ljava/lang/Object;"), ("java/lang/Integer$IntegerCache", "cache", "[Ljava/lang/Integer;"), ("java/lang/Throwable", "UNASSIGNED_STACK", "[Ljava/lang/StackTraceElement;"), ("java/lang/Throwable", "SUPPRESSED_SENTINEL", "Ljava/util/List;"), ("jdk/internal/util/Preconditions", "SIOOBE_FORMATTER", "Ljava/util/function/BiFunction;")]
def kInt : List (String × String × String × Int32) := [("java/lang/Integer$IntegerCache", "high", "I", 127), ("java/lang/String", "COMPACT_STRINGS", "Z", 1), ("java/lang/StringUTF16", "$assertionsDisabled", "Z", 1), ("java/lang/StringUTF16", "HI_BYTE_SHIFT", "I", 0), ("java/lang/StringUTF16", "LO_BYTE_SHIFT", "I", 8)]
def kNo : List (String × String) := [("LateAndEarly$SetOperand", "LateAndEarly$SetSum"), ("LateAndEarly$Write", "LateAndEarly$SetSum"), ("LateAndEarly$Tell", "LateAndEarly$SetSum"), ("LateAndEarly$Go", "LateAndEarly$SetSum"), ("LateAndEarly$If", "LateAndEarly$SetSum"), ("LateAndEarly$Leave", "LateAndEarly$SetSum"), ("LateAndEarly$OnWay", "LateAndEarly$SetSum"), ("LateAndEarly$SetSum", "LateAndEarly$SetOperand"), ("LateAndEarly$Write", "LateAndEarly$SetOperand"), ("LateAndEarly$Tell", "LateAndEarly$SetOperand"), ("LateAndEarly$Go", "LateAndEarly$SetOperand"), ("LateAndEarly$If", "LateAndEarly$SetOperand"), ("LateAndEarly$Leave", "LateAndEarly$SetOperand"), ("LateAndEarly$OnWay", "LateAndEarly$SetOperand"), ("LateAndEarly$SetSum", "LateAndEarly$Write"), ("LateAndEarly$SetOperand", "LateAndEarly$Write"), ("LateAndEarly$Tell", "LateAndEarly$Write"), ("LateAndEarly$Go", "LateAndEarly$Write"), ("LateAndEarly$If", "LateAndEarly$Write"), ("LateAndEarly$Leave", "LateAndEarly$Write"), ("LateAndEarly$OnWay", "LateAndEarly$Write"), ("LateAndEarly$SetSum", "LateAndEarly$Tell"), ("LateAndEarly$SetOperand", "LateAndEarly$Tell"), ("LateAndEarly$Write", "LateAndEarly$Tell"), ("LateAndEarly$Go", "LateAndEarly$Tell"), ("LateAndEarly$If", "LateAndEarly$Tell"), ("LateAndEarly$Leave", "LateAndEarly$Tell"), ("LateAndEarly$OnWay", "LateAndEarly$Tell"), ("LateAndEarly$SetSum", "LateAndEarly$If"), ("LateAndEarly$SetOperand", "LateAndEarly$If"), ("LateAndEarly$Write", "LateAndEarly$If"), ("LateAndEarly$Tell", "LateAndEarly$If"), ("LateAndEarly$Go", "LateAndEarly$If"), ("LateAndEarly$Leave", "LateAndEarly$If"), ("LateAndEarly$OnWay", "LateAndEarly$If"), ("LateAndEarly$SetSum", "LateAndEarly$Go"), ("LateAndEarly$SetOperand", "LateAndEarly$Go"), ("LateAndEarly$Write", "LateAndEarly$Go"), ("LateAndEarly$Tell", "LateAndEarly$Go"), ("LateAndEarly$If", "LateAndEarly$Go"), ("LateAndEarly$Leave", "LateAndEarly$Go"), ("LateAndEarly$OnWay", "LateAndEarly$Go"), ("LateAndEarly$SetSum", "LateAndEarly$End"), ("LateAndEarly$SetOperand", "LateAndEarly$End"), ("LateAndEarly$Write", "LateAndEarly$End"), ("LateAndEarly$Tell", "LateAndEarly$End"), ("LateAndEarly$OnWay", "LateAndEarly$End"), ("LateAndEarly$Pair", "LateAndEarly$Read"), ("LateAndEarly$Read", "LateAndEarly$Pair")]
/-- what is known at the start: the tables, what the Statement gives, the classes; the constants' places; statics; what can't be cast -/
def GOK (g : GC) : Prop := (∃ b : Nat, (∀ w ∈ lw_tbl, w.before #[Value.ref b] g.1 = true) ∧ (Jvm.Cond.and given_1 narrow_1).before #[Value.ref b] g.1 = true) ∧ va_K (g.2.2.1, g.2.2.2.1) cCl (cTys g) g.1 ∧
  (∀ (i : Nat) (q : String × Nat × String), kStr[i]? = some q → ∃ a, g.2.1 i = some a ∧ vk_R q.1 q.2.1 q.2.2 a g.1) ∧
  (∀ (i : Nat) (q : String × String × String), kSta[i]? = some q → va_Z q.1 q.2.1 q.2.2 (va_rf (g.2.1 (30 + i))) (fun _ => False) g.1 g.1.heap) ∧
  (∀ q ∈ kInt, va_Z q.1 q.2.1 q.2.2.1 (.int q.2.2.2) (fun _ => False) g.1 g.1.heap) ∧ (∀ q ∈ kNo, va_Nc q.1 q.2 g.1) ∧ ∃ mi, g.2.1 40 = some mi ∧ va_Mi "[Ljava/lang/Object;" mi g.1
def KnC (g : GC) (U : State) : Prop := GOK g ∧ g.1.WarmedH U.vm
def wC (g : GC) : Wd AH := (RepC g, fun σ => (hC σ, hS σ), g.2.2.2.2.2, KnC g)
theorem wC_ok (g : GC) : WdOK (wC g) := ⟨fun _ _ hW h => ⟨h.1, State.WarmedH.trans h.2 hW⟩, fun _ _ _ _ h => h⟩
theorem KnC.K {g : GC} {U : State} (h : KnC g U) : va_K (g.2.2.1, g.2.2.2.1) cCl (cTys g) U := va_K.moved h.2.alike h.1.2.1
/-- a picture after one cell has changed -/
theorem RepC.one {g : GC} {σ σ' : AH} {H H' : Heap} (h : RepC g σ H) {a : Nat} (hfr : g.2.2.2.2.2 a) (hN' : hN σ' = hN σ) (hsz : H'.size = H.size) (hT' : hT σ' = hT σ) (hL' : hL σ' = hL σ) (hv : ∀ b, b ≠ a → hI σ' b = hI σ b ∧ hG σ' b = hG σ b ∧ hR σ' b = hR σ b) (oq : ∀ q, q ≠ a → H'[q]? = H[q]?) (ha : a < hN σ) (hc : cellAt g a (hT σ a) (hL σ a) (hI σ' a) (hG σ' a) (hR σ' a) H'[a]?) : RepC g σ' H' := by
  obtain ⟨h1, h2, h3, h4, h5⟩ := h
  refine ⟨by rw [hsz, hN']; exact h1, fun b hb => ?_, ⟨by rw [hN']; exact h3.1, fun b hb => ?_⟩, h4, fun b => ?_⟩
  · rw [hN'] at hb
    obtain ⟨e1, e2, e3⟩ := hv b (by omega)
    rw [hT', e1, e2, e3]
    exact h2 b hb
  · have := h4 a hfr
    rw [oq b (by intro q; subst q; omega)]
    exact h3.2 b hb
  · by_cases hb : b = a
    · subst hb
      rw [hT', hL']
      exact hc
    · obtain ⟨e1, e2, e3⟩ := hv b hb
      rw [hT', hL', e1, e2, e3, oq b hb]
      exact h5 b
theorem RepC.lt {g : GC} {σ : AH} {H : Heap} (h : RepC g σ H) {a : Nat} (ht : hT σ a ≠ 0) : a < hN σ := by
  rcases Nat.lt_or_ge a (hN σ) with q | q
  · exact q
  · exact absurd (h.2.1 a q).2.1 ht

