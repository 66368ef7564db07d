set_option maxRecDepth 100000

/-! java/util/AbstractCollection -/
def RJ0 : String := "java/util/AbstractCollection"

/-! java/util/AbstractList -/
def RJ1 : String := "java/util/AbstractList"

/-! java/lang/Exception -/
def RJ10 : String := "java/lang/Exception"

/-! java/util/Objects -/
def RJ11 : String := "java/util/Objects"

/-! jdk/internal/util/ArraysSupport -/
def RJ12 : String := "jdk/internal/util/ArraysSupport"

/-! java/util/Arrays -/
def RJ13 : String := "java/util/Arrays"

/-! java/lang/Record -/
def RJ14 : String := "java/lang/Record"

/-! java/lang/RuntimeException -/
def RJ15 : String := "java/lang/RuntimeException"

/-! java/lang/IndexOutOfBoundsException -/
def RJ16 : String := "java/lang/IndexOutOfBoundsException"
def TJ16 : u_T := fun k => match k with
  | 0 => ("java/lang/Throwable", "cause", "Ljava/lang/Throwable;", false)
  | 1 => ("java/lang/Throwable", "stackTrace", "[Ljava/lang/StackTraceElement;", false)
  | 2 => ("java/lang/Throwable", "suppressedExceptions", "Ljava/util/List;", false)
  | 3 => ("java/lang/Throwable", "detailMessage", "Ljava/lang/String;", false)
  | 4 => ("java/lang/Throwable", "backtrace", "Ljava/lang/Object;", false)
  | _ => ("java/lang/Throwable", "depth", "I", false)
def tyJ16 : Nat → FieldType := fun k => match k with
  | 0 => .object "java/lang/Throwable"
  | 1 => .array (.object "java/lang/StackTraceElement")
  | 2 => .object "java/util/List"
  | 3 => .object "java/lang/String"
  | 4 => .object "java/lang/Object"
  | _ => .int
abbrev wsJ160 : List Cond := u_ws RJ16 TJ16 6
theorem nmJ16 : ∀ a, a < 6 → ∀ b, b < 6 → a ≠ b → (TJ16 a).2.1 ≠ (TJ16 b).2.1 := by decide +kernel
theorem tyJ16_ok : ∀ k, k < 6 → parseFieldDescriptor (TJ16 k).2.2.1 = some (tyJ16 k) := by decide +kernel

/-! java/lang/ArrayIndexOutOfBoundsException -/
def RJ17 : String := "java/lang/ArrayIndexOutOfBoundsException"
def TJ17 : u_T := fun k => match k with
  | 0 => ("java/lang/Throwable", "backtrace", "Ljava/lang/Object;", false)
  | 1 => ("java/lang/Throwable", "detailMessage", "Ljava/lang/String;", false)
  | 2 => ("java/lang/Throwable", "cause", "Ljava/lang/Throwable;", false)
  | 3 => ("java/lang/Throwable", "stackTrace", "[Ljava/lang/StackTraceElement;", false)
  | 4 => ("java/lang/Throwable", "depth", "I", false)
  | _ => ("java/lang/Throwable", "suppressedExceptions", "Ljava/util/List;", false)
def tyJ17 : Nat → FieldType := fun k => match k with
  | 0 => .object "java/lang/Object"
  | 1 => .object "java/lang/String"
  | 2 => .object "java/lang/Throwable"
  | 3 => .array (.object "java/lang/StackTraceElement")
  | 4 => .int
  | _ => .object "java/util/List"
abbrev wsJ170 : List Cond := u_ws RJ17 TJ17 6
theorem nmJ17 : ∀ a, a < 6 → ∀ b, b < 6 → a ≠ b → (TJ17 a).2.1 ≠ (TJ17 b).2.1 := by decide +kernel
theorem tyJ17_ok : ∀ k, k < 6 → parseFieldDescriptor (TJ17 k).2.2.1 = some (tyJ17 k) := by decide +kernel

/-! java/util/NoSuchElementException -/
def RJ18 : String := "java/util/NoSuchElementException"
def TJ18 : u_T := fun k => match k with
  | 0 => ("java/lang/Throwable", "cause", "Ljava/lang/Throwable;", false)
  | 1 => ("java/lang/Throwable", "stackTrace", "[Ljava/lang/StackTraceElement;", false)
  | 2 => ("java/lang/Throwable", "suppressedExceptions", "Ljava/util/List;", false)
  | 3 => ("java/lang/Throwable", "detailMessage", "Ljava/lang/String;", false)
  | 4 => ("java/lang/Throwable", "backtrace", "Ljava/lang/Object;", false)
  | _ => ("java/lang/Throwable", "depth", "I", false)
def tyJ18 : Nat → FieldType := fun k => match k with
  | 0 => .object "java/lang/Throwable"
  | 1 => .array (.object "java/lang/StackTraceElement")
  | 2 => .object "java/util/List"
  | 3 => .object "java/lang/String"
  | 4 => .object "java/lang/Object"
  | _ => .int
abbrev wsJ180 : List Cond := u_ws RJ18 TJ18 6
theorem nmJ18 : ∀ a, a < 6 → ∀ b, b < 6 → a ≠ b → (TJ18 a).2.1 ≠ (TJ18 b).2.1 := by decide +kernel
theorem tyJ18_ok : ∀ k, k < 6 → parseFieldDescriptor (TJ18 k).2.2.1 = some (tyJ18 k) := by decide +kernel

/-! java/lang/Integer -/
def RJ19 : String := "java/lang/Integer"

/-! java/util/ArrayList -/
def RJ2 : String := "java/util/ArrayList"
def TJ2 : u_T := fun k => match k with
  | 0 => ("java/util/AbstractList", "modCount", "I", false)
  | 1 => ("java/util/ArrayList", "elementData", "[Ljava/lang/Object;", false)
  | _ => ("java/util/ArrayList", "size", "I", false)
def tyJ2 : Nat → FieldType := fun k => match k with
  | 0 => .int
  | 1 => .array (.object "java/lang/Object")
  | _ => .int
abbrev wsJ20 : List Cond := u_ws RJ2 TJ2 3
theorem nmJ2 : ∀ a, a < 3 → ∀ b, b < 3 → a ≠ b → (TJ2 a).2.1 ≠ (TJ2 b).2.1 := by decide +kernel
theorem tyJ2_ok : ∀ k, k < 3 → parseFieldDescriptor (TJ2 k).2.2.1 = some (tyJ2 k) := by decide +kernel

/-! java/lang/Object -/
def RJ20 : String := "java/lang/Object"

/-! java/lang/String -/
def RJ3 : String := "java/lang/String"
def TJ3 : u_T := fun k => match k with
  | 0 => ("java/lang/String", "value", "[B", true)
  | _ => ("java/lang/String", "coder", "B", true)
def tyJ3 : Nat → FieldType := fun k => match k with
  | 0 => .array .byte
  | _ => .byte
abbrev wsJ30 : List Cond := u_ws RJ3 TJ3 2
theorem nmJ3 : ∀ a, a < 2 → ∀ b, b < 2 → a ≠ b → (TJ3 a).2.1 ≠ (TJ3 b).2.1 := by decide +kernel
theorem tyJ3_ok : ∀ k, k < 2 → parseFieldDescriptor (TJ3 k).2.2.1 = some (tyJ3 k) := by decide +kernel

/-! java/lang/StringLatin1 -/
def RJ4 : String := "java/lang/StringLatin1"

/-! java/lang/Math -/
def RJ5 : String := "java/lang/Math"

/-! java/lang/StringUTF16 -/
def RJ6 : String := "java/lang/StringUTF16"

/-! jdk/internal/util/Preconditions -/
def RJ7 : String := "jdk/internal/util/Preconditions"

/-! java/lang/Character -/
def RJ8 : String := "java/lang/Character"

/-! java/lang/Throwable -/
def RJ9 : String := "java/lang/Throwable"
def TJ9 : u_T := fun k => match k with
  | 0 => ("java/lang/Throwable", "cause", "Ljava/lang/Throwable;", false)
  | 1 => ("java/lang/Throwable", "stackTrace", "[Ljava/lang/StackTraceElement;", false)
  | 2 => ("java/lang/Throwable", "suppressedExceptions", "Ljava/util/List;", false)
  | 3 => ("java/lang/Throwable", "detailMessage", "Ljava/lang/String;", false)
  | _ => ("java/lang/Throwable", "backtrace", "Ljava/lang/Object;", false)
def tyJ9 : Nat → FieldType := fun k => match k with
  | 0 => .object "java/lang/Throwable"
  | 1 => .array (.object "java/lang/StackTraceElement")
  | 2 => .object "java/util/List"
  | 3 => .object "java/lang/String"
  | _ => .object "java/lang/Object"
abbrev wsJ90 : List Cond := u_ws RJ9 TJ9 5
theorem nmJ9 : ∀ a, a < 5 → ∀ b, b < 5 → a ≠ b → (TJ9 a).2.1 ≠ (TJ9 b).2.1 := by decide +kernel
theorem tyJ9_ok : ∀ k, k < 5 → parseFieldDescriptor (TJ9 k).2.2.1 = some (tyJ9 k) := by decide +kernel

/-! MinistryDesksLaw -/
def RX0 : String := "MinistryDesksLaw"

/-! MinistryDesks -/
def RX1 : String := "MinistryDesks"
def TX1 : u_T := fun k => match k with
  | 0 => ("MinistryDesks", "tape", "[B", true)
  | 1 => ("MinistryDesks", "taped", "I", false)
  | 2 => ("MinistryDesks", "fault", "I", false)
  | 3 => ("MinistryDesks", "faultPlace", "I", false)
  | 4 => ("MinistryDesks", "house", "LMinistryDesks$House;", false)
  | 5 => ("MinistryDesks", "scene", "LMinistryDesks$Scene;", true)
  | 6 => ("MinistryDesks", "plain", "LMinistryDesks$Change;", true)
  | 7 => ("MinistryDesks", "change", "LMinistryDesks$Change;", true)
  | 8 => ("MinistryDesks", "truth", "LMinistryDesks$Run;", true)
  | 9 => ("MinistryDesks", "trial", "LMinistryDesks$Run;", true)
  | 10 => ("MinistryDesks", "image", "LMinistryDesks$Run;", true)
  | 11 => ("MinistryDesks", "points", "I", false)
  | 12 => ("MinistryDesks", "pointKind", "[I", true)
  | 13 => ("MinistryDesks", "pointOf", "[I", true)
  | 14 => ("MinistryDesks", "pointDay", "[I", true)
  | 15 => ("MinistryDesks", "tillAt", "[I", true)
  | 16 => ("MinistryDesks", "most", "[I", true)
  | 17 => ("MinistryDesks", "counts", "[I", true)
  | 18 => ("MinistryDesks", "times", "I", false)
  | 19 => ("MinistryDesks", "wanted", "I", false)
  | 20 => ("MinistryDesks", "come", "[Z", true)
  | 21 => ("MinistryDesks", "shares", "[I", true)
  | 22 => ("MinistryDesks", "heardOf", "[I", true)
  | 23 => ("MinistryDesks", "heardAs", "[I", true)
  | 24 => ("MinistryDesks", "struck", "[Z", true)
  | 25 => ("MinistryDesks", "heard", "I", false)
  | 26 => ("MinistryDesks", "seen", "I", false)
  | _ => ("MinistryDesks", "hasImage", "Z", false)
def tyX1 : Nat → FieldType := fun k => match k with
  | 0 => .array .byte
  | 1 => .int
  | 2 => .int
  | 3 => .int
  | 4 => .object "MinistryDesks$House"
  | 5 => .object "MinistryDesks$Scene"
  | 6 => .object "MinistryDesks$Change"
  | 7 => .object "MinistryDesks$Change"
  | 8 => .object "MinistryDesks$Run"
  | 9 => .object "MinistryDesks$Run"
  | 10 => .object "MinistryDesks$Run"
  | 11 => .int
  | 12 => .array .int
  | 13 => .array .int
  | 14 => .array .int
  | 15 => .array .int
  | 16 => .array .int
  | 17 => .array .int
  | 18 => .int
  | 19 => .int
  | 20 => .array .boolean
  | 21 => .array .int
  | 22 => .array .int
  | 23 => .array .int
  | 24 => .array .boolean
  | 25 => .int
  | 26 => .int
  | _ => .boolean
abbrev wsX10 : List Cond := u_ws RX1 TX1 28
set_option maxRecDepth 100000 in
theorem nmX1 : ∀ a, a < 28 → ∀ b, b < 28 → a ≠ b → (TX1 a).2.1 ≠ (TX1 b).2.1 := by decide +kernel
set_option maxRecDepth 100000 in
theorem tyX1_ok : ∀ k, k < 28 → parseFieldDescriptor (TX1 k).2.2.1 = some (tyX1 k) := by decide +kernel

/-! MinistryDesks$Fact -/
def RX10 : String := "MinistryDesks$Fact"
def TX10 : u_T := fun k => match k with
  | 0 => ("MinistryDesks$Fact", "name", "I", true)
  | _ => ("MinistryDesks$Fact", "worth", "I", true)
def tyX10 : Nat → FieldType := fun k => match k with
  | 0 => .int
  | _ => .int
abbrev wsX100 : List Cond := u_ws RX10 TX10 2
theorem nmX10 : ∀ a, a < 2 → ∀ b, b < 2 → a ≠ b → (TX10 a).2.1 ≠ (TX10 b).2.1 := by decide +kernel
theorem tyX10_ok : ∀ k, k < 2 → parseFieldDescriptor (TX10 k).2.2.1 = some (tyX10 k) := by decide +kernel

/-! MinistryDesks$Coming -/
def RX11 : String := "MinistryDesks$Coming"
def TX11 : u_T := fun k => match k with
  | 0 => ("MinistryDesks$Coming", "day", "I", true)
  | 1 => ("MinistryDesks$Coming", "desk", "I", true)
  | 2 => ("MinistryDesks$Coming", "fact", "I", true)
  | _ => ("MinistryDesks$Coming", "till", "I", true)
def tyX11 : Nat → FieldType := fun k => match k with
  | 0 => .int
  | 1 => .int
  | 2 => .int
  | _ => .int
abbrev wsX110 : List Cond := u_ws RX11 TX11 4
theorem nmX11 : ∀ a, a < 4 → ∀ b, b < 4 → a ≠ b → (TX11 a).2.1 ≠ (TX11 b).2.1 := by decide +kernel
theorem tyX11_ok : ∀ k, k < 4 → parseFieldDescriptor (TX11 k).2.2.1 = some (tyX11 k) := by decide +kernel

/-! MinistryDesks$Question -/
def RX12 : String := "MinistryDesks$Question"
def TX12 : u_T := fun k => match k with
  | 0 => ("MinistryDesks$Question", "day", "I", true)
  | 1 => ("MinistryDesks$Question", "desk", "I", true)
  | 2 => ("MinistryDesks$Question", "fact", "I", true)
  | _ => ("MinistryDesks$Question", "odds", "I", true)
def tyX12 : Nat → FieldType := fun k => match k with
  | 0 => .int
  | 1 => .int
  | 2 => .int
  | _ => .int
abbrev wsX120 : List Cond := u_ws RX12 TX12 4
theorem nmX12 : ∀ a, a < 4 → ∀ b, b < 4 → a ≠ b → (TX12 a).2.1 ≠ (TX12 b).2.1 := by decide +kernel
theorem tyX12_ok : ∀ k, k < 4 → parseFieldDescriptor (TX12 k).2.2.1 = some (tyX12 k) := by decide +kernel

/-! MinistryDesks$Fire -/
def RX13 : String := "MinistryDesks$Fire"
def TX13 : u_T := fun k => match k with
  | 0 => ("MinistryDesks$Fire", "day", "I", true)
  | _ => ("MinistryDesks$Fire", "desk", "I", true)
def tyX13 : Nat → FieldType := fun k => match k with
  | 0 => .int
  | _ => .int
abbrev wsX130 : List Cond := u_ws RX13 TX13 2
theorem nmX13 : ∀ a, a < 2 → ∀ b, b < 2 → a ≠ b → (TX13 a).2.1 ≠ (TX13 b).2.1 := by decide +kernel
theorem tyX13_ok : ∀ k, k < 2 → parseFieldDescriptor (TX13 k).2.2.1 = some (tyX13 k) := by decide +kernel

/-! MinistryDesks$Name -/
def RX14 : String := "MinistryDesks$Name"
def TX14 : u_T := fun k => match k with
  | _ => ("MinistryDesks$Name", "which", "I", true)
def tyX14 : Nat → FieldType := fun k => match k with
  | _ => .int
abbrev wsX140 : List Cond := u_ws RX14 TX14 1
theorem nmX14 : ∀ a, a < 1 → ∀ b, b < 1 → a ≠ b → (TX14 a).2.1 ≠ (TX14 b).2.1 := by decide +kernel
theorem tyX14_ok : ∀ k, k < 1 → parseFieldDescriptor (TX14 k).2.2.1 = some (tyX14 k) := by decide +kernel

/-! MinistryDesks$Constant -/
def RX15 : String := "MinistryDesks$Constant"
def TX15 : u_T := fun k => match k with
  | _ => ("MinistryDesks$Constant", "number", "J", true)
def tyX15 : Nat → FieldType := fun k => match k with
  | _ => .long
abbrev wsX150 : List Cond := u_ws RX15 TX15 1
theorem nmX15 : ∀ a, a < 1 → ∀ b, b < 1 → a ≠ b → (TX15 a).2.1 ≠ (TX15 b).2.1 := by decide +kernel
theorem tyX15_ok : ∀ k, k < 1 → parseFieldDescriptor (TX15 k).2.2.1 = some (tyX15 k) := by decide +kernel

/-! MinistryDesks$Two -/
def RX16 : String := "MinistryDesks$Two"

/-! MinistryDesks$Worked -/
def RX17 : String := "MinistryDesks$Worked"
def TX17 : u_T := fun k => match k with
  | 0 => ("MinistryDesks$Two", "one", "LMinistryDesks$Node;", true)
  | 1 => ("MinistryDesks$Two", "other", "LMinistryDesks$Node;", true)
  | _ => ("MinistryDesks$Worked", "sign", "I", true)
def tyX17 : Nat → FieldType := fun k => match k with
  | 0 => .object "MinistryDesks$Node"
  | 1 => .object "MinistryDesks$Node"
  | _ => .int
abbrev wsX170 : List Cond := u_ws RX17 TX17 3
theorem nmX17 : ∀ a, a < 3 → ∀ b, b < 3 → a ≠ b → (TX17 a).2.1 ≠ (TX17 b).2.1 := by decide +kernel
theorem tyX17_ok : ∀ k, k < 3 → parseFieldDescriptor (TX17 k).2.2.1 = some (tyX17 k) := by decide +kernel

/-! MinistryDesks$Compared -/
def RX18 : String := "MinistryDesks$Compared"
def TX18 : u_T := fun k => match k with
  | 0 => ("MinistryDesks$Two", "one", "LMinistryDesks$Node;", true)
  | 1 => ("MinistryDesks$Two", "other", "LMinistryDesks$Node;", true)
  | _ => ("MinistryDesks$Compared", "sign", "I", true)
def tyX18 : Nat → FieldType := fun k => match k with
  | 0 => .object "MinistryDesks$Node"
  | 1 => .object "MinistryDesks$Node"
  | _ => .int
abbrev wsX180 : List Cond := u_ws RX18 TX18 3
theorem nmX18 : ∀ a, a < 3 → ∀ b, b < 3 → a ≠ b → (TX18 a).2.1 ≠ (TX18 b).2.1 := by decide +kernel
theorem tyX18_ok : ∀ k, k < 3 → parseFieldDescriptor (TX18 k).2.2.1 = some (tyX18 k) := by decide +kernel

/-! MinistryDesks$Not -/
def RX19 : String := "MinistryDesks$Not"
def TX19 : u_T := fun k => match k with
  | _ => ("MinistryDesks$Not", "of", "LMinistryDesks$Node;", true)
def tyX19 : Nat → FieldType := fun k => match k with
  | _ => .object "MinistryDesks$Node"
abbrev wsX190 : List Cond := u_ws RX19 TX19 1
theorem nmX19 : ∀ a, a < 1 → ∀ b, b < 1 → a ≠ b → (TX19 a).2.1 ≠ (TX19 b).2.1 := by decide +kernel
theorem tyX19_ok : ∀ k, k < 1 → parseFieldDescriptor (TX19 k).2.2.1 = some (tyX19 k) := by decide +kernel

/-! MinistryDesks$House -/
def RX2 : String := "MinistryDesks$House"
def TX2 : u_T := fun k => match k with
  | 0 => ("MinistryDesks$House", "desks", "Ljava/util/ArrayList;", true)
  | 1 => ("MinistryDesks$House", "facts", "Ljava/util/ArrayList;", true)
  | 2 => ("MinistryDesks$House", "comings", "Ljava/util/ArrayList;", true)
  | 3 => ("MinistryDesks$House", "questions", "Ljava/util/ArrayList;", true)
  | 4 => ("MinistryDesks$House", "fires", "Ljava/util/ArrayList;", true)
  | 5 => ("MinistryDesks$House", "mays", "Ljava/util/ArrayList;", true)
  | 6 => ("MinistryDesks$House", "keep", "LMinistryDesks$Node;", false)
  | 7 => ("MinistryDesks$House", "want", "LMinistryDesks$Node;", false)
  | 8 => ("MinistryDesks$House", "patience", "I", false)
  | 9 => ("MinistryDesks$House", "knots", "I", false)
  | 10 => ("MinistryDesks$House", "lines", "I", false)
  | _ => ("MinistryDesks$House", "hasPatience", "Z", false)
def tyX2 : Nat → FieldType := fun k => match k with
  | 0 => .object "java/util/ArrayList"
  | 1 => .object "java/util/ArrayList"
  | 2 => .object "java/util/ArrayList"
  | 3 => .object "java/util/ArrayList"
  | 4 => .object "java/util/ArrayList"
  | 5 => .object "java/util/ArrayList"
  | 6 => .object "MinistryDesks$Node"
  | 7 => .object "MinistryDesks$Node"
  | 8 => .int
  | 9 => .int
  | 10 => .int
  | _ => .boolean
abbrev wsX20 : List Cond := u_ws RX2 TX2 12
theorem nmX2 : ∀ a, a < 12 → ∀ b, b < 12 → a ≠ b → (TX2 a).2.1 ≠ (TX2 b).2.1 := by decide +kernel
theorem tyX2_ok : ∀ k, k < 12 → parseFieldDescriptor (TX2 k).2.2.1 = some (tyX2 k) := by decide +kernel

/-! MinistryDesks$Choice -/
def RX20 : String := "MinistryDesks$Choice"
def TX20 : u_T := fun k => match k with
  | 0 => ("MinistryDesks$Two", "one", "LMinistryDesks$Node;", true)
  | 1 => ("MinistryDesks$Two", "other", "LMinistryDesks$Node;", true)
  | _ => ("MinistryDesks$Choice", "both", "Z", true)
def tyX20 : Nat → FieldType := fun k => match k with
  | 0 => .object "MinistryDesks$Node"
  | 1 => .object "MinistryDesks$Node"
  | _ => .boolean
abbrev wsX200 : List Cond := u_ws RX20 TX20 3
theorem nmX20 : ∀ a, a < 3 → ∀ b, b < 3 → a ≠ b → (TX20 a).2.1 ≠ (TX20 b).2.1 := by decide +kernel
theorem tyX20_ok : ∀ k, k < 3 → parseFieldDescriptor (TX20 k).2.2.1 = some (tyX20 k) := by decide +kernel

/-! MinistryDesks$May -/
def RX21 : String := "MinistryDesks$May"
def TX21 : u_T := fun k => match k with
  | 0 => ("MinistryDesks$May", "name", "I", true)
  | _ => ("MinistryDesks$May", "sum", "LMinistryDesks$Node;", true)
def tyX21 : Nat → FieldType := fun k => match k with
  | 0 => .int
  | _ => .object "MinistryDesks$Node"
abbrev wsX210 : List Cond := u_ws RX21 TX21 2
theorem nmX21 : ∀ a, a < 2 → ∀ b, b < 2 → a ≠ b → (TX21 a).2.1 ≠ (TX21 b).2.1 := by decide +kernel
theorem tyX21_ok : ∀ k, k < 2 → parseFieldDescriptor (TX21 k).2.2.1 = some (tyX21 k) := by decide +kernel

/-! MinistryDesks$Scene -/
def RX3 : String := "MinistryDesks$Scene"
def TX3 : u_T := fun k => match k with
  | 0 => ("MinistryDesks$Scene", "names", "[J", true)
  | _ => ("MinistryDesks$Scene", "error", "Z", false)
def tyX3 : Nat → FieldType := fun k => match k with
  | 0 => .array .long
  | _ => .boolean
abbrev wsX30 : List Cond := u_ws RX3 TX3 2
theorem nmX3 : ∀ a, a < 2 → ∀ b, b < 2 → a ≠ b → (TX3 a).2.1 ≠ (TX3 b).2.1 := by decide +kernel
theorem tyX3_ok : ∀ k, k < 2 → parseFieldDescriptor (TX3 k).2.2.1 = some (tyX3 k) := by decide +kernel

/-! MinistryDesks$Change -/
def RX4 : String := "MinistryDesks$Change"
def TX4 : u_T := fun k => match k with
  | 0 => ("MinistryDesks$Change", "keep", "LMinistryDesks$Node;", false)
  | 1 => ("MinistryDesks$Change", "nobodyAsks", "Z", false)
  | 2 => ("MinistryDesks$Change", "noFires", "Z", false)
  | 3 => ("MinistryDesks$Change", "more", "Z", false)
  | 4 => ("MinistryDesks$Change", "firstGoes", "Z", false)
  | 5 => ("MinistryDesks$Change", "silent", "I", false)
  | _ => ("MinistryDesks$Change", "without", "I", false)
def tyX4 : Nat → FieldType := fun k => match k with
  | 0 => .object "MinistryDesks$Node"
  | 1 => .boolean
  | 2 => .boolean
  | 3 => .boolean
  | 4 => .boolean
  | 5 => .int
  | _ => .int
abbrev wsX40 : List Cond := u_ws RX4 TX4 7
theorem nmX4 : ∀ a, a < 7 → ∀ b, b < 7 → a ≠ b → (TX4 a).2.1 ≠ (TX4 b).2.1 := by decide +kernel
theorem tyX4_ok : ∀ k, k < 7 → parseFieldDescriptor (TX4 k).2.2.1 = some (tyX4 k) := by decide +kernel

/-! MinistryDesks$Run -/
def RX5 : String := "MinistryDesks$Run"
def TX5 : u_T := fun k => match k with
  | 0 => ("MinistryDesks$Run", "change", "LMinistryDesks$Change;", false)
  | 1 => ("MinistryDesks$Run", "day", "I", false)
  | 2 => ("MinistryDesks$Run", "many", "[I", true)
  | 3 => ("MinistryDesks$Run", "loss", "[I", true)
  | 4 => ("MinistryDesks$Run", "fell", "[I", true)
  | 5 => ("MinistryDesks$Run", "letGo", "[Z", true)
  | 6 => ("MinistryDesks$Run", "fact", "[I", true)
  | 7 => ("MinistryDesks$Run", "till", "[I", true)
  | 8 => ("MinistryDesks$Run", "since", "[I", true)
  | 9 => ("MinistryDesks$Run", "thenHeld", "[I", true)
  | 10 => ("MinistryDesks$Run", "thenMany", "[I", true)
  | 11 => ("MinistryDesks$Run", "thenFact", "[I", true)
  | 12 => ("MinistryDesks$Run", "thenTill", "[I", true)
  | 13 => ("MinistryDesks$Run", "noon", "Z", false)
  | 14 => ("MinistryDesks$Run", "answer", "[I", true)
  | 15 => ("MinistryDesks$Run", "gone", "[I", true)
  | 16 => ("MinistryDesks$Run", "went", "I", false)
  | _ => ("MinistryDesks$Run", "this$0", "LMinistryDesks;", true)
def tyX5 : Nat → FieldType := fun k => match k with
  | 0 => .object "MinistryDesks$Change"
  | 1 => .int
  | 2 => .array .int
  | 3 => .array .int
  | 4 => .array .int
  | 5 => .array .boolean
  | 6 => .array .int
  | 7 => .array .int
  | 8 => .array .int
  | 9 => .array .int
  | 10 => .array .int
  | 11 => .array .int
  | 12 => .array .int
  | 13 => .boolean
  | 14 => .array .int
  | 15 => .array .int
  | 16 => .int
  | _ => .object "MinistryDesks"
abbrev wsX50 : List Cond := u_ws RX5 TX5 18
set_option maxRecDepth 100000 in
theorem nmX5 : ∀ a, a < 18 → ∀ b, b < 18 → a ≠ b → (TX5 a).2.1 ≠ (TX5 b).2.1 := by decide +kernel
set_option maxRecDepth 100000 in
theorem tyX5_ok : ∀ k, k < 18 → parseFieldDescriptor (TX5 k).2.2.1 = some (tyX5 k) := by decide +kernel

/-! MinistryDesksModel -/
def RX6 : String := "MinistryDesksModel"
def TX6 : u_T := fun k => match k with
  | 0 => ("MinistryDesksModel", "thrown", "I", false)
  | 1 => ("MinistryDesksModel", "tape", "[I", true)
  | 2 => ("MinistryDesksModel", "taped", "I", false)
  | 3 => ("MinistryDesksModel", "number", "[I", true)
  | 4 => ("MinistryDesksModel", "deskName", "[I", true)
  | 5 => ("MinistryDesksModel", "deskLines", "[I", true)
  | 6 => ("MinistryDesksModel", "asksWhom", "[I", true)
  | 7 => ("MinistryDesksModel", "factName", "[I", true)
  | 8 => ("MinistryDesksModel", "factWorth", "[I", true)
  | 9 => ("MinistryDesksModel", "comesDay", "[I", true)
  | 10 => ("MinistryDesksModel", "comesDesk", "[I", true)
  | 11 => ("MinistryDesksModel", "comesFact", "[I", true)
  | 12 => ("MinistryDesksModel", "comesTill", "[I", true)
  | 13 => ("MinistryDesksModel", "questionDay", "[I", true)
  | 14 => ("MinistryDesksModel", "questionDesk", "[I", true)
  | 15 => ("MinistryDesksModel", "questionFact", "[I", true)
  | 16 => ("MinistryDesksModel", "questionOdds", "[I", true)
  | 17 => ("MinistryDesksModel", "fireDay", "[I", true)
  | 18 => ("MinistryDesksModel", "fireDesk", "[I", true)
  | 19 => ("MinistryDesksModel", "mayName", "[I", true)
  | 20 => ("MinistryDesksModel", "sumFrom", "[I", true)
  | 21 => ("MinistryDesksModel", "sumTo", "[I", true)
  | 22 => ("MinistryDesksModel", "knotSort", "[I", true)
  | 23 => ("MinistryDesksModel", "knotValue", "[I", true)
  | 24 => ("MinistryDesksModel", "told", "I", false)
  | 25 => ("MinistryDesksModel", "lines", "I", false)
  | 26 => ("MinistryDesksModel", "size", "I", false)
  | 27 => ("MinistryDesksModel", "at", "I", false)
  | 28 => ("MinistryDesksModel", "place", "I", false)
  | 29 => ("MinistryDesksModel", "sort", "I", false)
  | 30 => ("MinistryDesksModel", "value", "I", false)
  | 31 => ("MinistryDesksModel", "fault", "I", false)
  | 32 => ("MinistryDesksModel", "faultPlace", "I", false)
  | 33 => ("MinistryDesksModel", "lastFault", "I", false)
  | 34 => ("MinistryDesksModel", "lastPlace", "I", false)
  | 35 => ("MinistryDesksModel", "open", "I", false)
  | 36 => ("MinistryDesksModel", "counted", "I", false)
  | 37 => ("MinistryDesksModel", "tryWhat", "I", false)
  | 38 => ("MinistryDesksModel", "tryAt", "I", false)
  | 39 => ("MinistryDesksModel", "keepBy", "I", false)
  | 40 => ("MinistryDesksModel", "names", "[J", true)
  | 41 => ("MinistryDesksModel", "worked", "[J", true)
  | 42 => ("MinistryDesksModel", "workedMany", "I", false)
  | 43 => ("MinistryDesksModel", "day", "[I", true)
  | 44 => ("MinistryDesksModel", "many", "[I", true)
  | 45 => ("MinistryDesksModel", "lineFact", "[I", true)
  | 46 => ("MinistryDesksModel", "lineTill", "[I", true)
  | 47 => ("MinistryDesksModel", "lineCame", "[I", true)
  | 48 => ("MinistryDesksModel", "loss", "[I", true)
  | 49 => ("MinistryDesksModel", "fell", "[I", true)
  | 50 => ("MinistryDesksModel", "hasLet", "[Z", true)
  | 51 => ("MinistryDesksModel", "answers", "[I", true)
  | 52 => ("MinistryDesksModel", "goneMany", "[I", true)
  | 53 => ("MinistryDesksModel", "goneDay", "[I", true)
  | 54 => ("MinistryDesksModel", "goneDesk", "[I", true)
  | 55 => ("MinistryDesksModel", "goneFact", "[I", true)
  | 56 => ("MinistryDesksModel", "goneWhy", "[I", true)
  | 57 => ("MinistryDesksModel", "hasImage", "Z", false)
  | 58 => ("MinistryDesksModel", "heldThen", "[I", true)
  | 59 => ("MinistryDesksModel", "isNoon", "Z", false)
  | 60 => ("MinistryDesksModel", "getsFact", "[I", true)
  | 61 => ("MinistryDesksModel", "getsTill", "[I", true)
  | 62 => ("MinistryDesksModel", "yet", "[J", true)
  | 63 => ("MinistryDesksModel", "stepOf", "[I", true)
  | 64 => ("MinistryDesksModel", "steps", "I", false)
  | 65 => ("MinistryDesksModel", "weight", "[I", true)
  | 66 => ("MinistryDesksModel", "walkSet", "I", false)
  | 67 => ("MinistryDesksModel", "walkLet", "I", false)
  | 68 => ("MinistryDesksModel", "drawn", "I", false)
  | 69 => ("MinistryDesksModel", "real", "[I", true)
  | 70 => ("MinistryDesksModel", "shares", "[I", true)
  | 71 => ("MinistryDesksModel", "heard", "I", false)
  | 72 => ("MinistryDesksModel", "knownBy", "I", false)
  | 73 => ("MinistryDesksModel", "heardQuestion", "[I", true)
  | 74 => ("MinistryDesksModel", "heardAnswer", "[I", true)
  | _ => ("MinistryDesksModel", "isStruck", "[Z", true)
def tyX6 : Nat → FieldType := fun k => match k with
  | 0 => .int
  | 1 => .array .int
  | 2 => .int
  | 3 => .array .int
  | 4 => .array .int
  | 5 => .array .int
  | 6 => .array .int
  | 7 => .array .int
  | 8 => .array .int
  | 9 => .array .int
  | 10 => .array .int
  | 11 => .array .int
  | 12 => .array .int
  | 13 => .array .int
  | 14 => .array .int
  | 15 => .array .int
  | 16 => .array .int
  | 17 => .array .int
  | 18 => .array .int
  | 19 => .array .int
  | 20 => .array .int
  | 21 => .array .int
  | 22 => .array .int
  | 23 => .array .int
  | 24 => .int
  | 25 => .int
  | 26 => .int
  | 27 => .int
  | 28 => .int
  | 29 => .int
  | 30 => .int
  | 31 => .int
  | 32 => .int
  | 33 => .int
  | 34 => .int
  | 35 => .int
  | 36 => .int
  | 37 => .int
  | 38 => .int
  | 39 => .int
  | 40 => .array .long
  | 41 => .array .long
  | 42 => .int
  | 43 => .array .int
  | 44 => .array .int
  | 45 => .array .int
  | 46 => .array .int
  | 47 => .array .int
  | 48 => .array .int
  | 49 => .array .int
  | 50 => .array .boolean
  | 51 => .array .int
  | 52 => .array .int
  | 53 => .array .int
  | 54 => .array .int
  | 55 => .array .int
  | 56 => .array .int
  | 57 => .boolean
  | 58 => .array .int
  | 59 => .boolean
  | 60 => .array .int
  | 61 => .array .int
  | 62 => .array .long
  | 63 => .array .int
  | 64 => .int
  | 65 => .array .int
  | 66 => .int
  | 67 => .int
  | 68 => .int
  | 69 => .array .int
  | 70 => .array .int
  | 71 => .int
  | 72 => .int
  | 73 => .array .int
  | 74 => .array .int
  | _ => .array .boolean
abbrev wsX60 : List Cond := u_ws RX6 TX6 76
set_option maxRecDepth 100000 in
theorem nmX6 : ∀ a, a < 76 → ∀ b, b < 76 → a ≠ b → (TX6 a).2.1 ≠ (TX6 b).2.1 := by decide +kernel
set_option maxRecDepth 100000 in
theorem tyX6_ok : ∀ k, k < 76 → parseFieldDescriptor (TX6 k).2.2.1 = some (tyX6 k) := by decide +kernel

/-! MinistryDesks$Reader -/
def RX7 : String := "MinistryDesks$Reader"
def TX7 : u_T := fun k => match k with
  | 0 => ("MinistryDesks$Reader", "size", "I", true)
  | 1 => ("MinistryDesks$Reader", "v", "LMinistryDesks$House;", true)
  | 2 => ("MinistryDesks$Reader", "next", "I", false)
  | 3 => ("MinistryDesks$Reader", "kind", "I", false)
  | 4 => ("MinistryDesks$Reader", "which", "I", false)
  | 5 => ("MinistryDesks$Reader", "place", "I", false)
  | 6 => ("MinistryDesks$Reader", "open", "I", false)
  | _ => ("MinistryDesks$Reader", "this$0", "LMinistryDesks;", true)
def tyX7 : Nat → FieldType := fun k => match k with
  | 0 => .int
  | 1 => .object "MinistryDesks$House"
  | 2 => .int
  | 3 => .int
  | 4 => .int
  | 5 => .int
  | 6 => .int
  | _ => .object "MinistryDesks"
abbrev wsX70 : List Cond := u_ws RX7 TX7 8
theorem nmX7 : ∀ a, a < 8 → ∀ b, b < 8 → a ≠ b → (TX7 a).2.1 ≠ (TX7 b).2.1 := by decide +kernel
theorem tyX7_ok : ∀ k, k < 8 → parseFieldDescriptor (TX7 k).2.2.1 = some (tyX7 k) := by decide +kernel

/-! MinistryDesks$Fault -/
def RX8 : String := "MinistryDesks$Fault"
def TX8 : u_T := fun k => match k with
  | 0 => ("java/lang/Throwable", "cause", "Ljava/lang/Throwable;", false)
  | 1 => ("java/lang/Throwable", "stackTrace", "[Ljava/lang/StackTraceElement;", false)
  | 2 => ("java/lang/Throwable", "suppressedExceptions", "Ljava/util/List;", false)
  | 3 => ("java/lang/Throwable", "detailMessage", "Ljava/lang/String;", false)
  | 4 => ("java/lang/Throwable", "backtrace", "Ljava/lang/Object;", false)
  | 5 => ("java/lang/Throwable", "depth", "I", false)
  | 6 => ("MinistryDesks$Fault", "kind", "I", true)
  | _ => ("MinistryDesks$Fault", "place", "I", true)
def tyX8 : Nat → FieldType := fun k => match k with
  | 0 => .object "java/lang/Throwable"
  | 1 => .array (.object "java/lang/StackTraceElement")
  | 2 => .object "java/util/List"
  | 3 => .object "java/lang/String"
  | 4 => .object "java/lang/Object"
  | 5 => .int
  | 6 => .int
  | _ => .int
abbrev wsX80 : List Cond := u_ws RX8 TX8 8
theorem nmX8 : ∀ a, a < 8 → ∀ b, b < 8 → a ≠ b → (TX8 a).2.1 ≠ (TX8 b).2.1 := by decide +kernel
theorem tyX8_ok : ∀ k, k < 8 → parseFieldDescriptor (TX8 k).2.2.1 = some (tyX8 k) := by decide +kernel

/-! MinistryDesks$Desk -/
def RX9 : String := "MinistryDesks$Desk"
def TX9 : u_T := fun k => match k with
  | 0 => ("MinistryDesks$Desk", "name", "I", true)
  | 1 => ("MinistryDesks$Desk", "lines", "I", true)
  | _ => ("MinistryDesks$Desk", "asks", "I", false)
def tyX9 : Nat → FieldType := fun k => match k with
  | 0 => .int
  | 1 => .int
  | _ => .int
abbrev wsX90 : List Cond := u_ws RX9 TX9 3
theorem nmX9 : ∀ a, a < 3 → ∀ b, b < 3 → a ≠ b → (TX9 a).2.1 ≠ (TX9 b).2.1 := by decide +kernel
theorem tyX9_ok : ∀ k, k < 3 → parseFieldDescriptor (TX9 k).2.2.1 = some (tyX9 k) := by decide +kernel

abbrev vwCl : List vw_C := [(RX1, TX1, 28), (RX6, TX6, 76), (RX5, TX5, 18), (RX3, TX3, 2), (RX4, TX4, 7), (RX2, TX2, 12), (RX9, TX9, 3), (RX10, TX10, 2), (RX11, TX11, 4), (RX12, TX12, 4), (RX13, TX13, 2), (RX21, TX21, 2), (RX15, TX15, 1), (RX14, TX14, 1), (RX19, TX19, 1), (RX20, TX20, 3), (RX18, TX18, 3), (RX17, TX17, 3), (RX7, TX7, 8), (RX8, TX8, 8), (RJ2, TJ2, 3)]
